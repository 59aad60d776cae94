/-! PURE: the component's reader. A result: what is left (or where it broke), the tree or none -/
abbrev Res : Type := List Int × Option PT
def hdI (cs : List Int) : Int := cs.headD 0
abbrev isS (c : Int) : Prop := 97 ≤ c ∧ c ≤ 122
abbrev isB (c : Int) : Prop := isS c ∨ c = 46 ∨ c = 91 ∨ c = 40
def ltX : List Int → Int → List Int × Option Int
  | [], _ => ([], none)
  | c :: cs, acc => if isS c then (if hdI cs = 93 then (cs.tail, some (zor acc (zshl 1 (c - 97)))) else ltX cs (zor acc (zshl 1 (c - 97)))) else (c :: cs, none)
def stX (cs : List Int) : Res := if hdI cs = 94 then (let q := ltX cs.tail 0; (q.1, q.2.map fun s => .num (zand 67108863 (zxor s (-1))))) else (let q := ltX cs 0; (q.1, q.2.map fun s => .num s))
/-- behind a '<' -/
def lmX (cs : List Int) : List Int × Option Nat := if 48 ≤ hdI cs ∧ hdI cs ≤ 57 then (if 48 ≤ hdI cs.tail ∧ hdI cs.tail ≤ 57 then (cs.tail.tail, some (10 * (hdI cs - 48) + (hdI cs.tail - 48)).toNat) else (cs.tail, some (hdI cs - 48).toNat)) else (cs, none)
def atX (k : Nat) (pe : List Int → Res) (cs : List Int) : Res :=
  if hdI cs = 40 then (if k = 0 then (cs, none) else (match (pe cs.tail).2 with
    | none => ((pe cs.tail).1, none)
    | some t => if hdI (pe cs.tail).1 = 41 then ((pe cs.tail).1.tail, some t) else ((pe cs.tail).1, none)))
  else if hdI cs = 91 then stX cs.tail
  else if isS (hdI cs) ∨ hdI cs = 46 then (cs.tail, some (.num (if hdI cs = 46 then 67108863 else zshl 1 (hdI cs - 97))))
  else (cs, none)
def suX : Nat → List Int → PT → Res
  | 0, cs, t => (cs, some t)
  | n + 1, cs, t => if hdI cs = 42 then suX n cs.tail (.pow t 1) else if hdI cs = 43 then suX n cs.tail (.pow t 2) else if hdI cs = 63 then suX n cs.tail (.pow t 0)
    else if hdI cs = 60 then (match (lmX cs.tail).2 with
      | none => ((lmX cs.tail).1, none)
      | some v => suX n (lmX cs.tail).1 (.pow t (v + 3)))
    else (cs, some t)
def itX (pa : List Int → Res) (cs : List Int) : Res := match (pa cs).2 with
  | none => ((pa cs).1, none)
  | some t => suX (pa cs).1.length (pa cs).1 t
def roL (pi : List Int → Res) : Nat → List Int → PT → Res
  | 0, cs, t => (cs, some t)
  | n + 1, cs, t => if isB (hdI cs) then (match (pi cs).2 with
    | none => ((pi cs).1, none)
    | some u => roL pi n (pi cs).1 (.add t u)) else (cs, some t)
def roX (pi : List Int → Res) (cs : List Int) : Res := match (pi cs).2 with
  | none => ((pi cs).1, none)
  | some t => roL pi (pi cs).1.length (pi cs).1 t
def exL (pr : List Int → Res) : Nat → List Int → PT → Res
  | 0, cs, t => (cs, some t)
  | n + 1, cs, t => if hdI cs = 124 then (match (pr cs.tail).2 with
    | none => ((pr cs.tail).1, none)
    | some u => exL pr n (pr cs.tail).1 (.sub t u)) else (cs, some t)
def exX (pr : List Int → Res) (cs : List Int) : Res := match (pr cs).2 with
  | none => ((pr cs).1, none)
  | some t => exL pr (pr cs).1.length (pr cs).1 t
/-- with k brackets more -/
def pE : Nat → List Int → Res
  | 0 => exX (roX (itX (atX 0 (fun cs => (cs, none)))))
  | k + 1 => exX (roX (itX (atX (k + 1) (pE k))))
def pA : Nat → List Int → Res
  | 0 => atX 0 (fun cs => (cs, none))
  | k + 1 => atX (k + 1) (pE k)
theorem pE_eq (k : Nat) : pE k = exX (roX (itX (pA k))) := by cases k <;> rfl
def pSz : PT → Nat
  | .add a b => pSz a + pSz b + 1
  | .sub a b => pSz a + pSz b + 1
  | .pow a _ => pSz a + 1
  | _ => 1
/-- what every reading keeps: what is left is an end of what was there; if it is right, something was read, and the tree is right, with at most b levels above -/
def Rok (b : Nat) (p : List Int → Res) : Prop := ∀ cs, (p cs).1 <:+ cs ∧ ∀ t, (p cs).2 = some t → pSz t + 1 + 2 * (p cs).1.length ≤ 2 * cs.length ∧ pOk t ∧ pNl t ≤ b
theorem tl_suf (cs : List Int) : cs.tail <:+ cs := List.tail_suffix cs
theorem tl_len {cs : List Int} (h : hdI cs ≠ 0) : cs.tail.length + 1 = cs.length := by
  cases cs with
  | nil => simp [hdI] at h
  | cons c r => simp
theorem zor_rg (a b : Int) : -2147483648 ≤ zor a b ∧ zor a b < 2147483648 := z_rg _
theorem zand_rg (a b : Int) : -2147483648 ≤ zand a b ∧ zand a b < 2147483648 := z_rg _
theorem zshl_rg (a b : Int) : -2147483648 ≤ zshl a b ∧ zshl a b < 2147483648 := z_rg _
theorem ltX_ok : ∀ (cs : List Int) (acc : Int), (ltX cs acc).1 <:+ cs ∧ ∀ s, (ltX cs acc).2 = some s → (ltX cs acc).1.length + 2 ≤ cs.length ∧ (-2147483648 ≤ s ∧ s < 2147483648)
  | [], acc => by simp [ltX]
  | c :: cs, acc => by
    unfold ltX
    by_cases h1 : isS c
    · rw [if_pos h1]
      by_cases h2 : hdI cs = 93
      · rw [if_pos h2]
        have := tl_len (cs := cs) (by omega)
        refine ⟨(tl_suf cs).trans (List.suffix_cons c cs), fun s hs => ?_⟩
        simp at hs
        subst hs
        exact ⟨by simp; omega, zor_rg _ _⟩
      · rw [if_neg h2]
        have ih := ltX_ok cs (zor acc (zshl 1 (c - 97)))
        exact ⟨ih.1.trans (List.suffix_cons c cs), fun s hs => ⟨by have := (ih.2 s hs).1; simp; omega, (ih.2 s hs).2⟩⟩
    · rw [if_neg h1]
      exact ⟨List.suffix_refl _, fun s hs => by simp at hs⟩
theorem stX_ok (cs : List Int) : (stX cs).1 <:+ cs ∧ ∀ t, (stX cs).2 = some t → (stX cs).1.length + 2 ≤ cs.length ∧ ∃ s, t = .num s ∧ (-2147483648 ≤ s ∧ s < 2147483648) := by
  unfold stX
  by_cases h1 : hdI cs = 94
  · rw [if_pos h1]
    have ih := ltX_ok cs.tail 0
    have hl := tl_len (cs := cs) (by omega)
    refine ⟨ih.1.trans (tl_suf cs), fun t ht => ?_⟩
    simp at ht
    obtain ⟨s, hs, rfl⟩ := ht
    exact ⟨by have := (ih.2 s hs).1; dsimp only; omega, _, rfl, zand_rg _ _⟩
  · rw [if_neg h1]
    have ih := ltX_ok cs 0
    refine ⟨ih.1, fun t ht => ?_⟩
    simp at ht
    obtain ⟨s, hs, rfl⟩ := ht
    exact ⟨(ih.2 s hs).1, _, rfl, (ih.2 s hs).2⟩
theorem lmX_ok (cs : List Int) : (lmX cs).1 <:+ cs ∧ ∀ v, (lmX cs).2 = some v → (lmX cs).1.length + 1 ≤ cs.length ∧ v < 100 := by
  unfold lmX
  by_cases h1 : 48 ≤ hdI cs ∧ hdI cs ≤ 57
  · rw [if_pos h1]
    have hl := tl_len (cs := cs) (by omega)
    by_cases h2 : 48 ≤ hdI cs.tail ∧ hdI cs.tail ≤ 57
    · rw [if_pos h2]
      have hl2 := tl_len (cs := cs.tail) (by omega)
      refine ⟨(tl_suf _).trans (tl_suf cs), fun v hv => ?_⟩
      have hv := Option.some.inj hv
      subst hv
      exact ⟨by dsimp only; omega, by omega⟩
    · rw [if_neg h2]
      refine ⟨tl_suf cs, fun v hv => ?_⟩
      have hv := Option.some.inj hv
      subst hv
      exact ⟨by dsimp only; omega, by omega⟩
  · rw [if_neg h1]
    exact ⟨List.suffix_refl _, fun v hv => by simp at hv⟩
theorem atX_ok {k b : Nat} {pe : List Int → Res} (hp : Rok b pe) : Rok b (atX k pe) := by
  intro cs
  unfold atX
  by_cases h1 : hdI cs = 40
  · rw [if_pos h1]
    have hl := tl_len (cs := cs) (by omega)
    by_cases h2 : k = 0
    · rw [if_pos h2]
      exact ⟨List.suffix_refl _, fun t ht => by simp at ht⟩
    · rw [if_neg h2]
      have ih := hp cs.tail
      cases hr : (pe cs.tail).2 with
      | none => exact ⟨ih.1.trans (tl_suf cs), fun t ht => by simp at ht⟩
      | some u =>
        dsimp only
        by_cases h3 : hdI (pe cs.tail).1 = 41
        · rw [if_pos h3]
          have hl2 := tl_len (cs := (pe cs.tail).1) (by omega)
          refine ⟨(tl_suf _).trans (ih.1.trans (tl_suf cs)), fun t ht => ?_⟩
          simp at ht
          subst ht
          obtain ⟨i1, i2, i3⟩ := ih.2 u hr
          exact ⟨by dsimp only; omega, i2, i3⟩
        · rw [if_neg h3]
          exact ⟨ih.1.trans (tl_suf cs), fun t ht => by simp at ht⟩
  · rw [if_neg h1]
    by_cases h2 : hdI cs = 91
    · rw [if_pos h2]
      have hl := tl_len (cs := cs) (by omega)
      have ih := stX_ok cs.tail
      refine ⟨ih.1.trans (tl_suf cs), fun t ht => ?_⟩
      obtain ⟨i1, s, rfl, i3⟩ := ih.2 t ht
      exact ⟨by simp only [pSz]; omega, i3, by simp [pNl]⟩
    · rw [if_neg h2]
      by_cases h3 : isS (hdI cs) ∨ hdI cs = 46
      · rw [if_pos h3]
        have hl := tl_len (cs := cs) (by unfold isS at h3; omega)
        refine ⟨tl_suf cs, fun t ht => ?_⟩
        have ht := Option.some.inj ht
        subst ht
        refine ⟨by simp only [pSz]; omega, ?_, by simp [pNl]⟩
        show -2147483648 ≤ (if hdI cs = 46 then (67108863 : Int) else zshl 1 (hdI cs - 97)) ∧ _
        split
        · omega
        · exact zshl_rg _ _
      · rw [if_neg h3]
        exact ⟨List.suffix_refl _, fun t ht => by simp at ht⟩
theorem suX_ok {b : Nat} : ∀ (n : Nat) (cs : List Int) (t : PT), pOk t → pNl t ≤ b → (suX n cs t).1 <:+ cs ∧ ∀ u, (suX n cs t).2 = some u → pSz u + 2 * (suX n cs t).1.length ≤ pSz t + 2 * cs.length ∧ pOk u ∧ pNl u ≤ b
  | 0, cs, t, h1, h2 => by
    unfold suX
    refine ⟨List.suffix_refl _, fun u hu => ?_⟩
    simp at hu
    subst hu
    exact ⟨Nat.le_refl _, h1, h2⟩
  | n + 1, cs, t, h1, h2 => by
    have go : ∀ (r : List Int) (k : Nat), r <:+ cs → r.length + 1 ≤ cs.length → k < 103 → (suX n r (.pow t k)).1 <:+ cs ∧ ∀ u, (suX n r (.pow t k)).2 = some u → pSz u + 2 * (suX n r (.pow t k)).1.length ≤ pSz t + 2 * cs.length ∧ pOk u ∧ pNl u ≤ b := by
      intro r k q1 q2 q3
      have ih := suX_ok (b := b) n r (.pow t k) ⟨q3, h1⟩ h2
      refine ⟨ih.1.trans q1, fun u hu => ?_⟩
      obtain ⟨i1, i2, i3⟩ := ih.2 u hu
      simp only [pSz] at i1
      exact ⟨by omega, i2, i3⟩
    have tl : hdI cs ≠ 0 → cs.tail.length + 1 ≤ cs.length := fun h => Nat.le_of_eq (tl_len h)
    unfold suX
    by_cases c1 : hdI cs = 42
    · rw [if_pos c1]
      exact go _ 1 (tl_suf cs) (tl (by omega)) (by omega)
    rw [if_neg c1]
    by_cases c2 : hdI cs = 43
    · rw [if_pos c2]
      exact go _ 2 (tl_suf cs) (tl (by omega)) (by omega)
    rw [if_neg c2]
    by_cases c3 : hdI cs = 63
    · rw [if_pos c3]
      exact go _ 0 (tl_suf cs) (tl (by omega)) (by omega)
    rw [if_neg c3]
    by_cases c4 : hdI cs = 60
    · rw [if_pos c4]
      have il := lmX_ok cs.tail
      have ht := tl (by omega)
      cases hr : (lmX cs.tail).2 with
      | none => exact ⟨il.1.trans (tl_suf cs), fun u hu => by simp at hu⟩
      | some v =>
        have := il.2 v hr
        exact go _ (v + 3) (il.1.trans (tl_suf cs)) (by omega) (by omega)
    rw [if_neg c4]
    refine ⟨List.suffix_refl _, fun u hu => ?_⟩
    simp at hu
    subst hu
    exact ⟨Nat.le_refl _, h1, h2⟩
theorem itX_ok {b : Nat} {pa : List Int → Res} (hp : Rok b pa) : Rok b (itX pa) := by
  intro cs
  have ih := hp cs
  unfold itX
  cases hr : (pa cs).2 with
  | none => exact ⟨ih.1, fun t ht => by simp at ht⟩
  | some t =>
    obtain ⟨i1, i2, i3⟩ := ih.2 t hr
    have is := suX_ok (b := b) (pa cs).1.length (pa cs).1 t i2 i3
    refine ⟨is.1.trans ih.1, fun u hu => ?_⟩
    obtain ⟨j1, j2, j3⟩ := is.2 u hu
    exact ⟨by dsimp only; omega, j2, j3⟩
theorem roL_ok {b : Nat} {pi : List Int → Res} (hp : Rok b pi) : ∀ (n : Nat) (cs : List Int) (t : PT), pOk t → pNl t ≤ b + 1 → (roL pi n cs t).1 <:+ cs ∧ ∀ u, (roL pi n cs t).2 = some u → pSz u + 2 * (roL pi n cs t).1.length ≤ pSz t + 2 * cs.length ∧ pOk u ∧ pNl u ≤ b + 1
  | 0, cs, t, h1, h2 => by
    unfold roL
    refine ⟨List.suffix_refl _, fun u hu => ?_⟩
    simp at hu
    subst hu
    exact ⟨Nat.le_refl _, h1, h2⟩
  | n + 1, cs, t, h1, h2 => by
    unfold roL
    by_cases c1 : isB (hdI cs)
    · rw [if_pos c1]
      have ip := hp cs
      cases hr : (pi cs).2 with
      | none => exact ⟨ip.1, fun u hu => by simp at hu⟩
      | some v =>
        obtain ⟨i1, i2, i3⟩ := ip.2 v hr
        have ih := roL_ok hp n (pi cs).1 (.add t v) ⟨h1, i2⟩ (by simp only [pNl]; omega)
        refine ⟨ih.1.trans ip.1, fun u hu => ?_⟩
        obtain ⟨j1, j2, j3⟩ := ih.2 u hu
        simp only [pSz] at j1
        exact ⟨by dsimp only; omega, j2, j3⟩
    · rw [if_neg c1]
      refine ⟨List.suffix_refl _, fun u hu => ?_⟩
      simp at hu
      subst hu
      exact ⟨Nat.le_refl _, h1, h2⟩
theorem roX_ok {b : Nat} {pi : List Int → Res} (hp : Rok b pi) : Rok (b + 1) (roX pi) := by
  intro cs
  have ih := hp cs
  unfold roX
  cases hr : (pi cs).2 with
  | none => exact ⟨ih.1, fun t ht => by simp at ht⟩
  | some t =>
    obtain ⟨i1, i2, i3⟩ := ih.2 t hr
    have is := roL_ok hp (pi cs).1.length (pi cs).1 t i2 (by omega)
    refine ⟨is.1.trans ih.1, fun u hu => ?_⟩
    obtain ⟨j1, j2, j3⟩ := is.2 u hu
    exact ⟨by dsimp only; omega, j2, j3⟩
theorem exL_ok {b : Nat} {pi : List Int → Res} (hp : Rok b pi) : ∀ (n : Nat) (cs : List Int) (t : PT), pOk t → pNl t ≤ b + 1 → (exL pi n cs t).1 <:+ cs ∧ ∀ u, (exL pi n cs t).2 = some u → pSz u + 2 * (exL pi n cs t).1.length ≤ pSz t + 2 * cs.length ∧ pOk u ∧ pNl u ≤ b + 1
  | 0, cs, t, h1, h2 => by
    unfold exL
    refine ⟨List.suffix_refl _, fun u hu => ?_⟩
    simp at hu
    subst hu
    exact ⟨Nat.le_refl _, h1, h2⟩
  | n + 1, cs, t, h1, h2 => by
    unfold exL
    by_cases c1 : hdI cs = 124
    · rw [if_pos c1]
      have ht := tl_len (cs := cs) (by omega)
      have ip := hp cs.tail
      cases hr : (pi cs.tail).2 with
      | none => exact ⟨ip.1.trans (tl_suf cs), fun u hu => by simp at hu⟩
      | some v =>
        obtain ⟨i1, i2, i3⟩ := ip.2 v hr
        have ih := exL_ok hp n (pi cs.tail).1 (.sub t v) ⟨h1, i2⟩ (by simp only [pNl]; omega)
        refine ⟨ih.1.trans (ip.1.trans (tl_suf cs)), fun u hu => ?_⟩
        obtain ⟨j1, j2, j3⟩ := ih.2 u hu
        simp only [pSz] at j1
        exact ⟨by dsimp only; omega, j2, j3⟩
    · rw [if_neg c1]
      refine ⟨List.suffix_refl _, fun u hu => ?_⟩
      simp at hu
      subst hu
      exact ⟨Nat.le_refl _, h1, h2⟩
theorem exX_ok {b : Nat} {pi : List Int → Res} (hp : Rok b pi) : Rok (b + 1) (exX pi) := by
  intro cs
  have ih := hp cs
  unfold exX
  cases hr : (pi cs).2 with
  | none => exact ⟨ih.1, fun t ht => by simp at ht⟩
  | some t =>
    obtain ⟨i1, i2, i3⟩ := ih.2 t hr
    have is := exL_ok hp (pi cs).1.length (pi cs).1 t i2 (by omega)
    refine ⟨is.1.trans ih.1, fun u hu => ?_⟩
    obtain ⟨j1, j2, j3⟩ := is.2 u hu
    exact ⟨by dsimp only; omega, j2, j3⟩
theorem Rok_none (b : Nat) : Rok b (fun cs => (cs, none)) := fun cs => ⟨List.suffix_refl _, fun t ht => by simp at ht⟩
theorem pE_ok : ∀ k, Rok (2 * k + 2) (pE k)
  | 0 => exX_ok (roX_ok (itX_ok (atX_ok (Rok_none 0))))
  | k + 1 => exX_ok (roX_ok (itX_ok (atX_ok (pE_ok k))))
theorem pA_ok : ∀ k, Rok (2 * k) (pA k)
  | 0 => atX_ok (Rok_none 0)
  | k + 1 => atX_ok (pE_ok k)
