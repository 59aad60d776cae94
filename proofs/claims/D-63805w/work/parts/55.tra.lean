/-! THE DICTIONARY: branches by their ways (newest letter first); nd: where a way's branch stands, wd: its word -/
def fsC (nd : List Nat → Option Nat) (p : List Nat) : Nat → Nat → Option Nat
  | 0, _ => none
  | n + 1, c => match nd (c :: p) with
    | some b => some b
    | none => fsC nd p n (c + 1)
theorem fsC_some {nd : List Nat → Option Nat} {p : List Nat} {b : Nat} : ∀ (n c : Nat), fsC nd p n c = some b → ∃ c', c ≤ c' ∧ c' < c + n ∧ nd (c' :: p) = some b ∧ ∀ d, c ≤ d → d < c' → nd (d :: p) = none
  | 0, c, h => by simp [fsC] at h
  | n + 1, c, h => by
    rw [fsC] at h
    cases hc : nd (c :: p) with
    | some b' =>
      rw [hc] at h
      have h := Option.some.inj h
      subst h
      exact ⟨c, by omega, by omega, hc, fun d h1 h2 => by omega⟩
    | none =>
      rw [hc] at h
      obtain ⟨c', h1, h2, h3, h4⟩ := fsC_some n (c + 1) h
      refine ⟨c', by omega, by omega, h3, fun d h5 h6 => ?_⟩
      by_cases e : d = c
      · rw [e]
        exact hc
      · exact h4 d (by omega) h6
theorem fsC_none {nd : List Nat → Option Nat} {p : List Nat} : ∀ (n c : Nat), fsC nd p n c = none → ∀ d, c ≤ d → d < c + n → nd (d :: p) = none
  | 0, c, h, d, h1, h2 => by omega
  | n + 1, c, h, d, h1, h2 => by
    rw [fsC] at h
    cases hc : nd (c :: p) with
    | some b' =>
      rw [hc] at h
      cases h
    | none =>
      rw [hc] at h
      by_cases e : d = c
      · rw [e]
        exact hc
      · exact fsC_none n (c + 1) h d (by omega) (by omega)
theorem fsC_eq {nd : List Nat → Option Nat} {p : List Nat} {b c' : Nat} : ∀ (n c : Nat), nd (c' :: p) = some b → c ≤ c' → c' < c + n → (∀ d, c ≤ d → d < c' → nd (d :: p) = none) → fsC nd p n c = some b
  | 0, c, h1, h2, h3, h4 => by omega
  | n + 1, c, h1, h2, h3, h4 => by
    rw [fsC]
    by_cases e : c' = c
    · subst e
      rw [h1]
    · rw [h4 c (Nat.le_refl _) (by omega)]
      exact fsC_eq n (c + 1) h1 (by omega) (by omega) (fun d h5 h6 => h4 d (by omega) h6)
theorem fsC_nil {nd : List Nat → Option Nat} {p : List Nat} : ∀ (n c : Nat), (∀ d, c ≤ d → d < c + n → nd (d :: p) = none) → fsC nd p n c = none
  | 0, c, h => rfl
  | n + 1, c, h => by
    rw [fsC, h c (Nat.le_refl _) (by omega)]
    exact fsC_nil n (c + 1) (fun d h1 h2 => h d (by omega) (by omega))
theorem fsC_ext {nd nd' : List Nat → Option Nat} {p : List Nat} : ∀ (n c : Nat), (∀ d, c ≤ d → d < c + n → nd' (d :: p) = nd (d :: p)) → fsC nd' p n c = fsC nd p n c
  | 0, c, h => rfl
  | n + 1, c, h => by
    rw [fsC, fsC, h c (Nat.le_refl _) (by omega), fsC_ext n (c + 1) (fun d h1 h2 => h d (by omega) (by omega))]
def ltP : List Nat → Int
  | [] => -1
  | c :: _ => (c : Int)
def nxP (nd : List Nat → Option Nat) : List Nat → Option Nat
  | [] => none
  | c :: p => fsC nd p (25 - c) (c + 1)
abbrev BRo (lt w : Int) (c n : Option Nat) : va_E := oC 4 [vI lt, vI w, va_rf c, va_rf n]
/-- the dictionary on the heap -/
def TRE (h : HM) (nd : List Nat → Option Nat) (wd : List Nat → Int) : Prop := (∀ p b, nd p = some b → h b = some (BRo (ltP p) (wd p) (fsC nd p 26 0) (nxP nd p))) ∧ (∀ p p' b, nd p = some b → nd p' = some b → p = p') ∧ (∀ c p b, nd (c :: p) = some b → c < 26 ∧ ∃ b', nd p = some b') ∧ ∀ p, -1 ≤ wd p ∧ wd p < 100
theorem ct_brInit (l : Launch) (g : GG) (h : HM) (sz a : Nat) (c : Int) (ha : h a = some (oC 4 [vI 0, vI 0, .null, .null])) : CT l yX4_init cX4_init 2 none 1 0 0 [.ref a, vI c] g h sz (fun v h' sz' => v = none ∧ sz = sz' ∧ h' = va_up h a (some (BRo c (-1) none none))) := by
  refine CT.of (lo := [some (.ref a), some (vI c)]) (by decide) (by simp [Value.category]) (Nat.le_of_ble_eq_true rfl) rfl ?_
  intro x h0 Q C hQ hl hni
  refine r_aload_n (n := 1) C dX4_init_0 rfl rfl rfl ?_
  refine r_objInit (n := 4) C q183 q71 q72 dX4_init_1 rfl ?_
  refine r_aload_n (n := 5) C dX4_init_4 rfl rfl rfl ?_
  refine r_iconst (n := 6) C dX4_init_5 rfl ?_
  refine r_put (n := 9) (ty := .int) (ci := 4) (k := 1) C in_X4 tyX4 tyX4_ok nmX4 rfl (by decide) q186 rfl rfl (by decide +kernel) rfl rfl dX4_init_6 rfl (by assumption) (Nat.le_of_ble_eq_true rfl) ?_
  refine r_aload_n (n := 10) C dX4_init_9 rfl rfl rfl ?_
  refine r_iload_n (n := 11) C dX4_init_10 rfl rfl rfl ?_
  refine r_putF (n := 14) (ty := .int) (ci := 4) (k := 0) C hni in_X4 tyX4 tyX4_ok nmX4 rfl (by decide) q184 rfl rfl rfl (by decide +kernel) rfl rfl dX4_init_11 rfl (va_up_self _ _ _) (Nat.le_of_ble_eq_true rfl) ?_
  refine r_return C hQ dX4_init_14 ?_
  rw [bx_uu]
  exact ⟨rfl, rfl, rfl⟩
/-- behind grow -/
def GRo (h : HM) (sz : Nat) (nd : List Nat → Option Nat) (wd : List Nat → Int) (p : List Nat) (c : Nat) (v : Option Value) (h' : HM) (sz' : Nat) : Prop := ∃ nd' wd' y, v = some (.ref y) ∧ nd' (c :: p) = some y ∧ TRE h' nd' wd' ∧ (∀ q e, h q = some e → (∀ fs, e ≠ oC 4 fs) → h' q = some e) ∧ ((sz' = sz ∧ nd' = nd ∧ wd' = wd ∧ h' = h) ∨ (sz' = sz + 1 ∧ y = sz ∧ nd (c :: p) = none ∧ nd' = (fun q => if q = c :: p then some sz else nd q) ∧ wd' = (fun q => if q = c :: p then -1 else wd q))) ∧ (∀ q, sz' ≤ q → h' q = none)
