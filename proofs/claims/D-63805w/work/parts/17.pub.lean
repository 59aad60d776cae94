/-! PURE: the reading of a pattern, as the model does it: o the nodes (newest first), ws what waits (top first), wh the wholes (top first) -/
abbrev T3 : Type := Int × Int × Int
def jn (least : Int) : List Int → List T3 → List Int → List T3 × List Int × List Int
  | [], o, wh => (o, [], wh)
  | w :: ws, o, wh => if w ≠ 7 ∧ (w = 1 ∨ least = 2) then (match wh with
    | b :: a :: t => jn least ws ((w, a, b) :: o) ((o.length : Int) :: t)
    | _ => (o, w :: ws, wh)) else (o, w :: ws, wh)
def nb : List Int → Nat
  | [] => 0
  | w :: ws => if w = 7 then nb ws else nb ws + 1
def nd7 : List Int → Int
  | [] => 0
  | w :: ws => if w = 7 then nd7 ws + 1 else nd7 ws
def itm (b : Bool) (o : List T3) (ws wh : List Int) : List T3 × List Int × List Int := if b then (let q := jn 1 ws o wh; (q.1, 1 :: q.2.1, q.2.2)) else (o, ws, wh)
/-- the letters up to the bracket; what comes behind it -/
def ltS : List Int → Int → Int × List Int
  | [], acc => (acc, [])
  | c :: cs, acc => if c = 93 then (acc, cs) else ltS cs (zor acc (zshl 1 (c - 97)))
def setS (cs : List Int) : Int × List Int := match cs with
  | [] => (0, [])
  | c :: cs => if c = 94 then (let q := ltS cs 0; (zand 67108863 (zxor q.1 (-1)), q.2)) else ltS (c :: cs) 0
def limS (cs : List Int) : Int × List Int := match cs with
  | [] => (0, [])
  | [c] => (c - 48, [])
  | c :: e :: cs => if 48 ≤ e ∧ e ≤ 57 then (10 * (c - 48) + (e - 48), cs) else (c - 48, e :: cs)
def sufK (c : Int) : Int := if c = 42 then 3 else if c = 43 then 4 else 5
/-- one sign and what belongs to it -/
def rd1 (c : Int) (cs : List Int) (b : Bool) (o : List T3) (ws wh : List Int) : List Int × Bool × List T3 × List Int × List Int :=
  if c = 124 then (let q := jn 2 ws o wh; (cs, false, q.1, 2 :: q.2.1, q.2.2))
  else if c = 40 then (let q := itm b o ws wh; (cs, false, q.1, 7 :: q.2.1, q.2.2))
  else if c = 41 then (let q := jn 2 ws o wh; (cs, true, q.1, q.2.1.tail, q.2.2))
  else if c = 42 ∨ c = 43 ∨ c = 63 then (cs, b, (sufK c, wh.headD 0, 0) :: o, ws, (o.length : Int) :: wh.tail)
  else if c = 60 then (let q := limS cs; (q.2, b, (6, wh.headD 0, q.1) :: o, ws, (o.length : Int) :: wh.tail))
  else (let q := itm b o ws wh; let p := if c = 46 then (67108863, cs) else if c = 91 then setS cs else (zshl 1 (c - 97), cs);
    (p.2, true, (0, p.1, 0) :: q.1, q.2.1, (q.1.length : Int) :: q.2.2))
def rdS : Nat → List Int → Bool → List T3 → List Int → List Int → List T3 × List Int × List Int
  | 0, _, _, o, ws, wh => (o, ws, wh)
  | _ + 1, [], _, o, ws, wh => (o, ws, wh)
  | n + 1, c :: cs, b, o, ws, wh => let q := rd1 c cs b o ws wh; rdS n q.1 q.2.1 q.2.2.1 q.2.2.2.1 q.2.2.2.2
/-- the nodes of a pattern, newest first -/
def rdA (cs : List Int) : List T3 := let q := rdS cs.length cs false [] [] []; (jn 2 q.2.1 q.1 q.2.2).1
def SA (f : Nat → Int) : List Int → Prop
  | [] => True
  | w :: l => f l.length = w ∧ SA f l
def OA (k a b : Nat → Int) : List T3 → Prop
  | [] => True
  | t :: l => k l.length = t.1 ∧ a l.length = t.2.1 ∧ b l.length = t.2.2 ∧ OA k a b l
theorem SA_up {f : Nat → Int} {n : Nat} {v : Int} : ∀ (l : List Int), l.length ≤ n → SA f l → SA (va_up f n v) l
  | [], _, _ => trivial
  | w :: l, hn, h => ⟨by rw [va_up_ne _ _ (by simp at hn; omega)]; exact h.1, SA_up l (by simp at hn; omega) h.2⟩
theorem OA_up {k a b : Nat → Int} {n : Nat} {v1 v2 v3 : Int} : ∀ (l : List T3), l.length ≤ n → OA k a b l → OA (va_up k n v1) (va_up a n v2) (va_up b n v3) l
  | [], _, _ => trivial
  | w :: l, hn, h => by
    have hl : l.length ≠ n := by simp at hn; omega
    exact ⟨by rw [va_up_ne _ _ hl]; exact h.1, by rw [va_up_ne _ _ hl]; exact h.2.1, by rw [va_up_ne _ _ hl]; exact h.2.2.1, OA_up l (by simp at hn; omega) h.2.2.2⟩
def RS (F : Nat → Int) (A : Nat → Nat → Int) (o : List T3) (ws wh : List Int) : Prop := F 6 = o.length ∧ F 10 = ws.length ∧ F 12 = wh.length ∧ OA (A 4) (A 5) (A 6) o ∧ SA (A 7) ws ∧ SA (A 8) wh
def FM (F : Nat → Int) (A : Nat → Nat → Int) (F' : Nat → Int) (A' : Nat → Nat → Int) : Prop := (∀ k, k ≠ 6 → k ≠ 10 → k ≠ 12 → k ≠ 14 → F' k = F k) ∧ ∀ j, j < 4 ∨ 8 < j → A' j = A j
theorem FM.rf {F : Nat → Int} {A : Nat → Nat → Int} : FM F A F A := ⟨fun _ _ _ _ _ => rfl, fun _ _ => rfl⟩
theorem FM.tr {F : Nat → Int} {A : Nat → Nat → Int} {F' : Nat → Int} {A' : Nat → Nat → Int} {F2 : Nat → Int} {A2 : Nat → Nat → Int} (h : FM F A F' A') (h2 : FM F' A' F2 A2) : FM F A F2 A2 := ⟨fun k a b c d => (h2.1 k a b c d).trans (h.1 k a b c d), fun j a => (h2.2 j a).trans (h.2 j a)⟩
theorem RS_make {F : Nat → Int} {A : Nat → Nat → Int} {o : List T3} {ws wh : List Int} (h : RS F A o ws wh) (w a b : Int) : RS (va_up (va_up F 12 (F 12 + 1)) 6 (F 6 + 1)) (va_up (va_up (va_up (va_up A 4 (va_up (A 4) (F 6).toNat w)) 5 (va_up (A 5) (F 6).toNat a)) 6 (va_up (A 6) (F 6).toNat b)) 8 (va_up (A 8) (F 12).toNat (F 6))) ((w, a, b) :: o) ws ((o.length : Int) :: wh) ∧ FM F A (va_up (va_up F 12 (F 12 + 1)) 6 (F 6 + 1)) (va_up (va_up (va_up (va_up A 4 (va_up (A 4) (F 6).toNat w)) 5 (va_up (A 5) (F 6).toNat a)) 6 (va_up (A 6) (F 6).toNat b)) 8 (va_up (A 8) (F 12).toNat (F 6))) ∧ va_up (va_up F 12 (F 12 + 1)) 6 (F 6 + 1) 14 = F 14 := by
  obtain ⟨h1, h2, h3, h4, h5, h6⟩ := h
  have e6 : (F 6).toNat = o.length := by omega
  have e12 : (F 12).toNat = wh.length := by omega
  rw [e6, e12]
  refine ⟨⟨?_, ?_, ?_, ⟨?_, ?_, ?_, ?_⟩, ?_, ⟨?_, ?_⟩⟩, ⟨?_, ?_⟩, ?_⟩
  · simp [va_up, h1]
  · simp [va_up, h2]
  · simp [va_up, h3]
  · simp [va_up]
  · simp [va_up]
  · simp [va_up]
  · exact OA_up o (Nat.le_refl _) h4
  · simpa [va_up] using h5
  · simp [va_up, h1]
  · exact SA_up wh (Nat.le_refl _) h6
  · intro k k1 k2 k3 k4
    simp [va_up, k1, k3]
  · intro j hj
    have a1 : j ≠ 4 := by omega
    have a2 : j ≠ 5 := by omega
    have a3 : j ≠ 6 := by omega
    have a4 : j ≠ 8 := by omega
    simp [va_up, a1, a2, a3, a4]
  · simp [va_up]
theorem RS_hold {F : Nat → Int} {A : Nat → Nat → Int} {o : List T3} {ws wh : List Int} (h : RS F A o ws wh) (w : Int) : RS (va_up F 10 (F 10 + 1)) (va_up A 7 (va_up (A 7) (F 10).toNat w)) o (w :: ws) wh ∧ FM F A (va_up F 10 (F 10 + 1)) (va_up A 7 (va_up (A 7) (F 10).toNat w)) ∧ va_up F 10 (F 10 + 1) 14 = F 14 := by
  obtain ⟨h1, h2, h3, h4, h5, h6⟩ := h
  have e : (F 10).toNat = ws.length := by omega
  rw [e]
  refine ⟨⟨?_, ?_, ?_, ?_, ⟨?_, ?_⟩, ?_⟩, ⟨?_, ?_⟩, ?_⟩
  · simp [va_up, h1]
  · simp [va_up, h2]
  · simp [va_up, h3]
  · simpa [va_up] using h4
  · simp [va_up]
  · exact SA_up ws (Nat.le_refl _) h5
  · simpa [va_up] using h6
  · intro k k1 k2 k3 k4
    simp [va_up, k2]
  · intro j hj
    have a1 : j ≠ 7 := by omega
    simp [va_up, a1]
  · simp [va_up]
theorem jn_c {least w : Int} {ws : List Int} {o : List T3} {b a : Int} {t : List Int} (h : w ≠ 7 ∧ (w = 1 ∨ least = 2)) : jn least (w :: ws) o (b :: a :: t) = jn least ws ((w, a, b) :: o) ((o.length : Int) :: t) := by
  rw [jn, if_pos h]
theorem jn_s {least w : Int} {ws : List Int} {o : List T3} {wh : List Int} (h : ¬ (w ≠ 7 ∧ (w = 1 ∨ least = 2))) : jn least (w :: ws) o wh = (o, w :: ws, wh) := by
  unfold jn
  rw [if_neg h]
theorem jn_0 {least w : Int} {ws : List Int} {o : List T3} : jn least (w :: ws) o [] = (o, w :: ws, []) := by
  unfold jn
  split <;> rfl
theorem jn_1 {least w b : Int} {ws : List Int} {o : List T3} : jn least (w :: ws) o [b] = (o, w :: ws, [b]) := by
  unfold jn
  split <;> rfl
theorem jn_ind (least : Int) (P : List Int → List T3 → List Int → Prop) (h0 : ∀ o wh, jn least [] o wh = (o, [], wh) → P [] o wh) (h1 : ∀ w ws o b a t, (w ≠ 7 ∧ (w = 1 ∨ least = 2)) → jn least (w :: ws) o (b :: a :: t) = jn least ws ((w, a, b) :: o) ((o.length : Int) :: t) → P ws ((w, a, b) :: o) ((o.length : Int) :: t) → P (w :: ws) o (b :: a :: t)) (h2 : ∀ w ws o wh, jn least (w :: ws) o wh = (o, w :: ws, wh) → P (w :: ws) o wh) : ∀ (ws : List Int) (o : List T3) (wh : List Int), P ws o wh
  | [], o, wh => h0 o wh rfl
  | w :: ws, o, wh => by
    by_cases h : w ≠ 7 ∧ (w = 1 ∨ least = 2)
    · match wh with
      | [] => exact h2 _ _ _ _ jn_0
      | [b] => exact h2 _ _ _ _ jn_1
      | b :: a :: t => exact h1 _ _ _ _ _ _ h (jn_c h) (jn_ind least P h0 h1 h2 ws _ _)
    · exact h2 _ _ _ _ (jn_s h)
theorem jn_sum (least : Int) : ∀ (ws : List Int) (o : List T3) (wh : List Int), (jn least ws o wh).1.length + (jn least ws o wh).2.1.length = o.length + ws.length := by
  refine jn_ind least _ ?_ ?_ ?_
  · intro o wh e
    rw [e]
  · intro w ws o b a t hw e ih
    rw [e, ih]
    simp
    omega
  · intro w ws o wh e
    rw [e]
theorem jn_wh (least : Int) (k : Nat) : ∀ (ws : List Int) (o : List T3) (wh : List Int), wh.length = nb ws + k → (jn least ws o wh).2.2.length = nb (jn least ws o wh).2.1 + k := by
  refine jn_ind least _ ?_ ?_ ?_
  · intro o wh e h
    rw [e]
    exact h
  · intro w ws o b a t hw e ih h
    rw [e]
    refine ih ?_
    rw [nb, if_neg hw.1] at h
    simp at h ⊢
    omega
  · intro w ws o wh e h
    rw [e]
    exact h
theorem jn_7 (least : Int) : ∀ (ws : List Int) (o : List T3) (wh : List Int), nd7 (jn least ws o wh).2.1 = nd7 ws := by
  refine jn_ind least _ ?_ ?_ ?_
  · intro o wh e
    rw [e]
  · intro w ws o b a t hw e ih
    rw [e, ih, nd7, if_neg hw.1]
  · intro w ws o wh e
    rw [e]
theorem jn_in (least u : Int) : ∀ (ws : List Int) (o : List T3) (wh : List Int), u ∈ (jn least ws o wh).2.1 → u ∈ ws := by
  refine jn_ind least _ ?_ ?_ ?_
  · intro o wh e h
    rw [e] at h
    exact h
  · intro w ws o b a t hw e ih h
    rw [e] at h
    exact List.mem_cons_of_mem _ (ih h)
  · intro w ws o wh e h
    rw [e] at h
    exact h
