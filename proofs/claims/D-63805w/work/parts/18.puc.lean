/-! PURE: costs as the model works them out (1000000 is without end) -/
def mSum (a b : Int) : Int := if 1000000 ≤ a ∨ 1000000 ≤ b then 1000000 else a + b
def fitB (set : Int) (tx : Nat → Int) (i : Nat) : Nat → Bool
  | 0 => false
  | m + 1 => fitB set tx i m || decide (zand (zshr set (tx (i + m))) 1 = 1)
def oSet (ad mi wr set : Int) (tx : Nat → Int) (i j : Nat) : Int :=
  if j = i then mi + ((j : Int) - i) * ad else min (mi + ((j : Int) - i) * ad) (((j : Int) - i - 1) * ad + (if fitB set tx i (j - i) then 0 else wr))
def rowM (f h : Nat → Nat → Int) (i j : Nat) : Nat → Int
  | 0 => 1000000
  | m + 1 => min (rowM f h i j m) (mSum (f i (i + m)) (h (i + m) j))
def plM (t f : Nat → Nat → Int) (i j : Nat) : Nat → Int
  | 0 => f i j
  | m + 1 => min (plM t f i j m) (mSum (t i (i + 1 + m)) (f (i + 1 + m) j))
/-- t is node (kd, a, b)'s table, T its parts' -/
def NdM (ad mi wr : Int) (tx : Nat → Int) (len : Nat) (kd a b : Int) (T : Nat → Nat → Nat → Int) (t : Nat → Nat → Int) : Prop :=
  (kd = 0 → ∀ i j, i ≤ j → j ≤ len → t i j = oSet ad mi wr a tx i j) ∧
  (kd = 1 → ∀ i j, i ≤ j → j ≤ len → t i j = rowM (T a.toNat) (T b.toNat) i j (j - i + 1)) ∧
  (kd = 2 → ∀ i j, i ≤ j → j ≤ len → t i j = min (T a.toNat i j) (T b.toNat i j)) ∧
  (kd = 3 → ∃ u : Nat → Nat → Int, (∀ i j, i ≤ j → j ≤ len → u i j = plM u (T a.toNat) i j (j - i - 1)) ∧ ∀ i j, i ≤ j → j ≤ len → t i j = min (u i j) (((j : Int) - i) * ad)) ∧
  (kd = 4 → ∀ i j, i ≤ j → j ≤ len → t i j = plM t (T a.toNat) i j (j - i - 1)) ∧
  (kd = 5 → ∀ i j, i ≤ j → j ≤ len → t i j = min (T a.toNat i j) (((j : Int) - i) * ad)) ∧
  (kd = 6 → ∀ i j, i ≤ j → j ≤ len → t i j = if T a.toNat i j ≤ b then T a.toNat i j else 1000000)
/-- a node is right: its parts come before it -/
def NdOk (n : Nat) (kd a b : Int) : Prop := 0 ≤ kd ∧ kd ≤ 6 ∧ (-2147483648 ≤ a ∧ a < 2147483648) ∧ (kd ≠ 0 → 0 ≤ a ∧ a < n) ∧ (kd = 1 ∨ kd = 2 → 0 ≤ b ∧ b < n) ∧ (kd = 6 → 0 ≤ b ∧ b ≤ 99)
theorem rowM_rg {f h : Nat → Nat → Int} {i j : Nat} (hf : ∀ k, i ≤ k → k ≤ j → 0 ≤ f i k ∧ f i k ≤ 1000000) (hh : ∀ k, i ≤ k → k ≤ j → 0 ≤ h k j ∧ h k j ≤ 1000000) : ∀ m : Nat, i + m ≤ j + 1 → 0 ≤ rowM f h i j m ∧ rowM f h i j m ≤ 1000000
  | 0, _ => by simp [rowM]
  | m + 1, hm => by
    have ih := rowM_rg hf hh m (by omega)
    have h1 := hf (i + m) (by omega) (by omega)
    have h2 := hh (i + m) (by omega) (by omega)
    rw [rowM]
    unfold mSum
    split <;> omega
theorem plM_rg {t f : Nat → Nat → Int} {i j : Nat} (ht : ∀ k, i < k → k < j → 0 ≤ t i k ∧ t i k ≤ 1000000) (hf : ∀ k, i ≤ k → k ≤ j → 0 ≤ f k j ∧ f k j ≤ 1000000) (hij : i ≤ j) : ∀ m : Nat, i + 1 + m ≤ j ∨ m = 0 → 0 ≤ plM t f i j m ∧ plM t f i j m ≤ 1000000
  | 0, _ => by
    rw [plM]
    exact hf i (Nat.le_refl _) hij
  | m + 1, hm => by
    have ih := plM_rg ht hf hij m (by omega)
    have h1 := ht (i + 1 + m) (by omega) (by omega)
    have h2 := hf (i + 1 + m) (by omega) (by omega)
    rw [plM]
    unfold mSum
    split <;> omega
theorem plM_ext {t t' f f' : Nat → Nat → Int} {i j : Nat} : ∀ m : Nat, (∀ k, i < k → k ≤ i + m → t' i k = t i k) → (∀ k, i ≤ k → k ≤ i + m → f' k j = f k j) → plM t' f' i j m = plM t f i j m
  | 0, _, hf => by
    rw [plM, plM]
    exact hf i (Nat.le_refl _) (by omega)
  | m + 1, ht, hf => by
    rw [plM, plM, plM_ext m (fun k a b => ht k a (by omega)) (fun k a b => hf k a (by omega)), ht (i + 1 + m) (by omega) (by omega), hf (i + 1 + m) (by omega) (by omega)]
theorem rowM_ext {f f' h h' : Nat → Nat → Int} {i j : Nat} : ∀ m : Nat, (∀ k, i ≤ k → k < i + m → f' i k = f i k) → (∀ k, i ≤ k → k < i + m → h' k j = h k j) → rowM f' h' i j m = rowM f h i j m
  | 0, _, _ => rfl
  | m + 1, hf, hh => by
    rw [rowM, rowM, rowM_ext m (fun k a b => hf k a (by omega)) (fun k a b => hh k a (by omega)), hf (i + m) (by omega) (by omega), hh (i + m) (by omega) (by omega)]
theorem oSet_rg {ad mi wr set : Int} {tx : Nat → Int} {i j : Nat} (h1 : 0 ≤ ad ∧ ad ≤ 9) (h2 : 0 ≤ mi ∧ mi ≤ 9) (h3 : 0 ≤ wr ∧ wr ≤ 9) (hij : i ≤ j) (hj : j ≤ 24) : 0 ≤ oSet ad mi wr set tx i j ∧ oSet ad mi wr set tx i j ≤ 225 := by
  have e : 0 ≤ ((j : Int) - i) * ad ∧ ((j : Int) - i) * ad ≤ 24 * 9 := ⟨Int.mul_nonneg (by omega) h1.1, Int.mul_le_mul (by omega) h1.2 h1.1 (by omega)⟩
  unfold oSet
  split
  · omega
  · have e2 : 0 ≤ ((j : Int) - i - 1) * ad ∧ ((j : Int) - i - 1) * ad ≤ 23 * 9 := ⟨Int.mul_nonneg (by omega) h1.1, Int.mul_le_mul (by omega) h1.2 h1.1 (by omega)⟩
    split <;> omega
/-- one cell of a node -/
def ofN (ad mi wr : Int) (tx : Nat → Int) (kd a b : Int) (T : Nat → Nat → Nat → Int) (t : Nat → Nat → Int) (i j : Nat) : Int :=
  if kd = 0 then oSet ad mi wr a tx i j else if kd = 1 then rowM (T a.toNat) (T b.toNat) i j (j - i + 1) else if kd = 2 then min (T a.toNat i j) (T b.toNat i j)
  else if kd = 5 then min (T a.toNat i j) (((j : Int) - i) * ad) else if kd = 6 then (if T a.toNat i j ≤ b then T a.toNat i j else 1000000) else plM t (T a.toNat) i j (j - i - 1)
theorem jmul {ad : Int} (h : 0 ≤ ad ∧ ad ≤ 9) {i j : Nat} (hij : i ≤ j) (hj : j ≤ 24) : 0 ≤ ((j : Int) - i) * ad ∧ ((j : Int) - i) * ad ≤ 216 := by
  refine ⟨Int.mul_nonneg (by omega) h.1, ?_⟩
  have : ((j : Int) - i) * ad ≤ 24 * 9 := Int.mul_le_mul (by omega) h.2 h.1 (by omega)
  omega
theorem ofN_rg {ad mi wr : Int} {tx : Nat → Int} {n : Nat} {kd a b : Int} {T : Nat → Nat → Nat → Int} {t : Nat → Nat → Int} {i j : Nat} (h1 : 0 ≤ ad ∧ ad ≤ 9) (h2 : 0 ≤ mi ∧ mi ≤ 9) (h3 : 0 ≤ wr ∧ wr ≤ 9) (hij : i ≤ j) (hj : j ≤ 24) (ok : NdOk n kd a b) (hT : ∀ m, m < n → ∀ i' j', i ≤ i' → i' ≤ j' → j' ≤ j → 0 ≤ T m i' j' ∧ T m i' j' ≤ 1000000) (ht : ∀ k, i < k → k < j → 0 ≤ t i k ∧ t i k ≤ 1000000) : 0 ≤ ofN ad mi wr tx kd a b T t i j ∧ ofN ad mi wr tx kd a b T t i j ≤ 1000000 := by
  obtain ⟨k0, k6, -, ka, kb, -⟩ := ok
  have hjm := jmul h1 hij hj
  unfold ofN
  by_cases c0 : kd = 0
  · rw [if_pos c0]
    have := oSet_rg (set := a) (tx := tx) h1 h2 h3 hij hj
    omega
  rw [if_neg c0]
  have ha := ka c0
  have hTa := hT a.toNat (by omega)
  by_cases c1 : kd = 1
  · rw [if_pos c1]
    have hb := kb (Or.inl c1)
    exact rowM_rg (fun k q1 q2 => hTa i k (Nat.le_refl _) q1 q2) (fun k q1 q2 => hT b.toNat (by omega) k j q1 q2 (Nat.le_refl _)) _ (by omega)
  rw [if_neg c1]
  have h9 := hTa i j (Nat.le_refl _) hij (Nat.le_refl _)
  by_cases c2 : kd = 2
  · rw [if_pos c2]
    have hb := kb (Or.inr c2)
    have := hT b.toNat (by omega) i j (Nat.le_refl _) hij (Nat.le_refl _)
    omega
  rw [if_neg c2]
  by_cases c5 : kd = 5
  · rw [if_pos c5]
    omega
  rw [if_neg c5]
  by_cases c6 : kd = 6
  · rw [if_pos c6]
    split <;> omega
  rw [if_neg c6]
  exact plM_rg ht (fun k q1 q2 => hTa k j q1 q2 (Nat.le_refl _)) hij _ (by omega)
theorem ofN_ext {ad mi wr : Int} {tx : Nat → Int} {n : Nat} {kd a b : Int} {T T' : Nat → Nat → Nat → Int} {t t' : Nat → Nat → Int} {i j : Nat} (hij : i ≤ j) (ok : NdOk n kd a b) (hT : ∀ m, m < n → ∀ i' j', i ≤ i' → i' ≤ j' → j' ≤ j → T' m i' j' = T m i' j') (ht : ∀ k, i < k → k < j → t' i k = t i k) : ofN ad mi wr tx kd a b T' t' i j = ofN ad mi wr tx kd a b T t i j := by
  obtain ⟨k0, k6, -, ka, kb, -⟩ := ok
  unfold ofN
  by_cases c0 : kd = 0
  · rw [if_pos c0, if_pos c0]
  rw [if_neg c0, if_neg c0]
  have ha := ka c0
  have hTa := hT a.toNat (by omega)
  by_cases c1 : kd = 1
  · rw [if_pos c1, if_pos c1]
    have hb := kb (Or.inl c1)
    exact rowM_ext _ (fun k q1 q2 => hTa i k (Nat.le_refl _) q1 (by omega)) (fun k q1 q2 => hT b.toNat (by omega) k j q1 (by omega) (Nat.le_refl _))
  rw [if_neg c1, if_neg c1]
  have h9 := hTa i j (Nat.le_refl _) hij (Nat.le_refl _)
  by_cases c2 : kd = 2
  · rw [if_pos c2, if_pos c2]
    have hb := kb (Or.inr c2)
    rw [h9, hT b.toNat (by omega) i j (Nat.le_refl _) hij (Nat.le_refl _)]
  rw [if_neg c2, if_neg c2, h9]
  by_cases c5 : kd = 5
  · rw [if_pos c5, if_pos c5]
  rw [if_neg c5, if_neg c5]
  by_cases c6 : kd = 6
  · rw [if_pos c6, if_pos c6]
  rw [if_neg c6, if_neg c6]
  exact plM_ext _ (fun k q1 q2 => ht k q1 (by omega)) (fun k q1 q2 => hTa k j q1 (by omega) (Nat.le_refl _))
/-- a node's table out of its cells -/
theorem NdM_of {ad mi wr : Int} {tx : Nat → Int} {len : Nat} {kd a b : Int} {T : Nat → Nat → Nat → Int} {t u : Nat → Nat → Int} (hu : ∀ i j, i ≤ j → j ≤ len → u i j = ofN ad mi wr tx kd a b T u i j) (ht : ∀ i j, i ≤ j → j ≤ len → t i j = if kd = 3 then min (u i j) (((j : Int) - i) * ad) else u i j) : NdM ad mi wr tx len kd a b T t := by
  refine ⟨fun h => ?_, fun h => ?_, fun h => ?_, fun h => ?_, fun h => ?_, fun h => ?_, fun h => ?_⟩
  · intro i j h1 h2
    rw [ht i j h1 h2, if_neg (by omega), hu i j h1 h2, ofN, if_pos h]
  · intro i j h1 h2
    rw [ht i j h1 h2, if_neg (by omega), hu i j h1 h2, ofN, if_neg (by omega), if_pos h]
  · intro i j h1 h2
    rw [ht i j h1 h2, if_neg (by omega), hu i j h1 h2, ofN, if_neg (by omega), if_neg (by omega), if_pos h]
  · refine ⟨u, fun i j h1 h2 => ?_, fun i j h1 h2 => ?_⟩
    · have := hu i j h1 h2
      rw [ofN, if_neg (by omega), if_neg (by omega), if_neg (by omega), if_neg (by omega), if_neg (by omega)] at this
      exact this
    · rw [ht i j h1 h2, if_pos h]
  · intro i j h1 h2
    rw [ht i j h1 h2, if_neg (by omega)]
    have h3 := hu i j h1 h2
    rw [ofN, if_neg (by omega), if_neg (by omega), if_neg (by omega), if_neg (by omega), if_neg (by omega)] at h3
    rw [h3]
    refine plM_ext _ (fun k q1 q2 => ?_) (fun _ _ _ => rfl)
    rw [ht i k (by omega) (by omega), if_neg (by omega)]
  · intro i j h1 h2
    rw [ht i j h1 h2, if_neg (by omega), hu i j h1 h2, ofN, if_neg (by omega), if_neg (by omega), if_neg (by omega), if_pos h]
  · intro i j h1 h2
    rw [ht i j h1 h2, if_neg (by omega), hu i j h1 h2, ofN, if_neg (by omega), if_neg (by omega), if_neg (by omega), if_neg (by omega), if_pos h]
