/-! PURE: distances -/
def s1D (D : Nat → Nat → Int) (p q : Nat) (b : Int) : Int := if 0 < p then min b (D (p - 1) q + 1) else b
def s2D (D : Nat → Nat → Int) (p q : Nat) (b : Int) : Int := if 0 < q then min b (D p (q - 1) + 1) else b
def s3D (a t : Nat → Int) (D : Nat → Nat → Int) (p q : Nat) (b : Int) : Int := if 0 < p ∧ 0 < q then min b (D (p - 1) (q - 1) + (if a (p - 1) = t (q - 1) then 0 else 1)) else b
def s4D (ex : Int) (a t : Nat → Int) (D : Nat → Nat → Int) (p q : Nat) (b : Int) : Int := if ex ≠ 0 ∧ 1 < p ∧ 1 < q ∧ a (p - 1) = t (q - 2) ∧ a (p - 2) = t (q - 1) then min b (D (p - 2) (q - 2) + 1) else b
def stD (ex : Int) (a t : Nat → Int) (D : Nat → Nat → Int) (p q : Nat) : Int := s4D ex a t D p q (s3D a t D p q (s2D D p q (s1D D p q (if p = 0 ∧ q = 0 then 0 else 1000))))
/-- rows of distances, a row out of those above it -/
def lvR (ex : Int) (a t : Nat → Int) (r1 r2 : Nat → Int) (p : Nat) : Nat → Int
  | 0 => (p : Int)
  | q + 1 => let d := min (min (r1 (q + 1) + 1) (lvR ex a t r1 r2 p q + 1)) (r1 q + (if a (p - 1) = t q then 0 else 1))
    if ex ≠ 0 ∧ 1 < p ∧ 1 ≤ q ∧ a (p - 1) = t (q - 1) ∧ a (p - 2) = t q then min d (r2 (q - 1) + 1) else d
/-- the distance of the first p letters of a from the first q of t -/
def lev (ex : Int) (a t : Nat → Int) : Nat → Nat → Int
  | 0 => fun q => (q : Int)
  | 1 => lvR ex a t (fun q => (q : Int)) (fun _ => 0) 1
  | p + 2 => lvR ex a t (lev ex a t (p + 1)) (lev ex a t p) (p + 2)
theorem lev_00 {ex : Int} {a t : Nat → Int} {q : Nat} : lev ex a t 0 q = q := rfl
theorem lev_p0 {ex : Int} {a t : Nat → Int} : ∀ p : Nat, lev ex a t p 0 = p
  | 0 => rfl
  | 1 => rfl
  | p + 2 => rfl
theorem lev_s {ex : Int} {a t : Nat → Int} {p q : Nat} : lev ex a t (p + 1) (q + 1) = (let d := min (min (lev ex a t p (q + 1) + 1) (lev ex a t (p + 1) q + 1)) (lev ex a t p q + (if a p = t q then 0 else 1)); if ex ≠ 0 ∧ 1 < p + 1 ∧ 1 ≤ q ∧ a p = t (q - 1) ∧ a (p - 1) = t q then min d (lev ex a t (p - 1) (q - 1) + 1) else d) := by
  match p with
  | 0 =>
    show lvR ex a t (fun q => (q : Int)) (fun _ => 0) 1 (q + 1) = _
    rw [lvR]
    dsimp only
    refine (if_neg (fun c => absurd c.2.1 (by omega))).trans ?_
    refine Eq.symm ((if_neg (fun c => absurd c.2.1 (by omega))).trans ?_)
    rfl
  | p + 1 => rfl
theorem lev_rg {ex : Int} {a t : Nat → Int} : ∀ (p q : Nat), 0 ≤ lev ex a t p q ∧ lev ex a t p q ≤ p + q
  | 0, q => by rw [lev_00]; omega
  | p + 1, 0 => by rw [lev_p0]; omega
  | p + 1, q + 1 => by
    have h1 := lev_rg (ex := ex) (a := a) (t := t) p (q + 1)
    have h2 := lev_rg (ex := ex) (a := a) (t := t) (p + 1) q
    have h3 := lev_rg (ex := ex) (a := a) (t := t) p q
    have h4 := lev_rg (ex := ex) (a := a) (t := t) (p - 1) (q - 1)
    rw [lev_s]
    dsimp only
    split <;> split <;> omega
termination_by p q => p + q
/-- at most the longer one's length -/
theorem lev_max {ex : Int} {a t : Nat → Int} : ∀ (p q : Nat), lev ex a t p q ≤ max (p : Int) q
  | 0, q => by rw [lev_00]; omega
  | p + 1, 0 => by rw [lev_p0]; omega
  | p + 1, q + 1 => by
    have h3 := lev_max (ex := ex) (a := a) (t := t) p q
    rw [lev_s]
    dsimp only
    split <;> split <;> omega
/-- one cell as the model makes it -/
theorem stD_lev {ex : Int} {a t : Nat → Int} {D : Nat → Nat → Int} {p q : Nat} (hp : p ≤ 100) (hq : q ≤ 100) (h : ∀ p' q' : Nat, p' ≤ p → q' ≤ q → (p' < p ∨ q' < q) → D p' q' = lev ex a t p' q') : stD ex a t D p q = lev ex a t p q := by
  unfold stD
  match p, q with
  | 0, 0 => simp [s1D, s2D, s3D, s4D, lev_00]
  | 0, q + 1 =>
    have h1 := h 0 q (by omega) (by omega) (by omega)
    rw [lev_00] at h1
    simp [s1D, s2D, s3D, s4D, lev_00, h1]
    omega
  | p + 1, 0 =>
    have h1 := h p 0 (by omega) (by omega) (by omega)
    rw [lev_p0] at h1
    simp [s1D, s2D, s3D, s4D, lev_p0, h1]
    omega
  | p + 1, q + 1 =>
    have h1 := h p (q + 1) (by omega) (by omega) (by omega)
    have h2 := h (p + 1) q (by omega) (by omega) (by omega)
    have h3 := h p q (by omega) (by omega) (by omega)
    have r1 := lev_rg (ex := ex) (a := a) (t := t) p (q + 1)
    have r2 := lev_rg (ex := ex) (a := a) (t := t) (p + 1) q
    have r3 := lev_rg (ex := ex) (a := a) (t := t) p q
    rw [lev_s]
    have e1 : s1D D (p + 1) (q + 1) (if p + 1 = 0 ∧ q + 1 = 0 then 0 else 1000) = lev ex a t p (q + 1) + 1 := by
      unfold s1D
      rw [if_pos (by omega), if_neg (by omega), Nat.add_sub_cancel, h1]
      omega
    have e2 : s2D D (p + 1) (q + 1) (lev ex a t p (q + 1) + 1) = min (lev ex a t p (q + 1) + 1) (lev ex a t (p + 1) q + 1) := by
      unfold s2D
      rw [if_pos (by omega), Nat.add_sub_cancel, h2]
    have e3 : s3D a t D (p + 1) (q + 1) (min (lev ex a t p (q + 1) + 1) (lev ex a t (p + 1) q + 1)) = min (min (lev ex a t p (q + 1) + 1) (lev ex a t (p + 1) q + 1)) (lev ex a t p q + (if a p = t q then 0 else 1)) := by
      unfold s3D
      rw [if_pos (by omega), Nat.add_sub_cancel, Nat.add_sub_cancel, h3]
    rw [e1, e2, e3]
    dsimp only
    unfold s4D
    by_cases hc : ex ≠ 0 ∧ 1 < p + 1 ∧ 1 ≤ q ∧ a p = t (q - 1) ∧ a (p - 1) = t q
    · have h4 := h (p - 1) (q - 1) (by omega) (by omega) (by omega)
      rw [if_pos hc, if_pos ⟨hc.1, hc.2.1, by omega, by rw [show p + 1 - 1 = p by omega, show q + 1 - 2 = q - 1 by omega]; exact hc.2.2.2.1, by rw [show p + 1 - 2 = p - 1 by omega, show q + 1 - 1 = q by omega]; exact hc.2.2.2.2⟩, show p + 1 - 2 = p - 1 by omega, show q + 1 - 2 = q - 1 by omega, h4]
    · rw [if_neg hc, if_neg]
      rintro ⟨c1, c2, c3, c4, c5⟩
      rw [show p + 1 - 1 = p by omega, show q + 1 - 2 = q - 1 by omega] at c4
      rw [show p + 1 - 2 = p - 1 by omega, show q + 1 - 1 = q by omega] at c5
      exact hc ⟨c1, c2, by omega, c4, c5⟩
theorem lev_ext {ex : Int} {a a' t t' : Nat → Int} : ∀ (p q : Nat), (∀ i, i < p → a' i = a i) → (∀ i, i < q → t' i = t i) → lev ex a' t' p q = lev ex a t p q
  | 0, q, _, _ => rfl
  | p + 1, 0, _, _ => by rw [lev_p0, lev_p0]
  | p + 1, q + 1, ha, ht => by
    rw [lev_s, lev_s, lev_ext p (q + 1) (fun i hi => ha i (by omega)) (fun i hi => ht i (by omega)), lev_ext (p + 1) q (fun i hi => ha i (by omega)) (fun i hi => ht i (by omega)), lev_ext p q (fun i hi => ha i (by omega)) (fun i hi => ht i (by omega)), lev_ext (p - 1) (q - 1) (fun i hi => ha i (by omega)) (fun i hi => ht i (by omega)), ha p (by omega), ht q (by omega), ha (p - 1) (by omega), ht (q - 1) (by omega)]
termination_by p q => p + q
/-- 0: the same -/
theorem lev_zero {a t : Nat → Int} : ∀ (p q : Nat), lev 0 a t p q = 0 ↔ p = q ∧ ∀ i, i < p → a i = t i
  | 0, q => by
    rw [lev_00]
    constructor
    · intro h
      exact ⟨by omega, fun i hi => by omega⟩
    · intro h
      omega
  | p + 1, 0 => by
    rw [lev_p0]
    constructor
    · intro h
      omega
    · intro h
      omega
  | p + 1, q + 1 => by
    have h1 := lev_rg (ex := 0) (a := a) (t := t) p (q + 1)
    have h2 := lev_rg (ex := 0) (a := a) (t := t) (p + 1) q
    have h3 := lev_rg (ex := 0) (a := a) (t := t) p q
    have ih := lev_zero (a := a) (t := t) p q
    rw [lev_s]
    dsimp only
    rw [if_neg (by omega)]
    constructor
    · intro h
      by_cases hc : a p = t q
      · rw [if_pos hc] at h
        have h9 : lev 0 a t p q = 0 := by omega
        obtain ⟨e1, e2⟩ := ih.mp h9
        refine ⟨by omega, fun i hi => ?_⟩
        by_cases hi2 : i < p
        · exact e2 i hi2
        · rw [show i = p by omega, hc, e1]
      · rw [if_neg hc] at h
        omega
    · rintro ⟨e1, e2⟩
      have e3 : p = q := by omega
      have h9 : lev 0 a t p q = 0 := ih.mpr ⟨e3, fun i hi => e2 i (by omega)⟩
      have h8 : a p = t q := by rw [← e3]; exact e2 p (by omega)
      rw [if_pos h8]
      omega
noncomputable def bl (P : Prop) : Bool := @decide P (Classical.propDecidable P)
theorem bl_t {P : Prop} (h : P) : bl P = true := @decide_eq_true P (Classical.propDecidable P) h
theorem bl_f {P : Prop} (h : ¬ P) : bl P = false := @decide_eq_false P (Classical.propDecidable P) h
def cntB (f : Nat → Bool) : Nat → Int
  | 0 => 0
  | n + 1 => cntB f n + (if f n then 1 else 0)
theorem cntB_rg (f : Nat → Bool) : ∀ n : Nat, 0 ≤ cntB f n ∧ cntB f n ≤ n
  | 0 => by simp [cntB]
  | n + 1 => by
    have := cntB_rg f n
    rw [cntB]
    split <;> omega
/-- word a (of sa letters) comes before word b -/
def Elr (sa sb : Int) (a b : Nat → Int) : Prop := ∃ k : Nat, (k : Int) ≤ sa ∧ (k : Int) ≤ sb ∧ (∀ i, i < k → a i = b i) ∧ (((k : Int) = sa ∧ sa < sb) ∨ ((k : Int) < sa ∧ (k : Int) < sb ∧ a k < b k))
theorem Elr_at {sa sb : Int} {a b : Nat → Int} {k : Nat} (h1 : (k : Int) ≤ sa) (h2 : (k : Int) ≤ sb) (h3 : ∀ i, i < k → a i = b i) (h4 : (k : Int) = sa ∨ (k : Int) = sb ∨ a k ≠ b k) : Elr sa sb a b ↔ (((k : Int) = sa ∧ sa < sb) ∨ ((k : Int) < sa ∧ (k : Int) < sb ∧ a k < b k)) := by
  constructor
  · rintro ⟨m, m1, m2, m3, m4⟩
    by_cases c1 : m < k
    · have := h3 m c1
      omega
    · by_cases c2 : k < m
      · have := m3 k c2
        omega
      · obtain rfl : m = k := by omega
        exact m4
  · intro h
    exact ⟨k, h1, h2, h3, h⟩
