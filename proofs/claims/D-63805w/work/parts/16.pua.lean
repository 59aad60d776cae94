/-! PURE: the reading of a pattern -/
/-- the m signs of T from k on -/
def sl (T : Nat → Int) : Nat → Nat → List Int
  | _, 0 => []
  | k, m + 1 => T k :: sl T (k + 1) m
theorem sl_len (T : Nat → Int) : ∀ (m k : Nat), (sl T k m).length = m
  | 0, _ => rfl
  | m + 1, k => by simp [sl, sl_len T m (k + 1)]
/-- the automaton -/
def nxS (s c d : Int) : Int :=
  if s = 2 ∨ s = 3 ∨ s = 4 then (if 97 ≤ c ∧ c ≤ 122 then 4 else if s = 2 ∧ c = 94 then 3 else if s = 4 ∧ c = 93 then 1 else -1)
  else if s = 5 then (if 48 ≤ c ∧ c ≤ 57 then 6 else -1)
  else if s = 6 ∧ 48 ≤ c ∧ c ≤ 57 then 1
  else if (97 ≤ c ∧ c ≤ 122) ∨ c = 46 then 1
  else if c = 91 then 2
  else if c = 40 then (if d < 6 then 0 else -1)
  else if s = 0 then -1
  else if c = 42 ∨ c = 43 ∨ c = 63 then 1
  else if c = 60 then 5 else if c = 124 then 0 else if c = 41 ∧ 0 < d then 1 else -1
def dpS (s c d : Int) : Int := if (s < 2 ∨ 4 < s) ∧ c = 40 then d + 1 else if (s < 2 ∨ 4 < s) ∧ c = 41 then d - 1 else d
/-- where it faults: what is left there; none: good -/
def fl : List Int → Int → Int → Option (List Int)
  | [], s, d => if d = 0 ∧ (s = 1 ∨ s = 6) then none else some []
  | c :: cs, s, d => if nxS s c d < 0 then some (c :: cs) else fl cs (nxS s c d) (dpS s c d)
def flI (cs : List Int) (n : Int) : Int := match fl cs 0 0 with
  | none => -1
  | some r => n - r.length
theorem nxS_rg (s c d : Int) : -1 ≤ nxS s c d ∧ nxS s c d ≤ 6 := by
  unfold nxS
  repeat' split
  all_goals omega
theorem lpv2 {A0 A1 : Type} (P I : A0 → A1 → Prop) (μ : A0 → A1 → Nat) (step : ∀ a0 a1, I a0 a1 → (∀ b0 b1, I b0 b1 → μ b0 b1 < μ a0 a1 → P b0 b1) → P a0 a1) (a0 : A0) (a1 : A1) (h : I a0 a1) : P a0 a1 :=
  lp_v (α := A0 × A1) (fun ⟨a0, a1⟩ => P a0 a1) (fun ⟨a0, a1⟩ => I a0 a1) (fun ⟨a0, a1⟩ => μ a0 a1) (fun ⟨a0, a1⟩ hi ih => step a0 a1 hi (fun b0 b1 h1 h2 => ih ⟨b0, b1⟩ h1 h2)) ⟨a0, a1⟩ h
theorem lpv3 {A0 A1 A2 : Type} (P I : A0 → A1 → A2 → Prop) (μ : A0 → A1 → A2 → Nat) (step : ∀ a0 a1 a2, I a0 a1 a2 → (∀ b0 b1 b2, I b0 b1 b2 → μ b0 b1 b2 < μ a0 a1 a2 → P b0 b1 b2) → P a0 a1 a2) (a0 : A0) (a1 : A1) (a2 : A2) (h : I a0 a1 a2) : P a0 a1 a2 :=
  lp_v (α := A0 × A1 × A2) (fun ⟨a0, a1, a2⟩ => P a0 a1 a2) (fun ⟨a0, a1, a2⟩ => I a0 a1 a2) (fun ⟨a0, a1, a2⟩ => μ a0 a1 a2) (fun ⟨a0, a1, a2⟩ hi ih => step a0 a1 a2 hi (fun b0 b1 b2 h1 h2 => ih ⟨b0, b1, b2⟩ h1 h2)) ⟨a0, a1, a2⟩ h
theorem lpv4 {A0 A1 A2 A3 : Type} (P I : A0 → A1 → A2 → A3 → Prop) (μ : A0 → A1 → A2 → A3 → Nat) (step : ∀ a0 a1 a2 a3, I a0 a1 a2 a3 → (∀ b0 b1 b2 b3, I b0 b1 b2 b3 → μ b0 b1 b2 b3 < μ a0 a1 a2 a3 → P b0 b1 b2 b3) → P a0 a1 a2 a3) (a0 : A0) (a1 : A1) (a2 : A2) (a3 : A3) (h : I a0 a1 a2 a3) : P a0 a1 a2 a3 :=
  lp_v (α := A0 × A1 × A2 × A3) (fun ⟨a0, a1, a2, a3⟩ => P a0 a1 a2 a3) (fun ⟨a0, a1, a2, a3⟩ => I a0 a1 a2 a3) (fun ⟨a0, a1, a2, a3⟩ => μ a0 a1 a2 a3) (fun ⟨a0, a1, a2, a3⟩ hi ih => step a0 a1 a2 a3 hi (fun b0 b1 b2 b3 h1 h2 => ih ⟨b0, b1, b2, b3⟩ h1 h2)) ⟨a0, a1, a2, a3⟩ h
theorem lpv5 {A0 A1 A2 A3 A4 : Type} (P I : A0 → A1 → A2 → A3 → A4 → Prop) (μ : A0 → A1 → A2 → A3 → A4 → Nat) (step : ∀ a0 a1 a2 a3 a4, I a0 a1 a2 a3 a4 → (∀ b0 b1 b2 b3 b4, I b0 b1 b2 b3 b4 → μ b0 b1 b2 b3 b4 < μ a0 a1 a2 a3 a4 → P b0 b1 b2 b3 b4) → P a0 a1 a2 a3 a4) (a0 : A0) (a1 : A1) (a2 : A2) (a3 : A3) (a4 : A4) (h : I a0 a1 a2 a3 a4) : P a0 a1 a2 a3 a4 :=
  lp_v (α := A0 × A1 × A2 × A3 × A4) (fun ⟨a0, a1, a2, a3, a4⟩ => P a0 a1 a2 a3 a4) (fun ⟨a0, a1, a2, a3, a4⟩ => I a0 a1 a2 a3 a4) (fun ⟨a0, a1, a2, a3, a4⟩ => μ a0 a1 a2 a3 a4) (fun ⟨a0, a1, a2, a3, a4⟩ hi ih => step a0 a1 a2 a3 a4 hi (fun b0 b1 b2 b3 b4 h1 h2 => ih ⟨b0, b1, b2, b3, b4⟩ h1 h2)) ⟨a0, a1, a2, a3, a4⟩ h
theorem lpv6 {A0 A1 A2 A3 A4 A5 : Type} (P I : A0 → A1 → A2 → A3 → A4 → A5 → Prop) (μ : A0 → A1 → A2 → A3 → A4 → A5 → Nat) (step : ∀ a0 a1 a2 a3 a4 a5, I a0 a1 a2 a3 a4 a5 → (∀ b0 b1 b2 b3 b4 b5, I b0 b1 b2 b3 b4 b5 → μ b0 b1 b2 b3 b4 b5 < μ a0 a1 a2 a3 a4 a5 → P b0 b1 b2 b3 b4 b5) → P a0 a1 a2 a3 a4 a5) (a0 : A0) (a1 : A1) (a2 : A2) (a3 : A3) (a4 : A4) (a5 : A5) (h : I a0 a1 a2 a3 a4 a5) : P a0 a1 a2 a3 a4 a5 :=
  lp_v (α := A0 × A1 × A2 × A3 × A4 × A5) (fun ⟨a0, a1, a2, a3, a4, a5⟩ => P a0 a1 a2 a3 a4 a5) (fun ⟨a0, a1, a2, a3, a4, a5⟩ => I a0 a1 a2 a3 a4 a5) (fun ⟨a0, a1, a2, a3, a4, a5⟩ => μ a0 a1 a2 a3 a4 a5) (fun ⟨a0, a1, a2, a3, a4, a5⟩ hi ih => step a0 a1 a2 a3 a4 a5 hi (fun b0 b1 b2 b3 b4 b5 h1 h2 => ih ⟨b0, b1, b2, b3, b4, b5⟩ h1 h2)) ⟨a0, a1, a2, a3, a4, a5⟩ h
