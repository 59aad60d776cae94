/-! DISTANCES: the walk over the dictionary -/
def wfP (p : List Nat) : Nat → Int := fun i => ((p.reverse.getD i 0 : Nat) : Int)
theorem wfP_lt {c : Nat} {p : List Nat} {i : Nat} (h : i < p.length) : wfP (c :: p) i = wfP p i := by
  unfold wfP
  rw [List.reverse_cons, List.getD_eq_getElem?_getD, List.getD_eq_getElem?_getD, List.getElem?_append_left (by simpa using h)]
theorem wfP_at {c : Nat} {p : List Nat} : wfP (c :: p) p.length = c := by
  unfold wfP
  rw [List.reverse_cons, List.getD_eq_getElem?_getD, List.getElem?_append_right (by simp)]
  simp
def enC (G : List Nat → List (List Nat)) (nd : List Nat → Option Nat) (p : List Nat) : Nat → Nat → List (List Nat)
  | 0, _ => []
  | k + 1, c => (if (nd (c :: p)).isSome then G (c :: p) else []) ++ enC G nd p k (c + 1)
/-- the ways to words from p on, in the order of the dictionary -/
def enW (nd : List Nat → Option Nat) (wd : List Nat → Int) : Nat → List Nat → List (List Nat)
  | 0, p => if 0 ≤ wd p then [p] else []
  | n + 1, p => (if 0 ≤ wd p then [p] else []) ++ enC (enW nd wd n) nd p 26 0
theorem enC_skip {G : List Nat → List (List Nat)} {nd : List Nat → Option Nat} {p : List Nat} {c' : Nat} : ∀ (n c : Nat), c ≤ c' → c' ≤ c + n → (∀ d, c ≤ d → d < c' → nd (d :: p) = none) → enC G nd p n c = enC G nd p (n - (c' - c)) c'
  | 0, c, h1, h2, h3 => by
    rw [show c' = c by omega]
    simp
  | n + 1, c, h1, h2, h3 => by
    by_cases e : c = c'
    · subst e
      simp
    · rw [enC, h3 c (Nat.le_refl _) (by omega), enC_skip n (c + 1) (by omega) (by omega) (fun d h4 h5 => h3 d (by omega) h5), show n + 1 - (c' - c) = n - (c' - (c + 1)) by omega]
      simp
theorem enC_nil {G : List Nat → List (List Nat)} {nd : List Nat → Option Nat} {p : List Nat} (n c : Nat) (h : ∀ d, c ≤ d → d < c + n → nd (d :: p) = none) : enC G nd p n c = [] := by
  rw [enC_skip (c' := c + n) n c (by omega) (by omega) h, show n - (c + n - c) = 0 by omega]
  rfl
/-- the list of words so far: numbers and distances -/
def LSw (g : GG) (h : HM) (sz o : Nat) (R : List (Nat × Int)) : Prop := ∃ (m : Int) (ed cap : Nat) (f : Nat → Option Nat) (fa : Nat → Int), h (o + 40) = some (ALo m ed R.length) ∧ ED g h ed cap f ∧ (R.length ≤ cap ∧ cap ≤ 300 ∧ R.length ≤ 20) ∧ (h ed = some (eO g cap f) → o + 41 < ed ∧ ed < sz) ∧ h (o + 41) = some (eI g 20 fa) ∧ ∀ (k : Nat) (r : Nat × Int), R[k]? = some r → f k = some (kc g (138 + r.1)) ∧ fa k = r.2 ∧ r.1 < 100
/-- what stays as it is -/
def nRA (e : va_E) : Prop := ∀ (c : ClassId) (n : Nat) (f : Nat → Option Nat), e ≠ .inl (c, n, .inr (.inr (.inr (.inr f))))
theorem nRA_o {ci : Nat} {fs : List Value} : nRA (oC ci fs) := fun c n f e => by cases e
theorem nRA_i {g : GG} {n : Nat} {f : Nat → Int} : nRA (eI g n f) := fun c n' f' e => by
  have := congrArg (fun z : va_E => match z with
    | .inl (_, _, .inl _) => true
    | _ => false) e
  simp at this
def FW (o : Nat) (h h' : HM) : Prop := ∀ q e, h q = some e → (q < o + 25 ∨ q = o + 26 ∨ (o + 41 < q ∧ nRA e)) → h' q = some e
theorem FW.rf {o : Nat} {h : HM} : FW o h h := fun _ _ a _ => a
theorem FW.tr {o : Nat} {h h1 h2 : HM} (a : FW o h h1) (b : FW o h1 h2) : FW o h h2 := fun q e x y => b q e (a q e x y) y
def WW (g : GG) (h : HM) (sz o : Nat) (F : Nat → Int) (P : Option Nat) (len ad mi wr : Int) (tf : Nat → Int) (T : Nat → Nat → Int) (pa : Nat → Int) (D : Nat → Nat → Int) (nd : List Nat → Option Nat) (wd : List Nat → Int) (R : List (Nat × Int)) : Prop := DW g h o F P len ad mi wr tf T pa D ∧ TRE h nd wd ∧ LSw g h sz o R ∧ (∀ q, sz ≤ q → h q = none)
section WWS
variable {g : GG} {h h' : HM} {sz sz' o : Nat} {F : Nat → Int} {P : Option Nat} {len ad mi wr : Int} {tf : Nat → Int} {T : Nat → Nat → Int} {pa pa' : Nat → Int} {D D' : Nat → Nat → Int} {nd : List Nat → Option Nat} {wd : List Nat → Int} {R R' : List (Nat × Int)}
theorem WW.br (hW : WW g h sz o F P len ad mi wr tf T pa D nd wd R) {p : List Nat} {b : Nat} (hb : nd p = some b) : b < o + 25 ∨ b = o + 26 ∨ o + 41 < b := by
  have h1 := hW.2.1.1 p b hb
  obtain ⟨⟨-, -, d3, d4, d5, -⟩, -, ⟨m, ed, cap, f, fa, l1, -, -, -, l5, -⟩, -⟩ := hW
  by_cases c1 : b = o + 25
  · rw [c1, d3] at h1
    cases h1
  by_cases c2 : b = o + 40
  · rw [c2, l1] at h1
    cases h1
  by_cases c3 : b = o + 41
  · rw [c3, l5] at h1
    cases h1
  by_cases c4 : o + 27 ≤ b ∧ b < o + 40
  · have := d5 (b - (o + 27)) (by omega)
    rw [show o + 27 + (b - (o + 27)) = b by omega, h1] at this
    cases this
  omega
/-- the dictionary stays -/
theorem WW.tre (hW : WW g h sz o F P len ad mi wr tf T pa D nd wd R) (hF : FW o h h') : TRE h' nd wd := by
  obtain ⟨t1, t2⟩ := hW.2.1
  refine ⟨fun p b hb => hF b _ (t1 p b hb) ?_, t2⟩
  have := hW.br hb
  exact this.imp id (fun e => e.imp id (fun e => ⟨e, nRA_o⟩))
theorem DW.fr (hW : DW g h o F P len ad mi wr tf T pa D) (hF : FW o h h') (h1 : h' (o + 25) = some (eI g 12 pa')) (h2 : ∀ j, j < 13 → h' (o + 27 + j) = some (eI g 25 (D' j))) (h3 : ∀ j : Nat, j < 12 → -1000 ≤ pa' j ∧ pa' j ≤ 1000) : DW g h' o F P len ad mi wr tf T pa' D' := by
  obtain ⟨d1, ⟨b1, b2, b3, b4, b5⟩, d3, d4, d5, d6⟩ := hW
  exact ⟨hF _ _ d1 (by omega), ⟨hF _ _ b1 (by omega), hF _ _ b2 (by omega), hF _ _ b3 (by omega), fun j hj => hF _ _ (b4 j hj) (by omega), b5⟩, h1, hF _ _ d4 (by omega), h2, h3⟩
end WWS
