/-! THE MODEL's world: its object at o, its arrays behind it; F its int fields, A its arrays, r all else -/
def mlen : Nat → Nat
  | 0 => 40 | 1 => 24 | 2 => 24 | 3 => 24 | 4 => 80 | 5 => 80 | 6 => 80 | 7 => 80 | 8 => 80 | 9 => 24 | 10 => 15000 | 11 => 20 | 12 => 240 | _ => 325
def mfs (o : Nat) (F : Nat → Int) : List Value := [vI (F 0), .ref (o + 1), vI (F 2), .ref (o + 2), .ref (o + 3), .ref (o + 4), vI (F 6), .ref (o + 5), .ref (o + 6), .ref (o + 7), vI (F 10), .ref (o + 8), vI (F 12), .ref (o + 9), vI (F 14), vI (F 15), vI (F 16), vI (F 17), vI (F 18), vI (F 19), .ref (o + 10), vI (F 21), .ref (o + 11), vI (F 23), vI (F 24), vI (F 25), .ref (o + 12), .ref (o + 13), .ref (o + 14)]
def MH (g : GG) (o : Nat) (F : Nat → Int) (A : Nat → Nat → Int) (r : HM) : HM := fun q => if q = o then some (oC 5 (mfs o F)) else if o < q ∧ q < o + 15 then some (eI g (mlen (q - o - 1)) (A (q - o - 1))) else r q
theorem MH_o {g : GG} {o : Nat} {F : Nat → Int} {A : Nat → Nat → Int} {r : HM} : MH g o F A r o = some (oC 5 (mfs o F)) := by
  unfold MH
  rw [if_pos rfl]
theorem MH_a {g : GG} {o : Nat} {F : Nat → Int} {A : Nat → Nat → Int} {r : HM} (j : Nat) (hj : j < 14) : MH g o F A r (o + (j + 1)) = some (eI g (mlen j) (A j)) := by
  unfold MH
  rw [if_neg (by omega), if_pos (by omega), show o + (j + 1) - o - 1 = j by omega]
theorem MH_r {g : GG} {o : Nat} {F : Nat → Int} {A : Nat → Nat → Int} {r : HM} {q : Nat} (hq : q < o ∨ o + 15 ≤ q) : MH g o F A r q = r q := by
  unfold MH
  rw [if_neg (by omega), if_neg (by omega)]
theorem MH_F {g : GG} {o : Nat} {F F' : Nat → Int} {A : Nat → Nat → Int} {r : HM} {fs : List Value} (hf : fs = mfs o F') : va_up (MH g o F A r) o (some (oC 5 fs)) = MH g o F' A r := by
  subst hf
  funext q
  unfold va_up MH
  by_cases h1 : q = o
  · simp [h1]
  · simp [h1]
theorem MH_A {g : GG} {o : Nat} {F : Nat → Int} {A : Nat → Nat → Int} {r : HM} {j : Nat} {f : Nat → Int} (hj : j < 14) : va_up (MH g o F A r) (o + (j + 1)) (some (eI g (mlen j) f)) = MH g o F (va_up A j f) r := by
  funext q
  unfold va_up MH
  by_cases h1 : q = o + (j + 1)
  · subst h1
    rw [if_pos rfl, if_neg (by omega), if_pos (by omega), show o + (j + 1) - o - 1 = j by omega]
    simp
  · rw [if_neg h1]
    by_cases h2 : q = o
    · rw [if_pos h2, if_pos h2]
    · rw [if_neg h2, if_neg h2]
      by_cases h3 : o < q ∧ q < o + 15
      · rw [if_pos h3, if_pos h3]
        have : ¬ q - o - 1 = j := by omega
        simp [this]
      · rw [if_neg h3, if_neg h3]
section VM
variable {x : XT} {g : GG} {h0 : HM} {Q : State → Prop} {sz cells slots pc n : Nat} {lo : List (Option Value)} {rest : List Value}
variable {cc : ByteArray} {nL : Nat} {own : String} {ret : Option FieldType} {L mc ms : Nat} {o : Nat} {F : Nat → Int} {A : Nat → Nat → Int} {r : HM}
theorem r_mput (C : CX x cc nL own ret g L mc ms) {i k : Nat} {z : Int} {ty : FieldType} (hk : k < 29) (hw : (Cond.fieldLink own i "FuzzyFinderModel" (TX5 k).2.1 (TX5 k).2.2.1) ∈ lw_all) (hs : (TX5 k).1 = "FuzzyFinderModel") (hfin : (TX5 k).2.2.2 = false) (hd : parseFieldDescriptor (TX5 k).2.2.1 = some ty) (hna : narrow ty (vI z) = vI z) (hfit : fits ty (vI z) = true) (d : decode cc pc = .ok (.putfield i, 3)) (hn : pc + 3 = n) (hset : (mfs o F).set k (vI z) = mfs o (va_up F k z))
    (kk : V x g h0 Q (MH g o (va_up F k z) A r) sz cells slots n lo rest) : V x g h0 Q (MH g o F A r) sz cells slots pc lo (vI z :: .ref o :: rest) := by
  refine r_put (ci := 5) (k := k) C in_X5 tyX5 tyX5_ok nmX5 rfl hk hw hs hfin hd hna hfit d hn MH_o hk ?_
  rw [MH_F hset]
  exact kk
theorem r_mast (C : CX x cc nL own ret g L mc ms) {j N : Nat} {i z : Int} (d : decode cc pc = .ok (.iastore, 1)) (hn : pc + 1 = n) (hN : mlen j = N) (hj : j < 14)
    (kk : V x g h0 Q (MH g o F (va_up A j (va_up (A j) i.toNat z)) r) sz cells slots n lo rest) (hi : 0 ≤ i ∧ i < N := by omega) : V x g h0 Q (MH g o F A r) sz cells slots pc lo (vI z :: vI i :: .ref (o + (j + 1)) :: rest) := by
  subst hN
  refine r_iastore (N := mlen j) C d hn (MH_a j hj) ?_ hi ?_
  · rw [MH_A hj]
    exact kk
  · unfold mlen
    split <;> omega
end VM
/-- the end of a method of the model that makes nothing: fields and arrays behind it -/
def MP (g : GG) (o : Nat) (r : HM) (sz : Nat) (P : Option Value → (Nat → Int) → (Nat → Nat → Int) → Prop) : Option Value → HM → Nat → Prop := fun v h' sz' => ∃ F' A', h' = MH g o F' A' r ∧ sz = sz' ∧ P v F' A'
abbrev MT (l : Launch) (y : MethodName) (cc : ByteArray) (nL : Nat) (ret : Option FieldType) (L : Nat) (as : List Value) (g : GG) (o : Nat) (F : Nat → Int) (A : Nat → Nat → Int) (r : HM) (sz : Nat) (P : Option Value → (Nat → Int) → (Nat → Nat → Int) → Prop) : Prop := CT l y cc nL ret L 0 0 as g (MH g o F A r) sz (MP g o r sz P)
/-- a method that only reads: any map -/
abbrev RT (l : Launch) (y : MethodName) (cc : ByteArray) (nL : Nat) (ret : Option FieldType) (L : Nat) (as : List Value) (g : GG) (h : HM) (sz : Nat) (P : Option Value → Prop) : Prop := CT l y cc nL ret L 0 0 as g h sz (fun v h' sz' => h = h' ∧ sz = sz' ∧ P v)
def zb (p : Prop) [Decidable p] : Int := if p then 1 else 0
theorem zb_t {p : Prop} [Decidable p] (h : p) : zb p = 1 := if_pos h
theorem zb_f {p : Prop} [Decidable p] (h : ¬ p) : zb p = 0 := if_neg h
