/-! ROWS of layer V: statics, constants, supers, arrays of references -/
abbrev GA (g : GG) : Nat → Prop := fun q => g.2.2.size ≤ q
theorem HP.old {g : GG} {h : HM} {sz : Nat} {H : Heap} (hP : HP g h sz H) {a : Nat} (ha : ¬ GA g a) : H[a]? = g.2.2[a]? := hP.2.2.1 a (Nat.not_le.mp ha)
theorem KG.f0 {g : GG} {s : State} (hK : KG g s) : ∃ (s0 : State) (b : Nat), s0.heap = g.2.2 ∧ (∀ w ∈ lw_tbl, w.before #[Value.ref b] s0 = true) ∧ (∀ c ∈ flatC (Jvm.Cond.and given_1 narrow_1), c.before #[Value.ref b] s0 = true) ∧ s0.WarmedH s.vm := by
  obtain ⟨s0, b, h1, h2, h3, h4, h5⟩ := hK
  exact ⟨s0, b, h1, h2, flat_of_before _ h3, h5⟩
theorem KG.stI {g : GG} {s : State} (hK : KG g s) {C n d : String} {z : Int32} (hl : Cond.laysStatic C n d ∈ lw_tbl) (hi : Cond.initialized C ∈ lw_all) (hf : Cond.eq (.static C n d) (.int z) ∈ flatC (Jvm.Cond.and given_1 narrow_1)) : va_Z C n d (.int z) (GA g) s g.2.2 := by
  obtain ⟨s0, b, e, h2, h3, h5⟩ := hK.f0
  have := va_Zof (A := GA g) (h2 _ hl) (h2 _ (lw_all_tbl hi)) (va_eqi (h3 _ hf)) (fun a ha hA => by rw [e] at ha; exact absurd hA (Nat.not_le.mpr ha))
  rw [e] at this
  exact this.moved h5.alike
theorem KG.stQ {g : GG} {s : State} (hK : KG g s) {C n d : String} (hl : Cond.laysStatic C n d ∈ lw_tbl) (hi : Cond.initialized C ∈ lw_all) (hf : Cond.isRef (.static C n d) ∈ flatC (Jvm.Cond.and given_1 narrow_1)) : ∃ r : Option Nat, va_Z C n d (va_rf r) (GA g) s g.2.2 := by
  obtain ⟨s0, b, e, h2, h3, h5⟩ := hK.f0
  have := va_Zqof (A := GA g) (h2 _ hl) (h2 _ (lw_all_tbl hi)) (h3 _ hf) (fun a ha hA => by rw [e] at ha; exact absurd hA (Nat.not_le.mpr ha))
  rw [e] at this
  rcases this.moved h5.alike with h | ⟨t, h⟩
  · exact ⟨none, h⟩
  · exact ⟨some t, h⟩
section VS
variable {x : XT} {g : GG} {h0 : HM} {Q : State → Prop} {h : HM} {sz cells slots pc n : Nat} {lo : List (Option Value)} {rest : List Value}
variable {cc : ByteArray} {nL : Nat} {own : String} {ret : Option FieldType} {L mc ms : Nat} {Post : Option Value → HM → Nat → Prop}
theorem r_gets (C : CX x cc nL own ret g L mc ms) {Cn nm ds : String} {v : Value} {i : Nat} (hZ : va_Z Cn nm ds v (GA g) (xS x) g.2.2) (hw : (Cond.fieldLink own i Cn nm ds) ∈ lw_all) (d : decode cc pc = .ok (.getstatic i, 3)) (hn : pc + 3 = n)
    (k : V x g h0 Q h sz cells slots n lo (v :: rest)) : V x g h0 Q h sz cells slots pc lo rest := by
  subst hn
  intro H locs ls hP hS hD hL
  obtain ⟨cf, kf, fi, f, a, cell, h1, h2, h3, h4, h5, h6, h7, h8⟩ := hZ
  exact W.gets C.hx C.hb C.hown (C.hts _ hw) h1 h2 h3 h4 (by rw [hP.old h8]; exact h5) (fun e => by rw [e] at h6; cases h6) h7 rfl d (k H locs ls hP hS hD hL)
section VCC
variable {y : MethodName} {bytes : ByteArray} {maxL : Nat} {ret' : Option FieldType} {L' mc' ms' i b ci N n0 : Nat} {T : u_T} {fs As st : List Value}
/-- a call of a method that the receiver's class Cn has from above it -/
theorem r_callV2 (C : CX x cc nL own ret g L mc ms) {Cn : String} (hM : CT (xL x) y bytes maxL ret' L' mc' ms' (.ref b :: As) g h sz Post) (hw : Cond.code y bytes maxL ret' ∈ lw_all) (hi : Cond.initialized y.cls ∈ lw_all) (hk : Cond.methodLink own i y ∈ lw_all) (him : Cond.instanceMethod y ∈ lw_all) (hsel : (Cond.selects Cn y y).before (xA x) (xS x) = true) (hd : y.cls ≠ "java/lang/invoke/MethodHandle" ∧ y.cls ≠ "java/lang/invoke/VarHandle" ∧ (parseMethodDescriptor y.desc).map (fun d => d.parameters.length) = some n0) (hl : As.length = n0) (ha : h b = some (oC ci fs)) (hc : clA[ci]? = some (Cn, T, N)) (d : decode cc pc = .ok (.invokevirtual i, 3)) (hn : pc + 3 = n) (hst : st = As.reverse ++ .ref b :: rest)
    (kk : ∀ (v : Option Value) (h' : HM) (sz' : Nat), Post v h' sz' → sz ≤ sz' → DO h' h sz → V x g h0 Q h' sz' (cells + mc') (slots + ms') n lo (stk v rest)) (hLv : L' + 1 ≤ L := by omega) (hm : maxL ≤ 21 := by decide) (h1 : cells + mc' ≤ mc := by omega) (h2 : slots + ms' ≤ ms := by omega) (hW : (rest.map fun v => v.category).sum ≤ 8 := by exact Nat.le_of_ble_eq_true rfl) : V x g h0 Q h sz cells slots pc lo st := by
  subst hn; subst hst
  intro H locs ls hP hS hD hL
  exact call_end (va_runV (nL := nL) (Ts := lw_all) (C := Cn) (n := n0) ⟨C.hx, C.hb, C.hml, C.hown, C.hts⟩ hM ⟨callB_of n0 C.hts (lw_meth hw) rfl rfl rfl (C.hts _ hi) (C.hts _ hk) hd ⟨by rw [C.rm]; exact hLv, by rw [C.rm]; show _ + 40 * L' ≤ 40 * L; omega⟩, C.hts _ him, hsel⟩ ⟨ct_blind, hP.recv C.kg hc ha, fun U hU hWm => ⟨rfl, C.kg.warm hWm, by rw [hU]; exact hP⟩⟩ rfl hl (by rw [← C.hml]; exact hL.1) rfl (lv_room hW) d ⟨by rw [C.rm]; exact h1, by rw [C.rm]; exact h2⟩) hP hS hD hL kk
/-- super.m(..) -/
theorem r_callU (C : CX x cc nL own ret g L mc ms) {Cn : String} (hM : CT (xL x) y bytes maxL ret' L' mc' ms' (.ref b :: As) g h sz Post) (hw : GoodIn lw_all (va_wsSU own i y (ws_ y bytes maxL ret'))) (hd : y.name ≠ "<init>" ∧ (parseMethodDescriptor y.desc).map (fun d => d.parameters.length) = some n0) (hl : As.length = n0) (ha : h b = some (oC ci fs)) (hc : clA[ci]? = some (Cn, T, N)) (d : decode cc pc = .ok (.invokespecial i, 3)) (hn : pc + 3 = n) (hst : st = As.reverse ++ .ref b :: rest)
    (kk : ∀ (v : Option Value) (h' : HM) (sz' : Nat), Post v h' sz' → sz ≤ sz' → DO h' h sz → V x g h0 Q h' sz' (cells + mc') (slots + ms') n lo (stk v rest)) (hLv : L' + 1 ≤ L := by omega) (hm : maxL ≤ 21 := by decide) (h1 : cells + mc' ≤ mc := by omega) (h2 : slots + ms' ≤ ms := by omega) (hW : (rest.map fun v => v.category).sum ≤ 8 := by exact Nat.le_of_ble_eq_true rfl) : V x g h0 Q h sz cells slots pc lo st := by
  subst hn; subst hst
  intro H locs ls hP hS hD hL
  exact call_end (va_runSU (nL := nL) (Ts := lw_all) (C := Cn) (C.kg.K.1 ci _ hc).2 ⟨C.hx, C.hb, C.hml, C.hown, C.hts⟩ hM (va_cwSU n0 C.hts hw rfl rfl rfl hd ⟨by rw [C.rm]; exact hLv, by rw [C.rm]; show _ + 40 * L' ≤ 40 * L; omega⟩) ⟨ct_blind, hP.recv C.kg hc ha, fun U hU hWm => ⟨rfl, C.kg.warm hWm, by rw [hU]; exact hP⟩⟩ rfl hl (by rw [← C.hml]; exact hL.1) rfl (lv_room hW) d ⟨by rw [C.rm]; exact h1, by rw [C.rm]; exact h2⟩) hP hS hD hL kk
end VCC
theorem r_mmax (C : CX x cc nL own ret g L mc ms) {i : Nat} {a b : Int} (h1 : (Cond.methodLink own i Lib.Math.max.name) ∈ lw_all) (h2 : (Cond.static Lib.Math.max.name) ∈ lw_all) (h3 : (Cond.initialized "java/lang/Math") ∈ lw_all) (h4 : (Cond.code Lib.Math.max.name Lib.Math.max.code 2 (some .int)) ∈ lw_all) (d : decode cc pc = .ok (.invokestatic i, 3)) (hn : pc + 3 = n)
    (kk : V x g h0 Q h sz cells slots n lo (vI (max a b) :: rest)) (hr : -2147483648 ≤ a ∧ a < 2147483648 ∧ -2147483648 ≤ b ∧ b < 2147483648 := by omega) (hLv : 1 ≤ L := by omega) (hc1 : cells ≤ mc := by omega) (hc2 : slots ≤ ms := by omega) (hW : (rest.map fun v => v.category).sum ≤ 8 := by exact Nat.le_of_ble_eq_true rfl) : V x g h0 Q h sz cells slots pc lo (vI b :: vI a :: rest) := by
  subst hn
  intro H locs ls hP hS hD hL
  have k9 := kk H locs ls hP hS hD hL
  have e : vI (max a b) = Value.int (if iI a < iI b then iI b else iI a) := by
    by_cases hh : a < b
    · rw [if_pos ((iI_lt hr).mpr hh), show max a b = b by omega]
    · rw [if_neg (fun c9 => hh ((iI_lt hr).mp c9)), show max a b = a by omega]
  rw [e] at k9
  exact va_mmax C.hx C.hb hL.1.symm C.hown (C.hts _ h1) (C.hts _ h2) (C.hts _ h3) (C.hts _ h4) (by rw [C.rm]; exact hLv) (by rw [C.rm]; show _ + 13 ≤ 40 * L; omega) (by rw [C.rm]; exact hc1) (by rw [C.rm]; exact hc2) d k9
theorem r_acmp_eq (C : CX x cc nL own ret g L mc ms) {ra rb : Option Nat} {off : Int} {t : Nat} (d : decode cc pc = .ok (.if_acmp .eq off, 3)) (ht : (pc : Int) + off = (t : Int)) (hn : pc + 3 = n) (kt : ra = rb → V x g h0 Q h sz cells slots t lo rest) (kf : ¬ ra = rb → V x g h0 Q h sz cells slots n lo rest) : V x g h0 Q h sz cells slots pc lo (va_rf rb :: va_rf ra :: rest) := by
  subst hn
  intro H locs ls hP hS hD hL
  exact lv_acmp_eq C.hx C.hb d ht (fun e => kt e H locs ls hP hS hD hL) (fun e => kf e H locs ls hP hS hD hL)
theorem r_acmp_ne (C : CX x cc nL own ret g L mc ms) {ra rb : Option Nat} {off : Int} {t : Nat} (d : decode cc pc = .ok (.if_acmp .ne off, 3)) (ht : (pc : Int) + off = (t : Int)) (hn : pc + 3 = n) (kt : ¬ ra = rb → V x g h0 Q h sz cells slots t lo rest) (kf : ra = rb → V x g h0 Q h sz cells slots n lo rest) : V x g h0 Q h sz cells slots pc lo (va_rf rb :: va_rf ra :: rest) := by
  subst hn
  intro H locs ls hP hS hD hL
  exact lv_acmp_ne C.hx C.hb d ht (fun e => kt e H locs ls hP hS hD hL) (fun e => kf e H locs ls hP hS hD hL)
/-- null into an array of Objects -/
theorem r_aastoreN (C : CX x cc nL own ret g L mc ms) {a N : Nat} {f : Nat → Option Nat} {i : Int} (d : decode cc pc = .ok (.aastore, 1)) (hn : pc + 1 = n) (ha : h a = some (eO g N f)) (kk : V x g h0 Q (va_up h a (some (eO g N (va_up f i.toNat none)))) sz cells slots n lo rest) (hi : 0 ≤ i ∧ i < N := by omega) (hN : N < 2147483648 := by omega) : V x g h0 Q h sz cells slots pc lo (.null :: vI i :: .ref a :: rest) := by
  subst hn
  intro H locs ls hP hS hD hL
  refine va_WaastN (C := "java/lang/Object") C.hx C.hb (hP.2.2.2 a _ ha).2 ((C.kg.K.2 3 (g.2.1 3, .object "java/lang/Object") rfl).1 N (fun j => va_rf (f j))) (fun h => by cases h) (by show ¬ (iI i < 0 ∨ (arrV _ _ _).slots.size ≤ _); rw [arrV_size]; exact iI_in hi hN) rfl rfl d fun H1 e z oq => ?_
  refine put_end hP hS hD hL ha kk z oq ?_ (hS.put z oq (hD a (by rw [ha]; simp)))
  show H1[a]? = some (vp_cell _ _)
  rw [e, vp_cell_q, vp_cell_q, arrV_store, iI_cl (by omega)]
  congr 2
  funext q
  by_cases hq : q = i.toNat
  · subst hq
    simp [updV, va_up, va_rf]
  · simp [updV, va_up, hq]
/-- a constant object of class Cn stands at y -/
def Bx (g : GG) (Cn : String) (y : Nat) (s : State) : Prop := va_O Cn y (GA g) s g.2.2
theorem Bx.moved {g : GG} {Cn : String} {y : Nat} {s U : State} (h : Bx g Cn y s) (hW : s.WarmedH U.vm) : Bx g Cn y U := va_O.moved hW.alike h
theorem KG.cast {s : State} (hK : KG g s) {A B : String} (hw : Cond.castable A B ∈ lw_tbl) : va_Nw (.castable A B) s := by
  obtain ⟨s0, b, e, h2, h3, h5⟩ := hK.f0
  refine va_tabs rfl (rfl : (s0.setVm s.vm).vm = s.vm) (A := #[]) ?_
  rw [Cond.castable_setVm h5.alike]
  exact va_Nw.of rfl (h2 _ hw)
/-- a constant into an array of Objects -/
theorem r_aastoreK (C : CX x cc nL own ret g L mc ms) {Cn : String} {a N v : Nat} {f : Nat → Option Nat} {i : Int} (hB : Bx g Cn v (xS x)) (hca : Cond.castable Cn "java/lang/Object" ∈ lw_tbl) (d : decode cc pc = .ok (.aastore, 1)) (hn : pc + 1 = n) (ha : h a = some (eO g N f)) (kk : V x g h0 Q (va_up h a (some (eO g N (va_up f i.toNat (some v))))) sz cells slots n lo rest) (hi : 0 ≤ i ∧ i < N := by omega) (hN : N < 2147483648 := by omega) : V x g h0 Q h sz cells slots pc lo (.ref v :: vI i :: .ref a :: rest) := by
  subst hn
  intro H locs ls hP hS hD hL
  obtain ⟨cellV, g1, g3, g2, g4⟩ := hB
  have hK := C.kg.K
  obtain ⟨kA, comp, k1, k2, k3, -⟩ := (hK.2 3 (g.2.1 3, .object "java/lang/Object") rfl).2
  obtain ⟨kE, hkE, -⟩ := Vm.findClass_spec k3
  obtain ⟨kC, hkC, -⟩ := Vm.findClass_spec g2
  have hin := iI_in hi hN
  refine W.aast C.hx C.hb (hP.2.2.2 a _ ha).2 (fun q h => by cases h) (fun h => by cases h) k1 k2 rfl hkE ⟨fun q => hin (Or.inl q), by show _ < (arrV _ _ _).slots.size; rw [arrV_size]; exact Nat.not_le.mp fun q => hin (Or.inr q)⟩ (by rw [hP.old g4]; exact g1) (fun q h => by rw [h] at g3; cases g3) hkC (vb_asgC (C.kg.cast hca) _ _ k3 g2) rfl rfl d fun H1 e z oq => ?_
  refine put_end hP hS hD hL ha kk z oq ?_ (hS.put z oq (hD a (by rw [ha]; simp)))
  show H1[a]? = some (vp_cell _ _)
  rw [e, vp_cell_q, vp_cell_q, arrV_store, iI_cl (by omega)]
  congr 2
  funext q
  by_cases hq : q = i.toNat
  · subst hq
    simp [updV, va_up, va_rf]
  · simp [updV, va_up, hq]
theorem KG.ao {s : State} (hK : KG g s) {A : String} (hw : Cond.arrayOver (.object A) ∈ lw_tbl) : va_AO A s := by
  obtain ⟨s0, b, e, h2, h3, h5⟩ := hK.f0
  exact va_AO.moved h5.alike (va_AO.of (h2 _ hw))
theorem r_anewO (C : CX x cc nL own ret g L mc ms) {N i : Nat} {z : Int} (hcl : Cond.classLink own i "java/lang/Object" ∈ lw_all) (hao : Cond.arrayOver (.object "java/lang/Object") ∈ lw_tbl) (d : decode cc pc = .ok (.anewarray i, 3)) (hn : pc + 3 = n) (hz : z = (N : Int))
    (kk : V x g h0 Q (va_up h sz (some (eO g N (fun _ => none)))) (sz + 1) (cells + 1) (slots + N) n lo (.ref sz :: rest)) (h1 : cells + 1 ≤ mc := by omega) (h2 : slots + N ≤ ms := by omega) (hN : N < 100000000 := by omega) : V x g h0 Q h sz cells slots pc lo (vI z :: rest) := by
  subst hn; subst hz
  intro H locs ls hP hS hD hL
  have hzz : H.size = sz := hP.1
  subst hzz
  have hcl9 : (iI (N : Int)).toNatClampNeg = N := by rw [iI_cl (by omega)]; omega
  refine W.anew C.hx C.hb C.hown (C.hts _ hcl) (va_AO.use (C.kg.ao hao)) rfl d rfl (fun c9 => by have := (iI_lt (b := 0) (by omega)).mp c9; omega) (by rw [hcl9]; omega) (by rw [C.rm]; exact h1) (by rw [C.rm, hcl9]; exact h2) fun cA kA comp f1 f2 f3 f4 => ?_
  rw [hcl9]
  obtain ⟨kA', comp', r1, r2, r3, r4⟩ := (C.kg.K.2 3 (g.2.1 3, .object "java/lang/Object") rfl).2
  have hcA : cA = g.2.1 3 := Option.some.inj (f1.symm.trans r4)
  subst hcA
  refine push_end hP hS hD hL kk (by rw [Array.size_push]) (fun q hq => by rw [Array.getElem?_push, if_neg (Nat.ne_of_lt hq)]) ?_
  show (H.push _)[H.size]? = some (vp_cell _ _)
  rw [Array.getElem?_push_size, vp_cell_q, ← arrV_new]
  rfl
end VS
