/-! ROWS of layer V: constants of the old heap, arraycopy, class objects -/
section VK
variable {x : XT} {g : GG} {h0 : HM} {Q : State → Prop} {h : HM} {sz cells slots pc n : Nat} {lo : List (Option Value)} {rest : List Value}
variable {cc : ByteArray} {nL : Nat} {own : String} {ret : Option FieldType} {L mc ms : Nat} {Post : Option Value → HM → Nat → Prop}
/-- a field of a constant object -/
theorem r_getK (C : CX x cc nL own ret g L mc ms) {o nm ds : String} {v : Value} {y i : Nat} (hF : va_OF o nm ds v y (GA g) (xS x) g.2.2) (hw : (Cond.fieldLink own i o nm ds) ∈ lw_all) (d : decode cc pc = .ok (.getfield i, 3)) (hn : pc + 3 = n) (k : V x g h0 Q h sz cells slots n lo (v :: rest)) : V x g h0 Q h sz cells slots pc lo (.ref y :: rest) := by
  subst hn
  intro H locs ls hP hS hD hL
  obtain ⟨cf, kk, fi, f, cell, h1, h2, h3, h4, h5, h6⟩ := hF
  exact W.getf C.hx C.hb C.hown (C.hts _ hw) h1 h2 (by rw [hP.old h6]; exact h3) h4 h5 rfl rfl d (k H locs ls hP hS hD hL)
theorem r_getKN (C : CX x cc nL own ret g L mc ms) {o nm ds host : String} {v : Value} {y i : Nat} (hF : va_OF o nm ds v y (GA g) (xS x) g.2.2) (hw : (Cond.fieldLinkNest own i o nm ds host) ∈ lw_tbl) (d : decode cc pc = .ok (.getfield i, 3)) (hn : pc + 3 = n) (k : V x g h0 Q h sz cells slots n lo (v :: rest)) : V x g h0 Q h sz cells slots pc lo (.ref y :: rest) := by
  subst hn
  intro H locs ls hP hS hD hL
  obtain ⟨cf, kk, fi, f, cell, h1, h2, h3, h4, h5, h6⟩ := hF
  exact va_Wgetf C.hx C.hb C.hown (va_Nw.use rfl (C.kg.nwF hw)) h1 h2 (by rw [hP.old h6]; exact h3) h4 h5 rfl rfl d (k H locs ls hP hS hD hL)
/-- a constant array -/
theorem r_alenK (C : CX x cc nL own ret g L mc ms) {ty : FieldType} {t N : Nat} {f : Nat → Value} (hT : va_T ty t N f (GA g) (xS x) g.2.2) (d : decode cc pc = .ok (.arraylength, 1)) (hn : pc + 1 = n) (k : V x g h0 Q h sz cells slots n lo (vI (N : Int) :: rest)) : V x g h0 Q h sz cells slots pc lo (.ref t :: rest) := by
  subst hn
  intro H locs ls hP hS hD hL
  obtain ⟨cell, h1, h2, h3, h4, h5, h6, h7⟩ := hT
  have k9 := k H locs ls hP hS hD hL
  rw [vI, ← iI_nat] at k9
  exact W.alen (n := Int32.ofNat N) C.hx C.hb (by rw [hP.old h7]; exact h1) h2 h5 rfl rfl d k9
theorem r_aaloadK (C : CX x cc nL own ret g L mc ms) {E : String} {t N : Nat} {f : Nat → Value} {i : Int} {v : Value} (hT : va_T (.object E) t N f (GA g) (xS x) g.2.2) (hv : f i.toNat = v) (d : decode cc pc = .ok (.aaload, 1)) (hn : pc + 1 = n) (k : V x g h0 Q h sz cells slots n lo (v :: rest)) (hi : 0 ≤ i ∧ i < N := by omega) (hN : N < 2147483648 := by omega) : V x g h0 Q h sz cells slots pc lo (vI i :: .ref t :: rest) := by
  subst hn
  intro H locs ls hP hS hD hL
  obtain ⟨cell, h1, h2, h3, h4, h5, h6, h7⟩ := hT
  have hc : (iI i).toNatClampNeg = i.toNat := iI_cl (by omega)
  have hin := iI_in hi hN
  have hin' : ¬ (iI i < 0 ∨ cell.slots.size ≤ (iI i).toNatClampNeg) := by
    intro q
    rcases q with q | q
    · exact hin (Or.inl q)
    · omega
  exact W.aald (v := v) (ty := .object E) C.hx C.hb (by rw [hP.old h7]; exact h1) h2 rfl h3 hin' (by rw [h6 _ (by omega), hc, hv]) rfl rfl d (k H locs ls hP hS hD hL)
/-- checkcast of a constant to its own class -/
theorem r_castK (C : CX x cc nL own ret g L mc ms) {Cn : String} {y i : Nat} (hB : Bx g Cn y (xS x)) (hw : Cond.classLink own i Cn ∈ lw_all) (d : decode cc pc = .ok (.checkcast i, 3)) (hn : pc + 3 = n) (k : V x g h0 Q h sz cells slots n lo (.ref y :: rest)) : V x g h0 Q h sz cells slots pc lo (.ref y :: rest) := by
  subst hn
  intro H locs ls hP hS hD hL
  obtain ⟨cell, g1, g2, g3, g4⟩ := hB
  exact va_castE C.hx C.hb C.hown (C.hts _ hw) ⟨cell, by rw [hP.old g4]; exact g1, g2, g3⟩ d (k H locs ls hP hS hD hL)
/-- a call on a constant object -/
theorem r_callK (C : CX x cc nL own ret g L mc ms) {y : MethodName} {bytes : ByteArray} {maxL : Nat} {ret' : Option FieldType} {L' mc' ms' i b n0 : Nat} {As st : List Value} (hM : CT (xL x) y bytes maxL ret' L' mc' ms' (.ref b :: As) g h sz Post) (hw : GoodIn lw_all (wsV own i y.cls y (ws_ y bytes maxL ret'))) (hd : y.cls ≠ "java/lang/invoke/MethodHandle" ∧ y.cls ≠ "java/lang/invoke/VarHandle" ∧ (parseMethodDescriptor y.desc).map (fun d => d.parameters.length) = some n0) (hl : As.length = n0) (hB : Bx g y.cls b (xS x)) (d : decode cc pc = .ok (.invokevirtual i, 3)) (hn : pc + 3 = n) (hst : st = As.reverse ++ .ref b :: rest)
    (kk : ∀ (v : Option Value) (h' : HM) (sz' : Nat), Post v h' sz' → sz ≤ sz' → DO h' h sz → V x g h0 Q h' sz' (cells + mc') (slots + ms') n lo (stk v rest)) (hLv : L' + 1 ≤ L := by omega) (hm : maxL ≤ 21 := by decide) (h1 : cells + mc' ≤ mc := by omega) (h2 : slots + ms' ≤ ms := by omega) (hW : (rest.map fun v => v.category).sum ≤ 8 := by exact Nat.le_of_ble_eq_true rfl) : V x g h0 Q h sz cells slots pc lo st := by
  subst hn; subst hst
  intro H locs ls hP hS hD hL
  obtain ⟨cell, g1, g2, g3, g4⟩ := hB
  exact call_end (va_runV (nL := nL) (Ts := lw_all) ⟨C.hx, C.hb, C.hml, C.hown, C.hts⟩ hM (cwV n0 C.hts hw rfl rfl rfl ⟨rfl, hd⟩ ⟨by rw [C.rm]; exact hLv, by rw [C.rm]; show _ + 40 * L' ≤ 40 * L; omega⟩) ⟨ct_blind, ⟨cell, by rw [hP.old g4]; exact g1, g2, g3⟩, fun U hU hWm => ⟨rfl, C.kg.warm hWm, by rw [hU]; exact hP⟩⟩ rfl hl (by rw [← C.hml]; exact hL.1) rfl (lv_room hW) d ⟨by rw [C.rm]; exact h1, by rw [C.rm]; exact h2⟩) hP hS hD hL kk
theorem nn_of {z : Int} (h : 0 ≤ z ∧ z < 2147483648) : ¬ iI z < 0 ∧ (iI z).toNatClampNeg = z.toNat ∧ (iI z).toInt = z := ⟨fun c9 => by have := (iI_lt (b := 0) (by omega)).mp c9; omega, iI_cl h, iI_toInt (by omega)⟩
/-- System.arraycopy of bytes, from the start to the start -/
theorem r_copyB (C : CX x cc nL own ret g L mc ms) {a b N M i : Nat} {f f2 : Nat → Int} {z : Int} (h1 : (Cond.methodLink own i arraycopyName) ∈ lw_all) (h2 : (Cond.native arraycopyName) ∈ lw_all) (h3 : (Cond.static arraycopyName) ∈ lw_all) (h4 : (Cond.initialized "java/lang/System") ∈ lw_all) (d : decode cc pc = .ok (.invokestatic i, 3)) (hn : pc + 3 = n) (ha : h a = some (eB g N f)) (hb : h b = some (eB g M f2)) (hfit : ∀ j : Nat, (j : Int) < z → fits .byte (vI (f j)) = true) (hz : 0 ≤ z ∧ z ≤ N ∧ z ≤ M ∧ z < 2147483648)
    (kk : V x g h0 Q (va_up h b (some (eB g M (fun j => if (j : Int) < z then f j else f2 j)))) sz cells slots n lo rest) (hLv : 1 ≤ L := by omega) (hW : (rest.map fun v => v.category).sum ≤ 8 := by exact Nat.le_of_ble_eq_true rfl) : V x g h0 Q h sz cells slots pc lo (vI z :: vI 0 :: .ref b :: vI 0 :: .ref a :: rest) := by
  subst hn
  intro H locs ls hP hS hD hL
  have hK := C.kg.K
  have hc0 : H[a]? = some (vp_cell (g.2.1 1) (N, .inl (fun j => iI (f j)))) := (hP.2.2.2 a _ ha).2
  have hc1 : H[b]? = some (vp_cell (g.2.1 1) (M, .inl (fun j => iI (f2 j)))) := (hP.2.2.2 b _ hb).2
  obtain ⟨-, k0, hk0, cm0, hkk0⟩ := (hK.2 1 (g.2.1 1, .byte) rfl).1 N (fun j => .int (iI (f j)))
  obtain ⟨n1, n2, n3⟩ := nn_of (z := z) (by omega)
  obtain ⟨m1, m2, m3⟩ := nn_of (z := 0) (by omega)
  intro T hT X
  obtain ⟨vm', X', step⟩ := X.arraycopy C.hx C.hown (C.hts _ h1) (C.hts _ h2) (C.hts _ h3) (C.hts _ h4) (src := a) (dst := b) (cs := vp_cell (g.2.1 1) (N, .inl (fun j => iI (f j)))) (cd := vp_cell (g.2.1 1) (M, .inl (fun j => iI (f2 j)))) (srcPos := iI 0) (destPos := iI 0) (n := iI z) (by rw [hT]; exact hc0) (by rw [hT]; exact hc1)
    (fun _ h => by cases h) (fun _ h => by cases h) (fun h => by cases h) (fun h => by cases h) hk0 hk0 hkk0 hkk0 rfl m1 m1 n1
    (by rw [m3, n3]; show ¬ _ > ((arrV (g.2.1 1) N (fun j => .int (iI (f j)))).slots.size : Int); rw [arrV_size]; omega)
    (by rw [m3, n3]; show ¬ _ > ((arrV (g.2.1 1) M (fun j => .int (iI (f2 j)))).slots.size : Int); rw [arrV_size]; omega)
    (fun vm₁ _ j hj => by
      rw [n2] at hj
      rw [m2]
      have e : (vp_cell (g.2.1 1) (N, .inl (fun j => iI (f j)))).slots.getD ((0 : Int).toNat + j) .null = .int (iI (f j)) := by
        show (arrV (g.2.1 1) N (fun j => .int (iI (f j)))).slots.getD _ _ = _
        rw [show (0 : Int).toNat + j = j by omega, Array.getD_eq_getD_getElem?, arrV_read _ _ (by omega)]
        rfl
      rw [e]
      exact ⟨hfit j (by omega), trivial⟩)
    (g := F0 (xM x) pc ls (vI z :: vI 0 :: .ref b :: vI 0 :: .ref a :: rest)) rfl hL.1 (rest := rest) rfl (by rw [C.hb]; exact d) (by rw [C.rm]; exact hLv) (by rw [C.rm]; show 2 * 0 + _ + (nativeFrameWords "java/lang/System" "arraycopy" 5 + 11) ≤ 40 * L; have hw : nativeFrameWords "java/lang/System" "arraycopy" 5 ≤ 20 := (by decide); omega)
  have e1 : copied (vp_cell (g.2.1 1) (N, .inl (fun j => iI (f j)))) (vp_cell (g.2.1 1) (M, .inl (fun j => iI (f2 j)))) (iI 0) (iI 0) (iI z) = vp_cell (g.2.1 1) (M, .inl (fun j => iI (if (j : Int) < z then f j else f2 j))) := by
    have := va_copied (fun z => Value.int z) (g.2.1 1) (g.2.1 1) (n0 := N) (n1 := M) (sp := (iI 0).toNatClampNeg) (dp := (iI 0).toNatClampNeg) (n := (iI z).toNatClampNeg) (fun j => iI (f j)) (fun j => iI (f2 j)) (by rw [m2, n2]; omega)
    rw [vp_cell_i, vp_cell_i, vp_cell_i]
    refine Eq.trans this ?_
    congr 2
    funext j
    rw [m2, n2]
    unfold va_cpy
    by_cases hj : (j : Int) < z
    · rw [if_pos (by omega), if_pos hj, show (0 : Int).toNat + (j - (0 : Int).toNat) = j by omega]
    · rw [if_neg (by omega), if_neg hj]
  rw [e1] at X' step
  have hl : b < H.size := (Array.getElem?_eq_some_iff.mp hc1).1
  have oq : ∀ q : Nat, q ≠ b → (H.setIfInBounds b (vp_cell (g.2.1 1) (M, .inl (fun j => iI (if (j : Int) < z then f j else f2 j)))))[q]? = H[q]? := fun q hq => by simp [Array.getElem?_setIfInBounds, Ne.symm hq]
  obtain ⟨t, a1, b1⟩ := put_end hP hS hD hL hb kk (H1 := H.setIfInBounds b _) (by simp) oq (show (H.setIfInBounds b _)[b]? = some _ by simp [Array.getElem?_setIfInBounds, hl]) (locs1 := locs ++ _) ⟨by simp; exact hS.1, fun q g1 g2 => by
      rw [oq q (fun e => g2 (by rw [e]; exact hD b (by rw [hb]; simp)))]
      exact hS.2.1 q g1 g2, fun q hq => by
      rcases List.mem_append.mp hq with h | h
      · exact hS.2.2 q h
      · obtain ⟨w, -, hw⟩ := List.mem_map.mp h
        rw [← hw]
        exact hD b (by rw [hb]; simp)⟩ _ (by rw [← hT]; rfl) X'
  exact ⟨t, step t a1, b1⟩
/-- System.arraycopy of references to constants, from the start to the start -/
theorem r_copyO (C : CX x cc nL own ret g L mc ms) {Cn : String} {a b N M i : Nat} {f f2 : Nat → Option Nat} {z : Int} (h1 : (Cond.methodLink own i arraycopyName) ∈ lw_all) (h2 : (Cond.native arraycopyName) ∈ lw_all) (h3 : (Cond.static arraycopyName) ∈ lw_all) (h4 : (Cond.initialized "java/lang/System") ∈ lw_all) (hca : Cond.castable Cn "java/lang/Object" ∈ lw_tbl) (d : decode cc pc = .ok (.invokestatic i, 3)) (hn : pc + 3 = n) (ha : h a = some (eO g N f)) (hb : h b = some (eO g M f2)) (hel : ∀ j : Nat, (j : Int) < z → ∀ y, f j = some y → Bx g Cn y (xS x)) (hz : 0 ≤ z ∧ z ≤ N ∧ z ≤ M ∧ z < 2147483648)
    (kk : V x g h0 Q (va_up h b (some (eO g M (fun j => if (j : Int) < z then f j else f2 j)))) sz cells slots n lo rest) (hLv : 1 ≤ L := by omega) (hW : (rest.map fun v => v.category).sum ≤ 8 := by exact Nat.le_of_ble_eq_true rfl) : V x g h0 Q h sz cells slots pc lo (vI z :: vI 0 :: .ref b :: vI 0 :: .ref a :: rest) := by
  subst hn
  intro H locs ls hP hS hD hL
  have hK := C.kg.K
  have hc0 : H[a]? = some (vp_cell (g.2.1 3) (N, .inr (.inr (.inr (.inr f))))) := (hP.2.2.2 a _ ha).2
  have hc1 : H[b]? = some (vp_cell (g.2.1 3) (M, .inr (.inr (.inr (.inr f2))))) := (hP.2.2.2 b _ hb).2
  obtain ⟨-, k0, hk0, cm0, hkk0⟩ := (hK.2 3 (g.2.1 3, .object "java/lang/Object") rfl).1 N (fun j => va_rf (f j))
  obtain ⟨n1, n2, n3⟩ := nn_of (z := z) (by omega)
  obtain ⟨m1, m2, m3⟩ := nn_of (z := 0) (by omega)
  have hnw := C.kg.cast hca
  intro T hT X
  obtain ⟨vm', X', step⟩ := X.arraycopy C.hx C.hown (C.hts _ h1) (C.hts _ h2) (C.hts _ h3) (C.hts _ h4) (src := a) (dst := b) (cs := vp_cell (g.2.1 3) (N, .inr (.inr (.inr (.inr f))))) (cd := vp_cell (g.2.1 3) (M, .inr (.inr (.inr (.inr f2))))) (srcPos := iI 0) (destPos := iI 0) (n := iI z) (by rw [hT]; exact hc0) (by rw [hT]; exact hc1)
    (fun _ h => by cases h) (fun _ h => by cases h) (fun h => by cases h) (fun h => by cases h) hk0 hk0 hkk0 hkk0 rfl m1 m1 n1
    (by rw [m3, n3]; show ¬ _ > ((arrV (g.2.1 3) N (fun j => va_rf (f j))).slots.size : Int); rw [arrV_size]; omega)
    (by rw [m3, n3]; show ¬ _ > ((arrV (g.2.1 3) M (fun j => va_rf (f2 j))).slots.size : Int); rw [arrV_size]; omega)
    (fun vm₁ hal j hj => by
      rw [n2] at hj
      rw [m2]
      have e : (vp_cell (g.2.1 3) (N, .inr (.inr (.inr (.inr f))))).slots.getD ((0 : Int).toNat + j) .null = va_rf (f j) := by
        show (arrV (g.2.1 3) N (fun j => va_rf (f j))).slots.getD _ _ = _
        rw [show (0 : Int).toNat + j = j by omega, Array.getD_eq_getD_getElem?, arrV_read _ _ (by omega)]
        rfl
      rw [e]
      cases hy : f j with
      | none => exact ⟨rfl, trivial⟩
      | some y =>
        obtain ⟨cellV, g1, g2, g3, g4⟩ := hel j (by omega) y hy
        obtain ⟨kA, comp, r1, r2, r3, -⟩ := (hK.2 3 (g.2.1 3, .object "java/lang/Object") rfl).2
        cases hk0.symm.trans r1
        cases hkk0.symm.trans r2
        obtain ⟨kC, hkC, -⟩ := Vm.findClass_spec g3
        obtain ⟨kE, hkE, -⟩ := Vm.findClass_spec r3
        obtain ⟨kC', hkC', -⟩ := hal.2.2 _ _ hkC
        obtain ⟨kE', hkE', -⟩ := hal.2.2 _ _ hkE
        refine ⟨rfl, cellV, (show T.heap[y]? = some cellV by rw [hT, hP.old g4]; exact g1), (fun q h => by rw [h] at g2; cases g2), ⟨kC', hkC'⟩, ?_, ?_⟩
        · exact ⟨kE', hkE'⟩
        · show vm₁.assignable _ _ = true
          rw [hal.assignable]
          exact vb_asgC hnw _ _ r3 g3)
    (g := F0 (xM x) pc ls (vI z :: vI 0 :: .ref b :: vI 0 :: .ref a :: rest)) rfl hL.1 (rest := rest) rfl (by rw [C.hb]; exact d) (by rw [C.rm]; exact hLv) (by rw [C.rm]; show 2 * 0 + _ + (nativeFrameWords "java/lang/System" "arraycopy" 5 + 11) ≤ 40 * L; have hw : nativeFrameWords "java/lang/System" "arraycopy" 5 ≤ 20 := (by decide); omega)
  have e1 : copied (vp_cell (g.2.1 3) (N, .inr (.inr (.inr (.inr f))))) (vp_cell (g.2.1 3) (M, .inr (.inr (.inr (.inr f2))))) (iI 0) (iI 0) (iI z) = vp_cell (g.2.1 3) (M, .inr (.inr (.inr (.inr (fun j => if (j : Int) < z then f j else f2 j))))) := by
    have := va_copied (fun z => va_rf z) (g.2.1 3) (g.2.1 3) (n0 := N) (n1 := M) (sp := (iI 0).toNatClampNeg) (dp := (iI 0).toNatClampNeg) (n := (iI z).toNatClampNeg) f f2 (by rw [m2, n2]; omega)
    rw [vp_cell_q, vp_cell_q, vp_cell_q]
    refine Eq.trans this ?_
    congr 2
    funext j
    rw [m2, n2]
    unfold va_cpy
    by_cases hj : (j : Int) < z
    · rw [if_pos (by omega), if_pos hj, show (0 : Int).toNat + (j - (0 : Int).toNat) = j by omega]
    · rw [if_neg (by omega), if_neg hj]
  rw [e1] at X' step
  have hl : b < H.size := (Array.getElem?_eq_some_iff.mp hc1).1
  have oq : ∀ q : Nat, q ≠ b → (H.setIfInBounds b (vp_cell (g.2.1 3) (M, .inr (.inr (.inr (.inr (fun j => if (j : Int) < z then f j else f2 j)))))))[q]? = H[q]? := fun q hq => by simp [Array.getElem?_setIfInBounds, Ne.symm hq]
  obtain ⟨t, a1, b1⟩ := put_end hP hS hD hL hb kk (H1 := H.setIfInBounds b _) (by simp) oq (show (H.setIfInBounds b _)[b]? = some _ by simp [Array.getElem?_setIfInBounds, hl]) (locs1 := locs ++ _) ⟨by simp; exact hS.1, fun q g1 g2 => by
      rw [oq q (fun e => g2 (by rw [e]; exact hD b (by rw [hb]; simp)))]
      exact hS.2.1 q g1 g2, fun q hq => by
      rcases List.mem_append.mp hq with h | h
      · exact hS.2.2 q h
      · obtain ⟨w, -, hw⟩ := List.mem_map.mp h
        rw [← hw]
        exact hD b (by rw [hb]; simp)⟩ _ (by rw [← hT]; rfl) X'
  exact ⟨t, step t a1, b1⟩
theorem KG.mi {s : State} (hK : KG g s) : va_Mi "[Ljava/lang/Object;" (kc g 5) s := by
  obtain ⟨s0, b, h1, h2, h3, h4, h5⟩ := hK
  exact va_Mi.moved h5.alike h4.2.2.2.2.2.2.2
theorem r_ldcM (C : CX x cc nL own ret g L mc ms) {i mi : Nat} {Cn : String} (hw : (Cond.classLink own i Cn) ∈ lw_all) (hM : va_Mi Cn mi (xS x)) (d : decode cc pc = .ok (.ldc i, 2)) (hn : pc + 2 = n) (k : V x g h0 Q h sz cells slots n lo (.ref mi :: rest)) : V x g h0 Q h sz cells slots pc lo rest := by
  subst hn
  intro H locs ls hP hS hD hL
  exact va_ldcM C.hx C.hb C.hown (C.hts _ hw) hM d (k H locs ls hP hS hD hL)
/-- getClass of an Object[] -/
theorem r_getClassO (C : CX x cc nL own ret g L mc ms) {i mi a N : Nat} {f : Nat → Option Nat} (h1 : (Cond.methodLink own i ⟨"java/lang/Object", "getClass", "()Ljava/lang/Class;"⟩) ∈ lw_all) (h2 : (Cond.declares ⟨"java/lang/Object", "getClass", "()Ljava/lang/Class;"⟩) ∈ lw_tbl) (h3 : (Cond.selects "[Ljava/lang/Object;" ⟨"java/lang/Object", "getClass", "()Ljava/lang/Class;"⟩ ⟨"java/lang/Object", "getClass", "()Ljava/lang/Class;"⟩) ∈ lw_all) (h4 : (Cond.instanceMethod ⟨"java/lang/Object", "getClass", "()Ljava/lang/Class;"⟩) ∈ lw_all) (h5 : (Cond.native ⟨"java/lang/Object", "getClass", "()Ljava/lang/Class;"⟩) ∈ lw_all) (hM : va_Mi "[Ljava/lang/Object;" mi (xS x)) (d : decode cc pc = .ok (.invokevirtual i, 3)) (hn : pc + 3 = n) (ha : h a = some (eO g N f)) (k : V x g h0 Q h sz cells slots n lo (.ref mi :: rest)) (hLv : 1 ≤ L := by omega) (hW : (rest.map fun v => v.category).sum ≤ 8 := by exact Nat.le_of_ble_eq_true rfl) : V x g h0 Q h sz cells slots pc lo (.ref a :: rest) := by
  subst hn
  intro H locs ls hP hS hD hL
  have hD9 : va_Dc (xS x) := by
    obtain ⟨s0, b, e, q2, q3, q5⟩ := C.kg.f0
    exact va_Dc.moved q5.alike (va_Dc.of (q2 _ h2))
  exact va_getC C.hx C.hb hL.1.symm C.hown (C.hts _ h1) (va_Dc.use hD9) (C.hts _ h3) (C.hts _ h4) (C.hts _ h5) hM ⟨_, (hP.2.2.2 a _ ha).2, rfl, va_nmO (C.kg.K.2 3 (g.2.1 3, .object "java/lang/Object") rfl).2 rfl⟩ (by rw [C.rm]; exact hLv) (by rw [C.rm]; show _ + 14 ≤ 40 * L; omega) d (k H locs ls hP hS hD hL)
end VK
