/-! JDK: StringBuilder. The object at s: value at vb (cap bytes f), Latin1, ct letters -/
theorem lw_U {own : String} {idx : Nat} {y : MethodName} {b : ByteArray} {L : Nat} {r : Option FieldType} (h1 : Cond.methodLink own idx y ∈ lw_all) (h2 : Cond.sameMethod y.cls y.cls y.name y.desc ∈ lw_all) (h3 : Cond.superclass own y.cls ∈ lw_all) (h4 : Cond.instanceMethod y ∈ lw_all) (h5 : Cond.initialized y.cls ∈ lw_all) (h6 : Cond.code y b L r ∈ lw_all) : GoodIn lw_all (va_wsSU own idx y (ws_ y b L r)) := by
  refine lw_app ?_ (lw_meth h6)
  intro w hw
  simp only [List.mem_cons, List.not_mem_nil, or_false] at hw
  rcases hw with e | e | e | e | e
  · rw [e]; exact h1
  · rw [e]; exact h2
  · rw [e]; exact h3
  · rw [e]; exact h4
  · rw [e]; exact h5
theorem KG.priv {g : GG} {s : State} (hK : KG g s) {y : MethodName} (hp : Cond.privateMethod y ∈ lw_tbl) : s.PrivateAt y := by
  obtain ⟨s0, b, e, h2, h3, h5⟩ := hK.f0
  have h6 : (Cond.privateMethod y).before #[Value.ref b] (s0.setVm s.vm) = true := by
    rw [Cond.privateMethod_setVm h5.alike]
    exact h2 _ hp
  exact Cond.privateMethod_at (args := #[]) (va_tabs rfl (rfl : (s0.setVm s.vm).vm = s.vm) h6)
theorem CX.selU {x : XT} {cc : ByteArray} {nL : Nat} {own : String} {ret : Option FieldType} {g : GG} {L mc ms : Nat} (C : CX x cc nL own ret g L mc ms) {y : MethodName} {ci N : Nat} {Cn : String} {T : u_T} (hc : clA[ci]? = some (Cn, T, N)) (hp : Cond.privateMethod y ∈ lw_tbl) (hs : Cond.sameMethod y.cls y.cls y.name y.desc ∈ lw_all) (him : Cond.instanceMethod y ∈ lw_all) : (Cond.selects Cn y y).before (xA x) (xS x) = true := by
  obtain ⟨c, ck, r, e1, e2, e3, e4, e5⟩ := Cond.sameMethod_found (C.hts _ hs)
  have hf : (xS x).vm.findClass Cn = some (g.1.1 ci) := (C.kg.K.1 ci _ hc).2.1
  have hpr := C.kg.priv hp
  have e5' : (xS x).methodNamed? y = some r := e5
  obtain ⟨c2, k2, f2⟩ : ∃ meth, (xS x).vm.method? r = some meth ∧ True := by
    obtain ⟨mk, methM, hnamed, hmethM, hstM, habM⟩ := Cond.instanceMethod_spec (C.hts _ him)
    cases e5'.symm.trans hnamed
    exact ⟨methM, hmethM, trivial⟩
  have hsel : selectMethod {} (xS x).vm (g.1.1 ci) r = .method r := selectMethod_private k2 (hpr r c2 e5' k2)
  have hcl : r.cls = c := by
    have := findClass_of_methodNamed e5'
    rw [e1] at this
    exact (Option.some.inj this).symm
  subst hcl
  have e4' : (xS x).methodFound? y.cls y.name y.desc = some r := e4
  simp [Cond.before, Cond.holds, Cond.value, hf, e4', e5', hsel, e2, e3]
theorem ct_chkP (l : Launch) (g : GG) (h : HM) (sz : Nat) (i n : Int) (r : Option Nat) (hi : 0 ≤ i ∧ i < n ∧ n < 2147483648) : RT l yJ12_checkIndex cJ12_checkIndex 3 (some .int) 0 [vI i, vI n, va_rf r] g h sz (fun v => v = some (vI i)) := by
  refine CT.of (lo := [some (vI i), some (vI n), some (va_rf r)]) (by decide) (by cases r <;> simp [Value.category, va_rf]) (Nat.le_of_ble_eq_true rfl) rfl ?_
  intro x h0 Q C hQ hl hni
  refine r_iload_n (n := 1) C dJ12_checkIndex_0 rfl rfl rfl ?_
  refine r_if_lt (t := 9) (n := 4) C dJ12_checkIndex_1 (by decide) rfl (fun c_1 => ?_) (fun c_1 => ?_)
  · omega
  · refine r_iload_n (n := 5) C dJ12_checkIndex_4 rfl rfl rfl ?_
    refine r_iload_n (n := 6) C dJ12_checkIndex_5 rfl rfl rfl ?_
    refine r_icmp_lt (t := 16) (n := 9) C dJ12_checkIndex_6 (by decide) rfl (fun c_6 => ?_) (fun c_6 => ?_)
    · refine r_iload_n (n := 17) C dJ12_checkIndex_16 rfl rfl rfl ?_
      refine r_ireturn C hQ dJ12_checkIndex_17 ?_
      exact ⟨rfl, rfl, rfl⟩
    · omega
theorem ct_chkS (l : Launch) (g : GG) (h : HM) (sz : Nat) (i n : Int) (hi : 0 ≤ i ∧ i < n ∧ n < 2147483648) : RT l yJ2_checkIndex cJ2_checkIndex 2 none 1 [vI i, vI n] g h sz (fun v => v = none) := by
  refine CT.of (lo := [some (vI i), some (vI n)]) (by decide) (by simp [Value.category]) (Nat.le_of_ble_eq_true rfl) rfl ?_
  intro x h0 Q C hQ hl hni
  obtain ⟨r, hZ⟩ := C.kg.stQ q355 q54 (by decide +kernel)
  refine r_iload_n (n := 1) C dJ2_checkIndex_0 rfl rfl rfl ?_
  refine r_iload_n (n := 2) C dJ2_checkIndex_1 rfl rfl rfl ?_
  refine r_gets (n := 5) C hZ q354 dJ2_checkIndex_2 rfl ?_
  refine r_callS (n := 8) (n0 := 3) C (ct_chkP (xL x) g h sz i n r hi) (lw_S q377 q378 q54 q379) ⟨by decide, by decide, by decide +kernel⟩ rfl dJ2_checkIndex_5 rfl rfl ?_
  rintro v h' sz' ⟨rfl, rfl, rfl⟩ - -
  dsimp only [stk]
  refine r_pop (n := 9) C dJ2_checkIndex_8 rfl rfl ?_
  refine r_return C hQ dJ2_checkIndex_9 ?_
  exact ⟨rfl, rfl, rfl⟩
theorem ct_chkO (l : Launch) (g : GG) (h : HM) (sz : Nat) (i n : Int) (hi : 0 ≤ i ∧ i < n ∧ n < 2147483648) : RT l yJ15_checkIndex cJ15_checkIndex 2 (some .int) 1 [vI i, vI n] g h sz (fun v => v = some (vI i)) := by
  refine CT.of (lo := [some (vI i), some (vI n)]) (by decide) (by simp [Value.category]) (Nat.le_of_ble_eq_true rfl) rfl ?_
  intro x h0 Q C hQ hl hni
  refine r_iload_n (n := 1) C dJ15_checkIndex_0 rfl rfl rfl ?_
  refine r_iload_n (n := 2) C dJ15_checkIndex_1 rfl rfl rfl ?_
  refine r_aconst_null (n := 3) C dJ15_checkIndex_2 rfl ?_
  refine r_callS (n := 6) (n0 := 3) C (ct_chkP (xL x) g h sz i n none hi) (lw_S q760 q378 q54 q379) ⟨by decide, by decide, by decide +kernel⟩ rfl dJ15_checkIndex_3 rfl rfl ?_
  rintro v h' sz' ⟨rfl, rfl, rfl⟩ - -
  dsimp only [stk]
  refine r_ireturn C hQ dJ15_checkIndex_6 ?_
  exact ⟨rfl, rfl, rfl⟩
abbrev SBo (vb : Nat) (ml ct : Int) : va_E := oC 10 [.ref vb, vI 0, vI ml, vI ct]
theorem ct_sbLen0 (l : Launch) (g : GG) (h : HM) (sz s vb : Nat) (ml ct : Int) (hs : h s = some (SBo vb ml ct)) : RT l yJ0_length cJ0_length 1 (some .int) 0 [.ref s] g h sz (fun v => v = some (vI ct)) := by
  refine CT.of (lo := [some (.ref s)]) (by decide) (by simp [Value.category]) (Nat.le_of_ble_eq_true rfl) rfl ?_
  intro x h0 Q C hQ hl hni
  refine r_aload_n (n := 1) C dJ0_length_0 rfl rfl rfl ?_
  refine r_get (n := 4) (ci := 10) (k := 3) C in_J1 rfl (by decide) q134 rfl dJ0_length_1 rfl (by assumption) rfl ?_
  refine r_ireturn C hQ dJ0_length_4 ?_
  exact ⟨rfl, rfl, rfl⟩
theorem ct_sbLen (l : Launch) (g : GG) (h : HM) (sz s vb : Nat) (ml ct : Int) (hs : h s = some (SBo vb ml ct)) : RT l yJ1_length cJ1_length 1 (some .int) 1 [.ref s] g h sz (fun v => v = some (vI ct)) := by
  refine CT.of (lo := [some (.ref s)]) (by decide) (by simp [Value.category]) (Nat.le_of_ble_eq_true rfl) rfl ?_
  intro x h0 Q C hQ hl hni
  refine r_aload_n (n := 1) C dJ1_length_0 rfl rfl rfl ?_
  refine r_callU (n := 4) (n0 := 0) (ci := 10) C (ct_sbLen0 (xL x) g h sz s vb ml ct hs) (lw_U q282 q1029 q143 q283 q38 q284) ⟨by decide, by decide +kernel⟩ rfl (by assumption) rfl dJ1_length_1 rfl rfl ?_
  rintro v h' sz' ⟨rfl, rfl, rfl⟩ - -
  dsimp only [stk]
  refine r_ireturn C hQ dJ1_length_4 ?_
  exact ⟨rfl, rfl, rfl⟩
theorem ct_sbLat (l : Launch) (g : GG) (h : HM) (sz s vb : Nat) (ml ct : Int) (hs : h s = some (SBo vb ml ct)) : RT l yJ0_isLatin1 cJ0_isLatin1 1 (some .boolean) 0 [.ref s] g h sz (fun v => v = some (vI 1)) := by
  refine CT.of (lo := [some (.ref s)]) (by decide) (by simp [Value.category]) (Nat.le_of_ble_eq_true rfl) rfl ?_
  intro x h0 Q C hQ hl hni
  have hZ := C.kg.stI (z := iI 1) q123 q40 (by decide +kernel)
  refine r_gets (n := 3) C hZ q122 dJ0_isLatin1_0 rfl ?_
  refine r_if_eq (t := 17) (n := 6) C dJ0_isLatin1_3 (by decide) rfl (fun c_3 => ?_) (fun c_3 => ?_)
  · exact absurd c_3 (by decide)
  · refine r_aload_n (n := 7) C dJ0_isLatin1_6 rfl rfl rfl ?_
    refine r_get (n := 10) (ci := 10) (k := 1) C in_J1 rfl (by decide) q132 rfl dJ0_isLatin1_7 rfl (by assumption) rfl ?_
    refine r_if_ne (t := 17) (n := 13) C dJ0_isLatin1_10 (by decide) rfl (fun c_10 => ?_) (fun c_10 => ?_)
    · exact absurd c_10 (by decide)
    · refine r_iconst (n := 14) C dJ0_isLatin1_13 rfl ?_
      refine r_goto (n := 18) C dJ0_isLatin1_14 (by decide) ?_
      refine r_zreturn C hQ rfl dJ0_isLatin1_18 ?_
      exact ⟨rfl, rfl, rfl⟩
theorem zshr0 {a : Int} (h : -2147483648 ≤ a ∧ a < 2147483648) : zshr a 0 = a := by
  unfold zshr
  have : iI a >>> (iI 0 &&& 31) = iI a := by
    show iI a >>> (0 : Int32) = iI a
    simp
  rw [this, iI_toInt h]
theorem zshl0 {a : Int} (h : -2147483648 ≤ a ∧ a < 2147483648) : zshl a 0 = a := by
  unfold zshl
  have : iI a <<< (iI 0 &&& 31) = iI a := by
    show iI a <<< (0 : Int32) = iI a
    simp
  rw [this, iI_toInt h]
theorem zch7 {b : Int} (h : 0 ≤ b ∧ b < 128) : zchar (zand b 255) = b := by
  have key : ∀ n : Fin 128, zchar (zand ((n : Nat) : Int) 255) = ((n : Nat) : Int) := by decide +kernel
  have := key ⟨b.toNat, by omega⟩
  rw [show (((⟨b.toNat, by omega⟩ : Fin 128) : Nat) : Int) = b by show ((b.toNat : Nat) : Int) = b; omega] at this
  exact this
theorem nchr {b : Int} (h : 0 ≤ b ∧ b < 65536) : narrow .char (vI b) = vI b := by
  have := (pk_charN (q := b.toNat) (by omega)).1
  rw [show nI b.toNat = iI b by rw [nI, iI_nat]; congr 1; omega] at this
  exact this
theorem ct_sbAt0 (l : Launch) (g : GG) (h : HM) (sz s vb cap : Nat) (f : Nat → Int) (ml ct i : Int) (hs : h s = some (SBo vb ml ct)) (hv : h vb = some (eB g cap f)) (hi : 0 ≤ i ∧ i < ct ∧ ct ≤ cap ∧ cap < 2147483648) (hf : 0 ≤ f i.toNat ∧ f i.toNat < 128) : RT l yJ0_charAt cJ0_charAt 5 (some .char) 2 [.ref s, vI i] g h sz (fun v => v = some (vI (f i.toNat))) := by
  refine CT.of (lo := [some (.ref s), some (vI i), none, none, none]) (by decide) (by simp [Value.category]) (Nat.le_of_ble_eq_true rfl) rfl ?_
  intro x h0 Q C hQ hl hni
  refine r_aload_n (n := 1) C dJ0_charAt_0 rfl rfl rfl ?_
  refine r_get (n := 4) (ci := 10) (k := 1) C in_J1 rfl (by decide) q132 rfl dJ0_charAt_1 rfl (by assumption) rfl ?_
  refine r_istore_n (n := 5) C dJ0_charAt_4 rfl rfl ?_
  refine r_aload_n (n := 6) C dJ0_charAt_5 rfl rfl rfl ?_
  refine r_get (n := 9) (ci := 10) (k := 0) C in_J1 rfl (by decide) q131 rfl dJ0_charAt_6 rfl (by assumption) rfl ?_
  refine r_astore_n (n := 10) C dJ0_charAt_9 rfl rfl ?_
  refine r_aload_n (n := 11) C dJ0_charAt_10 rfl rfl rfl ?_
  refine r_get (n := 14) (ci := 10) (k := 3) C in_J1 rfl (by decide) q134 rfl dJ0_charAt_11 rfl (by assumption) rfl ?_
  refine r_aload_n (n := 15) C dJ0_charAt_14 rfl rfl rfl ?_
  refine r_alenB (n := 16) C dJ0_charAt_15 rfl (by assumption) ?_
  refine r_iload_n (n := 17) C dJ0_charAt_16 rfl rfl rfl ?_
  refine r_ishr (n := 18) C dJ0_charAt_17 rfl ?_
  rw [zshr0 (by omega)]
  refine r_mmin (n := 21) C q412 q322 q50 q323 dJ0_charAt_18 rfl ?_
  refine r_istore (n := 23) C dJ0_charAt_21 rfl ?_
  refine r_iload_n (n := 24) C dJ0_charAt_23 rfl rfl rfl ?_
  refine r_iload (n := 26) C dJ0_charAt_24 rfl rfl ?_
  refine r_callS (n := 29) (n0 := 2) C (ct_chkS (xL x) g h sz i (min ct cap) (by omega)) (lw_S q413 q375 q40 q376) ⟨by decide, by decide, by decide +kernel⟩ rfl dJ0_charAt_26 rfl rfl ?_
  rintro v h' sz' ⟨rfl, rfl, rfl⟩ - -
  dsimp only [stk]
  refine r_iload_n (n := 30) C dJ0_charAt_29 rfl rfl rfl ?_
  refine r_if_ne (t := 42) (n := 33) C dJ0_charAt_30 (by decide) rfl (fun c_30 => ?_) (fun c_30 => ?_)
  · omega
  · refine r_aload_n (n := 34) C dJ0_charAt_33 rfl rfl rfl ?_
    refine r_iload_n (n := 35) C dJ0_charAt_34 rfl rfl rfl ?_
    refine r_baload (n := 36) C dJ0_charAt_35 rfl (by assumption) ?_
    refine r_sipush (n := 39) C dJ0_charAt_36 (by decide) rfl ?_
    refine r_iand (n := 40) C dJ0_charAt_39 rfl ?_
    refine r_i2c (n := 41) C dJ0_charAt_40 rfl ?_
    rw [zch7 hf]
    refine r_zreturn C hQ (nchr (by omega)) dJ0_charAt_41 ?_
    exact ⟨rfl, rfl, rfl⟩
theorem ct_sbAt (l : Launch) (g : GG) (h : HM) (sz s vb cap : Nat) (f : Nat → Int) (ml ct i : Int) (hs : h s = some (SBo vb ml ct)) (hv : h vb = some (eB g cap f)) (hi : 0 ≤ i ∧ i < ct ∧ ct ≤ cap ∧ cap < 2147483648) (hf : 0 ≤ f i.toNat ∧ f i.toNat < 128) : RT l yJ1_charAt cJ1_charAt 2 (some .char) 3 [.ref s, vI i] g h sz (fun v => v = some (vI (f i.toNat))) := by
  refine CT.of (lo := [some (.ref s), some (vI i)]) (by decide) (by simp [Value.category]) (Nat.le_of_ble_eq_true rfl) rfl ?_
  intro x h0 Q C hQ hl hni
  refine r_aload_n (n := 1) C dJ1_charAt_0 rfl rfl rfl ?_
  refine r_iload_n (n := 2) C dJ1_charAt_1 rfl rfl rfl ?_
  refine r_callU (n := 5) (n0 := 1) (ci := 10) C (ct_sbAt0 (xL x) g h sz s vb cap f ml ct i hs hv hi hf) (lw_U q409 q1034 q143 q410 q38 q411) ⟨by decide, by decide +kernel⟩ rfl (by assumption) rfl dJ1_charAt_2 rfl rfl ?_
  rintro v h' sz' ⟨rfl, rfl, rfl⟩ - -
  dsimp only [stk]
  refine r_zreturn C hQ (nchr (by omega)) dJ1_charAt_5 ?_
  exact ⟨rfl, rfl, rfl⟩
theorem ct_newLen (l : Launch) (g : GG) (h : HM) (sz : Nat) (a b c : Int) (hr : -2147483648 ≤ b ∧ b < 2147483648 ∧ -2147483648 ≤ c ∧ c < 2147483648) (h1 : 0 < a + max b c) (h2 : a + max b c ≤ 1000000) : RT l yJ8_newLength cJ8_newLength 4 (some .int) 1 [vI a, vI b, vI c] g h sz (fun v => v = some (vI (a + max b c))) := by
  refine CT.of (lo := [some (vI a), some (vI b), some (vI c), none]) (by decide) (by simp [Value.category]) (Nat.le_of_ble_eq_true rfl) rfl ?_
  intro x h0 Q C hQ hl hni
  refine r_iload_n (n := 1) C dJ8_newLength_0 rfl rfl rfl ?_
  refine r_iload_n (n := 2) C dJ8_newLength_1 rfl rfl rfl ?_
  refine r_iload_n (n := 3) C dJ8_newLength_2 rfl rfl rfl ?_
  refine r_mmax (n := 6) C q303 q304 q50 q305 dJ8_newLength_3 rfl ?_
  refine r_iadd (n := 7) C dJ8_newLength_6 rfl ?_
  refine r_istore_n (n := 8) C dJ8_newLength_7 rfl rfl ?_
  refine r_iconst (n := 9) C dJ8_newLength_8 rfl ?_
  refine r_iload_n (n := 10) C dJ8_newLength_9 rfl rfl rfl ?_
  refine r_icmp_ge (t := 21) (n := 13) C dJ8_newLength_10 (by decide) rfl (fun c_10 => ?_) (fun c_10 => ?_)
  · omega
  · refine r_iload_n (n := 14) C dJ8_newLength_13 rfl rfl rfl ?_
    refine r_ldc (n := 16) (z := 2147483639) C q306 (by decide) dJ8_newLength_14 rfl ?_
    refine r_icmp_gt (t := 21) (n := 19) C dJ8_newLength_16 (by decide) rfl (fun c_16 => ?_) (fun c_16 => ?_)
    · omega
    · refine r_iload_n (n := 20) C dJ8_newLength_19 rfl rfl rfl ?_
      refine r_ireturn C hQ dJ8_newLength_20 ?_
      exact ⟨rfl, rfl, rfl⟩
theorem zshl1 : zshl 2 0 = 2 := zshl0 (by omega)
theorem ct_newCap (l : Launch) (g : GG) (h : HM) (sz s vb cap : Nat) (f : Nat → Int) (ml ct m : Int) (hs : h s = some (SBo vb ml ct)) (hv : h vb = some (eB g cap f)) (hm : 0 ≤ m ∧ m ≤ 1000) (hc : cap ≤ 1000) : RT l yJ0_newCapacity cJ0_newCapacity 6 (some .int) 2 [.ref s, vI m] g h sz (fun v => v = some (vI (cap + max (m - cap) (cap + 2)))) := by
  refine CT.of (lo := [some (.ref s), some (vI m), none, none, none, none]) (by decide) (by simp [Value.category]) (Nat.le_of_ble_eq_true rfl) rfl ?_
  intro x h0 Q C hQ hl hni
  refine r_aload_n (n := 1) C dJ0_newCapacity_0 rfl rfl rfl ?_
  refine r_get (n := 4) (ci := 10) (k := 0) C in_J1 rfl (by decide) q131 rfl dJ0_newCapacity_1 rfl (by assumption) rfl ?_
  refine r_alenB (n := 5) C dJ0_newCapacity_4 rfl (by assumption) ?_
  refine r_istore_n (n := 6) C dJ0_newCapacity_5 rfl rfl ?_
  refine r_iload_n (n := 7) C dJ0_newCapacity_6 rfl rfl rfl ?_
  refine r_aload_n (n := 8) C dJ0_newCapacity_7 rfl rfl rfl ?_
  refine r_get (n := 11) (ci := 10) (k := 1) C in_J1 rfl (by decide) q132 rfl dJ0_newCapacity_8 rfl (by assumption) rfl ?_
  refine r_ishl (n := 12) C dJ0_newCapacity_11 rfl ?_
  rw [zshl0 (by omega)]
  refine r_istore_n (n := 13) C dJ0_newCapacity_12 rfl rfl ?_
  refine r_iload_n (n := 14) C dJ0_newCapacity_13 rfl rfl rfl ?_
  refine r_iload_n (n := 15) C dJ0_newCapacity_14 rfl rfl rfl ?_
  refine r_isub (n := 16) C dJ0_newCapacity_15 rfl ?_
  refine r_istore (n := 18) C dJ0_newCapacity_16 rfl ?_
  refine r_iload_n (n := 19) C dJ0_newCapacity_18 rfl rfl rfl ?_
  refine r_iload (n := 21) C dJ0_newCapacity_19 rfl rfl ?_
  refine r_iload_n (n := 22) C dJ0_newCapacity_21 rfl rfl rfl ?_
  refine r_iconst (n := 23) C dJ0_newCapacity_22 rfl ?_
  refine r_aload_n (n := 24) C dJ0_newCapacity_23 rfl rfl rfl ?_
  refine r_get (n := 27) (ci := 10) (k := 1) C in_J1 rfl (by decide) q132 rfl dJ0_newCapacity_24 rfl (by assumption) rfl ?_
  refine r_ishl (n := 28) C dJ0_newCapacity_27 rfl ?_
  rw [zshl1]
  refine r_iadd (n := 29) C dJ0_newCapacity_28 rfl ?_
  refine r_callS (n := 32) (n0 := 3) C (ct_newLen (xL x) g h sz cap (m - cap) (cap + 2) (by omega) (by omega) (by omega)) (lw_S q300 q301 q49 q302) ⟨by decide, by decide, by decide +kernel⟩ rfl dJ0_newCapacity_29 rfl rfl ?_
  rintro v h' sz' ⟨rfl, rfl, rfl⟩ - -
  dsimp only [stk]
  refine r_istore (n := 34) C dJ0_newCapacity_32 rfl ?_
  refine r_iload (n := 36) C dJ0_newCapacity_34 rfl rfl ?_
  refine r_ldc (n := 38) (z := 2147483647) C q310 (by decide) dJ0_newCapacity_36 rfl ?_
  refine r_icmp_ne (t := 51) (n := 41) C dJ0_newCapacity_38 (by decide) rfl (fun c_38 => ?_) (fun c_38 => ?_)
  · refine r_iload (n := 53) C dJ0_newCapacity_51 rfl rfl ?_
    refine r_aload_n (n := 54) C dJ0_newCapacity_53 rfl rfl rfl ?_
    refine r_get (n := 57) (ci := 10) (k := 1) C in_J1 rfl (by decide) q132 rfl dJ0_newCapacity_54 rfl (by assumption) rfl ?_
    refine r_ishr (n := 58) C dJ0_newCapacity_57 rfl ?_
    rw [zshr0 (by omega)]
    refine r_ireturn C hQ dJ0_newCapacity_58 ?_
    exact ⟨rfl, rfl, rfl⟩
  · omega
theorem ct_copyB (l : Launch) (g : GG) (h : HM) (sz a N M : Nat) (f : Nat → Int) (ha : h a = some (eB g N f)) (hl : a < sz) (hM : M ≤ 10000 ∧ N < M) (hf : ∀ j : Nat, j < N → fits .byte (vI (f j)) = true) : CT l yJ10_copyOf cJ10_copyOf 3 (some (.array .byte)) 1 1 10000 [.ref a, vI M] g h sz (fun v h' sz' => v = some (.ref sz) ∧ sz' = sz + 1 ∧ h' = va_up h sz (some (eB g M (fun j => if j < N then f j else 0)))) := by
  refine CT.of (lo := [some (.ref a), some (vI M), none]) (by decide) (by simp [Value.category]) (Nat.le_of_ble_eq_true rfl) rfl ?_
  intro x h0 Q C hQ hl hni
  refine r_iload_n (n := 1) C dJ10_copyOf_0 rfl rfl rfl ?_
  refine r_aload_n (n := 2) C dJ10_copyOf_1 rfl rfl rfl ?_
  refine r_alenB (n := 3) C dJ10_copyOf_2 rfl (by assumption) ?_
  refine r_icmp_ne (t := 14) (n := 6) C dJ10_copyOf_3 (by decide) rfl (fun c_3 => ?_) (fun c_3 => ?_)
  · refine r_iload_n (n := 15) C dJ10_copyOf_14 rfl rfl rfl ?_
    refine r_newB (n := 17) C q144 dJ10_copyOf_15 rfl rfl ?_
    refine r_astore_n (n := 18) C dJ10_copyOf_17 rfl rfl ?_
    refine r_aload_n (n := 19) C dJ10_copyOf_18 rfl rfl rfl ?_
    refine r_iconst (n := 20) C dJ10_copyOf_19 rfl ?_
    refine r_aload_n (n := 21) C dJ10_copyOf_20 rfl rfl rfl ?_
    refine r_iconst (n := 22) C dJ10_copyOf_21 rfl ?_
    refine r_aload_n (n := 23) C dJ10_copyOf_22 rfl rfl rfl ?_
    refine r_alenB (n := 24) C dJ10_copyOf_23 rfl ((va_up_ne _ _ (by omega)).trans ha) ?_
    refine r_iload_n (n := 25) C dJ10_copyOf_24 rfl rfl rfl ?_
    refine r_mmin (n := 28) C q321 q322 q50 q323 dJ10_copyOf_25 rfl ?_
    refine r_copyB (n := 31) C q324 q326 q325 q52 dJ10_copyOf_28 rfl ((va_up_ne _ _ (by omega)).trans ha) (va_up_self _ _ _) (fun j hj => hf j (by omega)) (by omega) ?_
    refine r_aload_n (n := 32) C dJ10_copyOf_31 rfl rfl rfl ?_
    refine r_areturn C hQ (Or.inr ⟨_, rfl⟩) (Or.inr ⟨_, rfl⟩) dJ10_copyOf_32 ?_
    refine ⟨rfl, rfl, ?_⟩
    rw [bx_uu]
    congr 4
    funext j
    by_cases hj : j < N
    · rw [if_pos hj, if_pos (by omega)]
    · rw [if_neg hj, if_neg (by omega)]
  · omega
/-- room for m letters: as before, or a longer value at sz -/
theorem ct_sbEns (l : Launch) (g : GG) (h : HM) (sz s vb cap : Nat) (f : Nat → Int) (ml ct m : Int) (hs : h s = some (SBo vb ml ct)) (hv : h vb = some (eB g cap f)) (hlt : s < sz ∧ vb < sz) (hm : 0 ≤ m ∧ m ≤ cap + 1) (hc : cap ≤ 900) (hf : ∀ j : Nat, j < cap → fits .byte (vI (f j)) = true) : CT l yJ0_ensureCapacityInternal cJ0_ensureCapacityInternal 3 none 3 1 10000 [.ref s, vI m] g h sz (fun v h' sz' => v = none ∧ ((m ≤ cap ∧ sz' = sz ∧ h' = h) ∨ (cap < m ∧ sz' = sz + 1 ∧ h' = va_up (va_up h sz (some (eB g (2 * cap + 2) (fun j => if j < cap then f j else 0)))) s (some (SBo sz ml ct))))) := by
  refine CT.of (lo := [some (.ref s), some (vI m), none]) (by decide) (by simp [Value.category]) (Nat.le_of_ble_eq_true rfl) rfl ?_
  intro x h0 Q C hQ hl hni
  refine r_aload_n (n := 1) C dJ0_ensureCapacityInternal_0 rfl rfl rfl ?_
  refine r_get (n := 4) (ci := 10) (k := 0) C in_J1 rfl (by decide) q131 rfl dJ0_ensureCapacityInternal_1 rfl (by assumption) rfl ?_
  refine r_alenB (n := 5) C dJ0_ensureCapacityInternal_4 rfl (by assumption) ?_
  refine r_aload_n (n := 6) C dJ0_ensureCapacityInternal_5 rfl rfl rfl ?_
  refine r_get (n := 9) (ci := 10) (k := 1) C in_J1 rfl (by decide) q132 rfl dJ0_ensureCapacityInternal_6 rfl (by assumption) rfl ?_
  refine r_ishr (n := 10) C dJ0_ensureCapacityInternal_9 rfl ?_
  rw [zshr0 (by omega)]
  refine r_istore_n (n := 11) C dJ0_ensureCapacityInternal_10 rfl rfl ?_
  refine r_iload_n (n := 12) C dJ0_ensureCapacityInternal_11 rfl rfl rfl ?_
  refine r_iload_n (n := 13) C dJ0_ensureCapacityInternal_12 rfl rfl rfl ?_
  refine r_isub (n := 14) C dJ0_ensureCapacityInternal_13 rfl ?_
  refine r_if_le (t := 38) (n := 17) C dJ0_ensureCapacityInternal_14 (by decide) rfl (fun c_14 => ?_) (fun c_14 => ?_)
  · skip
    first
      | (refine r_return C hQ dJ0_ensureCapacityInternal_38 ?_; exact ⟨rfl, Or.inl ⟨by omega, rfl, rfl⟩⟩)
      | (refine r_return C hQ dJ0_ensureCapacityInternal_38 ?_; exact ⟨rfl, Or.inr ⟨by omega, rfl, rfl⟩⟩)
  · refine r_aload_n (n := 18) C dJ0_ensureCapacityInternal_17 rfl rfl rfl ?_
    refine r_aload_n (n := 19) C dJ0_ensureCapacityInternal_18 rfl rfl rfl ?_
    refine r_get (n := 22) (ci := 10) (k := 0) C in_J1 rfl (by decide) q131 rfl dJ0_ensureCapacityInternal_19 rfl (by assumption) rfl ?_
    refine r_aload_n (n := 23) C dJ0_ensureCapacityInternal_22 rfl rfl rfl ?_
    refine r_iload_n (n := 24) C dJ0_ensureCapacityInternal_23 rfl rfl rfl ?_
    refine r_callV2 (n := 27) (n0 := 1) (ci := 10) (Cn := "java/lang/StringBuilder") C (ct_newCap (xL x) g h sz s vb cap f ml ct m hs hv (by omega) (by omega)) q299 q38 q296 q298 (C.selU (ci := 10) rfl q297 q1032 q298) ⟨by decide, by decide, by decide +kernel⟩ rfl (by assumption) rfl dJ0_ensureCapacityInternal_24 rfl rfl ?_
    rintro v h' sz' ⟨rfl, rfl, rfl⟩ - -
    dsimp only [stk]
    refine r_aload_n (n := 28) C dJ0_ensureCapacityInternal_27 rfl rfl rfl ?_
    refine r_get (n := 31) (ci := 10) (k := 1) C in_J1 rfl (by decide) q132 rfl dJ0_ensureCapacityInternal_28 rfl (by assumption) rfl ?_
    refine r_ishl (n := 32) C dJ0_ensureCapacityInternal_31 rfl ?_
    rw [zshl0 (by omega), show (cap : Int) + max (m - cap) (cap + 2) = ((2 * cap + 2 : Nat) : Int) by omega]
    refine r_callS (n := 35) (n0 := 2) C (ct_copyB (xL x) g h sz vb cap (2 * cap + 2) f hv hlt.2 (by omega) hf) (lw_S q311 q312 q51 q313) ⟨by decide, by decide, by decide +kernel⟩ rfl dJ0_ensureCapacityInternal_32 rfl rfl ?_
    rintro v h' sz' ⟨rfl, rfl, rfl⟩ - -
    dsimp only [stk]
    refine r_put (n := 38) (ty := (.array .byte)) (ci := 10) (k := 0) C in_J1 tyJ1 tyJ1_ok nmJ1 rfl (by decide) q131 rfl rfl (by decide +kernel) rfl rfl dJ0_ensureCapacityInternal_35 rfl ((va_up_ne _ _ (by omega)).trans hs) (Nat.le_of_ble_eq_true rfl) ?_
    skip
    first
      | (refine r_return C hQ dJ0_ensureCapacityInternal_38 ?_; exact ⟨rfl, Or.inl ⟨by omega, rfl, rfl⟩⟩)
      | (refine r_return C hQ dJ0_ensureCapacityInternal_38 ?_; exact ⟨rfl, Or.inr ⟨by omega, rfl, rfl⟩⟩)
theorem ct_canE (l : Launch) (g : GG) (h : HM) (sz : Nat) (c : Int) (hc : 0 ≤ c ∧ c < 128) : RT l yJ11_canEncode cJ11_canEncode 1 (some .boolean) 0 [vI c] g h sz (fun v => v = some (vI 1)) := by
  refine CT.of (lo := [some (vI c)]) (by decide) (by simp [Value.category]) (Nat.le_of_ble_eq_true rfl) rfl ?_
  intro x h0 Q C hQ hl hni
  refine r_iload_n (n := 1) C dJ11_canEncode_0 rfl rfl rfl ?_
  refine r_sipush (n := 4) C dJ11_canEncode_1 (by decide) rfl ?_
  refine r_icmp_gt (t := 11) (n := 7) C dJ11_canEncode_4 (by decide) rfl (fun c_4 => ?_) (fun c_4 => ?_)
  · omega
  · refine r_iconst (n := 8) C dJ11_canEncode_7 rfl ?_
    refine r_goto (n := 12) C dJ11_canEncode_8 (by decide) ?_
    refine r_zreturn C hQ rfl dJ11_canEncode_12 ?_
    exact ⟨rfl, rfl, rfl⟩
theorem zbyte7 {b : Int} (h : 0 ≤ b ∧ b < 128) : zbyte b = b := by
  have key : ∀ n : Fin 128, zbyte ((n : Nat) : Int) = ((n : Nat) : Int) := by decide +kernel
  have := key ⟨b.toNat, by omega⟩
  rw [show (((⟨b.toNat, by omega⟩ : Fin 128) : Nat) : Int) = b by show ((b.toNat : Nat) : Int) = b; omega] at this
  exact this
theorem fby7 {b : Int} (h : 0 ≤ b ∧ b < 128) : fits .byte (vI b) = true := by
  have key : ∀ n : Fin 128, fits .byte (vI ((n : Nat) : Int)) = true := by decide +kernel
  have := key ⟨b.toNat, by omega⟩
  rw [show (((⟨b.toNat, by omega⟩ : Fin 128) : Nat) : Int) = b by show ((b.toNat : Nat) : Int) = b; omega] at this
  exact this
def SBp (g : GG) (h : HM) (sz s vb : Nat) (ml ct c : Int) (cap : Nat) (f : Nat → Int) (h' : HM) (sz' : Nat) : Prop := ∃ (vb' cap' : Nat) (f' : Nat → Int), h' = va_up (va_up h s (some (SBo vb' ml (ct + 1)))) vb' (some (eB g cap' f')) ∧ ((vb' = vb ∧ sz' = sz ∧ cap' = cap ∧ ct < cap) ∨ (vb' = sz ∧ sz' = sz + 1 ∧ cap' = 2 * cap + 2 ∧ ct = cap)) ∧ (∀ j : Nat, (j : Int) < ct → f' j = f j) ∧ f' ct.toNat = c ∧ ∀ j : Nat, j < cap' → 0 ≤ f' j ∧ f' j < 128
theorem ct_sbApp0 (l : Launch) (g : GG) (h : HM) (sz s vb cap : Nat) (f : Nat → Int) (ml ct c : Int) (hs : h s = some (SBo vb ml ct)) (hv : h vb = some (eB g cap f)) (hlt : s < sz ∧ vb < sz) (hm : 0 ≤ ct ∧ ct ≤ cap) (hc : cap ≤ 900) (hf : ∀ j : Nat, j < cap → 0 ≤ f j ∧ f j < 128) (hcc : 0 ≤ c ∧ c < 128) : CT l yJ0_append cJ0_append 2 (some (.object "java/lang/AbstractStringBuilder")) 4 1 10000 [.ref s, vI c] g h sz (fun v h' sz' => v = some (.ref s) ∧ SBp g h sz s vb ml ct c cap f h' sz') := by
  have hne : s ≠ vb := fun e => by rw [e, hv] at hs; cases hs
  refine CT.of (lo := [some (.ref s), some (vI c)]) (by decide) (by simp [Value.category]) (Nat.le_of_ble_eq_true rfl) rfl ?_
  intro x h0 Q C hQ hl hni
  refine r_aload_n (n := 1) C dJ0_append_0 rfl rfl rfl ?_
  refine r_aload_n (n := 2) C dJ0_append_1 rfl rfl rfl ?_
  refine r_get (n := 5) (ci := 10) (k := 3) C in_J1 rfl (by decide) q134 rfl dJ0_append_2 rfl (by assumption) rfl ?_
  refine r_iconst (n := 6) C dJ0_append_5 rfl ?_
  refine r_iadd (n := 7) C dJ0_append_6 rfl ?_
  refine r_callV2 (n := 10) (n0 := 1) (ci := 10) (Cn := "java/lang/StringBuilder") C (ct_sbEns (xL x) g h sz s vb cap f ml ct (ct + 1) hs hv hlt (by omega) hc (fun j hj => fby7 (hf j hj))) q295 q38 q292 q294 (C.selU (ci := 10) rfl q293 q1031 q294) ⟨by decide, by decide, by decide +kernel⟩ rfl (by assumption) rfl dJ0_append_7 rfl rfl ?_
  rintro v h' sz' ⟨rfl, hh⟩ - -
  have key : ∃ (vb' cap' : Nat) (f' : Nat → Int), h' s = some (SBo vb' ml ct) ∧ h' vb' = some (eB g cap' f') ∧ vb' ≠ s ∧ cap' < 2000 ∧ ct < cap' ∧ (∀ j : Nat, j < cap' → 0 ≤ f' j ∧ f' j < 128) ∧ (∀ j : Nat, (j : Int) < ct → f' j = f j) ∧ ((vb' = vb ∧ sz' = sz ∧ cap' = cap ∧ ct < cap) ∨ (vb' = sz ∧ sz' = sz + 1 ∧ cap' = 2 * cap + 2 ∧ ct = cap)) ∧ ∀ e1 e2, va_up (va_up h' s e1) vb' e2 = va_up (va_up h s e1) vb' e2 := by
    rcases hh with ⟨h1, rfl, rfl⟩ | ⟨h1, rfl, rfl⟩
    · exact ⟨vb, cap, f, hs, hv, hne.symm, by omega, by omega, hf, fun _ _ => rfl, Or.inl ⟨rfl, rfl, rfl, by omega⟩, fun _ _ => rfl⟩
    · refine ⟨sz, 2 * cap + 2, _, va_up_self _ _ _, (va_up_ne _ _ (by omega)).trans (va_up_self _ _ _), by omega, by omega, by omega, fun j hj => ?_, fun j hj => by rw [if_pos (by omega)], Or.inr ⟨rfl, rfl, rfl, by omega⟩, fun e1 e2 => ?_⟩
      · by_cases hjc : j < cap
        · rw [if_pos hjc]
          exact hf j hjc
        · rw [if_neg hjc]
          omega
      · funext q
        by_cases hq : q = sz
        · subst hq
          rw [va_up_self, va_up_self]
        · rw [va_up_ne _ _ hq, va_up_ne _ _ hq]
          by_cases hq2 : q = s
          · subst hq2
            rw [va_up_self, va_up_self]
          · rw [va_up_ne _ _ hq2, va_up_ne _ _ hq2, va_up_ne _ _ hq2, va_up_ne _ _ hq]
  clear hh hs hv hf
  obtain ⟨vb', cap', f', hs, hv, hne', hcp, hct, hf, hff, hor, hup⟩ := key
  dsimp only [stk]
  refine r_aload_n (n := 11) C dJ0_append_10 rfl rfl rfl ?_
  refine r_callV2 (n := 14) (n0 := 0) (ci := 10) (Cn := "java/lang/StringBuilder") C (ct_sbLat (xL x) g h' sz' s vb' ml ct hs) q331 q38 q327 q328 (C.hts _ q330) ⟨by decide, by decide, by decide +kernel⟩ rfl (by assumption) rfl dJ0_append_11 rfl rfl ?_
  rintro v h'' sz'' ⟨rfl, rfl, rfl⟩ - -
  dsimp only [stk]
  refine r_if_eq (t := 45) (n := 17) C dJ0_append_14 (by decide) rfl (fun c_14 => ?_) (fun c_14 => ?_)
  · exact absurd c_14 (by decide)
  · refine r_iload_n (n := 18) C dJ0_append_17 rfl rfl rfl ?_
    refine r_callS (n := 21) (n0 := 1) C (ct_canE (xL x) g h' sz' c hcc) (lw_S q332 q333 q53 q334) ⟨by decide, by decide, by decide +kernel⟩ rfl dJ0_append_18 rfl rfl ?_
    rintro v h'' sz'' ⟨rfl, rfl, rfl⟩ - -
    dsimp only [stk]
    refine r_if_eq (t := 45) (n := 24) C dJ0_append_21 (by decide) rfl (fun c_21 => ?_) (fun c_21 => ?_)
    · exact absurd c_21 (by decide)
    · refine r_aload_n (n := 25) C dJ0_append_24 rfl rfl rfl ?_
      refine r_get (n := 28) (ci := 10) (k := 0) C in_J1 rfl (by decide) q131 rfl dJ0_append_25 rfl (by assumption) rfl ?_
      refine r_aload_n (n := 29) C dJ0_append_28 rfl rfl rfl ?_
      refine r_dup (n := 30) C dJ0_append_29 rfl rfl ?_
      refine r_get (n := 33) (ci := 10) (k := 3) C in_J1 rfl (by decide) q134 rfl dJ0_append_30 rfl (by assumption) rfl ?_
      refine r_dup_x1 (n := 34) C dJ0_append_33 rfl rfl rfl ?_
      refine r_iconst (n := 35) C dJ0_append_34 rfl ?_
      refine r_iadd (n := 36) C dJ0_append_35 rfl ?_
      refine r_put (n := 39) (ty := .int) (ci := 10) (k := 3) C in_J1 tyJ1 tyJ1_ok nmJ1 rfl (by decide) q134 rfl rfl (by decide +kernel) rfl rfl dJ0_append_36 rfl (by assumption) (Nat.le_of_ble_eq_true rfl) ?_
      refine r_iload_n (n := 40) C dJ0_append_39 rfl rfl rfl ?_
      refine r_i2b (n := 41) C dJ0_append_40 rfl ?_
      rw [zbyte7 hcc]
      refine r_bastore (n := 42) C dJ0_append_41 rfl ((va_up_ne _ _ hne').trans hv) ?_
      refine r_goto (n := 75) C dJ0_append_42 (by decide) ?_
      refine r_aload_n (n := 76) C dJ0_append_75 rfl rfl rfl ?_
      refine r_areturn C hQ (Or.inl ⟨_, rfl⟩) (Or.inr ⟨_, rfl⟩) dJ0_append_76 ?_
      refine ⟨rfl, vb', cap', _, hup _ _, hor, fun j hj => ?_, by rw [va_up_self, zbyte7 hcc], fun j hj => ?_⟩
      · rw [va_up_ne _ _ (by omega)]
        exact hff j hj
      · by_cases hjc : j = ct.toNat
        · rw [hjc, va_up_self, zbyte7 hcc]
          exact hcc
        · rw [va_up_ne _ _ hjc]
          exact hf j hj
theorem ct_sbApp (l : Launch) (g : GG) (h : HM) (sz s vb cap : Nat) (f : Nat → Int) (ml ct c : Int) (hs : h s = some (SBo vb ml ct)) (hv : h vb = some (eB g cap f)) (hlt : s < sz ∧ vb < sz) (hm : 0 ≤ ct ∧ ct ≤ cap) (hc : cap ≤ 900) (hf : ∀ j : Nat, j < cap → 0 ≤ f j ∧ f j < 128) (hcc : 0 ≤ c ∧ c < 128) : CT l yJ1_append cJ1_append 2 (some (.object "java/lang/StringBuilder")) 5 1 10000 [.ref s, vI c] g h sz (fun v h' sz' => v = some (.ref s) ∧ SBp g h sz s vb ml ct c cap f h' sz') := by
  refine CT.of (lo := [some (.ref s), some (vI c)]) (by decide) (by simp [Value.category]) (Nat.le_of_ble_eq_true rfl) rfl ?_
  intro x h0 Q C hQ hl hni
  refine r_aload_n (n := 1) C dJ1_append_0 rfl rfl rfl ?_
  refine r_iload_n (n := 2) C dJ1_append_1 rfl rfl rfl ?_
  refine r_callU (n := 5) (n0 := 1) (ci := 10) C (ct_sbApp0 (xL x) g h sz s vb cap f ml ct c hs hv hlt hm hc hf hcc) (lw_U q289 q1030 q143 q290 q38 q291) ⟨by decide, by decide +kernel⟩ rfl (by assumption) rfl dJ1_append_2 rfl rfl ?_
  rintro v h' sz' ⟨rfl, hh⟩ - -
  dsimp only [stk]
  refine r_pop (n := 6) C dJ1_append_5 rfl rfl ?_
  refine r_aload_n (n := 7) C dJ1_append_6 rfl rfl rfl ?_
  refine r_areturn C hQ (Or.inl ⟨_, rfl⟩) (Or.inr ⟨_, rfl⟩) dJ1_append_7 ?_
  exact ⟨rfl, hh⟩
theorem ct_sbSet0 (l : Launch) (g : GG) (h : HM) (sz s vb cap : Nat) (f : Nat → Int) (ml ct : Int) (hs : h s = some (SBo vb ml ct)) (hv : h vb = some (eB g cap f)) (hlt : s < sz ∧ vb < sz) (hm : 0 ≤ ct ∧ ct ≤ cap) (hc : cap ≤ 900) (hf : ∀ j : Nat, j < cap → 0 ≤ f j ∧ f j < 128) : CT l yJ0_setLength cJ0_setLength 2 none 4 1 10000 [.ref s, vI 0] g h sz (fun v h' sz' => v = none ∧ sz' = sz ∧ ∃ ml', h' = va_up h s (some (SBo vb ml' 0))) := by
  have hne : s ≠ vb := fun e => by rw [e, hv] at hs; cases hs
  refine CT.of (lo := [some (.ref s), some (vI 0)]) (by decide) (by simp [Value.category]) (Nat.le_of_ble_eq_true rfl) rfl ?_
  intro x h0 Q C hQ hl hni
  refine r_iload_n (n := 1) C dJ0_setLength_0 rfl rfl rfl ?_
  refine r_if_ge (t := 13) (n := 4) C dJ0_setLength_1 (by decide) rfl (fun c_1 => ?_) (fun c_1 => ?_)
  · refine r_aload_n (n := 14) C dJ0_setLength_13 rfl rfl rfl ?_
    refine r_iload_n (n := 15) C dJ0_setLength_14 rfl rfl rfl ?_
    refine r_callV2 (n := 18) (n0 := 1) (ci := 10) (Cn := "java/lang/StringBuilder") C (ct_sbEns (xL x) g h sz s vb cap f ml ct 0 hs hv hlt (by omega) hc (fun j hj => fby7 (hf j hj))) q295 q38 q292 q294 (C.selU (ci := 10) rfl q293 q1031 q294) ⟨by decide, by decide, by decide +kernel⟩ rfl (by assumption) rfl dJ0_setLength_15 rfl rfl ?_
    rintro v h' sz' ⟨rfl, hh⟩ - -
    have hh : sz' = sz ∧ h' = h := by
      rcases hh with ⟨h1, rfl, rfl⟩ | ⟨h1, rfl, rfl⟩
      · exact ⟨rfl, rfl⟩
      · omega
    obtain ⟨rfl, rfl⟩ := hh
    dsimp only [stk]
    refine r_aload_n (n := 19) C dJ0_setLength_18 rfl rfl rfl ?_
    refine r_get (n := 22) (ci := 10) (k := 3) C in_J1 rfl (by decide) q134 rfl dJ0_setLength_19 rfl (by assumption) rfl ?_
    refine r_iload_n (n := 23) C dJ0_setLength_22 rfl rfl rfl ?_
    refine r_icmp_ge (t := 63) (n := 26) C dJ0_setLength_23 (by decide) rfl (fun c_23 => ?_) (fun c_23 => ?_)
    · refine r_aload_n (n := 64) C dJ0_setLength_63 rfl rfl rfl ?_
      refine r_get (n := 67) (ci := 10) (k := 3) C in_J1 rfl (by decide) q134 rfl dJ0_setLength_64 rfl (by assumption) rfl ?_
      refine r_iload_n (n := 68) C dJ0_setLength_67 rfl rfl rfl ?_
      refine r_icmp_le (t := 76) (n := 71) C dJ0_setLength_68 (by decide) rfl (fun c_68 => ?_) (fun c_68 => ?_)
      · refine r_aload_n (n := 77) C dJ0_setLength_76 rfl rfl rfl ?_
        refine r_iload_n (n := 78) C dJ0_setLength_77 rfl rfl rfl ?_
        refine r_put (n := 81) (ty := .int) (ci := 10) (k := 3) C in_J1 tyJ1 tyJ1_ok nmJ1 rfl (by decide) q134 rfl rfl (by decide +kernel) rfl rfl dJ0_setLength_78 rfl (by first | exact va_up_self _ _ _ | exact hs) (Nat.le_of_ble_eq_true rfl) ?_
        refine r_return C hQ dJ0_setLength_81 ?_
        first | exact ⟨rfl, rfl, _, rfl⟩ | (rw [bx_uu]; exact ⟨rfl, rfl, _, rfl⟩)
      · refine r_aload_n (n := 72) C dJ0_setLength_71 rfl rfl rfl ?_
        refine r_iconst (n := 73) C dJ0_setLength_72 rfl ?_
        refine r_put (n := 76) (ty := .boolean) (ci := 10) (k := 2) C in_J1 tyJ1 tyJ1_ok nmJ1 rfl (by decide) q133 rfl rfl (by decide +kernel) rfl rfl dJ0_setLength_73 rfl (by assumption) (Nat.le_of_ble_eq_true rfl) ?_
        refine r_aload_n (n := 77) C dJ0_setLength_76 rfl rfl rfl ?_
        refine r_iload_n (n := 78) C dJ0_setLength_77 rfl rfl rfl ?_
        refine r_put (n := 81) (ty := .int) (ci := 10) (k := 3) C in_J1 tyJ1 tyJ1_ok nmJ1 rfl (by decide) q134 rfl rfl (by decide +kernel) rfl rfl dJ0_setLength_78 rfl (by first | exact va_up_self _ _ _ | exact hs) (Nat.le_of_ble_eq_true rfl) ?_
        refine r_return C hQ dJ0_setLength_81 ?_
        first | exact ⟨rfl, rfl, _, rfl⟩ | (rw [bx_uu]; exact ⟨rfl, rfl, _, rfl⟩)
    · omega
  · omega
theorem ct_sbSet (l : Launch) (g : GG) (h : HM) (sz s vb cap : Nat) (f : Nat → Int) (ml ct : Int) (hs : h s = some (SBo vb ml ct)) (hv : h vb = some (eB g cap f)) (hlt : s < sz ∧ vb < sz) (hm : 0 ≤ ct ∧ ct ≤ cap) (hc : cap ≤ 900) (hf : ∀ j : Nat, j < cap → 0 ≤ f j ∧ f j < 128) : CT l yJ1_setLength cJ1_setLength 2 none 5 1 10000 [.ref s, vI 0] g h sz (fun v h' sz' => v = none ∧ sz' = sz ∧ ∃ ml', h' = va_up h s (some (SBo vb ml' 0))) := by
  refine CT.of (lo := [some (.ref s), some (vI 0)]) (by decide) (by simp [Value.category]) (Nat.le_of_ble_eq_true rfl) rfl ?_
  intro x h0 Q C hQ hl hni
  refine r_aload_n (n := 1) C dJ1_setLength_0 rfl rfl rfl ?_
  refine r_iload_n (n := 2) C dJ1_setLength_1 rfl rfl rfl ?_
  refine r_callU (n := 5) (n0 := 1) (ci := 10) C (ct_sbSet0 (xL x) g h sz s vb cap f ml ct hs hv hlt hm hc hf) (lw_U q513 q1035 q143 q514 q38 q515) ⟨by decide, by decide +kernel⟩ rfl (by assumption) rfl dJ1_setLength_2 rfl rfl ?_
  rintro v h' sz' ⟨rfl, hh⟩ - -
  dsimp only [stk]
  refine r_return C hQ dJ1_setLength_5 ?_
  exact ⟨rfl, hh⟩
theorem ct_sbInit0 (l : Launch) (g : GG) (h : HM) (sz s : Nat) (hs : h s = some (oC 10 [.null, vI 0, vI 0, vI 0])) (hlt : s < sz) : CT l yJ0_init cJ0_init 2 none 1 1 16 [.ref s, vI 16] g h sz (fun v h' sz' => v = none ∧ sz' = sz + 1 ∧ h' = va_up (va_up h sz (some (eB g 16 (fun _ => 0)))) s (some (SBo sz 0 0))) := by
  refine CT.of (lo := [some (.ref s), some (vI 16)]) (by decide) (by simp [Value.category]) (Nat.le_of_ble_eq_true rfl) rfl ?_
  intro x h0 Q C hQ hl hni
  have hZ := C.kg.stI (z := iI 1) q123 q40 (by decide +kernel)
  refine r_aload_n (n := 1) C dJ0_init_0 rfl rfl rfl ?_
  refine r_objInit (n := 4) C q121 q71 q72 dJ0_init_1 rfl ?_
  refine r_gets (n := 7) C hZ q122 dJ0_init_4 rfl ?_
  refine r_if_eq (t := 25) (n := 10) C dJ0_init_7 (by decide) rfl (fun c_7 => ?_) (fun c_7 => ?_)
  · exact absurd c_7 (by decide)
  · refine r_aload_n (n := 11) C dJ0_init_10 rfl rfl rfl ?_
    refine r_iload_n (n := 12) C dJ0_init_11 rfl rfl rfl ?_
    refine r_newB (n := 14) (N := 16) C q144 dJ0_init_12 rfl rfl ?_
    refine r_put (n := 17) (ty := (.array .byte)) (ci := 10) (k := 0) C in_J1 tyJ1 tyJ1_ok nmJ1 rfl (by decide) q131 rfl rfl (by decide +kernel) rfl rfl dJ0_init_14 rfl ((va_up_ne _ _ (by omega)).trans hs) (Nat.le_of_ble_eq_true rfl) ?_
    refine r_aload_n (n := 18) C dJ0_init_17 rfl rfl rfl ?_
    refine r_iconst (n := 19) C dJ0_init_18 rfl ?_
    refine r_put (n := 22) (ty := .byte) (ci := 10) (k := 1) C in_J1 tyJ1 tyJ1_ok nmJ1 rfl (by decide) q132 rfl rfl (by decide +kernel) rfl rfl dJ0_init_19 rfl (va_up_self _ _ _) (Nat.le_of_ble_eq_true rfl) ?_
    refine r_goto (n := 38) C dJ0_init_22 (by decide) ?_
    refine r_return C hQ dJ0_init_38 ?_
    rw [bx_uu]
    exact ⟨rfl, rfl, rfl⟩
theorem ct_sbInit (l : Launch) (g : GG) (h : HM) (sz s : Nat) (hs : h s = some (oC 10 [.null, vI 0, vI 0, vI 0])) (hlt : s < sz) : CT l yJ1_init cJ1_init 1 none 2 1 16 [.ref s] g h sz (fun v h' sz' => v = none ∧ sz' = sz + 1 ∧ h' = va_up (va_up h sz (some (eB g 16 (fun _ => 0)))) s (some (SBo sz 0 0))) := by
  refine CT.of (lo := [some (.ref s)]) (by decide) (by simp [Value.category]) (Nat.le_of_ble_eq_true rfl) rfl ?_
  intro x h0 Q C hQ hl hni
  refine r_aload_n (n := 1) C dJ1_init_0 rfl rfl rfl ?_
  refine r_bipush (n := 3) C dJ1_init_1 (by decide) rfl ?_
  refine r_callI (n := 6) (n0 := 1) C (ct_sbInit0 (xL x) g h sz s hs hlt) q120 q38 q118 q119 rfl ⟨by decide, by decide, by decide +kernel⟩ rfl dJ1_init_3 rfl rfl ?_
  rintro v h' sz' ⟨rfl, hh⟩ - -
  dsimp only [stk]
  refine r_return C hQ dJ1_init_6 ?_
  exact ⟨rfl, hh⟩
