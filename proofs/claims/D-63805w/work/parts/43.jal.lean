/-! JDK: ArrayList of Integers of the cache, Integer -/
section VG
variable {x : XT} {g : GG} {h0 : HM} {Q : State → Prop} {h : HM} {sz cells slots pc n : Nat} {lo : List (Option Value)} {rest : List Value}
variable {cc : ByteArray} {nL : Nat} {own : String} {ret : Option FieldType} {L mc ms : Nat}
theorem r_getS (C : CX x cc nL own ret g L mc ms) {ref Cn : String} {T : u_T} {N ci i a k : Nat} {fs : List Value} {v : Value} (hin : ∀ w ∈ u_ws Cn T N, w ∈ lw_all) (hc : clA[ci]? = some (Cn, T, N)) (hk : k < N) (hw : (Cond.fieldLink own i ref (T k).2.1 (T k).2.2.1) ∈ lw_all) (hs : Cond.sameField ref (T k).1 (T k).2.1 (T k).2.2.1 ∈ lw_all) (d : decode cc pc = .ok (.getfield i, 3)) (hn : pc + 3 = n) (ha : h a = some (oC ci fs)) (hv : fs[k]? = some v)
    (kk : V x g h0 Q h sz cells slots n lo (v :: rest)) : V x g h0 Q h sz cells slots pc lo (.ref a :: rest) := by
  subst hn
  intro H locs ls hP hS hD hL
  exact va_get C.hx C.hb C.hts hin C.hown C.kg.K (hP.one ha) 0 rfl hc k hk (C.hts _ hw) (u_same (C.hts _ hs)) hv d (kk H locs ls hP hS hD hL)
theorem r_putS (C : CX x cc nL own ret g L mc ms) {ref Cn : String} {T : u_T} {N ci i a k : Nat} {fs : List Value} {v : Value} {ty : FieldType} (hin : ∀ w ∈ u_ws Cn T N, w ∈ lw_all) (ty0 : Nat → FieldType) (hty : ∀ k, k < N → parseFieldDescriptor (T k).2.2.1 = some (ty0 k)) (hnm : ∀ a, a < N → ∀ b, b < N → a ≠ b → (T a).2.1 ≠ (T b).2.1) (hc : clA[ci]? = some (Cn, T, N)) (hk : k < N) (hw : (Cond.fieldLink own i ref (T k).2.1 (T k).2.2.1) ∈ lw_all) (hs : Cond.sameField ref (T k).1 (T k).2.1 (T k).2.2.1 ∈ lw_all) (hfin : (T k).2.2.2 = false) (hd : parseFieldDescriptor (T k).2.2.1 = some ty) (hna : narrow ty v = v) (hfit : fits ty v = true) (d : decode cc pc = .ok (.putfield i, 3)) (hn : pc + 3 = n) (ha : h a = some (oC ci fs)) (hl : k < fs.length)
    (kk : V x g h0 Q (va_up h a (some (oC ci (fs.set k v)))) sz cells slots n lo rest) : V x g h0 Q h sz cells slots pc lo (v :: .ref a :: rest) := by
  subst hn
  intro H locs ls hP hS hD hL
  have hK := C.kg.K
  have hap := va_apart (own := own) C.hts hin ty0 hty hnm hK hc
  obtain ⟨r, h1, cell, q1, q2, q3, q4⟩ := (hP.2.2.2 a _ ha).2
  have hr : r = (Cn, T, N) := Option.some.inj (h1.symm.trans hc)
  subst hr
  obtain ⟨hS2, hfc, kC, hkC, hkind⟩ := hK.1 ci _ hc
  obtain ⟨cf, kf, fi, f, hi, hsl⟩ := hS2 k hk
  have hlay := C.hts _ (hin _ (u_in_lay hk))
  unfold u_lay at hlay
  rw [if_neg (by rw [hfin]; decide)] at hlay
  have hst := (u_facts hfc hkC (u_lays C.hts hin hk) hi).1
  have h6 := u_store hfc hkC hkind hlay hi hd hna hfit
  refine W.putK C.hx C.hb (f := f) ⟨C.hown, C.hts _ hw, ⟨_, _, _, u_same (C.hts _ hs) _ hi⟩, hst⟩ (by rw [q2]; exact h6) q1 q3 (by rw [hsl]; exact k2_hasslot (q4 k hk)) rfl rfl d fun H' e1 e2 e3 => ?_
  rw [hsl] at e1 ⊢
  exact put_end hP hS hD hL ha kk e2 e3 ⟨_, hc, t_OB.to (V := updV (vp_V fs) k v) ⟨_, e1, q2, q3, t_set q4 hap hk v⟩ (fun j _ => vp_updV_set hl v j)⟩ (hS.put e2 e3 (hD a (by rw [ha]; simp)))
end VG
abbrev ALo (m : Int) (ed : Nat) (n : Int) : va_E := oC 11 [vI m, .ref ed, vI n]
/-- the list's array: the empty list's constant, or an array of cap places -/
def ED (g : GG) (h : HM) (ed cap : Nat) (f : Nat → Option Nat) : Prop := (ed = kc g 0 ∧ cap = 0) ∨ (0 < cap ∧ h ed = some (eO g cap f))
theorem ct_valueOf (l : Launch) (g : GG) (h : HM) (sz : Nat) (z : Int) (hz : 0 ≤ z ∧ z < 128) : RT l yJ14_valueOf cJ14_valueOf 1 (some (.object "java/lang/Integer")) 0 [vI z] g h sz (fun v => v = some (.ref (kc g (138 + z.toNat)))) := by
  refine CT.of (lo := [some (vI z)]) (by decide) (by simp [Value.category]) (Nat.le_of_ble_eq_true rfl) rfl ?_
  intro x h0 Q C hQ hl hni
  have hZ := C.kg.stI (z := iI 127) q686 q63 (by decide +kernel)
  obtain ⟨c1, c2, c3⟩ := C.kg.cache
  refine r_iload_n (n := 1) C dJ14_valueOf_0 rfl rfl rfl ?_
  refine r_bipush (n := 3) C dJ14_valueOf_1 (by decide) rfl ?_
  refine r_icmp_lt (t := 23) (n := 6) C dJ14_valueOf_3 (by decide) rfl (fun c_3 => ?_) (fun c_3 => ?_)
  · omega
  · refine r_iload_n (n := 7) C dJ14_valueOf_6 rfl rfl rfl ?_
    refine r_gets (n := 10) C hZ q685 dJ14_valueOf_7 rfl ?_
    refine r_icmp_gt (t := 23) (n := 13) C dJ14_valueOf_10 (by decide) rfl (fun c_10 => ?_) (fun c_10 => ?_)
    · omega
    · refine r_gets (n := 16) C c1 q687 dJ14_valueOf_13 rfl ?_
      refine r_iload_n (n := 17) C dJ14_valueOf_16 rfl rfl rfl ?_
      refine r_sipush (n := 20) C dJ14_valueOf_17 (by decide) rfl ?_
      refine r_iadd (n := 21) C dJ14_valueOf_20 rfl ?_
      refine r_aaloadK (n := 22) C c2 (v := .ref (kc g (138 + z.toNat))) (by show Value.ref (kc g (10 + _)) = _; congr 2; omega) dJ14_valueOf_21 rfl ?_
      refine r_areturn C hQ (Or.inl ⟨_, rfl⟩) (Or.inr ⟨_, rfl⟩) dJ14_valueOf_22 ?_
      exact ⟨rfl, rfl, rfl⟩
theorem ct_intValue (l : Launch) (g : GG) (h : HM) (sz k : Nat) (hk : k < 128) : RT l yJ14_intValue cJ14_intValue 1 (some .int) 0 [.ref (kc g (138 + k))] g h sz (fun v => v = some (vI k)) := by
  refine CT.of (lo := [some (.ref (kc g (138 + k)))]) (by decide) (by simp [Value.category]) (Nat.le_of_ble_eq_true rfl) rfl ?_
  intro x h0 Q C hQ hl hni
  obtain ⟨c1, c2, c3⟩ := C.kg.cache
  have c4 := (c3 (128 + k) (by omega)).2
  rw [show 10 + (128 + k) = 138 + k by omega, show ((128 + k : Nat) : Int) - 128 = k by omega] at c4
  refine r_aload_n (n := 1) C dJ14_intValue_0 rfl rfl rfl ?_
  refine r_getK (n := 4) C c4 q698 dJ14_intValue_1 rfl ?_
  refine r_ireturn C hQ dJ14_intValue_4 ?_
  exact ⟨rfl, rfl, rfl⟩
theorem ct_alSize (l : Launch) (g : GG) (h : HM) (sz a ed : Nat) (m n : Int) (ha : h a = some (ALo m ed n)) : RT l yJ7_size cJ7_size 1 (some .int) 0 [.ref a] g h sz (fun v => v = some (vI n)) := by
  refine CT.of (lo := [some (.ref a)]) (by decide) (by simp [Value.category]) (Nat.le_of_ble_eq_true rfl) rfl ?_
  intro x h0 Q C hQ hl hni
  refine r_aload_n (n := 1) C dJ7_size_0 rfl rfl rfl ?_
  refine r_get (n := 4) (ci := 11) (k := 2) C in_J7 rfl (by decide) q217 rfl dJ7_size_1 rfl (by assumption) rfl ?_
  refine r_ireturn C hQ dJ7_size_4 ?_
  exact ⟨rfl, rfl, rfl⟩
theorem ct_alEl (l : Launch) (g : GG) (h : HM) (sz a ed cap : Nat) (m n i : Int) (f : Nat → Option Nat) (ha : h a = some (ALo m ed n)) (he : h ed = some (eO g cap f)) (hi : 0 ≤ i ∧ i < cap ∧ cap < 100000) : RT l yJ7_elementData cJ7_elementData 2 (some (.object "java/lang/Object")) 0 [.ref a, vI i] g h sz (fun v => v = some (va_rf (f i.toNat))) := by
  refine CT.of (lo := [some (.ref a), some (vI i)]) (by decide) (by simp [Value.category]) (Nat.le_of_ble_eq_true rfl) rfl ?_
  intro x h0 Q C hQ hl hni
  refine r_aload_n (n := 1) C dJ7_elementData_0 rfl rfl rfl ?_
  refine r_get (n := 4) (ci := 11) (k := 1) C in_J7 rfl (by decide) q216 rfl dJ7_elementData_1 rfl (by assumption) rfl ?_
  refine r_iload_n (n := 5) C dJ7_elementData_4 rfl rfl rfl ?_
  refine r_aaload3 (n := 6) C dJ7_elementData_5 rfl (by assumption) rfl ?_
  refine r_areturn C hQ (Or.inl ⟨_, rfl⟩) (by cases f i.toNat <;> simp [va_rf]) dJ7_elementData_6 ?_
  exact ⟨rfl, rfl, rfl⟩
theorem ct_alGet (l : Launch) (g : GG) (h : HM) (sz a ed cap : Nat) (m n i : Int) (f : Nat → Option Nat) (ha : h a = some (ALo m ed n)) (he : h ed = some (eO g cap f)) (hi : 0 ≤ i ∧ i < n ∧ n ≤ cap ∧ cap < 100000) : RT l yJ7_get cJ7_get 2 (some (.object "java/lang/Object")) 2 [.ref a, vI i] g h sz (fun v => v = some (va_rf (f i.toNat))) := by
  refine CT.of (lo := [some (.ref a), some (vI i)]) (by decide) (by simp [Value.category]) (Nat.le_of_ble_eq_true rfl) rfl ?_
  intro x h0 Q C hQ hl hni
  refine r_iload_n (n := 1) C dJ7_get_0 rfl rfl rfl ?_
  refine r_aload_n (n := 2) C dJ7_get_1 rfl rfl rfl ?_
  refine r_get (n := 5) (ci := 11) (k := 2) C in_J7 rfl (by decide) q217 rfl dJ7_get_2 rfl (by assumption) rfl ?_
  refine r_callS (n := 8) (n0 := 2) C (ct_chkO (xL x) g h sz i n (by omega)) (lw_S q757 q758 q64 q759) ⟨by decide, by decide, by decide +kernel⟩ rfl dJ7_get_5 rfl rfl ?_
  rintro v h' sz' ⟨rfl, rfl, rfl⟩ - -
  dsimp only [stk]
  refine r_pop (n := 9) C dJ7_get_8 rfl rfl ?_
  refine r_aload_n (n := 10) C dJ7_get_9 rfl rfl rfl ?_
  refine r_iload_n (n := 11) C dJ7_get_10 rfl rfl rfl ?_
  refine r_callV (n := 14) (n0 := 1) (ci := 11) C (ct_alEl (xL x) g h sz a ed cap m n i f ha he (by omega)) (lw_V q761 q762 q763 q47 q764) ⟨by decide, by decide, by decide +kernel⟩ rfl (by assumption) rfl dJ7_get_11 rfl rfl ?_
  rintro v h' sz' ⟨rfl, rfl, rfl⟩ - -
  dsimp only [stk]
  refine r_areturn C hQ (Or.inl ⟨_, rfl⟩) (by cases f i.toNat <;> simp [va_rf]) dJ7_get_14 ?_
  exact ⟨rfl, rfl, rfl⟩
theorem ct_copyO3 (l : Launch) (g : GG) (h : HM) (sz a N M : Nat) (f : Nat → Option Nat) (ha : h a = some (eO g N f)) (hlt : a < sz) (hM : M ≤ 300 ∧ N < M) (hf : ∀ j : Nat, j < N → ∃ k, k < 256 ∧ f j = some (kc g (10 + k))) : CT l yJ10_copyOf_3 cJ10_copyOf_3 4 (some (.array (.object "java/lang/Object"))) 1 1 300 [.ref a, vI M, .ref (kc g 5)] g h sz (fun v h' sz' => v = some (.ref sz) ∧ sz' = sz + 1 ∧ h' = va_up h sz (some (eO g M (fun j => if j < N then f j else none)))) := by
  refine CT.of (lo := [some (.ref a), some (vI M), some (.ref (kc g 5)), none]) (by decide) (by simp [Value.category]) (Nat.le_of_ble_eq_true rfl) rfl ?_
  intro x h0 Q C hQ hl hni
  have hmi := C.kg.mi
  refine r_aload_n (n := 1) C dJ10_copyOf_3_0 rfl rfl rfl ?_
  refine r_ldcM (n := 3) C q743 hmi dJ10_copyOf_3_1 rfl ?_
  refine r_acmp_ne (ra := some (kc g 5)) (rb := some (kc g 5)) (t := 13) (n := 6) C dJ10_copyOf_3_3 (by decide) rfl (fun e => absurd rfl e) (fun _ => ?_)
  refine r_iload_n (n := 7) C dJ10_copyOf_3_6 rfl rfl rfl ?_
  refine r_anewO (n := 10) (N := M) C q745 q744 dJ10_copyOf_3_7 rfl rfl ?_
  refine r_goto (n := 24) C dJ10_copyOf_3_10 (by decide) ?_
  refine r_astore_n (n := 25) C dJ10_copyOf_3_24 rfl rfl ?_
  refine r_aload_n (n := 26) C dJ10_copyOf_3_25 rfl rfl rfl ?_
  refine r_iconst (n := 27) C dJ10_copyOf_3_26 rfl ?_
  refine r_aload_n (n := 28) C dJ10_copyOf_3_27 rfl rfl rfl ?_
  refine r_iconst (n := 29) C dJ10_copyOf_3_28 rfl ?_
  refine r_aload_n (n := 30) C dJ10_copyOf_3_29 rfl rfl rfl ?_
  refine r_alenO (n := 31) C dJ10_copyOf_3_30 rfl ((va_up_ne _ _ (by omega)).trans ha) ?_
  refine r_iload_n (n := 32) C dJ10_copyOf_3_31 rfl rfl rfl ?_
  refine r_mmin (n := 35) C q321 q322 q50 q323 dJ10_copyOf_3_32 rfl ?_
  refine r_copyO (n := 38) (Cn := "java/lang/Integer") C q324 q326 q325 q52 q1050 dJ10_copyOf_3_35 rfl ((va_up_ne _ _ (by omega)).trans ha) (va_up_self _ _ _) (fun j hj y hy => ?_) (by omega) ?_
  · obtain ⟨k, hk, e⟩ := hf j (by omega)
    have e2 : kc g (10 + k) = y := Option.some.inj (e.symm.trans hy)
    rw [← e2]
    exact (C.kg.cache.2.2 k hk).1
  refine r_aload_n (n := 39) C dJ10_copyOf_3_38 rfl rfl rfl ?_
  refine r_areturn C hQ (Or.inr ⟨_, rfl⟩) (Or.inr ⟨_, rfl⟩) dJ10_copyOf_3_39 ?_
  refine ⟨rfl, rfl, ?_⟩
  rw [bx_uu]
  congr 6
  funext j
  by_cases hj : j < N
  · rw [if_pos hj, if_pos (by omega)]
  · rw [if_neg hj, if_neg (by omega)]
theorem ct_copyO2 (l : Launch) (g : GG) (h : HM) (sz a N M : Nat) (f : Nat → Option Nat) (ha : h a = some (eO g N f)) (hlt : a < sz) (hM : M ≤ 300 ∧ N < M) (hf : ∀ j : Nat, j < N → ∃ k, k < 256 ∧ f j = some (kc g (10 + k))) : CT l yJ10_copyOf_2 cJ10_copyOf_2 2 (some (.array (.object "java/lang/Object"))) 2 1 300 [.ref a, vI M] g h sz (fun v h' sz' => v = some (.ref sz) ∧ sz' = sz + 1 ∧ h' = va_up h sz (some (eO g M (fun j => if j < N then f j else none)))) := by
  refine CT.of (lo := [some (.ref a), some (vI M)]) (by decide) (by simp [Value.category]) (Nat.le_of_ble_eq_true rfl) rfl ?_
  intro x h0 Q C hQ hl hni
  have hmi := C.kg.mi
  refine r_aload_n (n := 1) C dJ10_copyOf_2_0 rfl rfl rfl ?_
  refine r_iload_n (n := 2) C dJ10_copyOf_2_1 rfl rfl rfl ?_
  refine r_aload_n (n := 3) C dJ10_copyOf_2_2 rfl rfl rfl ?_
  refine r_getClassO (n := 6) C q722 q1053 q1052 q723 q739 hmi dJ10_copyOf_2_3 rfl ha ?_
  refine r_callS (n := 9) (n0 := 3) C (ct_copyO3 (xL x) g h sz a N M f ha hlt hM hf) (lw_S q740 q741 q51 q742) ⟨by decide, by decide, by decide +kernel⟩ rfl dJ10_copyOf_2_6 rfl rfl ?_
  rintro v h' sz' ⟨rfl, rfl, rfl⟩ - -
  dsimp only [stk]
  refine r_areturn C hQ (Or.inr ⟨_, rfl⟩) (Or.inr ⟨_, rfl⟩) dJ10_copyOf_2_9 ?_
  exact ⟨rfl, rfl, rfl⟩
theorem zshr1 {n : Nat} (h : n < 128) : 0 ≤ zshr n 1 ∧ zshr n 1 ≤ n := by
  have key : ∀ n : Fin 128, 0 ≤ zshr ((n : Nat) : Int) 1 ∧ zshr ((n : Nat) : Int) 1 ≤ ((n : Nat) : Int) := by decide +kernel
  exact key ⟨n, h⟩
def ALg (g : GG) (h : HM) (sz a : Nat) (m n : Int) (cap : Nat) (f : Nat → Option Nat) (h' : HM) (sz' : Nat) : Prop := ∃ (M : Nat) (f' : Nat → Option Nat), sz' = sz + 1 ∧ cap < M ∧ M ≤ 300 ∧ h' = va_up (va_up h sz (some (eO g M f'))) a (some (ALo m sz n)) ∧ ∀ j, j < cap → f' j = f j
theorem ct_alGrow2 (l : Launch) (g : GG) (h : HM) (sz a ed cap : Nat) (m n : Int) (f : Nat → Option Nat) (ha : h a = some (ALo m ed n)) (he : ED g h ed cap f) (hlt : a < sz ∧ (h ed = some (eO g cap f) → ed < sz)) (hc : n = cap ∧ cap ≤ 100) (hf : ∀ j : Nat, j < cap → ∃ k, k < 256 ∧ f j = some (kc g (10 + k))) : CT l yJ7_grow_2 cJ7_grow_2 4 (some (.array (.object "java/lang/Object"))) 3 1 300 [.ref a, vI (n + 1)] g h sz (fun v h' sz' => v = some (.ref sz) ∧ ALg g h sz a m n cap f h' sz') := by
  obtain ⟨hc1, hc2⟩ := hc
  refine CT.of (lo := [some (.ref a), some (vI (n + 1)), none, none]) (by decide) (by simp [Value.category]) (Nat.le_of_ble_eq_true rfl) rfl ?_
  intro x h0 Q C hQ hl hni
  have hd := C.kg.dft
  have k20 : h ed = some (eO g cap f) → V x g h0 Q h sz 0 0 20 [some (.ref a), some (vI (n + 1)), some (vI cap), none] [] := by
    intro he
    have z1 := zshr1 (n := cap) (by omega)
    refine r_iload_n (n := 21) C dJ7_grow_2_20 rfl rfl rfl ?_
    refine r_iload_n (n := 22) C dJ7_grow_2_21 rfl rfl rfl ?_
    refine r_iload_n (n := 23) C dJ7_grow_2_22 rfl rfl rfl ?_
    refine r_isub (n := 24) C dJ7_grow_2_23 rfl ?_
    refine r_iload_n (n := 25) C dJ7_grow_2_24 rfl rfl rfl ?_
    refine r_iconst (n := 26) C dJ7_grow_2_25 rfl ?_
    refine r_ishr (n := 27) C dJ7_grow_2_26 rfl ?_
    refine r_callS (n := 30) (n0 := 3) C (ct_newLen (xL x) g h sz cap (n + 1 - cap) (zshr cap 1) (by omega) (by omega) (by omega)) (lw_S q718 q301 q49 q302) ⟨by decide, by decide, by decide +kernel⟩ rfl dJ7_grow_2_27 rfl rfl ?_
    rintro v h' sz' ⟨rfl, rfl, rfl⟩ - -
    dsimp only [stk]
    refine r_istore_n (n := 31) C dJ7_grow_2_30 rfl rfl ?_
    obtain ⟨M, hM⟩ : ∃ M : Nat, (cap : Int) + max (n + 1 - cap) (zshr cap 1) = (M : Int) := ⟨((cap : Int) + max (n + 1 - cap) (zshr cap 1)).toNat, by omega⟩
    rw [hM]
    refine r_aload_n (n := 32) C dJ7_grow_2_31 rfl rfl rfl ?_
    refine r_aload_n (n := 33) C dJ7_grow_2_32 rfl rfl rfl ?_
    refine r_get (n := 36) (ci := 11) (k := 1) C in_J7 rfl (by decide) q216 rfl dJ7_grow_2_33 rfl (by assumption) rfl ?_
    refine r_iload_n (n := 37) C dJ7_grow_2_36 rfl rfl rfl ?_
    refine r_callS (n := 40) (n0 := 2) C (ct_copyO2 (xL x) g h sz ed cap M f he (hlt.2 he) (by omega) hf) (lw_S q719 q720 q51 q721) ⟨by decide, by decide, by decide +kernel⟩ rfl dJ7_grow_2_37 rfl rfl ?_
    rintro v h' sz' ⟨rfl, rfl, rfl⟩ - -
    dsimp only [stk]
    refine r_dup_x1 (n := 41) C dJ7_grow_2_40 rfl rfl rfl ?_
    refine r_put (n := 44) (ty := (.array (.object "java/lang/Object"))) (ci := 11) (k := 1) C in_J7 tyJ7 tyJ7_ok nmJ7 rfl (by decide) q216 rfl rfl (by decide +kernel) rfl rfl dJ7_grow_2_41 rfl ((va_up_ne _ _ (by omega)).trans ha) (Nat.le_of_ble_eq_true rfl) ?_
    refine r_areturn C hQ (Or.inr ⟨_, rfl⟩) (Or.inr ⟨_, rfl⟩) dJ7_grow_2_44 ?_
    exact ⟨rfl, M, _, rfl, by omega, by omega, rfl, fun j hj => by rw [if_pos hj]⟩
  rcases he with ⟨rfl, rfl⟩ | ⟨hcp, he⟩
  · skip
    refine r_aload_n (n := 1) C dJ7_grow_2_0 rfl rfl rfl ?_
    refine r_get (n := 4) (ci := 11) (k := 1) C in_J7 rfl (by decide) q216 rfl dJ7_grow_2_1 rfl (by assumption) rfl ?_
    refine r_alenK (n := 5) C hd.2 dJ7_grow_2_4 rfl ?_
    refine r_istore_n (n := 6) C dJ7_grow_2_5 rfl rfl ?_
    refine r_iload_n (n := 7) C dJ7_grow_2_6 rfl rfl rfl ?_
    refine r_if_gt (t := 20) (n := 10) C dJ7_grow_2_7 (by decide) rfl (fun c_7 => ?_) (fun c_7 => ?_)
    · omega
    · refine r_aload_n (n := 11) C dJ7_grow_2_10 rfl rfl rfl ?_
      refine r_get (n := 14) (ci := 11) (k := 1) C in_J7 rfl (by decide) q216 rfl dJ7_grow_2_11 rfl (by assumption) rfl ?_
      refine r_gets (n := 17) C hd.1 q214 dJ7_grow_2_14 rfl ?_
      refine r_acmp_eq (ra := some (kc g 0)) (rb := some (kc g 0)) (t := 45) (n := 20) C dJ7_grow_2_17 (by decide) rfl (fun _ => ?_) (fun e => absurd rfl e)
      refine r_aload_n (n := 46) C dJ7_grow_2_45 rfl rfl rfl ?_
      refine r_bipush (n := 48) C dJ7_grow_2_46 (by decide) rfl ?_
      refine r_iload_n (n := 49) C dJ7_grow_2_48 rfl rfl rfl ?_
      refine r_mmax (n := 52) C q746 q304 q50 q305 dJ7_grow_2_49 rfl ?_
      refine r_anewO (n := 55) (N := 10) C q747 q744 dJ7_grow_2_52 rfl (by omega) ?_
      refine r_dup_x1 (n := 56) C dJ7_grow_2_55 rfl rfl rfl ?_
      refine r_put (n := 59) (ty := (.array (.object "java/lang/Object"))) (ci := 11) (k := 1) C in_J7 tyJ7 tyJ7_ok nmJ7 rfl (by decide) q216 rfl rfl (by decide +kernel) rfl rfl dJ7_grow_2_56 rfl ((va_up_ne _ _ (by omega)).trans ha) (Nat.le_of_ble_eq_true rfl) ?_
      refine r_areturn C hQ (Or.inr ⟨_, rfl⟩) (Or.inr ⟨_, rfl⟩) dJ7_grow_2_59 ?_
      exact ⟨rfl, 10, _, rfl, by omega, by omega, rfl, fun j hj => by omega⟩
  · skip
    refine r_aload_n (n := 1) C dJ7_grow_2_0 rfl rfl rfl ?_
    refine r_get (n := 4) (ci := 11) (k := 1) C in_J7 rfl (by decide) q216 rfl dJ7_grow_2_1 rfl (by assumption) rfl ?_
    refine r_alenO (n := 5) C dJ7_grow_2_4 rfl (by assumption) ?_
    refine r_istore_n (n := 6) C dJ7_grow_2_5 rfl rfl ?_
    refine r_iload_n (n := 7) C dJ7_grow_2_6 rfl rfl rfl ?_
    refine r_if_gt (t := 20) (n := 10) C dJ7_grow_2_7 (by decide) rfl (fun c_7 => ?_) (fun c_7 => ?_)
    · exact k20 he
    · omega
theorem ct_alGrow (l : Launch) (g : GG) (h : HM) (sz a ed cap : Nat) (m n : Int) (f : Nat → Option Nat) (ha : h a = some (ALo m ed n)) (he : ED g h ed cap f) (hlt : a < sz ∧ (h ed = some (eO g cap f) → ed < sz)) (hc : n = cap ∧ cap ≤ 100) (hf : ∀ j : Nat, j < cap → ∃ k, k < 256 ∧ f j = some (kc g (10 + k))) : CT l yJ7_grow cJ7_grow 1 (some (.array (.object "java/lang/Object"))) 4 1 300 [.ref a] g h sz (fun v h' sz' => v = some (.ref sz) ∧ ALg g h sz a m n cap f h' sz') := by
  refine CT.of (lo := [some (.ref a)]) (by decide) (by simp [Value.category]) (Nat.le_of_ble_eq_true rfl) rfl ?_
  intro x h0 Q C hQ hl hni
  refine r_aload_n (n := 1) C dJ7_grow_0 rfl rfl rfl ?_
  refine r_aload_n (n := 2) C dJ7_grow_1 rfl rfl rfl ?_
  refine r_get (n := 5) (ci := 11) (k := 2) C in_J7 rfl (by decide) q217 rfl dJ7_grow_2 rfl (by assumption) rfl ?_
  refine r_iconst (n := 6) C dJ7_grow_5 rfl ?_
  refine r_iadd (n := 7) C dJ7_grow_6 rfl ?_
  refine r_callV (n := 10) (n0 := 1) (ci := 11) C (ct_alGrow2 (xL x) g h sz a ed cap m n f ha he hlt hc hf) (lw_V q714 q716 qs13 q47 q717) ⟨by decide, by decide, by decide +kernel⟩ rfl (by assumption) rfl dJ7_grow_7 rfl rfl ?_
  rintro v h' sz' ⟨rfl, hh⟩ - -
  dsimp only [stk]
  refine r_areturn C hQ (Or.inr ⟨_, rfl⟩) (Or.inr ⟨_, rfl⟩) dJ7_grow_10 ?_
  exact ⟨rfl, hh⟩
/-- the list behind an add -/
def ALa (g : GG) (h : HM) (sz a ed : Nat) (m n : Int) (cap y : Nat) (f : Nat → Option Nat) (h' : HM) (sz' : Nat) : Prop := ∃ (ed' cap' : Nat) (f' : Nat → Option Nat), h' = va_up (va_up h ed' (some (eO g cap' f'))) a (some (ALo m ed' (n + 1))) ∧ ((ed' = ed ∧ sz' = sz ∧ cap' = cap ∧ h ed = some (eO g cap f)) ∨ (ed' = sz ∧ sz' = sz + 1 ∧ n = cap)) ∧ n < cap' ∧ cap' ≤ 300 ∧ (∀ j : Nat, (j : Int) < n → f' j = f j) ∧ f' n.toNat = some y
theorem ct_alAdd2 (l : Launch) (g : GG) (h : HM) (sz a ed cap k : Nat) (m n : Int) (f : Nat → Option Nat) (ha : h a = some (ALo m ed n)) (he : ED g h ed cap f) (hlt : a < sz ∧ (h ed = some (eO g cap f) → ed < sz)) (hc : 0 ≤ n ∧ n ≤ cap ∧ n ≤ 100 ∧ cap ≤ 300) (hk : k < 256) (hf : ∀ j : Nat, (j : Int) < n → ∃ k, k < 256 ∧ f j = some (kc g (10 + k))) : CT l yJ7_add_2 cJ7_add_2 4 none 5 1 300 [.ref a, .ref (kc g (10 + k)), .ref ed, vI n] g h sz (fun v h' sz' => v = none ∧ ALa g h sz a ed m n cap (kc g (10 + k)) f h' sz') := by
  refine CT.of (lo := [some (.ref a), some (.ref (kc g (10 + k))), some (.ref ed), some (vI n)]) (by decide) (by simp [Value.category]) (Nat.le_of_ble_eq_true rfl) rfl ?_
  intro x h0 Q C hQ hl hni
  have hbx := (C.kg.cache.2.2 k hk).1
  have k11 : ∀ (h1 : HM) (sz1 ed1 cap1 c9 s9 : Nat) (f1 : Nat → Option Nat), c9 ≤ 1 → s9 ≤ 300 → h1 a = some (ALo m ed1 n) → h1 ed1 = some (eO g cap1 f1) → n < cap1 → cap1 ≤ 300 → (∀ j : Nat, (j : Int) < n → f1 j = f j) → ((ed1 = ed ∧ sz1 = sz ∧ cap1 = cap ∧ h ed = some (eO g cap f)) ∨ (ed1 = sz ∧ sz1 = sz + 1 ∧ n = cap)) → (∀ e1 e2, va_up (va_up h1 ed1 e1) a e2 = va_up (va_up h ed1 e1) a e2) → V x g h0 Q h1 sz1 c9 s9 11 [some (.ref a), some (.ref (kc g (10 + k))), some (.ref ed1), some (vI n)] [] := by
    intro h1 sz1 ed1 cap1 c9 s9 f1 hc9 hs9 ha1 he1 hn hcap hff hor hup
    have hne : a ≠ ed1 := fun e => by rw [e, he1] at ha1; cases ha1
    refine r_aload_n (n := 12) C dJ7_add_2_11 rfl rfl rfl ?_
    refine r_iload_n (n := 13) C dJ7_add_2_12 rfl rfl rfl ?_
    refine r_aload_n (n := 14) C dJ7_add_2_13 rfl rfl rfl ?_
    refine r_aastoreK (n := 15) (Cn := "java/lang/Integer") C hbx q1050 dJ7_add_2_14 rfl he1 ?_
    refine r_aload_n (n := 16) C dJ7_add_2_15 rfl rfl rfl ?_
    refine r_iload_n (n := 17) C dJ7_add_2_16 rfl rfl rfl ?_
    refine r_iconst (n := 18) C dJ7_add_2_17 rfl ?_
    refine r_iadd (n := 19) C dJ7_add_2_18 rfl ?_
    refine r_put (n := 22) (ty := .int) (ci := 11) (k := 2) C in_J7 tyJ7 tyJ7_ok nmJ7 rfl (by decide) q217 rfl rfl (by decide +kernel) rfl rfl dJ7_add_2_19 rfl ((va_up_ne _ _ hne).trans ha1) (Nat.le_of_ble_eq_true rfl) ?_
    refine r_return C hQ dJ7_add_2_22 ?_
    refine ⟨rfl, ed1, cap1, _, hup _ _, hor, hn, hcap, fun j hj => ?_, va_up_self _ _ _⟩
    rw [va_up_ne _ _ (by omega)]
    exact hff j hj
  have grow : n = cap → V x g h0 Q h sz 0 0 6 [some (.ref a), some (.ref (kc g (10 + k))), some (.ref ed), some (vI n)] [] := by
    intro hnc
    refine r_aload_n (n := 7) C dJ7_add_2_6 rfl rfl rfl ?_
    refine r_callV (n := 10) (n0 := 0) (ci := 11) C (ct_alGrow (xL x) g h sz a ed cap m n f ha he hlt (by omega) (fun j hj => hf j (by omega))) (lw_V q710 q712 qs12 q47 q713) ⟨by decide, by decide, by decide +kernel⟩ rfl (by assumption) rfl dJ7_add_2_7 rfl rfl ?_
    rintro v h' sz' ⟨rfl, M, f1, rfl, g1, g2, rfl, g3⟩ - -
    dsimp only [stk]
    refine r_astore_n (n := 11) C dJ7_add_2_10 rfl rfl ?_
    skip
    refine k11 _ _ sz M _ _ f1 (by omega) (by omega) (va_up_self _ _ _) ((va_up_ne _ _ (by omega)).trans (va_up_self _ _ _)) (by omega) g2 (fun j hj => g3 j (by omega)) (Or.inr ⟨rfl, rfl, hnc⟩) (fun e1 e2 => ?_)
    funext q
    by_cases hq : q = a
    · subst hq
      rw [va_up_self, va_up_self]
    · rw [va_up_ne _ _ hq, va_up_ne _ _ hq]
      by_cases hq2 : q = sz
      · subst hq2
        rw [va_up_self, va_up_self]
      · rw [va_up_ne _ _ hq2, va_up_ne _ _ hq2, va_up_ne _ _ hq, va_up_ne _ _ hq2]
  have hd := C.kg.dft
  rcases he with ⟨h1, h2⟩ | ⟨hcp, he⟩
  · subst h1 h2
    refine r_iload_n (n := 1) C dJ7_add_2_0 rfl rfl rfl ?_
    refine r_aload_n (n := 2) C dJ7_add_2_1 rfl rfl rfl ?_
    refine r_alenK (n := 3) C hd.2 dJ7_add_2_2 rfl ?_
    refine r_icmp_ne (t := 11) (n := 6) C dJ7_add_2_3 (by decide) rfl (fun c_3 => ?_) (fun c_3 => ?_)
    · omega
    · exact grow (by omega)
  · skip
    refine r_iload_n (n := 1) C dJ7_add_2_0 rfl rfl rfl ?_
    refine r_aload_n (n := 2) C dJ7_add_2_1 rfl rfl rfl ?_
    refine r_alenO (n := 3) C dJ7_add_2_2 rfl (by assumption) ?_
    refine r_icmp_ne (t := 11) (n := 6) C dJ7_add_2_3 (by decide) rfl (fun c_3 => ?_) (fun c_3 => ?_)
    · exact k11 h sz ed cap 0 0 f (by omega) (by omega) ha he (by omega) (by omega) (fun _ _ => rfl) (Or.inl ⟨rfl, rfl, rfl, he⟩) (fun _ _ => rfl)
    · exact grow (by omega)
theorem ct_alAdd (l : Launch) (g : GG) (h : HM) (sz a ed cap k : Nat) (m n : Int) (f : Nat → Option Nat) (ha : h a = some (ALo m ed n)) (he : ED g h ed cap f) (hlt : a < sz ∧ (h ed = some (eO g cap f) → ed < sz)) (hc : 0 ≤ n ∧ n ≤ cap ∧ n ≤ 100 ∧ cap ≤ 300) (hk : k < 256) (hf : ∀ j : Nat, (j : Int) < n → ∃ k, k < 256 ∧ f j = some (kc g (10 + k))) : CT l yJ7_add cJ7_add 2 (some .boolean) 6 1 300 [.ref a, .ref (kc g (10 + k))] g h sz (fun v h' sz' => v = some (vI 1) ∧ ∃ m', ALa g h sz a ed m' n cap (kc g (10 + k)) f h' sz') := by
  refine CT.of (lo := [some (.ref a), some (.ref (kc g (10 + k)))]) (by decide) (by simp [Value.category]) (Nat.le_of_ble_eq_true rfl) rfl ?_
  intro x h0 Q C hQ hl hni
  have hne : h ed = some (eO g cap f) → ed ≠ a := fun e e2 => by rw [e2, ha] at e; cases e
  have hed : va_up h a (some (ALo (m + 1) ed n)) ed = some (eO g cap f) → h ed = some (eO g cap f) := by
    intro e
    by_cases e9 : ed = a
    · rw [e9, va_up_self] at e
      cases e
    · rwa [va_up_ne _ _ e9] at e
  refine r_aload_n (n := 1) C dJ7_add_0 rfl rfl rfl ?_
  refine r_dup (n := 2) C dJ7_add_1 rfl rfl ?_
  refine r_getS (n := 5) (ci := 11) (k := 0) C in_J7 rfl (by decide) q219 q220 dJ7_add_2 rfl (by assumption) rfl ?_
  refine r_iconst (n := 6) C dJ7_add_5 rfl ?_
  refine r_iadd (n := 7) C dJ7_add_6 rfl ?_
  refine r_putS (n := 10) (ty := .int) (ci := 11) (k := 0) C in_J7 tyJ7 tyJ7_ok nmJ7 rfl (by decide) q219 q220 rfl (by decide +kernel) rfl rfl dJ7_add_7 rfl (by assumption) (Nat.le_of_ble_eq_true rfl) ?_
  refine r_aload_n (n := 11) C dJ7_add_10 rfl rfl rfl ?_
  refine r_aload_n (n := 12) C dJ7_add_11 rfl rfl rfl ?_
  refine r_aload_n (n := 13) C dJ7_add_12 rfl rfl rfl ?_
  refine r_get (n := 16) (ci := 11) (k := 1) C in_J7 rfl (by decide) q216 rfl dJ7_add_13 rfl (va_up_self _ _ _) rfl ?_
  refine r_aload_n (n := 17) C dJ7_add_16 rfl rfl rfl ?_
  refine r_get (n := 20) (ci := 11) (k := 2) C in_J7 rfl (by decide) q217 rfl dJ7_add_17 rfl (va_up_self _ _ _) rfl ?_
  refine r_callV (n := 23) (n0 := 3) (ci := 11) C (ct_alAdd2 (xL x) g (va_up h a (some (ALo (m + 1) ed n))) sz a ed cap k (m + 1) n f (va_up_self _ _ _) (he.imp id (fun e => ⟨e.1, (va_up_ne _ _ (hne e.2)).trans e.2⟩)) ⟨hlt.1, fun e => hlt.2 (hed e)⟩ hc hk hf) (lw_V q706 q708 qs11 q47 q709) ⟨by decide, by decide, by decide +kernel⟩ rfl (va_up_self _ _ _) rfl dJ7_add_20 rfl rfl ?_
  rintro v h' sz' ⟨rfl, ed', cap', f', rfl, h2, h3, h4, h5, h6⟩ - -
  dsimp only [stk]
  refine r_iconst (n := 24) C dJ7_add_23 rfl ?_
  refine r_zreturn C hQ rfl dJ7_add_24 ?_
  refine ⟨rfl, m + 1, ed', cap', f', ?_, h2.imp (fun e => ⟨e.1, e.2.1, e.2.2.1, ?_⟩) id, h3, h4, h5, h6⟩
  · funext q
    by_cases hq : q = a
    · subst hq
      rw [va_up_self, va_up_self]
    · rw [va_up_ne _ _ hq, va_up_ne _ _ hq]
      by_cases hq2 : q = ed'
      · subst hq2
        rw [va_up_self, va_up_self]
      · rw [va_up_ne _ _ hq2, va_up_ne _ _ hq2, va_up_ne _ _ hq]
  · exact hed e.2.2.2
theorem ct_alClear (l : Launch) (g : GG) (h : HM) (sz a ed cap : Nat) (m n : Int) (f : Nat → Option Nat) (ha : h a = some (ALo m ed n)) (he : ED g h ed cap f) (hc : 0 ≤ n ∧ n ≤ cap ∧ cap ≤ 300) : CT l yJ7_clear cJ7_clear 4 none 0 0 0 [.ref a] g h sz (fun v h' sz' => v = none ∧ sz' = sz ∧ ∃ m', (ed = kc g 0 ∧ cap = 0 ∧ h' = va_up h a (some (ALo m' ed 0))) ∨ (0 < cap ∧ h ed = some (eO g cap f) ∧ ∃ f', h' = va_up (va_up h a (some (ALo m' ed 0))) ed (some (eO g cap f')))) := by
  refine CT.of (lo := [some (.ref a), none, none, none]) (by decide) (by simp [Value.category]) (Nat.le_of_ble_eq_true rfl) rfl ?_
  intro x h0 Q C hQ hl hni
  rcases he with ⟨h1, h2⟩ | ⟨hcp, he⟩
  · subst h1 h2
    refine r_aload_n (n := 1) C dJ7_clear_0 rfl rfl rfl ?_
    refine r_dup (n := 2) C dJ7_clear_1 rfl rfl ?_
    refine r_getS (n := 5) (ci := 11) (k := 0) C in_J7 rfl (by decide) q219 q220 dJ7_clear_2 rfl (by assumption) rfl ?_
    refine r_iconst (n := 6) C dJ7_clear_5 rfl ?_
    refine r_iadd (n := 7) C dJ7_clear_6 rfl ?_
    refine r_putS (n := 10) (ty := .int) (ci := 11) (k := 0) C in_J7 tyJ7 tyJ7_ok nmJ7 rfl (by decide) q219 q220 rfl (by decide +kernel) rfl rfl dJ7_clear_7 rfl (by assumption) (Nat.le_of_ble_eq_true rfl) ?_
    refine r_aload_n (n := 11) C dJ7_clear_10 rfl rfl rfl ?_
    refine r_get (n := 14) (ci := 11) (k := 1) C in_J7 rfl (by decide) q216 rfl dJ7_clear_11 rfl (va_up_self _ _ _) rfl ?_
    refine r_astore_n (n := 15) C dJ7_clear_14 rfl rfl ?_
    refine r_aload_n (n := 16) C dJ7_clear_15 rfl rfl rfl ?_
    refine r_get (n := 19) (ci := 11) (k := 2) C in_J7 rfl (by decide) q217 rfl dJ7_clear_16 rfl (va_up_self _ _ _) rfl ?_
    refine r_istore_n (n := 20) C dJ7_clear_19 rfl rfl ?_
    refine r_aload_n (n := 21) C dJ7_clear_20 rfl rfl rfl ?_
    refine r_iconst (n := 22) C dJ7_clear_21 rfl ?_
    refine r_dup_x1 (n := 23) C dJ7_clear_22 rfl rfl rfl ?_
    refine r_put (n := 26) (ty := .int) (ci := 11) (k := 2) C in_J7 tyJ7 tyJ7_ok nmJ7 rfl (by decide) q217 rfl rfl (by decide +kernel) rfl rfl dJ7_clear_23 rfl (va_up_self _ _ _) (Nat.le_of_ble_eq_true rfl) ?_
    refine r_istore_n (n := 27) C dJ7_clear_26 rfl rfl ?_
    refine r_iload_n (n := 28) C dJ7_clear_27 rfl rfl rfl ?_
    refine r_iload_n (n := 29) C dJ7_clear_28 rfl rfl rfl ?_
    refine r_icmp_ge (t := 42) (n := 32) C dJ7_clear_29 (by decide) rfl (fun c_29 => ?_) (fun c_29 => ?_)
    · refine r_return C hQ dJ7_clear_42 ?_
      rw [bx_uu]
      exact ⟨rfl, rfl, m + 1, Or.inl ⟨rfl, rfl, rfl⟩⟩
    · omega
  · have hne : ed ≠ a := fun e2 => by rw [e2, ha] at he; cases he
    have lp : ∀ (k : Nat) (h1 : HM) (i : Int) (f1 : Nat → Option Nat), (n - i).toNat < k → 0 ≤ i → i ≤ n → h1 ed = some (eO g cap f1) → (∀ e, va_up h1 ed e = va_up (va_up h a (some (ALo (m + 1) ed 0))) ed e) → V x g h0 Q h1 sz 0 0 27 [some (.ref a), some (.ref ed), some (vI n), some (vI i)] [] := by
      intro k
      induction k with
      | zero => intro h1 i f1 hk; omega
      | succ k ih =>
        intro h1 i f1 hk hi0 hin he1 hup
        refine r_iload_n (n := 28) C dJ7_clear_27 rfl rfl rfl ?_
        refine r_iload_n (n := 29) C dJ7_clear_28 rfl rfl rfl ?_
        refine r_icmp_ge (t := 42) (n := 32) C dJ7_clear_29 (by decide) rfl (fun c_29 => ?_) (fun c_29 => ?_)
        · refine r_return C hQ dJ7_clear_42 ?_
          refine ⟨rfl, rfl, m + 1, Or.inr ⟨hcp, he, f1, ?_⟩⟩
          rw [← hup]
          funext q
          by_cases hq : q = ed
          · subst hq
            rw [va_up_self, he1]
          · rw [va_up_ne _ _ hq]
        · refine r_aload_n (n := 33) C dJ7_clear_32 rfl rfl rfl ?_
          refine r_iload_n (n := 34) C dJ7_clear_33 rfl rfl rfl ?_
          refine r_aconst_null (n := 35) C dJ7_clear_34 rfl ?_
          refine r_aastoreN (n := 36) C dJ7_clear_35 rfl he1 ?_
          refine r_iinc (n := 39) C dJ7_clear_36 rfl rfl ?_
          refine r_goto (n := 27) C dJ7_clear_39 (by decide) ?_
          exact ih _ (i + 1) _ (by omega) (by omega) (by omega) (va_up_self _ _ _) (fun e => by rw [bx_uu]; exact hup e)
    refine r_aload_n (n := 1) C dJ7_clear_0 rfl rfl rfl ?_
    refine r_dup (n := 2) C dJ7_clear_1 rfl rfl ?_
    refine r_getS (n := 5) (ci := 11) (k := 0) C in_J7 rfl (by decide) q219 q220 dJ7_clear_2 rfl (by assumption) rfl ?_
    refine r_iconst (n := 6) C dJ7_clear_5 rfl ?_
    refine r_iadd (n := 7) C dJ7_clear_6 rfl ?_
    refine r_putS (n := 10) (ty := .int) (ci := 11) (k := 0) C in_J7 tyJ7 tyJ7_ok nmJ7 rfl (by decide) q219 q220 rfl (by decide +kernel) rfl rfl dJ7_clear_7 rfl (by assumption) (Nat.le_of_ble_eq_true rfl) ?_
    refine r_aload_n (n := 11) C dJ7_clear_10 rfl rfl rfl ?_
    refine r_get (n := 14) (ci := 11) (k := 1) C in_J7 rfl (by decide) q216 rfl dJ7_clear_11 rfl (va_up_self _ _ _) rfl ?_
    refine r_astore_n (n := 15) C dJ7_clear_14 rfl rfl ?_
    refine r_aload_n (n := 16) C dJ7_clear_15 rfl rfl rfl ?_
    refine r_get (n := 19) (ci := 11) (k := 2) C in_J7 rfl (by decide) q217 rfl dJ7_clear_16 rfl (va_up_self _ _ _) rfl ?_
    refine r_istore_n (n := 20) C dJ7_clear_19 rfl rfl ?_
    refine r_aload_n (n := 21) C dJ7_clear_20 rfl rfl rfl ?_
    refine r_iconst (n := 22) C dJ7_clear_21 rfl ?_
    refine r_dup_x1 (n := 23) C dJ7_clear_22 rfl rfl rfl ?_
    refine r_put (n := 26) (ty := .int) (ci := 11) (k := 2) C in_J7 tyJ7 tyJ7_ok nmJ7 rfl (by decide) q217 rfl rfl (by decide +kernel) rfl rfl dJ7_clear_23 rfl (va_up_self _ _ _) (Nat.le_of_ble_eq_true rfl) ?_
    refine r_istore_n (n := 27) C dJ7_clear_26 rfl rfl ?_
    exact lp (n.toNat + 1) _ 0 f (by omega) (by omega) (by omega) (by rw [bx_uu]; exact (va_up_ne _ _ hne).trans he) (fun e => by rw [bx_uu]; rfl)
theorem ct_j5init (l : Launch) (g : GG) (h : HM) (sz a : Nat) : RT l yJ5_init cJ5_init 1 none 1 [.ref a] g h sz (fun v => v = none) := by
  refine CT.of (lo := [some (.ref a)]) (by decide) (by simp [Value.category]) (Nat.le_of_ble_eq_true rfl) rfl ?_
  intro x h0 Q C hQ hl hni
  refine r_aload_n (n := 1) C dJ5_init_0 rfl rfl rfl ?_
  refine r_objInit (n := 4) C q213 q71 q72 dJ5_init_1 rfl ?_
  refine r_return C hQ dJ5_init_4 ?_
  exact ⟨rfl, rfl, rfl⟩
theorem ct_j4init (l : Launch) (g : GG) (h : HM) (sz a : Nat) : RT l yJ4_init cJ4_init 1 none 1 [.ref a] g h sz (fun v => v = none) := by
  refine CT.of (lo := [some (.ref a)]) (by decide) (by simp [Value.category]) (Nat.le_of_ble_eq_true rfl) rfl ?_
  intro x h0 Q C hQ hl hni
  refine r_aload_n (n := 1) C dJ4_init_0 rfl rfl rfl ?_
  refine r_objInit (n := 4) C q154 q71 q72 dJ4_init_1 rfl ?_
  refine r_return C hQ dJ4_init_4 ?_
  exact ⟨rfl, rfl, rfl⟩
theorem ct_j6init (l : Launch) (g : GG) (h : HM) (sz a : Nat) (ha : h a = some (oC 11 [vI 0, .null, vI 0])) : CT l yJ6_init cJ6_init 1 none 2 0 0 [.ref a] g h sz (fun v h' sz' => v = none ∧ sz' = sz ∧ h' = va_up h a (some (oC 11 [vI 0, .null, vI 0]))) := by
  refine CT.of (lo := [some (.ref a)]) (by decide) (by simp [Value.category]) (Nat.le_of_ble_eq_true rfl) rfl ?_
  intro x h0 Q C hQ hl hni
  refine r_aload_n (n := 1) C dJ6_init_0 rfl rfl rfl ?_
  refine r_callI (n := 4) (n0 := 0) C (ct_j5init (xL x) g h sz a) q212 q45 q210 q211 rfl ⟨by decide, by decide, by decide +kernel⟩ rfl dJ6_init_1 rfl rfl ?_
  rintro v h' sz' ⟨rfl, rfl, rfl⟩ - -
  dsimp only [stk]
  refine r_aload_n (n := 5) C dJ6_init_4 rfl rfl rfl ?_
  refine r_iconst (n := 6) C dJ6_init_5 rfl ?_
  refine r_put (n := 9) (ty := .int) (ci := 11) (k := 0) C in_J7 tyJ7 tyJ7_ok nmJ7 rfl (by decide) q218 rfl rfl (by decide +kernel) rfl rfl dJ6_init_6 rfl (by assumption) (Nat.le_of_ble_eq_true rfl) ?_
  refine r_return C hQ dJ6_init_9 ?_
  exact ⟨rfl, rfl, rfl⟩
theorem ct_alInit (l : Launch) (g : GG) (h : HM) (sz a : Nat) (ha : h a = some (oC 11 [vI 0, .null, vI 0])) : CT l yJ7_init cJ7_init 1 none 3 0 0 [.ref a] g h sz (fun v h' sz' => v = none ∧ sz' = sz ∧ h' = va_up h a (some (ALo 0 (kc g 0) 0))) := by
  refine CT.of (lo := [some (.ref a)]) (by decide) (by simp [Value.category]) (Nat.le_of_ble_eq_true rfl) rfl ?_
  intro x h0 Q C hQ hl hni
  have hd := C.kg.dft
  refine r_aload_n (n := 1) C dJ7_init_0 rfl rfl rfl ?_
  refine r_callI (n := 4) (n0 := 0) C (ct_j6init (xL x) g h sz a ha) q209 q46 q207 q208 rfl ⟨by decide, by decide, by decide +kernel⟩ rfl dJ7_init_1 rfl rfl ?_
  rintro v h' sz' ⟨rfl, rfl, rfl⟩ - -
  dsimp only [stk]
  refine r_aload_n (n := 5) C dJ7_init_4 rfl rfl rfl ?_
  refine r_gets (n := 8) C hd.1 q214 dJ7_init_5 rfl ?_
  refine r_put (n := 11) (ty := (.array (.object "java/lang/Object"))) (ci := 11) (k := 1) C in_J7 tyJ7 tyJ7_ok nmJ7 rfl (by decide) q216 rfl rfl (by decide +kernel) rfl rfl dJ7_init_8 rfl (va_up_self _ _ _) (Nat.le_of_ble_eq_true rfl) ?_
  refine r_return C hQ dJ7_init_11 ?_
  rw [bx_uu]
  exact ⟨rfl, rfl, rfl⟩
