/-! THE READER: its small methods -/
abbrev RO (sb rs : Nat) (p nd br : Int) : va_E := oC 2 [.ref sb, vI p, vI nd, vI br, .ref rs]
/-- the reader at rd: text at sb (ct letters f), what is left: cs -/
def RW (g : GG) (h : HM) (sz rd sb vb rs cap : Nat) (ml : Int) (ct : Nat) (f : Nat → Int) (cs : List Int) (nd : Nat) (br : Int) : Prop := h rd = some (RO sb rs ((ct : Int) - cs.length) nd br) ∧ h sb = some (SBo vb ml ct) ∧ h vb = some (eB g cap f) ∧ h rs = some (oC 3 [vI 67108863]) ∧ (∀ q, sz ≤ q → h q = none) ∧ (ct ≤ 40 ∧ ct ≤ cap ∧ cap ≤ 900) ∧ (∀ j : Nat, j < ct → 33 ≤ f j ∧ f j ≤ 126) ∧ cs <:+ sl f 0 ct ∧ nd ≤ 1000
def EX (rd : Nat) (h h' : HM) : Prop := ∀ q e, q ≠ rd → h q = some e → h' q = some e
theorem EX.rf {rd : Nat} {h : HM} : EX rd h h := fun _ _ _ q => q
theorem EX.tr {rd : Nat} {h h1 h2 : HM} (a : EX rd h h1) (b : EX rd h1 h2) : EX rd h h2 := fun q e n p => b q e n (a q e n p)
theorem EX.put {rd : Nat} {h : HM} {e : Option va_E} : EX rd h (va_up h rd e) := fun q e' n p => (va_up_ne _ _ n).trans p
theorem EX.new {rd sz : Nat} {h : HM} {e : Option va_E} (hn : h sz = none) : EX rd h (va_up h sz e) := fun q e' n p => (va_up_ne _ _ (fun c => by rw [c, hn] at p; cases p)).trans p
theorem NT.ex {g : GG} {rd : Nat} {h h' : HM} {e0 : List Value} (hE : EX rd h h') (hr : h rd = some (oC 2 e0)) {t : PT} {q : Nat} (hn : NT g h t q) : NT g h' t q :=
  NT.mono (fun q ci fs hq _ _ _ _ => hE q _ (fun c => by rw [c, hr] at hq; cases hq; omega) hq) t q hn
theorem sl_suf {f : Nat → Int} {c : Int} {r : List Int} : ∀ (m k : Nat), (c :: r) <:+ sl f k m → r.length + 1 ≤ m ∧ f (k + m - (r.length + 1)) = c
  | 0, k, h => by
    have := h.length_le
    simp [sl] at this
  | m + 1, k, h => by
    rw [sl, List.suffix_cons_iff] at h
    rcases h with h | h
    · injection h with h1 h2
      have hl : r.length = m := by rw [h2, sl_len]
      exact ⟨by omega, by rw [show k + (m + 1) - (r.length + 1) = k by omega, h1]⟩
    · obtain ⟨i1, i2⟩ := sl_suf m (k + 1) h
      exact ⟨by omega, by rw [show k + (m + 1) - (r.length + 1) = k + 1 + m - (r.length + 1) by omega]; exact i2⟩
section RWS
variable {g : GG} {h : HM} {sz rd sb vb rs cap : Nat} {ml : Int} {ct : Nat} {f : Nat → Int} {cs cs' : List Int} {nd nd' : Nat} {br br' : Int}
theorem RW.len (hR : RW g h sz rd sb vb rs cap ml ct f cs nd br) : cs.length ≤ ct := by
  have := hR.2.2.2.2.2.2.2.1.length_le
  rwa [sl_len] at this
theorem RW.at (hR : RW g h sz rd sb vb rs cap ml ct f cs nd br) (hn : 0 < cs.length) : f (ct - cs.length) = hdI cs ∧ 33 ≤ hdI cs ∧ hdI cs ≤ 126 := by
  obtain ⟨-, -, -, -, -, -, h7, h8, -⟩ := hR
  cases cs with
  | nil => simp at hn
  | cons c r =>
    obtain ⟨i1, i2⟩ := sl_suf ct 0 h8
    rw [Nat.zero_add] at i2
    have e : f (ct - (c :: r).length) = hdI (c :: r) := i2
    refine ⟨e, ?_⟩
    rw [← e]
    exact h7 _ (by simp; omega)
theorem RW.rg (hR : RW g h sz rd sb vb rs cap ml ct f cs nd br) : 0 ≤ hdI cs ∧ hdI cs ≤ 126 ∧ (hdI cs ≠ 0 → 0 < cs.length) ∧ (0 < cs.length → hdI cs ≠ 0) := by
  by_cases hn : 0 < cs.length
  · have := hR.at hn
    omega
  · have : cs = [] := List.eq_nil_of_length_eq_zero (by omega)
    subst this
    simp [hdI]
theorem RW.ne (hR : RW g h sz rd sb vb rs cap ml ct f cs nd br) : sb ≠ rd ∧ vb ≠ rd ∧ rs ≠ rd := by
  obtain ⟨h1, h2, h3, h4, -⟩ := hR
  refine ⟨fun e => ?_, fun e => ?_, fun e => ?_⟩
  · rw [e, h1] at h2
    cases h2
  · rw [e, h1] at h3
    cases h3
  · rw [e, h1] at h4
    cases h4
theorem RW.put (hR : RW g h sz rd sb vb rs cap ml ct f cs nd br) (hs : cs' <:+ cs) (hn : nd' ≤ 1000) : RW g (va_up h rd (some (RO sb rs ((ct : Int) - cs'.length) nd' br'))) sz rd sb vb rs cap ml ct f cs' nd' br' := by
  obtain ⟨n1, n2, n3⟩ := hR.ne
  obtain ⟨h1, h2, h3, h4, h5, h6, h7, h8, h9⟩ := hR
  refine ⟨va_up_self _ _ _, (va_up_ne _ _ n1).trans h2, (va_up_ne _ _ n2).trans h3, (va_up_ne _ _ n3).trans h4, fun q hq => ?_, h6, h7, hs.trans h8, hn⟩
  rw [va_up_ne _ _ (fun e => by subst e; rw [h5 q hq] at h1; cases h1)]
  exact h5 q hq
theorem RW.new (hR : RW g h sz rd sb vb rs cap ml ct f cs nd br) {e : Option va_E} : RW g (va_up h sz e) (sz + 1) rd sb vb rs cap ml ct f cs nd br := by
  obtain ⟨h1, h2, h3, h4, h5, h6, h7, h8, h9⟩ := hR
  have hz := h5 sz (Nat.le_refl _)
  have ne : ∀ q e', h q = some e' → va_up h sz e q = some e' := fun q e' hq => (va_up_ne _ _ (fun c => by rw [c, hz] at hq; cases hq)).trans hq
  refine ⟨ne _ _ h1, ne _ _ h2, ne _ _ h3, ne _ _ h4, fun q hq => ?_, h6, h7, h8, h9⟩
  rw [va_up_ne _ _ (by omega)]
  exact h5 q (by omega)
end RWS
theorem ct_rsmall (l : Launch) (g : GG) (h : HM) (sz : Nat) (c : Int) (hc : -2147483648 ≤ c ∧ c < 2147483648) : RT l yX2_small cX2_small 1 (some .boolean) 0 [vI c] g h sz (fun v => ∃ z : Int, v = some (vI z) ∧ ((z = 1 ∧ isS c) ∨ (z = 0 ∧ ¬ isS c))) := by
  refine CT.of (lo := [some (vI c)]) (by decide) (by simp [Value.category]) (Nat.le_of_ble_eq_true rfl) rfl ?_
  intro x h0 Q C hQ hl hni
  refine r_iload_n (n := 1) C dX2_small_0 rfl rfl rfl ?_
  refine r_bipush (n := 3) C dX2_small_1 (by decide) rfl ?_
  refine r_icmp_lt (t := 16) (n := 6) C dX2_small_3 (by decide) rfl (fun c_3 => ?_) (fun c_3 => ?_)
  · refine r_iconst (n := 17) C dX2_small_16 rfl ?_
    refine r_zreturn C hQ rfl dX2_small_17 ?_
    exact ⟨rfl, rfl, _, rfl, by omega⟩
  · refine r_iload_n (n := 7) C dX2_small_6 rfl rfl rfl ?_
    refine r_bipush (n := 9) C dX2_small_7 (by decide) rfl ?_
    refine r_icmp_gt (t := 16) (n := 12) C dX2_small_9 (by decide) rfl (fun c_9 => ?_) (fun c_9 => ?_)
    · refine r_iconst (n := 17) C dX2_small_16 rfl ?_
      refine r_zreturn C hQ rfl dX2_small_17 ?_
      exact ⟨rfl, rfl, _, rfl, by omega⟩
    · refine r_iconst (n := 13) C dX2_small_12 rfl ?_
      refine r_goto (n := 17) C dX2_small_13 (by decide) ?_
      refine r_zreturn C hQ rfl dX2_small_17 ?_
      exact ⟨rfl, rfl, _, rfl, by omega⟩
theorem ct_rbegins (l : Launch) (g : GG) (h : HM) (sz : Nat) (c : Int) (hc : -2147483648 ≤ c ∧ c < 2147483648) : RT l yX2_begins cX2_begins 1 (some .boolean) 1 [vI c] g h sz (fun v => ∃ z : Int, v = some (vI z) ∧ ((z = 1 ∧ isB c) ∨ (z = 0 ∧ ¬ isB c))) := by
  refine CT.of (lo := [some (vI c)]) (by decide) (by simp [Value.category]) (Nat.le_of_ble_eq_true rfl) rfl ?_
  intro x h0 Q C hQ hl hni
  refine r_iload_n (n := 1) C dX2_begins_0 rfl rfl rfl ?_
  refine r_callS (n := 4) (n0 := 1) C (ct_rsmall (xL x) g h sz c hc) (lw_S q433 q434 q37 q435) ⟨by decide, by decide, by decide +kernel⟩ rfl dX2_begins_1 rfl rfl ?_
  rintro v h' sz' ⟨rfl, rfl, z, rfl, hz⟩ - -
  dsimp only [stk]
  refine r_if_ne (t := 25) (n := 7) C dX2_begins_4 (by decide) rfl (fun c_4 => ?_) (fun c_4 => ?_)
  · refine r_iconst (n := 26) C dX2_begins_25 rfl ?_
    refine r_goto (n := 30) C dX2_begins_26 (by decide) ?_
    refine r_zreturn C hQ rfl dX2_begins_30 ?_
    exact ⟨rfl, rfl, _, rfl, by omega⟩
  · refine r_iload_n (n := 8) C dX2_begins_7 rfl rfl rfl ?_
    refine r_bipush (n := 10) C dX2_begins_8 (by decide) rfl ?_
    refine r_icmp_eq (t := 25) (n := 13) C dX2_begins_10 (by decide) rfl (fun c_10 => ?_) (fun c_10 => ?_)
    · refine r_iconst (n := 26) C dX2_begins_25 rfl ?_
      refine r_goto (n := 30) C dX2_begins_26 (by decide) ?_
      refine r_zreturn C hQ rfl dX2_begins_30 ?_
      exact ⟨rfl, rfl, _, rfl, by omega⟩
    · refine r_iload_n (n := 14) C dX2_begins_13 rfl rfl rfl ?_
      refine r_bipush (n := 16) C dX2_begins_14 (by decide) rfl ?_
      refine r_icmp_eq (t := 25) (n := 19) C dX2_begins_16 (by decide) rfl (fun c_16 => ?_) (fun c_16 => ?_)
      · refine r_iconst (n := 26) C dX2_begins_25 rfl ?_
        refine r_goto (n := 30) C dX2_begins_26 (by decide) ?_
        refine r_zreturn C hQ rfl dX2_begins_30 ?_
        exact ⟨rfl, rfl, _, rfl, by omega⟩
      · refine r_iload_n (n := 20) C dX2_begins_19 rfl rfl rfl ?_
        refine r_bipush (n := 22) C dX2_begins_20 (by decide) rfl ?_
        refine r_icmp_ne (t := 29) (n := 25) C dX2_begins_22 (by decide) rfl (fun c_22 => ?_) (fun c_22 => ?_)
        · refine r_iconst (n := 30) C dX2_begins_29 rfl ?_
          refine r_zreturn C hQ rfl dX2_begins_30 ?_
          exact ⟨rfl, rfl, _, rfl, by omega⟩
        · refine r_iconst (n := 26) C dX2_begins_25 rfl ?_
          refine r_goto (n := 30) C dX2_begins_26 (by decide) ?_
          refine r_zreturn C hQ rfl dX2_begins_30 ?_
          exact ⟨rfl, rfl, _, rfl, by omega⟩
section RC
variable (l : Launch) {g : GG} {h : HM} {sz rd sb vb rs cap : Nat} {ml : Int} {ct : Nat} {f : Nat → Int} {cs cs' : List Int} {nd nd' : Nat} {br br' : Int}
theorem ct_rfull (hR : RW g h sz rd sb vb rs cap ml ct f cs nd br) : RT l yX2_full cX2_full 1 (some .boolean) 0 [.ref rd] g h sz (fun v => ∃ z : Int, v = some (vI z) ∧ ((z = 1 ∧ 24 < nd) ∨ (z = 0 ∧ nd ≤ 24))) := by
  have h1 := hR.1
  have h9 := hR.2.2.2.2.2.2.2.2
  refine CT.of (lo := [some (.ref rd)]) (by decide) (by simp [Value.category]) (Nat.le_of_ble_eq_true rfl) rfl ?_
  intro x h0 Q C hQ hl hni
  refine r_aload_n (n := 1) C dX2_full_0 rfl rfl rfl ?_
  refine r_get (n := 4) (ci := 2) (k := 2) C in_X2 rfl (by decide) q163 rfl dX2_full_1 rfl (by assumption) rfl ?_
  refine r_bipush (n := 6) C dX2_full_4 (by decide) rfl ?_
  refine r_icmp_le (t := 13) (n := 9) C dX2_full_6 (by decide) rfl (fun c_6 => ?_) (fun c_6 => ?_)
  · refine r_iconst (n := 14) C dX2_full_13 rfl ?_
    refine r_zreturn C hQ rfl dX2_full_14 ?_
    exact ⟨rfl, rfl, _, rfl, by omega⟩
  · refine r_iconst (n := 10) C dX2_full_9 rfl ?_
    refine r_goto (n := 14) C dX2_full_10 (by decide) ?_
    refine r_zreturn C hQ rfl dX2_full_14 ?_
    exact ⟨rfl, rfl, _, rfl, by omega⟩
theorem ct_rnext (hR : RW g h sz rd sb vb rs cap ml ct f cs nd br) : RT l yX2_next cX2_next 1 (some .char) 4 [.ref rd] g h sz (fun v => v = some (vI (hdI cs))) := by
  have hlen := hR.len
  have hrg := hR.rg
  have hat := hR.at
  obtain ⟨h1, h2, h3, h4, h5, h6, h7, h8, h9⟩ := hR
  have ez : ((ct : Int) - cs.length).toNat = ct - cs.length := by omega
  refine CT.of (lo := [some (.ref rd)]) (by decide) (by simp [Value.category]) (Nat.le_of_ble_eq_true rfl) rfl ?_
  intro x h0 Q C hQ hl hni
  refine r_aload_n (n := 1) C dX2_next_0 rfl rfl rfl ?_
  refine r_get (n := 4) (ci := 2) (k := 1) C in_X2 rfl (by decide) q161 rfl dX2_next_1 rfl (by assumption) rfl ?_
  refine r_aload_n (n := 5) C dX2_next_4 rfl rfl rfl ?_
  refine r_get (n := 8) (ci := 2) (k := 0) C in_X2 rfl (by decide) q159 rfl dX2_next_5 rfl (by assumption) rfl ?_
  refine r_callV (n := 11) (n0 := 0) (ci := 10) C (ct_sbLen (xL x) g h sz sb vb ml ct h2) (lw_V q404 q279 q280 q39 q281) ⟨by decide, by decide, by decide +kernel⟩ rfl (by assumption) rfl dX2_next_8 rfl rfl ?_
  rintro v h' sz' ⟨rfl, rfl, rfl⟩ - -
  dsimp only [stk]
  refine r_icmp_ge (t := 28) (n := 14) C dX2_next_11 (by decide) rfl (fun c_11 => ?_) (fun c_11 => ?_)
  · refine r_iconst (n := 29) C dX2_next_28 rfl ?_
    refine r_zreturn C hQ (nchr (by omega)) dX2_next_29 ?_
    first
      | exact ⟨rfl, rfl, rfl⟩
      | (refine ⟨rfl, rfl, ?_⟩; have : cs = [] := List.eq_nil_of_length_eq_zero (by omega); subst this; rfl)
  · refine r_aload_n (n := 15) C dX2_next_14 rfl rfl rfl ?_
    refine r_get (n := 18) (ci := 2) (k := 0) C in_X2 rfl (by decide) q159 rfl dX2_next_15 rfl (by assumption) rfl ?_
    refine r_aload_n (n := 19) C dX2_next_18 rfl rfl rfl ?_
    refine r_get (n := 22) (ci := 2) (k := 1) C in_X2 rfl (by decide) q161 rfl dX2_next_19 rfl (by assumption) rfl ?_
    refine r_callV (n := 25) (n0 := 1) (ci := 10) C (ct_sbAt (xL x) g h sz sb vb cap f ml ct ((ct : Int) - cs.length) h2 h3 (by omega) (by rw [ez]; have := hat (by omega); omega)) (lw_V q405 q406 q407 q39 q408) ⟨by decide, by decide, by decide +kernel⟩ rfl (by assumption) rfl dX2_next_22 rfl rfl ?_
    rintro v h' sz' ⟨rfl, rfl, rfl⟩ - -
    dsimp only [stk]
    rw [ez, (hat (by omega)).1]
    refine r_goto (n := 29) C dX2_next_25 (by decide) ?_
    refine r_zreturn C hQ (nchr (by omega)) dX2_next_29 ?_
    first
      | exact ⟨rfl, rfl, rfl⟩
      | (refine ⟨rfl, rfl, ?_⟩; have : cs = [] := List.eq_nil_of_length_eq_zero (by omega); subst this; rfl)
theorem ct_rfail (hR : RW g h sz rd sb vb rs cap ml ct f cs nd br) : CT l yX2_fail cX2_fail 1 (some (.object "FuzzyFinder$Node")) 0 0 0 [.ref rd] g h sz (fun v h' sz' => v = some .null ∧ sz = sz' ∧ h' = va_up h rd (some (RO sb rs ((ct : Int) - cs.length) nd 1))) := by
  have h1 := hR.1
  refine CT.of (lo := [some (.ref rd)]) (by decide) (by simp [Value.category]) (Nat.le_of_ble_eq_true rfl) rfl ?_
  intro x h0 Q C hQ hl hni
  refine r_aload_n (n := 1) C dX2_fail_0 rfl rfl rfl ?_
  refine r_iconst (n := 2) C dX2_fail_1 rfl ?_
  refine r_put (n := 5) (ty := .boolean) (ci := 2) (k := 3) C in_X2 tyX2 tyX2_ok nmX2 rfl (by decide) q165 rfl rfl (by decide +kernel) rfl rfl dX2_fail_2 rfl (by assumption) (Nat.le_of_ble_eq_true rfl) ?_
  refine r_aconst_null (n := 6) C dX2_fail_5 rfl ?_
  refine r_areturn C hQ (Or.inl ⟨_, rfl⟩) (Or.inl rfl) dX2_fail_6 ?_
  exact ⟨rfl, rfl, rfl⟩
theorem ct_raccept (c : Int) (hc : 0 < c ∧ c < 128) (hR : RW g h sz rd sb vb rs cap ml ct f cs nd br) : CT l yX2_accept cX2_accept 3 (some .boolean) 5 0 0 [.ref rd, vI c] g h sz (fun v h' sz' => sz = sz' ∧ ∃ z : Int, v = some (vI z) ∧ ((z = 1 ∧ hdI cs = c ∧ h' = va_up h rd (some (RO sb rs ((ct : Int) - cs.tail.length) nd br))) ∨ (z = 0 ∧ hdI cs ≠ c ∧ h' = h))) := by
  have hrg := hR.rg
  have h1 := hR.1
  refine CT.of (lo := [some (.ref rd), some (vI c), none]) (by decide) (by simp [Value.category]) (Nat.le_of_ble_eq_true rfl) rfl ?_
  intro x h0 Q C hQ hl hni
  have k13 : ∀ z : Int, ((z = 1 ∧ hdI cs = c) ∨ (z = 0 ∧ hdI cs ≠ c)) → V x g h0 Q h sz 0 0 13 [some (.ref rd), some (vI c), none] [vI z] := by
    intro z hz
    refine r_istore_n (n := 14) C dX2_accept_13 rfl rfl ?_
    refine r_aload_n (n := 15) C dX2_accept_14 rfl rfl rfl ?_
    refine r_dup (n := 16) C dX2_accept_15 rfl rfl ?_
    refine r_get (n := 19) (ci := 2) (k := 1) C in_X2 rfl (by decide) q161 rfl dX2_accept_16 rfl (by assumption) rfl ?_
    refine r_iload_n (n := 20) C dX2_accept_19 rfl rfl rfl ?_
    refine r_if_eq (t := 27) (n := 23) C dX2_accept_20 (by decide) rfl (fun c_20 => ?_) (fun c_20 => ?_)
    · refine r_iconst (n := 28) C dX2_accept_27 rfl ?_
      refine r_iadd (n := 29) C dX2_accept_28 rfl ?_
      refine r_put (n := 32) (ty := .int) (ci := 2) (k := 1) C in_X2 tyX2 tyX2_ok nmX2 rfl (by decide) q161 rfl rfl (by decide +kernel) rfl rfl dX2_accept_29 rfl (by assumption) (Nat.le_of_ble_eq_true rfl) ?_
      refine r_iload_n (n := 33) C dX2_accept_32 rfl rfl rfl ?_
      refine r_zreturn C hQ (by rcases hz with ⟨rfl, -⟩ | ⟨rfl, -⟩ <;> rfl) dX2_accept_33 ?_
      refine ⟨rfl, _, rfl, ?_⟩
      rcases hz with ⟨rfl, hz⟩ | ⟨rfl, hz⟩
      · first
          | (exfalso; omega)
          | (refine Or.inl ⟨rfl, hz, ?_⟩
             have := tl_len (cs := cs) (by omega)
             rw [show (ct : Int) - cs.tail.length = (ct : Int) - cs.length + 1 by omega]
             rfl)
      · first
          | (exfalso; omega)
          | (refine Or.inr ⟨rfl, hz, ?_⟩
             refine Eq.trans ?_ (up_id h1)
             rw [show (ct : Int) - cs.length = (ct : Int) - cs.length + 0 by omega]
             simp [List.set])
    · refine r_iconst (n := 24) C dX2_accept_23 rfl ?_
      refine r_goto (n := 28) C dX2_accept_24 (by decide) ?_
      refine r_iadd (n := 29) C dX2_accept_28 rfl ?_
      refine r_put (n := 32) (ty := .int) (ci := 2) (k := 1) C in_X2 tyX2 tyX2_ok nmX2 rfl (by decide) q161 rfl rfl (by decide +kernel) rfl rfl dX2_accept_29 rfl (by assumption) (Nat.le_of_ble_eq_true rfl) ?_
      refine r_iload_n (n := 33) C dX2_accept_32 rfl rfl rfl ?_
      refine r_zreturn C hQ (by rcases hz with ⟨rfl, -⟩ | ⟨rfl, -⟩ <;> rfl) dX2_accept_33 ?_
      refine ⟨rfl, _, rfl, ?_⟩
      rcases hz with ⟨rfl, hz⟩ | ⟨rfl, hz⟩
      · first
          | (exfalso; omega)
          | (refine Or.inl ⟨rfl, hz, ?_⟩
             have := tl_len (cs := cs) (by omega)
             rw [show (ct : Int) - cs.tail.length = (ct : Int) - cs.length + 1 by omega]
             rfl)
      · first
          | (exfalso; omega)
          | (refine Or.inr ⟨rfl, hz, ?_⟩
             refine Eq.trans ?_ (up_id h1)
             rw [show (ct : Int) - cs.length = (ct : Int) - cs.length + 0 by omega]
             simp [List.set])
  refine r_aload_n (n := 1) C dX2_accept_0 rfl rfl rfl ?_
  refine r_callV (n := 4) (n0 := 0) (ci := 2) C (ct_rnext (xL x) hR) (lw_V q400 q402 qs0 q37 q403) ⟨by decide, by decide, by decide +kernel⟩ rfl (by assumption) rfl dX2_accept_1 rfl rfl ?_
  rintro v h' sz' ⟨rfl, rfl, rfl⟩ - -
  dsimp only [stk]
  refine r_iload_n (n := 5) C dX2_accept_4 rfl rfl rfl ?_
  refine r_icmp_ne (t := 12) (n := 8) C dX2_accept_5 (by decide) rfl (fun c_5 => ?_) (fun c_5 => ?_)
  · refine r_iconst (n := 13) C dX2_accept_12 rfl ?_
    exact k13 _ (by omega)
  · refine r_iconst (n := 9) C dX2_accept_8 rfl ?_
    refine r_goto (n := 13) C dX2_accept_9 (by decide) ?_
    exact k13 _ (by omega)
end RC
theorem ct_n3 (l : Launch) (g : GG) (h : HM) (sz a : Nat) (s : Int) (ha : h a = some (oC 3 [vI 0])) : CT l yX3_init cX3_init 2 none 2 0 0 [.ref a, vI s] g h sz (fun v h' sz' => v = none ∧ sz = sz' ∧ h' = va_up h a (some (oC 3 [vI s]))) := by
  refine CT.of (lo := [some (.ref a), some (vI s)]) (by decide) (by simp [Value.category]) (Nat.le_of_ble_eq_true rfl) rfl ?_
  intro x h0 Q C hQ hl hni
  refine r_aload_n (n := 1) C dX3_init_0 rfl rfl rfl ?_
  refine r_callI (n := 4) (n0 := 0) C (ct_j4init (xL x) g h sz a) q153 q42 q151 q152 rfl ⟨by decide, by decide, by decide +kernel⟩ rfl dX3_init_1 rfl rfl ?_
  rintro v h' sz' ⟨rfl, rfl, rfl⟩ - -
  dsimp only [stk]
  refine r_aload_n (n := 5) C dX3_init_4 rfl rfl rfl ?_
  refine r_iload_n (n := 6) C dX3_init_5 rfl rfl rfl ?_
  refine r_putF (n := 9) (ty := .int) (ci := 3) (k := 0) C hni in_X3 tyX3 tyX3_ok nmX3 rfl (by decide) q155 rfl rfl rfl (by decide +kernel) rfl rfl dX3_init_6 rfl (by assumption) (Nat.le_of_ble_eq_true rfl) ?_
  refine r_return C hQ dX3_init_9 ?_
  exact ⟨rfl, rfl, rfl⟩
theorem ct_n8 (l : Launch) (g : GG) (h : HM) (sz a p : Nat) (q : Nat) (ha : h a = some (oC 8 [.null, .null])) : CT l yX8_init cX8_init 3 none 2 0 0 [.ref a, .ref p, .ref q] g h sz (fun v h' sz' => v = none ∧ sz = sz' ∧ h' = va_up h a (some (oC 8 [.ref p, .ref q]))) := by
  refine CT.of (lo := [some (.ref a), some (.ref p), some (.ref q)]) (by decide) (by simp [Value.category]) (Nat.le_of_ble_eq_true rfl) rfl ?_
  intro x h0 Q C hQ hl hni
  refine r_aload_n (n := 1) C dX8_init_0 rfl rfl rfl ?_
  refine r_callI (n := 4) (n0 := 0) C (ct_j4init (xL x) g h sz a) q153 q42 q488 q152 rfl ⟨by decide, by decide, by decide +kernel⟩ rfl dX8_init_1 rfl rfl ?_
  rintro v h' sz' ⟨rfl, rfl, rfl⟩ - -
  dsimp only [stk]
  refine r_aload_n (n := 5) C dX8_init_4 rfl rfl rfl ?_
  refine r_aload_n (n := 6) C dX8_init_5 rfl rfl rfl ?_
  refine r_putF (n := 9) (ty := (.object "FuzzyFinder$Node")) (ci := 8) (k := 0) C hni in_X8 tyX8 tyX8_ok nmX8 rfl (by decide) q489 rfl rfl rfl (by decide +kernel) rfl rfl dX8_init_6 rfl (by assumption) (Nat.le_of_ble_eq_true rfl) ?_
  refine r_aload_n (n := 10) C dX8_init_9 rfl rfl rfl ?_
  refine r_aload_n (n := 11) C dX8_init_10 rfl rfl rfl ?_
  refine r_putF (n := 14) (ty := (.object "FuzzyFinder$Node")) (ci := 8) (k := 1) C hni in_X8 tyX8 tyX8_ok nmX8 rfl (by decide) q490 rfl rfl rfl (by decide +kernel) rfl rfl dX8_init_11 rfl (va_up_self _ _ _) (Nat.le_of_ble_eq_true rfl) ?_
  refine r_return C hQ dX8_init_14 ?_
  rw [bx_uu]
  exact ⟨rfl, rfl, rfl⟩
theorem ct_n9 (l : Launch) (g : GG) (h : HM) (sz a p : Nat) (q : Nat) (ha : h a = some (oC 9 [.null, .null])) : CT l yX9_init cX9_init 3 none 2 0 0 [.ref a, .ref p, .ref q] g h sz (fun v h' sz' => v = none ∧ sz = sz' ∧ h' = va_up h a (some (oC 9 [.ref p, .ref q]))) := by
  refine CT.of (lo := [some (.ref a), some (.ref p), some (.ref q)]) (by decide) (by simp [Value.category]) (Nat.le_of_ble_eq_true rfl) rfl ?_
  intro x h0 Q C hQ hl hni
  refine r_aload_n (n := 1) C dX9_init_0 rfl rfl rfl ?_
  refine r_callI (n := 4) (n0 := 0) C (ct_j4init (xL x) g h sz a) q153 q42 q501 q152 rfl ⟨by decide, by decide, by decide +kernel⟩ rfl dX9_init_1 rfl rfl ?_
  rintro v h' sz' ⟨rfl, rfl, rfl⟩ - -
  dsimp only [stk]
  refine r_aload_n (n := 5) C dX9_init_4 rfl rfl rfl ?_
  refine r_aload_n (n := 6) C dX9_init_5 rfl rfl rfl ?_
  refine r_putF (n := 9) (ty := (.object "FuzzyFinder$Node")) (ci := 9) (k := 0) C hni in_X9 tyX9 tyX9_ok nmX9 rfl (by decide) q502 rfl rfl rfl (by decide +kernel) rfl rfl dX9_init_6 rfl (by assumption) (Nat.le_of_ble_eq_true rfl) ?_
  refine r_aload_n (n := 10) C dX9_init_9 rfl rfl rfl ?_
  refine r_aload_n (n := 11) C dX9_init_10 rfl rfl rfl ?_
  refine r_putF (n := 14) (ty := (.object "FuzzyFinder$Node")) (ci := 9) (k := 1) C hni in_X9 tyX9 tyX9_ok nmX9 rfl (by decide) q503 rfl rfl rfl (by decide +kernel) rfl rfl dX9_init_11 rfl (va_up_self _ _ _) (Nat.le_of_ble_eq_true rfl) ?_
  refine r_return C hQ dX9_init_14 ?_
  rw [bx_uu]
  exact ⟨rfl, rfl, rfl⟩
theorem ct_n6 (l : Launch) (g : GG) (h : HM) (sz a p : Nat) (q : Nat) (ha : h a = some (oC 6 [.null, .null])) : CT l yX6_init cX6_init 3 none 2 0 0 [.ref a, .ref p, .ref q] g h sz (fun v h' sz' => v = none ∧ sz = sz' ∧ h' = va_up h a (some (oC 6 [.ref p, .ref q]))) := by
  refine CT.of (lo := [some (.ref a), some (.ref p), some (.ref q)]) (by decide) (by simp [Value.category]) (Nat.le_of_ble_eq_true rfl) rfl ?_
  intro x h0 Q C hQ hl hni
  refine r_aload_n (n := 1) C dX6_init_0 rfl rfl rfl ?_
  refine r_callI (n := 4) (n0 := 0) C (ct_j4init (xL x) g h sz a) q153 q42 q451 q152 rfl ⟨by decide, by decide, by decide +kernel⟩ rfl dX6_init_1 rfl rfl ?_
  rintro v h' sz' ⟨rfl, rfl, rfl⟩ - -
  dsimp only [stk]
  refine r_aload_n (n := 5) C dX6_init_4 rfl rfl rfl ?_
  refine r_aload_n (n := 6) C dX6_init_5 rfl rfl rfl ?_
  refine r_putF (n := 9) (ty := (.object "FuzzyFinder$Node")) (ci := 6) (k := 0) C hni in_X6 tyX6 tyX6_ok nmX6 rfl (by decide) q452 rfl rfl rfl (by decide +kernel) rfl rfl dX6_init_6 rfl (by assumption) (Nat.le_of_ble_eq_true rfl) ?_
  refine r_aload_n (n := 10) C dX6_init_9 rfl rfl rfl ?_
  refine r_aload_n (n := 11) C dX6_init_10 rfl rfl rfl ?_
  refine r_putF (n := 14) (ty := (.object "FuzzyFinder$Times")) (ci := 6) (k := 1) C hni in_X6 tyX6 tyX6_ok nmX6 rfl (by decide) q453 rfl rfl rfl (by decide +kernel) rfl rfl dX6_init_11 rfl (va_up_self _ _ _) (Nat.le_of_ble_eq_true rfl) ?_
  refine r_return C hQ dX6_init_14 ?_
  rw [bx_uu]
  exact ⟨rfl, rfl, rfl⟩
theorem ct_n7 (l : Launch) (g : GG) (h : HM) (sz a p : Nat) (m : Int) (ha : h a = some (oC 7 [.null, vI 0])) : CT l yX7_init cX7_init 3 none 2 0 0 [.ref a, .ref p, vI m] g h sz (fun v h' sz' => v = none ∧ sz = sz' ∧ h' = va_up h a (some (oC 7 [.ref p, vI m]))) := by
  refine CT.of (lo := [some (.ref a), some (.ref p), some (vI m)]) (by decide) (by simp [Value.category]) (Nat.le_of_ble_eq_true rfl) rfl ?_
  intro x h0 Q C hQ hl hni
  refine r_aload_n (n := 1) C dX7_init_0 rfl rfl rfl ?_
  refine r_callI (n := 4) (n0 := 0) C (ct_j4init (xL x) g h sz a) q153 q42 q472 q152 rfl ⟨by decide, by decide, by decide +kernel⟩ rfl dX7_init_1 rfl rfl ?_
  rintro v h' sz' ⟨rfl, rfl, rfl⟩ - -
  dsimp only [stk]
  refine r_aload_n (n := 5) C dX7_init_4 rfl rfl rfl ?_
  refine r_aload_n (n := 6) C dX7_init_5 rfl rfl rfl ?_
  refine r_putF (n := 9) (ty := (.object "FuzzyFinder$Node")) (ci := 7) (k := 0) C hni in_X7 tyX7 tyX7_ok nmX7 rfl (by decide) q473 rfl rfl rfl (by decide +kernel) rfl rfl dX7_init_6 rfl (by assumption) (Nat.le_of_ble_eq_true rfl) ?_
  refine r_aload_n (n := 10) C dX7_init_9 rfl rfl rfl ?_
  refine r_iload_n (n := 11) C dX7_init_10 rfl rfl rfl ?_
  refine r_putF (n := 14) (ty := .int) (ci := 7) (k := 1) C hni in_X7 tyX7 tyX7_ok nmX7 rfl (by decide) q474 rfl rfl rfl (by decide +kernel) rfl rfl dX7_init_11 rfl (va_up_self _ _ _) (Nat.le_of_ble_eq_true rfl) ?_
  refine r_return C hQ dX7_init_14 ?_
  rw [bx_uu]
  exact ⟨rfl, rfl, rfl⟩
section RD
variable (l : Launch) {g : GG} {h : HM} {sz rd sb vb rs cap : Nat} {ml : Int} {ct : Nat} {f : Nat → Int} {cs cs' : List Int} {nd nd' : Nat} {br br' : Int}
theorem ct_rrepeat (p c : Nat) (hR : RW g h sz rd sb vb rs cap ml ct f cs nd br) : CT l yX2_repeat cX2_repeat 3 (some (.object "FuzzyFinder$Node")) 3 1 2 [.ref rd, .ref p, .ref c] g h sz (fun v h' sz' => (24 < nd ∧ v = some (.ref p) ∧ sz = sz' ∧ h = h') ∨ (nd ≤ 24 ∧ v = some (.ref sz) ∧ sz' = sz + 1 ∧ h' = va_up h sz (some (oC 6 [.ref p, .ref c])))) := by
  have h1 := hR.1
  refine CT.of (lo := [some (.ref rd), some (.ref p), some (.ref c)]) (by decide) (by simp [Value.category]) (Nat.le_of_ble_eq_true rfl) rfl ?_
  intro x h0 Q C hQ hl hni
  refine r_aload_n (n := 1) C dX2_repeat_0 rfl rfl rfl ?_
  refine r_callV (n := 4) (n0 := 0) (ci := 2) C (ct_rfull (xL x) hR) (lw_V q436 q438 qs5 q37 q439) ⟨by decide, by decide, by decide +kernel⟩ rfl (by assumption) rfl dX2_repeat_1 rfl rfl ?_
  rintro v h' sz' ⟨rfl, rfl, z, rfl, hz⟩ - -
  dsimp only [stk]
  refine r_if_eq (t := 11) (n := 7) C dX2_repeat_4 (by decide) rfl (fun c_4 => ?_) (fun c_4 => ?_)
  · refine r_new (n := 14) (ci := 6) (fs := [.null, .null]) C in_X6 tyX6 tyX6_ok q446 q447 q57 rfl (by decide +kernel) dX2_repeat_11 rfl ?_
    refine r_dup (n := 15) C dX2_repeat_14 rfl rfl ?_
    refine r_aload_n (n := 16) C dX2_repeat_15 rfl rfl rfl ?_
    refine r_aload_n (n := 17) C dX2_repeat_16 rfl rfl rfl ?_
    refine r_callIN (n := 20) (n0 := 2) C (ct_n6 (xL x) g (va_up h sz (some (oC 6 [.null, .null]))) (sz + 1) sz p c (va_up_self _ _ _)) q450 q57 q448 q449 rfl ⟨by decide, by decide, by decide +kernel⟩ rfl dX2_repeat_17 rfl rfl ?_
    rintro v h' sz' ⟨rfl, rfl, rfl⟩ - -
    dsimp only [stk]
    refine r_areturn C hQ (Or.inl ⟨_, rfl⟩) (Or.inr ⟨_, rfl⟩) dX2_repeat_20 ?_
    first
      | exact Or.inl ⟨by omega, rfl, rfl, rfl⟩
      | exact Or.inr ⟨by omega, rfl, rfl, by rw [bx_uu]⟩
  · refine r_aload_n (n := 8) C dX2_repeat_7 rfl rfl rfl ?_
    refine r_goto (n := 20) C dX2_repeat_8 (by decide) ?_
    refine r_areturn C hQ (Or.inl ⟨_, rfl⟩) (Or.inr ⟨_, rfl⟩) dX2_repeat_20 ?_
    first
      | exact Or.inl ⟨by omega, rfl, rfl, rfl⟩
      | exact Or.inr ⟨by omega, rfl, rfl, by rw [bx_uu]⟩
end RD
