/-! the model reads a pattern -/
theorem ct_make (l : Launch) (g : GG) (o : Nat) (F : Nat → Int) (A : Nat → Nat → Int) (r : HM) (sz : Nat) (w a b : Int) {ou : List T3} {ws wh : List Int} (hR : RS F A ou ws wh) (h1 : ou.length < 80) (h2 : wh.length < 80) : MT l yX5_make cX5_make 4 none 0 [.ref o, vI w, vI a, vI b] g o F A r sz (fun v F' A' => v = none ∧ RS F' A' ((w, a, b) :: ou) ws ((ou.length : Int) :: wh) ∧ FM F A F' A' ∧ F' 14 = F 14) := by
  refine CT.post (ct_make0 l g o F A r sz w a b (by have := hR.1; omega) (by have := hR.2.2.1; omega)) ?_
  rintro v h' sz' ⟨F', A', rfl, rfl, rfl, rfl, rfl⟩
  exact ⟨_, _, rfl, rfl, rfl, RS_make hR w a b⟩
theorem ct_hold (l : Launch) (g : GG) (o : Nat) (F : Nat → Int) (A : Nat → Nat → Int) (r : HM) (sz : Nat) (w : Int) {ou : List T3} {ws wh : List Int} (hR : RS F A ou ws wh) (h1 : ws.length < 80) : MT l yX5_hold cX5_hold 2 none 0 [.ref o, vI w] g o F A r sz (fun v F' A' => v = none ∧ RS F' A' ou (w :: ws) wh ∧ FM F A F' A' ∧ F' 14 = F 14) := by
  refine CT.post (ct_hold0 l g o F A r sz w (by have := hR.2.1; omega)) ?_
  rintro v h' sz' ⟨F', A', rfl, rfl, rfl, rfl, rfl⟩
  exact ⟨_, _, rfl, rfl, rfl, RS_hold hR w⟩
theorem RS_pop {F : Nat → Int} {A : Nat → Nat → Int} {o : List T3} {ws wh : List Int} {a : Int} (h : RS F A o ws (a :: wh)) : RS (va_up F 12 (F 12 - 1)) A o ws wh ∧ FM F A (va_up F 12 (F 12 - 1)) A ∧ A 8 wh.length = a := by
  obtain ⟨h1, h2, h3, h4, h5, h6⟩ := h
  refine ⟨⟨?_, ?_, ?_, h4, h5, h6.2⟩, ⟨?_, fun _ _ => rfl⟩, h6.1⟩
  · simp [va_up, h1]
  · simp [va_up, h2]
  · simp [va_up, h3]
  · intro k k1 k2 k3 k4
    simp [va_up, k3]
theorem ct_suffix (l : Launch) (g : GG) (o : Nat) (F : Nat → Int) (A : Nat → Nat → Int) (r : HM) (sz : Nat) (w lim : Int) {ou : List T3} {ws wh : List Int} {a : Int} (hR : RS F A ou ws (a :: wh)) (h1 : ou.length < 80) (h2 : wh.length < 80) : MT l yX5_suffix cX5_suffix 3 none 1 [.ref o, vI w, vI lim] g o F A r sz (fun v F' A' => v = none ∧ RS F' A' ((w, a, lim) :: ou) ws ((ou.length : Int) :: wh) ∧ FM F A F' A' ∧ F' 14 = F 14) := by
  refine CT.of (lo := [some (.ref o), some (vI w), some (vI lim)]) (by decide) (by simp [Value.category]) (Nat.le_of_ble_eq_true rfl) rfl ?_
  intro x h0 Q C hQ hl hni
  obtain ⟨hR1, hF1, hA1⟩ := RS_pop hR
  have hw := hR.2.2.1
  simp only [List.length_cons] at hw
  refine r_aload_n (n := 1) C dX5_suffix_0 rfl rfl rfl ?_
  refine r_dup (n := 2) C dX5_suffix_1 rfl rfl ?_
  refine r_get (n := 5) (ci := 5) (k := 12) C in_X5 rfl (by decide) q796 rfl dX5_suffix_2 rfl MH_o rfl ?_
  refine r_iconst (n := 6) C dX5_suffix_5 rfl ?_
  refine r_isub (n := 7) C dX5_suffix_6 rfl ?_
  refine r_mput (n := 10) (ty := .int) (k := 12) C (by decide) q796 rfl rfl (by decide +kernel) rfl rfl dX5_suffix_7 rfl rfl ?_
  have e12 : va_up F 12 (F 12 - 1) 12 = (wh.length : Int) := by simp [va_up]; omega
  refine r_aload_n (n := 11) C dX5_suffix_10 rfl rfl rfl ?_
  refine r_iload_n (n := 12) C dX5_suffix_11 rfl rfl rfl ?_
  refine r_aload_n (n := 13) C dX5_suffix_12 rfl rfl rfl ?_
  refine r_get (n := 16) (ci := 5) (k := 13) C in_X5 rfl (by decide) q797 rfl dX5_suffix_13 rfl MH_o rfl ?_
  refine r_aload_n (n := 17) C dX5_suffix_16 rfl rfl rfl ?_
  refine r_get (n := 20) (ci := 5) (k := 12) C in_X5 rfl (by decide) q796 rfl dX5_suffix_17 rfl MH_o rfl ?_
  rw [e12]
  refine r_iaload (n := 21) (N := 80) C dX5_suffix_20 rfl (MH_a 8 (by decide)) ?_
  rw [show ((wh.length : Int)).toNat = wh.length by omega, hA1]
  refine r_iload_n (n := 22) C dX5_suffix_21 rfl rfl rfl ?_
  refine r_callV (n := 25) (n0 := 3) (ci := 5) C (ct_make (xL x) g o _ A r sz w a lim hR1 h1 h2) (lw_V q898 q900 qs18 q48 q901) ⟨by decide, by decide, by decide +kernel⟩ rfl MH_o rfl dX5_suffix_22 rfl rfl ?_
  rintro v h' sz' ⟨F', A', rfl, rfl, rfl, hR2, hF2, h14⟩ - -
  dsimp only [stk]
  refine r_return C hQ dX5_suffix_25 ?_
  exact ⟨_, _, rfl, rfl, rfl, hR2, hF1.tr hF2, by rw [h14]; rfl⟩
theorem RS_pop2 {F : Nat → Int} {A : Nat → Nat → Int} {o : List T3} {w : Int} {ws wh : List Int} {a b : Int} (h : RS F A o (w :: ws) (b :: a :: wh)) : RS (va_up (va_up F 12 (F 12 - 2)) 10 (F 10 - 1)) A o ws wh ∧ FM F A (va_up (va_up F 12 (F 12 - 2)) 10 (F 10 - 1)) A ∧ A 8 wh.length = a ∧ A 8 (wh.length + 1) = b ∧ A 7 ws.length = w := by
  obtain ⟨h1, h2, h3, h4, h5, h6⟩ := h
  refine ⟨⟨?_, ?_, ?_, h4, h5.2, h6.2.2⟩, ⟨?_, fun _ _ => rfl⟩, h6.2.1, h6.1, h5.1⟩
  · simp [va_up, h1]
  · simp [va_up, h2]
  · simp [va_up, h3]
    omega
  · intro k k1 k2 k3 k4
    simp [va_up, k2, k3]
theorem ct_join (l : Launch) (g : GG) (o : Nat) (F : Nat → Int) (A : Nat → Nat → Int) (r : HM) (sz : Nat) (least : Int) (hle : least = 1 ∨ least = 2) {ou : List T3} {ws wh : List Int} (hR : RS F A ou ws wh) (hb : ∀ w ∈ ws, w = 1 ∨ w = 2 ∨ w = 7) (h1 : ou.length + ws.length ≤ 80) (h2 : wh.length = nb ws + 1) (h3 : wh.length ≤ 80) : MT l yX5_join cX5_join 4 none 1 [.ref o, vI least] g o F A r sz (fun v F' A' => v = none ∧ RS F' A' (jn least ws ou wh).1 (jn least ws ou wh).2.1 (jn least ws ou wh).2.2 ∧ FM F A F' A' ∧ F' 14 = F 14) := by
  refine CT.of (lo := [some (.ref o), some (vI least), none, none]) (by decide) (by simp [Value.category]) (Nat.le_of_ble_eq_true rfl) rfl ?_
  intro x h0 Q C hQ hl hni
  refine V.ls (lo' := [some (.ref o), some (vI least), none, none]) ?_ ⟨rfl, rfl, trivial⟩
  refine lpv5 (fun F1 A1 (ou1 : List T3) (ws1 wh1 : List Int) => V x g h0 Q (MH g o F1 A1 r) sz 0 0 0 [some (.ref o), some (vI least), none, none] []) (fun F1 A1 ou1 ws1 wh1 => RS F1 A1 ou1 ws1 wh1 ∧ (∀ w ∈ ws1, w = 1 ∨ w = 2 ∨ w = 7) ∧ ou1.length + ws1.length ≤ 80 ∧ wh1.length = nb ws1 + 1 ∧ wh1.length ≤ 80 ∧ FM F A F1 A1 ∧ F1 14 = F 14 ∧ jn least ws ou wh = jn least ws1 ou1 wh1) (fun F1 A1 ou1 ws1 wh1 => ws1.length) ?_ F A ou ws wh ⟨hR, hb, h1, h2, h3, FM.rf, rfl, rfl⟩
  rintro F1 A1 ou1 ws1 wh1 ⟨hR1, hb1, h11, h21, h31, hF1, h14, hj⟩ ih
  have e10 := hR1.2.1
  cases ws1 with
  | nil =>
    refine r_aload_n (n := 1) C dX5_join_0 rfl rfl rfl ?_
    refine r_get (n := 4) (ci := 5) (k := 10) C in_X5 rfl (by decide) q794 rfl dX5_join_1 rfl MH_o rfl ?_
    refine r_if_le (t := 103) (n := 7) C dX5_join_4 (by decide) rfl (fun c_4 => ?_) (fun c_4 => ?_) (by simp at e10; omega)
    · refine r_return C hQ dX5_join_103 ?_
      refine ⟨_, _, rfl, rfl, rfl, ?_, hF1, h14⟩
      rw [hj]
      exact hR1
    · exfalso; simp at e10; omega
  | cons w ws1 =>
    have hw := hb1 w List.mem_cons_self
    have e7 : A1 7 (F1 10 - 1).toNat = w := by
      have := hR1.2.2.2.2.1.1
      rw [← this]
      congr 1
      simp at e10
      omega
    simp only [List.length_cons] at e10 h11
    have k103 : ¬ (w ≠ 7 ∧ (w = 1 ∨ least = 2)) → V x g h0 Q (MH g o F1 A1 r) sz 0 0 103 [some (.ref o), some (vI least), none, none] [] := by
      intro hc
      refine r_return C hQ dX5_join_103 ?_
      refine ⟨_, _, rfl, rfl, rfl, ?_, hF1, h14⟩
      rw [hj, jn_s hc]
      exact hR1
    have k43 : (w ≠ 7 ∧ (w = 1 ∨ least = 2)) → V x g h0 Q (MH g o F1 A1 r) sz 0 0 43 [some (.ref o), some (vI least), none, none] [] := by
      intro hc
      rw [nb, if_neg hc.1] at h21
      match wh1, hR1, h21, h31, hj with
      | [], hR1, h21, h31, hj => simp at h21
      | [b], hR1, h21, h31, hj => simp at h21
      | b :: a :: wh1, hR1, h21, h31, hj =>
        obtain ⟨hR2, hF2, ea, eb, ew⟩ := RS_pop2 hR1
        have e12 := hR1.2.2.1
        simp only [List.length_cons] at e12 h21 h31
        have f12 : va_up F1 12 (F1 12 - 2) 12 = F1 12 - 2 := by simp [va_up]
        have f10 : va_up (va_up F1 12 (F1 12 - 2)) 10 (F1 10 - 1) 10 = F1 10 - 1 := by simp [va_up]
        have g10 : va_up F1 12 (F1 12 - 2) 10 = F1 10 := by simp [va_up]
        refine r_aload_n (n := 44) C dX5_join_43 rfl rfl rfl ?_
        refine r_dup (n := 45) C dX5_join_44 rfl rfl ?_
        refine r_get (n := 48) (ci := 5) (k := 12) C in_X5 rfl (by decide) q796 rfl dX5_join_45 rfl MH_o rfl ?_
        refine r_iconst (n := 49) C dX5_join_48 rfl ?_
        refine r_isub (n := 50) C dX5_join_49 rfl ?_
        refine r_mput (n := 53) (ty := .int) (k := 12) C (by decide) q796 rfl rfl (by decide +kernel) rfl rfl dX5_join_50 rfl rfl ?_
        refine r_aload_n (n := 54) C dX5_join_53 rfl rfl rfl ?_
        refine r_get (n := 57) (ci := 5) (k := 13) C in_X5 rfl (by decide) q797 rfl dX5_join_54 rfl MH_o rfl ?_
        refine r_aload_n (n := 58) C dX5_join_57 rfl rfl rfl ?_
        refine r_get (n := 61) (ci := 5) (k := 12) C in_X5 rfl (by decide) q796 rfl dX5_join_58 rfl MH_o rfl ?_
        rw [f12]
        refine r_iaload (n := 62) (N := 80) C dX5_join_61 rfl (MH_a 8 (by decide)) ?_
        rw [show (F1 12 - 2).toNat = wh1.length by omega, ea]
        refine r_istore_n (n := 63) C dX5_join_62 rfl rfl ?_
        refine r_aload_n (n := 64) C dX5_join_63 rfl rfl rfl ?_
        refine r_get (n := 67) (ci := 5) (k := 13) C in_X5 rfl (by decide) q797 rfl dX5_join_64 rfl MH_o rfl ?_
        refine r_aload_n (n := 68) C dX5_join_67 rfl rfl rfl ?_
        refine r_get (n := 71) (ci := 5) (k := 12) C in_X5 rfl (by decide) q796 rfl dX5_join_68 rfl MH_o rfl ?_
        rw [f12]
        refine r_iconst (n := 72) C dX5_join_71 rfl ?_
        refine r_iadd (n := 73) C dX5_join_72 rfl ?_
        refine r_iaload (n := 74) (N := 80) C dX5_join_73 rfl (MH_a 8 (by decide)) ?_
        rw [show (F1 12 - 2 + 1).toNat = wh1.length + 1 by omega, eb]
        refine r_istore_n (n := 75) C dX5_join_74 rfl rfl ?_
        refine r_aload_n (n := 76) C dX5_join_75 rfl rfl rfl ?_
        refine r_dup (n := 77) C dX5_join_76 rfl rfl ?_
        refine r_get (n := 80) (ci := 5) (k := 10) C in_X5 rfl (by decide) q794 rfl dX5_join_77 rfl MH_o rfl ?_
        rw [g10]
        refine r_iconst (n := 81) C dX5_join_80 rfl ?_
        refine r_isub (n := 82) C dX5_join_81 rfl ?_
        refine r_mput (n := 85) (ty := .int) (k := 10) C (by decide) q794 rfl rfl (by decide +kernel) rfl rfl dX5_join_82 rfl rfl ?_
        refine r_aload_n (n := 86) C dX5_join_85 rfl rfl rfl ?_
        refine r_aload_n (n := 87) C dX5_join_86 rfl rfl rfl ?_
        refine r_get (n := 90) (ci := 5) (k := 11) C in_X5 rfl (by decide) q795 rfl dX5_join_87 rfl MH_o rfl ?_
        refine r_aload_n (n := 91) C dX5_join_90 rfl rfl rfl ?_
        refine r_get (n := 94) (ci := 5) (k := 10) C in_X5 rfl (by decide) q794 rfl dX5_join_91 rfl MH_o rfl ?_
        rw [f10]
        refine r_iaload (n := 95) (N := 80) C dX5_join_94 rfl (MH_a 7 (by decide)) ?_
        rw [e7]
        refine r_iload_n (n := 96) C dX5_join_95 rfl rfl rfl ?_
        refine r_iload_n (n := 97) C dX5_join_96 rfl rfl rfl ?_
        refine r_callV (n := 100) (n0 := 3) (ci := 5) C (ct_make (xL x) g o _ A1 r sz w a b hR2 (by omega) (by omega)) (lw_V q898 q900 qs18 q48 q901) ⟨by decide, by decide, by decide +kernel⟩ rfl MH_o rfl dX5_join_97 rfl rfl ?_
        rintro v h' sz' ⟨F2, A2, rfl, rfl, rfl, hR3, hF3, h143⟩ - -
        dsimp only [stk]
        refine r_goto (n := 0) C dX5_join_100 (by decide) ?_
        refine V.ls (ih F2 A2 _ ws1 _ ⟨hR3, fun z hz => hb1 z (List.mem_cons_of_mem _ hz), by simp; omega, by simp; omega, by simp; omega, hF1.tr (hF2.tr hF3), by rw [h143]; exact h14, by rw [hj, jn_c hc]⟩ (by simp)) ⟨rfl, rfl, trivial⟩
    refine r_aload_n (n := 1) C dX5_join_0 rfl rfl rfl ?_
    refine r_get (n := 4) (ci := 5) (k := 10) C in_X5 rfl (by decide) q794 rfl dX5_join_1 rfl MH_o rfl ?_
    refine r_if_le (t := 103) (n := 7) C dX5_join_4 (by decide) rfl (fun c_4 => ?_) (fun c_4 => ?_)
    · exfalso; omega
    · refine r_aload_n (n := 8) C dX5_join_7 rfl rfl rfl ?_
      refine r_get (n := 11) (ci := 5) (k := 11) C in_X5 rfl (by decide) q795 rfl dX5_join_8 rfl MH_o rfl ?_
      refine r_aload_n (n := 12) C dX5_join_11 rfl rfl rfl ?_
      refine r_get (n := 15) (ci := 5) (k := 10) C in_X5 rfl (by decide) q794 rfl dX5_join_12 rfl MH_o rfl ?_
      refine r_iconst (n := 16) C dX5_join_15 rfl ?_
      refine r_isub (n := 17) C dX5_join_16 rfl ?_
      refine r_iaload (n := 18) (N := 80) C dX5_join_17 rfl (MH_a 7 (by decide)) ?_
      rw [e7]
      refine r_bipush (n := 20) C dX5_join_18 (by decide) rfl ?_
      refine r_icmp_eq (t := 103) (n := 23) C dX5_join_20 (by decide) rfl (fun c_20 => ?_) (fun c_20 => ?_)
      · exact k103 (by omega)
      · refine r_aload_n (n := 24) C dX5_join_23 rfl rfl rfl ?_
        refine r_get (n := 27) (ci := 5) (k := 11) C in_X5 rfl (by decide) q795 rfl dX5_join_24 rfl MH_o rfl ?_
        refine r_aload_n (n := 28) C dX5_join_27 rfl rfl rfl ?_
        refine r_get (n := 31) (ci := 5) (k := 10) C in_X5 rfl (by decide) q794 rfl dX5_join_28 rfl MH_o rfl ?_
        refine r_iconst (n := 32) C dX5_join_31 rfl ?_
        refine r_isub (n := 33) C dX5_join_32 rfl ?_
        refine r_iaload (n := 34) (N := 80) C dX5_join_33 rfl (MH_a 7 (by decide)) ?_
        rw [e7]
        refine r_iconst (n := 35) C dX5_join_34 rfl ?_
        refine r_icmp_eq (t := 43) (n := 38) C dX5_join_35 (by decide) rfl (fun c_35 => ?_) (fun c_35 => ?_)
        · exact k43 (by omega)
        · refine r_iload_n (n := 39) C dX5_join_38 rfl rfl rfl ?_
          refine r_iconst (n := 40) C dX5_join_39 rfl ?_
          refine r_icmp_ne (t := 103) (n := 43) C dX5_join_40 (by decide) rfl (fun c_40 => ?_) (fun c_40 => ?_)
          · exact k103 (by omega)
          · exact k43 (by omega)
