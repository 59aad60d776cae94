/-! the model: small methods, and parts of costs -/
theorem ct_nodes (l : Launch) (g : GG) (o : Nat) (F : Nat → Int) (A : Nat → Nat → Int) (r : HM) (sz : Nat) : RT l yX5_nodes cX5_nodes 1 (some .int) 0 [.ref o] g (MH g o F A r) sz (fun v => v = some (vI (F 2))) := by
  refine CT.of (lo := [some (.ref o)]) (by decide) (by simp [Value.category]) (Nat.le_of_ble_eq_true rfl) rfl ?_
  intro x h0 Q C hQ hl hni
  refine r_aload_n (n := 1) C dX5_nodes_0 rfl rfl rfl ?_
  refine r_get (n := 4) (ci := 5) (k := 2) C in_X5 rfl (by decide) q786 rfl dX5_nodes_1 rfl MH_o rfl ?_
  refine r_ireturn C hQ dX5_nodes_4 ?_
  exact ⟨rfl, rfl, rfl⟩
theorem ct_from (l : Launch) (g : GG) (o : Nat) (F : Nat → Int) (A : Nat → Nat → Int) (r : HM) (sz : Nat) : RT l yX5_from cX5_from 1 (some .int) 0 [.ref o] g (MH g o F A r) sz (fun v => v = some (vI (F 23))) := by
  refine CT.of (lo := [some (.ref o)]) (by decide) (by simp [Value.category]) (Nat.le_of_ble_eq_true rfl) rfl ?_
  intro x h0 Q C hQ hl hni
  refine r_aload_n (n := 1) C dX5_from_0 rfl rfl rfl ?_
  refine r_get (n := 4) (ci := 5) (k := 23) C in_X5 rfl (by decide) q807 rfl dX5_from_1 rfl MH_o rfl ?_
  refine r_ireturn C hQ dX5_from_4 ?_
  exact ⟨rfl, rfl, rfl⟩
theorem ct_to (l : Launch) (g : GG) (o : Nat) (F : Nat → Int) (A : Nat → Nat → Int) (r : HM) (sz : Nat) : RT l yX5_to cX5_to 1 (some .int) 0 [.ref o] g (MH g o F A r) sz (fun v => v = some (vI (F 24))) := by
  refine CT.of (lo := [some (.ref o)]) (by decide) (by simp [Value.category]) (Nat.le_of_ble_eq_true rfl) rfl ?_
  intro x h0 Q C hQ hl hni
  refine r_aload_n (n := 1) C dX5_to_0 rfl rfl rfl ?_
  refine r_get (n := 4) (ci := 5) (k := 24) C in_X5 rfl (by decide) q808 rfl dX5_to_1 rfl MH_o rfl ?_
  refine r_ireturn C hQ dX5_to_4 ?_
  exact ⟨rfl, rfl, rfl⟩
theorem ct_words (l : Launch) (g : GG) (o : Nat) (F : Nat → Int) (A : Nat → Nat → Int) (r : HM) (sz : Nat) : RT l yX5_words cX5_words 1 (some .int) 0 [.ref o] g (MH g o F A r) sz (fun v => v = some (vI (F 25))) := by
  refine CT.of (lo := [some (.ref o)]) (by decide) (by simp [Value.category]) (Nat.le_of_ble_eq_true rfl) rfl ?_
  intro x h0 Q C hQ hl hni
  refine r_aload_n (n := 1) C dX5_words_0 rfl rfl rfl ?_
  refine r_get (n := 4) (ci := 5) (k := 25) C in_X5 rfl (by decide) q809 rfl dX5_words_1 rfl MH_o rfl ?_
  refine r_ireturn C hQ dX5_words_4 ?_
  exact ⟨rfl, rfl, rfl⟩
theorem ct_erase (l : Launch) (g : GG) (o : Nat) (F : Nat → Int) (A : Nat → Nat → Int) (r : HM) (sz : Nat) : MT l yX5_erase cX5_erase 1 none 1 [.ref o] g o F A r sz (fun v F' A' => v = none ∧ F' = va_up (va_up (va_up (va_up F 19 0) 21 0) 23 (-1)) 24 (-1) ∧ A' = A) := by
  refine CT.of (lo := [some (.ref o)]) (by decide) (by simp [Value.category]) (Nat.le_of_ble_eq_true rfl) rfl ?_
  intro x h0 Q C hQ hl hni
  refine r_aload_n (n := 1) C dX5_erase_0 rfl rfl rfl ?_
  refine r_iconst (n := 2) C dX5_erase_1 rfl ?_
  refine r_mput (n := 5) (ty := .int) (k := 19) C (by decide) q803 rfl rfl (by decide +kernel) rfl rfl dX5_erase_2 rfl rfl ?_
  refine r_aload_n (n := 6) C dX5_erase_5 rfl rfl rfl ?_
  refine r_callV (n := 9) (n0 := 0) (ci := 5) C (ct_changed (xL x) g o _ A r sz) (lw_V q919 q921 qs23 q48 q922) ⟨by decide, by decide, by decide +kernel⟩ rfl MH_o rfl dX5_erase_6 rfl rfl ?_
  rintro v h' sz' ⟨F1, A1, rfl, rfl, rfl, rfl, rfl⟩ - -
  dsimp only [stk]
  refine r_return C hQ dX5_erase_9 ?_
  exact ⟨_, _, rfl, rfl, rfl, rfl, rfl⟩
theorem ct_mtype (l : Launch) (g : GG) (o : Nat) (F : Nat → Int) (A : Nat → Nat → Int) (r : HM) (sz : Nat) (c : Int) (hn : 0 ≤ F 0 ∧ F 0 ≤ 40) (hc : 0 ≤ c ∧ c < 65536) : MT l yX5_type cX5_type 2 (some .boolean) 0 [.ref o, vI c] g o F A r sz (fun v F' A' => (v = some (vI 0) ∧ (c < 33 ∨ 126 < c ∨ F 0 = 40) ∧ F' = F ∧ A' = A) ∨ (v = some (vI 1) ∧ ¬ (c < 33 ∨ 126 < c ∨ F 0 = 40) ∧ F' = va_up F 0 (F 0 + 1) ∧ A' = va_up A 0 (va_up (A 0) (F 0).toNat c))) := by
  refine CT.of (lo := [some (.ref o), some (vI c)]) (by decide) (by simp [Value.category]) (Nat.le_of_ble_eq_true rfl) rfl ?_
  intro x h0 Q C hQ hl hni
  refine r_iload_n (n := 1) C dX5_type_0 rfl rfl rfl ?_
  refine r_bipush (n := 3) C dX5_type_1 (by decide) rfl ?_
  refine r_icmp_lt (t := 21) (n := 6) C dX5_type_3 (by decide) rfl (fun c_3 => ?_) (fun c_3 => ?_)
  · refine r_iconst (n := 22) C dX5_type_21 rfl ?_
    refine r_zreturn C hQ rfl dX5_type_22 ?_
    exact ⟨_, _, rfl, rfl, Or.inl ⟨rfl, by omega, rfl, rfl⟩⟩
  · refine r_iload_n (n := 7) C dX5_type_6 rfl rfl rfl ?_
    refine r_bipush (n := 9) C dX5_type_7 (by decide) rfl ?_
    refine r_icmp_gt (t := 21) (n := 12) C dX5_type_9 (by decide) rfl (fun c_9 => ?_) (fun c_9 => ?_)
    · refine r_iconst (n := 22) C dX5_type_21 rfl ?_
      refine r_zreturn C hQ rfl dX5_type_22 ?_
      exact ⟨_, _, rfl, rfl, Or.inl ⟨rfl, by omega, rfl, rfl⟩⟩
    · refine r_aload_n (n := 13) C dX5_type_12 rfl rfl rfl ?_
      refine r_get (n := 16) (ci := 5) (k := 0) C in_X5 rfl (by decide) q784 rfl dX5_type_13 rfl MH_o rfl ?_
      refine r_bipush (n := 18) C dX5_type_16 (by decide) rfl ?_
      refine r_icmp_ne (t := 23) (n := 21) C dX5_type_18 (by decide) rfl (fun c_18 => ?_) (fun c_18 => ?_)
      · refine r_aload_n (n := 24) C dX5_type_23 rfl rfl rfl ?_
        refine r_get (n := 27) (ci := 5) (k := 1) C in_X5 rfl (by decide) q785 rfl dX5_type_24 rfl MH_o rfl ?_
        refine r_aload_n (n := 28) C dX5_type_27 rfl rfl rfl ?_
        refine r_get (n := 31) (ci := 5) (k := 0) C in_X5 rfl (by decide) q784 rfl dX5_type_28 rfl MH_o rfl ?_
        refine r_iload_n (n := 32) C dX5_type_31 rfl rfl rfl ?_
        refine r_mast (n := 33) (j := 0) (N := 40) C dX5_type_32 rfl rfl (by decide) ?_
        refine r_aload_n (n := 34) C dX5_type_33 rfl rfl rfl ?_
        refine r_dup (n := 35) C dX5_type_34 rfl rfl ?_
        refine r_get (n := 38) (ci := 5) (k := 0) C in_X5 rfl (by decide) q784 rfl dX5_type_35 rfl MH_o rfl ?_
        refine r_iconst (n := 39) C dX5_type_38 rfl ?_
        refine r_iadd (n := 40) C dX5_type_39 rfl ?_
        refine r_mput (n := 43) (ty := .int) (k := 0) C (by decide) q784 rfl rfl (by decide +kernel) rfl rfl dX5_type_40 rfl rfl ?_
        refine r_iconst (n := 44) C dX5_type_43 rfl ?_
        refine r_zreturn C hQ rfl dX5_type_44 ?_
        exact ⟨_, _, rfl, rfl, Or.inr ⟨rfl, by omega, rfl, rfl⟩⟩
      · refine r_iconst (n := 22) C dX5_type_21 rfl ?_
        refine r_zreturn C hQ rfl dX5_type_22 ?_
        exact ⟨_, _, rfl, rfl, Or.inl ⟨rfl, by omega, rfl, rfl⟩⟩
theorem ct_mwrite (l : Launch) (g : GG) (o : Nat) (F : Nat → Int) (A : Nat → Nat → Int) (r : HM) (sz : Nat) (c : Int) (hn : 0 ≤ F 19 ∧ F 19 ≤ 24) (hc : 0 ≤ c ∧ c < 65536) : MT l yX5_write cX5_write 2 (some .boolean) 1 [.ref o, vI c] g o F A r sz (fun v F' A' => (v = some (vI 0) ∧ (c < 97 ∨ 122 < c ∨ F 19 = 24) ∧ F' = F ∧ A' = A) ∨ (v = some (vI 1) ∧ ¬ (c < 97 ∨ 122 < c ∨ F 19 = 24) ∧ F' = va_up (va_up (va_up (va_up F 19 (F 19 + 1)) 21 0) 23 (-1)) 24 (-1) ∧ A' = va_up A 9 (va_up (A 9) (F 19).toNat c))) := by
  refine CT.of (lo := [some (.ref o), some (vI c)]) (by decide) (by simp [Value.category]) (Nat.le_of_ble_eq_true rfl) rfl ?_
  intro x h0 Q C hQ hl hni
  refine r_iload_n (n := 1) C dX5_write_0 rfl rfl rfl ?_
  refine r_callS (n := 4) (n0 := 1) C (ct_small (xL x) g _ sz c (by omega)) (lw_S q887 q888 q48 q889) ⟨by decide, by decide, by decide +kernel⟩ rfl dX5_write_1 rfl rfl ?_
  rintro v h' sz' ⟨rfl, rfl, z, rfl, hz⟩ - -
  dsimp only [stk]
  refine r_if_eq (t := 16) (n := 7) C dX5_write_4 (by decide) rfl (fun c_4 => ?_) (fun c_4 => ?_)
  · refine r_iconst (n := 17) C dX5_write_16 rfl ?_
    refine r_zreturn C hQ rfl dX5_write_17 ?_
    exact ⟨_, _, rfl, rfl, Or.inl ⟨rfl, by omega, rfl, rfl⟩⟩
  · refine r_aload_n (n := 8) C dX5_write_7 rfl rfl rfl ?_
    refine r_get (n := 11) (ci := 5) (k := 19) C in_X5 rfl (by decide) q803 rfl dX5_write_8 rfl MH_o rfl ?_
    refine r_bipush (n := 13) C dX5_write_11 (by decide) rfl ?_
    refine r_icmp_ne (t := 18) (n := 16) C dX5_write_13 (by decide) rfl (fun c_13 => ?_) (fun c_13 => ?_)
    · refine r_aload_n (n := 19) C dX5_write_18 rfl rfl rfl ?_
      refine r_get (n := 22) (ci := 5) (k := 20) C in_X5 rfl (by decide) q804 rfl dX5_write_19 rfl MH_o rfl ?_
      refine r_aload_n (n := 23) C dX5_write_22 rfl rfl rfl ?_
      refine r_get (n := 26) (ci := 5) (k := 19) C in_X5 rfl (by decide) q803 rfl dX5_write_23 rfl MH_o rfl ?_
      refine r_iload_n (n := 27) C dX5_write_26 rfl rfl rfl ?_
      refine r_mast (n := 28) (j := 9) (N := 24) C dX5_write_27 rfl rfl (by decide) ?_
      refine r_aload_n (n := 29) C dX5_write_28 rfl rfl rfl ?_
      refine r_dup (n := 30) C dX5_write_29 rfl rfl ?_
      refine r_get (n := 33) (ci := 5) (k := 19) C in_X5 rfl (by decide) q803 rfl dX5_write_30 rfl MH_o rfl ?_
      refine r_iconst (n := 34) C dX5_write_33 rfl ?_
      refine r_iadd (n := 35) C dX5_write_34 rfl ?_
      refine r_mput (n := 38) (ty := .int) (k := 19) C (by decide) q803 rfl rfl (by decide +kernel) rfl rfl dX5_write_35 rfl rfl ?_
      refine r_aload_n (n := 39) C dX5_write_38 rfl rfl rfl ?_
      refine r_callV (n := 42) (n0 := 0) (ci := 5) C (ct_changed (xL x) g o _ _ r sz) (lw_V q919 q921 qs23 q48 q922) ⟨by decide, by decide, by decide +kernel⟩ rfl MH_o rfl dX5_write_39 rfl rfl ?_
      rintro v h' sz' ⟨F1, A1, rfl, rfl, rfl, rfl, rfl⟩ - -
      dsimp only [stk]
      refine r_iconst (n := 43) C dX5_write_42 rfl ?_
      refine r_zreturn C hQ rfl dX5_write_43 ?_
      exact ⟨_, _, rfl, rfl, Or.inr ⟨rfl, by omega, rfl, rfl⟩⟩
    · refine r_iconst (n := 17) C dX5_write_16 rfl ?_
      refine r_zreturn C hQ rfl dX5_write_17 ?_
      exact ⟨_, _, rfl, rfl, Or.inl ⟨rfl, by omega, rfl, rfl⟩⟩
theorem ct_mweights (l : Launch) (g : GG) (o : Nat) (F : Nat → Int) (A : Nat → Nat → Int) (r : HM) (sz : Nat) (a b c : Int) (ha : -2147483648 ≤ a ∧ a < 2147483648) (hb : -2147483648 ≤ b ∧ b < 2147483648) (hc : -2147483648 ≤ c ∧ c < 2147483648) : MT l yX5_weights cX5_weights 4 (some .boolean) 1 [.ref o, vI a, vI b, vI c] g o F A r sz (fun v F' A' => (v = some (vI 0) ∧ ¬ (0 ≤ a ∧ a ≤ 9 ∧ 0 ≤ b ∧ b ≤ 9 ∧ 0 ≤ c ∧ c ≤ 9) ∧ F' = F ∧ A' = A) ∨ (v = some (vI 1) ∧ (0 ≤ a ∧ a ≤ 9 ∧ 0 ≤ b ∧ b ≤ 9 ∧ 0 ≤ c ∧ c ≤ 9) ∧ F' = va_up (va_up (va_up (va_up (va_up (va_up F 15 a) 16 b) 17 c) 21 0) 23 (-1)) 24 (-1) ∧ A' = A)) := by
  refine CT.of (lo := [some (.ref o), some (vI a), some (vI b), some (vI c)]) (by decide) (by simp [Value.category]) (Nat.le_of_ble_eq_true rfl) rfl ?_
  intro x h0 Q C hQ hl hni
  refine r_iload_n (n := 1) C dX5_weights_0 rfl rfl rfl ?_
  refine r_if_lt (t := 30) (n := 4) C dX5_weights_1 (by decide) rfl (fun c_1 => ?_) (fun c_1 => ?_)
  · refine r_iconst (n := 31) C dX5_weights_30 rfl ?_
    refine r_zreturn C hQ rfl dX5_weights_31 ?_
    exact ⟨_, _, rfl, rfl, Or.inl ⟨rfl, by omega, rfl, rfl⟩⟩
  · refine r_iload_n (n := 5) C dX5_weights_4 rfl rfl rfl ?_
    refine r_bipush (n := 7) C dX5_weights_5 (by decide) rfl ?_
    refine r_icmp_gt (t := 30) (n := 10) C dX5_weights_7 (by decide) rfl (fun c_7 => ?_) (fun c_7 => ?_)
    · refine r_iconst (n := 31) C dX5_weights_30 rfl ?_
      refine r_zreturn C hQ rfl dX5_weights_31 ?_
      exact ⟨_, _, rfl, rfl, Or.inl ⟨rfl, by omega, rfl, rfl⟩⟩
    · refine r_iload_n (n := 11) C dX5_weights_10 rfl rfl rfl ?_
      refine r_if_lt (t := 30) (n := 14) C dX5_weights_11 (by decide) rfl (fun c_11 => ?_) (fun c_11 => ?_)
      · refine r_iconst (n := 31) C dX5_weights_30 rfl ?_
        refine r_zreturn C hQ rfl dX5_weights_31 ?_
        exact ⟨_, _, rfl, rfl, Or.inl ⟨rfl, by omega, rfl, rfl⟩⟩
      · refine r_iload_n (n := 15) C dX5_weights_14 rfl rfl rfl ?_
        refine r_bipush (n := 17) C dX5_weights_15 (by decide) rfl ?_
        refine r_icmp_gt (t := 30) (n := 20) C dX5_weights_17 (by decide) rfl (fun c_17 => ?_) (fun c_17 => ?_)
        · refine r_iconst (n := 31) C dX5_weights_30 rfl ?_
          refine r_zreturn C hQ rfl dX5_weights_31 ?_
          exact ⟨_, _, rfl, rfl, Or.inl ⟨rfl, by omega, rfl, rfl⟩⟩
        · refine r_iload_n (n := 21) C dX5_weights_20 rfl rfl rfl ?_
          refine r_if_lt (t := 30) (n := 24) C dX5_weights_21 (by decide) rfl (fun c_21 => ?_) (fun c_21 => ?_)
          · refine r_iconst (n := 31) C dX5_weights_30 rfl ?_
            refine r_zreturn C hQ rfl dX5_weights_31 ?_
            exact ⟨_, _, rfl, rfl, Or.inl ⟨rfl, by omega, rfl, rfl⟩⟩
          · refine r_iload_n (n := 25) C dX5_weights_24 rfl rfl rfl ?_
            refine r_bipush (n := 27) C dX5_weights_25 (by decide) rfl ?_
            refine r_icmp_le (t := 32) (n := 30) C dX5_weights_27 (by decide) rfl (fun c_27 => ?_) (fun c_27 => ?_)
            · refine r_aload_n (n := 33) C dX5_weights_32 rfl rfl rfl ?_
              refine r_iload_n (n := 34) C dX5_weights_33 rfl rfl rfl ?_
              refine r_mput (n := 37) (ty := .int) (k := 15) C (by decide) q799 rfl rfl (by decide +kernel) rfl rfl dX5_weights_34 rfl rfl ?_
              refine r_aload_n (n := 38) C dX5_weights_37 rfl rfl rfl ?_
              refine r_iload_n (n := 39) C dX5_weights_38 rfl rfl rfl ?_
              refine r_mput (n := 42) (ty := .int) (k := 16) C (by decide) q800 rfl rfl (by decide +kernel) rfl rfl dX5_weights_39 rfl rfl ?_
              refine r_aload_n (n := 43) C dX5_weights_42 rfl rfl rfl ?_
              refine r_iload_n (n := 44) C dX5_weights_43 rfl rfl rfl ?_
              refine r_mput (n := 47) (ty := .int) (k := 17) C (by decide) q801 rfl rfl (by decide +kernel) rfl rfl dX5_weights_44 rfl rfl ?_
              refine r_aload_n (n := 48) C dX5_weights_47 rfl rfl rfl ?_
              refine r_callV (n := 51) (n0 := 0) (ci := 5) C (ct_changed (xL x) g o _ A r sz) (lw_V q919 q921 qs23 q48 q922) ⟨by decide, by decide, by decide +kernel⟩ rfl MH_o rfl dX5_weights_48 rfl rfl ?_
              rintro v h' sz' ⟨F1, A1, rfl, rfl, rfl, rfl, rfl⟩ - -
              dsimp only [stk]
              refine r_iconst (n := 52) C dX5_weights_51 rfl ?_
              refine r_zreturn C hQ rfl dX5_weights_52 ?_
              exact ⟨_, _, rfl, rfl, Or.inr ⟨rfl, by omega, rfl, rfl⟩⟩
            · refine r_iconst (n := 31) C dX5_weights_30 rfl ?_
              refine r_zreturn C hQ rfl dX5_weights_31 ?_
              exact ⟨_, _, rfl, rfl, Or.inl ⟨rfl, by omega, rfl, rfl⟩⟩
theorem ct_mbound (l : Launch) (g : GG) (o : Nat) (F : Nat → Int) (A : Nat → Nat → Int) (r : HM) (sz : Nat) (a : Int) (ha : -2147483648 ≤ a ∧ a < 2147483648) : MT l yX5_bound cX5_bound 2 (some .boolean) 1 [.ref o, vI a] g o F A r sz (fun v F' A' => (v = some (vI 0) ∧ ¬ (0 ≤ a ∧ a ≤ 999) ∧ F' = F ∧ A' = A) ∨ (v = some (vI 1) ∧ (0 ≤ a ∧ a ≤ 999) ∧ F' = va_up (va_up (va_up (va_up F 18 a) 21 0) 23 (-1)) 24 (-1) ∧ A' = A)) := by
  refine CT.of (lo := [some (.ref o), some (vI a)]) (by decide) (by simp [Value.category]) (Nat.le_of_ble_eq_true rfl) rfl ?_
  intro x h0 Q C hQ hl hni
  refine r_iload_n (n := 1) C dX5_bound_0 rfl rfl rfl ?_
  refine r_if_lt (t := 11) (n := 4) C dX5_bound_1 (by decide) rfl (fun c_1 => ?_) (fun c_1 => ?_)
  · refine r_iconst (n := 12) C dX5_bound_11 rfl ?_
    refine r_zreturn C hQ rfl dX5_bound_12 ?_
    exact ⟨_, _, rfl, rfl, Or.inl ⟨rfl, by omega, rfl, rfl⟩⟩
  · refine r_iload_n (n := 5) C dX5_bound_4 rfl rfl rfl ?_
    refine r_sipush (n := 8) C dX5_bound_5 (by decide) rfl ?_
    refine r_icmp_le (t := 13) (n := 11) C dX5_bound_8 (by decide) rfl (fun c_8 => ?_) (fun c_8 => ?_)
    · refine r_aload_n (n := 14) C dX5_bound_13 rfl rfl rfl ?_
      refine r_iload_n (n := 15) C dX5_bound_14 rfl rfl rfl ?_
      refine r_mput (n := 18) (ty := .int) (k := 18) C (by decide) q802 rfl rfl (by decide +kernel) rfl rfl dX5_bound_15 rfl rfl ?_
      refine r_aload_n (n := 19) C dX5_bound_18 rfl rfl rfl ?_
      refine r_callV (n := 22) (n0 := 0) (ci := 5) C (ct_changed (xL x) g o _ A r sz) (lw_V q919 q921 qs23 q48 q922) ⟨by decide, by decide, by decide +kernel⟩ rfl MH_o rfl dX5_bound_19 rfl rfl ?_
      rintro v h' sz' ⟨F1, A1, rfl, rfl, rfl, rfl, rfl⟩ - -
      dsimp only [stk]
      refine r_iconst (n := 23) C dX5_bound_22 rfl ?_
      refine r_zreturn C hQ rfl dX5_bound_23 ?_
      exact ⟨_, _, rfl, rfl, Or.inr ⟨rfl, by omega, rfl, rfl⟩⟩
    · refine r_iconst (n := 12) C dX5_bound_11 rfl ?_
      refine r_zreturn C hQ rfl dX5_bound_12 ?_
      exact ⟨_, _, rfl, rfl, Or.inl ⟨rfl, by omega, rfl, rfl⟩⟩
/-- the cell of node n on the piece from i to j -/
abbrev cel (A : Nat → Nat → Int) (n i j : Nat) : Int := A 10 (625 * n + 25 * i + j)
theorem ct_mcostOf (l : Launch) (g : GG) (o : Nat) (F : Nat → Int) (A : Nat → Nat → Int) (r : HM) (sz : Nat) (n i j : Int) (hn : 0 ≤ n ∧ n < 24) (hi : 0 ≤ i ∧ i < 25) (hj : 0 ≤ j ∧ j < 25) : RT l yX5_costOf cX5_costOf 4 (some .int) 0 [.ref o, vI n, vI i, vI j] g (MH g o F A r) sz (fun v => v = some (vI (cel A n.toNat i.toNat j.toNat))) := by
  refine CT.of (lo := [some (.ref o), some (vI n), some (vI i), some (vI j)]) (by decide) (by simp [Value.category]) (Nat.le_of_ble_eq_true rfl) rfl ?_
  intro x h0 Q C hQ hl hni
  refine r_aload_n (n := 1) C dX5_costOf_0 rfl rfl rfl ?_
  refine r_get (n := 4) (ci := 5) (k := 22) C in_X5 rfl (by decide) q806 rfl dX5_costOf_1 rfl MH_o rfl ?_
  refine r_sipush (n := 7) C dX5_costOf_4 (by decide) rfl ?_
  refine r_iload_n (n := 8) C dX5_costOf_7 rfl rfl rfl ?_
  refine r_imul (n := 9) C dX5_costOf_8 rfl ?_
  refine r_bipush (n := 11) C dX5_costOf_9 (by decide) rfl ?_
  refine r_iload_n (n := 12) C dX5_costOf_11 rfl rfl rfl ?_
  refine r_imul (n := 13) C dX5_costOf_12 rfl ?_
  refine r_iadd (n := 14) C dX5_costOf_13 rfl ?_
  refine r_iload_n (n := 15) C dX5_costOf_14 rfl rfl rfl ?_
  refine r_iadd (n := 16) C dX5_costOf_15 rfl ?_
  refine r_iaload (n := 17) (N := 15000) C dX5_costOf_16 rfl (MH_a 10 (by decide)) ?_
  refine r_ireturn C hQ dX5_costOf_17 ?_
  exact ⟨rfl, rfl, by rw [show (625 * n + 25 * i + j).toNat = 625 * n.toNat + 25 * i.toNat + j.toNat by omega]⟩
theorem ct_sum (l : Launch) (g : GG) (h : HM) (sz : Nat) (a b : Int) (ha : 0 ≤ a ∧ a ≤ 1000000) (hb : 0 ≤ b ∧ b ≤ 1000000) : RT l yX5_sum cX5_sum 2 (some .int) 0 [vI a, vI b] g h sz (fun v => v = some (vI (mSum a b))) := by
  refine CT.of (lo := [some (vI a), some (vI b)]) (by decide) (by simp [Value.category]) (Nat.le_of_ble_eq_true rfl) rfl ?_
  intro x h0 Q C hQ hl hni
  refine r_iload_n (n := 1) C dX5_sum_0 rfl rfl rfl ?_
  refine r_ldc (n := 3) (z := 1000000) C q963 (by decide) dX5_sum_1 rfl ?_
  refine r_icmp_ge (t := 12) (n := 6) C dX5_sum_3 (by decide) rfl (fun c_3 => ?_) (fun c_3 => ?_)
  · refine r_ldc (n := 14) (z := 1000000) C q963 (by decide) dX5_sum_12 rfl ?_
    refine r_goto (n := 20) C dX5_sum_14 (by decide) ?_
    refine r_ireturn C hQ dX5_sum_20 ?_
    refine ⟨rfl, rfl, ?_⟩
    unfold mSum
    first | rw [if_pos (by omega)] | rw [if_neg (by omega)]
  · refine r_iload_n (n := 7) C dX5_sum_6 rfl rfl rfl ?_
    refine r_ldc (n := 9) (z := 1000000) C q963 (by decide) dX5_sum_7 rfl ?_
    refine r_icmp_lt (t := 17) (n := 12) C dX5_sum_9 (by decide) rfl (fun c_9 => ?_) (fun c_9 => ?_)
    · refine r_iload_n (n := 18) C dX5_sum_17 rfl rfl rfl ?_
      refine r_iload_n (n := 19) C dX5_sum_18 rfl rfl rfl ?_
      refine r_iadd (n := 20) C dX5_sum_19 rfl ?_
      refine r_ireturn C hQ dX5_sum_20 ?_
      refine ⟨rfl, rfl, ?_⟩
      unfold mSum
      first | rw [if_pos (by omega)] | rw [if_neg (by omega)]
    · refine r_ldc (n := 14) (z := 1000000) C q963 (by decide) dX5_sum_12 rfl ?_
      refine r_goto (n := 20) C dX5_sum_14 (by decide) ?_
      refine r_ireturn C hQ dX5_sum_20 ?_
      refine ⟨rfl, rfl, ?_⟩
      unfold mSum
      first | rw [if_pos (by omega)] | rw [if_neg (by omega)]
/-- what costs rest on: weights, text -/
def Wok (F : Nat → Int) (A : Nat → Nat → Int) : Prop := (0 ≤ F 15 ∧ F 15 ≤ 9) ∧ (0 ≤ F 16 ∧ F 16 ≤ 9) ∧ (0 ≤ F 17 ∧ F 17 ≤ 9) ∧ (0 ≤ F 19 ∧ F 19 ≤ 24) ∧ ∀ p : Nat, (p : Int) < F 19 → 97 ≤ A 9 p ∧ A 9 p ≤ 122
abbrev txM (A : Nat → Nat → Int) : Nat → Int := fun p => A 9 p - 97
theorem ct_ofSet (l : Launch) (g : GG) (o : Nat) (F : Nat → Int) (A : Nat → Nat → Int) (r : HM) (sz : Nat) (s i j : Int) (hs : -2147483648 ≤ s ∧ s < 2147483648) (hi : 0 ≤ i) (hij : i ≤ j) (hj : j ≤ F 19) (hW : Wok F A) : RT l yX5_ofSet cX5_ofSet 8 (some .int) 0 [.ref o, vI s, vI i, vI j] g (MH g o F A r) sz (fun v => v = some (vI (oSet (F 15) (F 16) (F 17) s (txM A) i.toNat j.toNat))) := by
  obtain ⟨h15, h16, h17, h19, htx⟩ := hW
  have hm : 0 ≤ (j - i) * F 15 ∧ (j - i) * F 15 ≤ 24 * 9 := ⟨Int.mul_nonneg (by omega) h15.1, Int.mul_le_mul (by omega) h15.2 h15.1 (by omega)⟩
  have eij : ((j.toNat : Int) - i.toNat) = j - i := by omega
  have hone : ∀ z : Int, j - i ≠ 0 → (z = 1 ∧ fitB s (txM A) i.toNat (j - i).toNat = true) ∨ (z = 0 ∧ fitB s (txM A) i.toNat (j - i).toNat = false) → oSet (F 15) (F 16) (F 17) s (txM A) i.toNat j.toNat = min (F 16 + (j - i) * F 15) ((j - i - 1) * F 15 + (if z = 0 then F 17 else 0)) := by
    intro z hne hz
    unfold oSet
    rw [if_neg (by omega), eij, show j.toNat - i.toNat = (j - i).toNat by omega]
    rcases hz with ⟨z1, z2⟩ | ⟨z1, z2⟩
    · rw [z2, z1]
      rfl
    · rw [z2, z1]
      rfl
  refine CT.of (lo := [some (.ref o), some (vI s), some (vI i), some (vI j), none, none, none, none]) (by decide) (by simp [Value.category]) (Nat.le_of_ble_eq_true rfl) rfl ?_
  intro x h0 Q C hQ hl hni
  refine r_iload_n (n := 1) C dX5_ofSet_0 rfl rfl rfl ?_
  refine r_iload_n (n := 2) C dX5_ofSet_1 rfl rfl rfl ?_
  refine r_isub (n := 3) C dX5_ofSet_2 rfl ?_
  refine r_istore (n := 5) C dX5_ofSet_3 rfl ?_
  refine r_aload_n (n := 6) C dX5_ofSet_5 rfl rfl rfl ?_
  refine r_get (n := 9) (ci := 5) (k := 16) C in_X5 rfl (by decide) q800 rfl dX5_ofSet_6 rfl MH_o rfl ?_
  refine r_iload (n := 11) C dX5_ofSet_9 rfl rfl ?_
  refine r_aload_n (n := 12) C dX5_ofSet_11 rfl rfl rfl ?_
  refine r_get (n := 15) (ci := 5) (k := 15) C in_X5 rfl (by decide) q799 rfl dX5_ofSet_12 rfl MH_o rfl ?_
  refine r_imul (n := 16) C dX5_ofSet_15 rfl ?_
  refine r_iadd (n := 17) C dX5_ofSet_16 rfl ?_
  refine r_istore (n := 19) C dX5_ofSet_17 rfl ?_
  refine r_iload (n := 21) C dX5_ofSet_19 rfl rfl ?_
  refine r_if_ne (t := 27) (n := 24) C dX5_ofSet_21 (by decide) rfl (fun c_21 => ?_) (fun c_21 => ?_)
  · refine r_iconst (n := 28) C dX5_ofSet_27 rfl ?_
    refine r_istore (n := 30) C dX5_ofSet_28 rfl ?_
    refine r_iload_n (n := 31) C dX5_ofSet_30 rfl rfl rfl ?_
    refine r_istore (n := 33) C dX5_ofSet_31 rfl ?_
    have key : ∀ (p z : Int), i ≤ p ∧ p ≤ j ∧ ((z = 1 ∧ fitB s (txM A) i.toNat (p - i).toNat = true) ∨ (z = 0 ∧ fitB s (txM A) i.toNat (p - i).toNat = false)) → V x g h0 Q (MH g o F A r) sz 0 0 33 [some (.ref o), some (vI s), some (vI i), some (vI j), some (vI (j - i)), some (vI (F 16 + (j - i) * F 15)), some (vI z), some (vI p)] [] := by
      refine lpv2 _ _ (fun p z => (j - p).toNat) ?_
      rintro p z ⟨hp1, hp2, hz⟩ ih
      refine r_iload (n := 35) C dX5_ofSet_33 rfl rfl ?_
      refine r_iload_n (n := 36) C dX5_ofSet_35 rfl rfl rfl ?_
      refine r_icmp_ge (t := 75) (n := 39) C dX5_ofSet_36 (by decide) rfl (fun c_36 => ?_) (fun c_36 => ?_)
      · have hpj : p = j := by omega
        subst hpj
        have e := hone z (by omega) hz
        have hm2 : 0 ≤ (p - i - 1) * F 15 ∧ (p - i - 1) * F 15 ≤ 24 * 9 := ⟨Int.mul_nonneg (by omega) h15.1, Int.mul_le_mul (by omega) h15.2 h15.1 (by omega)⟩
        have k98 : ∀ w : Int, w = (p - i - 1) * F 15 + (if z = 0 then F 17 else 0) → V x g h0 Q (MH g o F A r) sz 0 0 98 [some (.ref o), some (vI s), some (vI i), some (vI p), some (vI (p - i)), some (vI (F 16 + (p - i) * F 15)), some (vI z), some (vI p)] [vI w] := by
          intro w hw
          have hwr : 0 ≤ w ∧ w ≤ 1000 := by
            rw [hw]
            split <;> omega
          rw [← hw] at e
          refine r_istore (n := 100) C dX5_ofSet_98 rfl ?_
          refine r_iload (n := 102) C dX5_ofSet_100 rfl rfl ?_
          refine r_iload (n := 104) C dX5_ofSet_102 rfl rfl ?_
          refine r_icmp_ge (t := 112) (n := 107) C dX5_ofSet_104 (by decide) rfl (fun c_104 => ?_) (fun c_104 => ?_)
          · refine r_iload (n := 114) C dX5_ofSet_112 rfl rfl ?_
            refine r_ireturn C hQ dX5_ofSet_114 ?_
            refine ⟨rfl, rfl, ?_⟩
            rw [e]
            congr 2
            omega
          · refine r_iload (n := 109) C dX5_ofSet_107 rfl rfl ?_
            refine r_goto (n := 114) C dX5_ofSet_109 (by decide) ?_
            refine r_ireturn C hQ dX5_ofSet_114 ?_
            refine ⟨rfl, rfl, ?_⟩
            rw [e]
            congr 2
            omega
        refine r_iload (n := 77) C dX5_ofSet_75 rfl rfl ?_
        refine r_iconst (n := 78) C dX5_ofSet_77 rfl ?_
        refine r_isub (n := 79) C dX5_ofSet_78 rfl ?_
        refine r_aload_n (n := 80) C dX5_ofSet_79 rfl rfl rfl ?_
        refine r_get (n := 83) (ci := 5) (k := 15) C in_X5 rfl (by decide) q799 rfl dX5_ofSet_80 rfl MH_o rfl ?_
        refine r_imul (n := 84) C dX5_ofSet_83 rfl ?_
        refine r_iload (n := 86) C dX5_ofSet_84 rfl rfl ?_
        refine r_if_eq (t := 93) (n := 89) C dX5_ofSet_86 (by decide) rfl (fun c_86 => ?_) (fun c_86 => ?_)
        · refine r_aload_n (n := 94) C dX5_ofSet_93 rfl rfl rfl ?_
          refine r_get (n := 97) (ci := 5) (k := 17) C in_X5 rfl (by decide) q801 rfl dX5_ofSet_94 rfl MH_o rfl ?_
          refine r_iadd (n := 98) C dX5_ofSet_97 rfl ?_
          refine k98 _ ?_
          first | rw [if_pos (by omega)] | rw [if_neg (by omega)]
        · refine r_iconst (n := 90) C dX5_ofSet_89 rfl ?_
          refine r_goto (n := 97) C dX5_ofSet_90 (by decide) ?_
          refine r_iadd (n := 98) C dX5_ofSet_97 rfl ?_
          refine k98 _ ?_
          first | rw [if_pos (by omega)] | rw [if_neg (by omega)]
      · have htp := htx p.toNat (by omega)
        have hpl : p < j := by omega
        have k67 : ∀ z2 : Int, ((z2 = 1 ∧ fitB s (txM A) i.toNat (p + 1 - i).toNat = true) ∨ (z2 = 0 ∧ fitB s (txM A) i.toNat (p + 1 - i).toNat = false)) → V x g h0 Q (MH g o F A r) sz 0 0 67 [some (.ref o), some (vI s), some (vI i), some (vI j), some (vI (j - i)), some (vI (F 16 + (j - i) * F 15)), some (vI z), some (vI p)] [vI z2] := by
          intro z2 hz2
          refine r_istore (n := 69) C dX5_ofSet_67 rfl ?_
          refine r_iinc (n := 72) C dX5_ofSet_69 rfl rfl ?_
          refine r_goto (n := 33) C dX5_ofSet_72 (by decide) ?_
          exact ih (p + 1) z2 ⟨by omega, by omega, hz2⟩ (by omega)
        have efit : fitB s (txM A) i.toNat (p + 1 - i).toNat = (fitB s (txM A) i.toNat (p - i).toNat || decide (zand (zshr s (A 9 p.toNat - 97)) 1 = 1)) := by
          rw [show (p + 1 - i).toNat = (p - i).toNat + 1 by omega, fitB, show i.toNat + (p - i).toNat = p.toNat by omega]
        have hza := z_rg (iI (zshr s (A 9 p.toNat - 97)) &&& iI 1)
        have hza2 : zand (zshr s (A 9 p.toNat - 97)) 1 = (iI (zshr s (A 9 p.toNat - 97)) &&& iI 1).toInt := rfl
        rw [efit] at k67
        refine r_iload (n := 41) C dX5_ofSet_39 rfl rfl ?_
        refine r_if_ne (t := 62) (n := 44) C dX5_ofSet_41 (by decide) rfl (fun c_41 => ?_) (fun c_41 => ?_)
        · refine r_iconst (n := 63) C dX5_ofSet_62 rfl ?_
          refine r_goto (n := 67) C dX5_ofSet_63 (by decide) ?_
          refine k67 _ ?_
          first
            | exact Or.inl ⟨rfl, by rw [decide_eq_true c_59, Bool.or_true]⟩
            | exact Or.inr ⟨rfl, by rcases hz with ⟨q1, q2⟩ | ⟨q1, q2⟩ <;> first | (exfalso; omega) | (rw [q2, decide_eq_false c_59]; rfl)⟩
            | exact Or.inl ⟨rfl, by rcases hz with ⟨q1, q2⟩ | ⟨q1, q2⟩ <;> first | (exfalso; omega) | (rw [q2]; rfl)⟩
        · refine r_iload_n (n := 45) C dX5_ofSet_44 rfl rfl rfl ?_
          refine r_aload_n (n := 46) C dX5_ofSet_45 rfl rfl rfl ?_
          refine r_get (n := 49) (ci := 5) (k := 20) C in_X5 rfl (by decide) q804 rfl dX5_ofSet_46 rfl MH_o rfl ?_
          refine r_iload (n := 51) C dX5_ofSet_49 rfl rfl ?_
          refine r_iaload (n := 52) (N := 24) C dX5_ofSet_51 rfl (MH_a 9 (by decide)) ?_
          refine r_bipush (n := 54) C dX5_ofSet_52 (by decide) rfl ?_
          refine r_isub (n := 55) C dX5_ofSet_54 rfl ?_
          refine r_ishr (n := 56) C dX5_ofSet_55 rfl ?_
          refine r_iconst (n := 57) C dX5_ofSet_56 rfl ?_
          refine r_iand (n := 58) C dX5_ofSet_57 rfl ?_
          refine r_iconst (n := 59) C dX5_ofSet_58 rfl ?_
          refine r_icmp_ne (t := 66) (n := 62) C dX5_ofSet_59 (by decide) rfl (fun c_59 => ?_) (fun c_59 => ?_)
          · refine r_iconst (n := 67) C dX5_ofSet_66 rfl ?_
            refine k67 _ ?_
            first
              | exact Or.inl ⟨rfl, by rw [decide_eq_true c_59, Bool.or_true]⟩
              | exact Or.inr ⟨rfl, by rcases hz with ⟨q1, q2⟩ | ⟨q1, q2⟩ <;> first | (exfalso; omega) | (rw [q2, decide_eq_false c_59]; rfl)⟩
              | exact Or.inl ⟨rfl, by rcases hz with ⟨q1, q2⟩ | ⟨q1, q2⟩ <;> first | (exfalso; omega) | (rw [q2]; rfl)⟩
          · refine r_iconst (n := 63) C dX5_ofSet_62 rfl ?_
            refine r_goto (n := 67) C dX5_ofSet_63 (by decide) ?_
            refine k67 _ ?_
            first
              | exact Or.inl ⟨rfl, by rw [decide_eq_true c_59, Bool.or_true]⟩
              | exact Or.inr ⟨rfl, by rcases hz with ⟨q1, q2⟩ | ⟨q1, q2⟩ <;> first | (exfalso; omega) | (rw [q2, decide_eq_false c_59]; rfl)⟩
              | exact Or.inl ⟨rfl, by rcases hz with ⟨q1, q2⟩ | ⟨q1, q2⟩ <;> first | (exfalso; omega) | (rw [q2]; rfl)⟩
    exact key i 0 ⟨by omega, by omega, Or.inr ⟨rfl, by rw [show (i - i).toNat = 0 by omega]; rfl⟩⟩
  · refine r_iload (n := 26) C dX5_ofSet_24 rfl rfl ?_
    refine r_ireturn C hQ dX5_ofSet_26 ?_
    refine ⟨rfl, rfl, ?_⟩
    unfold oSet
    rw [if_pos (by omega), eij]
theorem ct_ofRow (l : Launch) (g : GG) (o : Nat) (F : Nat → Int) (A : Nat → Nat → Int) (r : HM) (sz : Nat) (a b i j : Int) (ha : 0 ≤ a ∧ a < 24) (hb : 0 ≤ b ∧ b < 24) (hi : 0 ≤ i) (hij : i ≤ j) (hj : j < 25) (hra : ∀ k : Nat, i ≤ k → k ≤ j → 0 ≤ cel A a.toNat i.toNat k ∧ cel A a.toNat i.toNat k ≤ 1000000) (hrb : ∀ k : Nat, i ≤ k → k ≤ j → 0 ≤ cel A b.toNat k j.toNat ∧ cel A b.toNat k j.toNat ≤ 1000000) : RT l yX5_ofRow cX5_ofRow 8 (some .int) 1 [.ref o, vI a, vI b, vI i, vI j] g (MH g o F A r) sz (fun v => v = some (vI (rowM (cel A a.toNat) (cel A b.toNat) i.toNat j.toNat (j - i + 1).toNat))) := by
  refine CT.of (lo := [some (.ref o), some (vI a), some (vI b), some (vI i), some (vI j), none, none, none]) (by decide) (by simp [Value.category]) (Nat.le_of_ble_eq_true rfl) rfl ?_
  intro x h0 Q C hQ hl hni
  have hrg : ∀ m : Nat, i.toNat + m ≤ j.toNat + 1 → 0 ≤ rowM (cel A a.toNat) (cel A b.toNat) i.toNat j.toNat m ∧ rowM (cel A a.toNat) (cel A b.toNat) i.toNat j.toNat m ≤ 1000000 := rowM_rg (fun k h1 h2 => hra k (by omega) (by omega)) (fun k h1 h2 => hrb k (by omega) (by omega))
  refine r_ldc (n := 2) (z := 1000000) C q963 (by decide) dX5_ofRow_0 rfl ?_
  refine r_istore (n := 4) C dX5_ofRow_2 rfl ?_
  refine r_iload_n (n := 5) C dX5_ofRow_4 rfl rfl rfl ?_
  refine r_istore (n := 7) C dX5_ofRow_5 rfl ?_
  have key : ∀ (k : Int), i ≤ k ∧ k ≤ j + 1 → V x g h0 Q (MH g o F A r) sz 0 0 7 [some (.ref o), some (vI a), some (vI b), some (vI i), some (vI j), some (vI (rowM (cel A a.toNat) (cel A b.toNat) i.toNat j.toNat (k - i).toNat)), some (vI k), none] [] := by
    refine lp_v _ _ (fun k => (j + 1 - k).toNat) ?_
    rintro k ⟨hk1, hk2⟩ ih
    have hr9 := hrg (k - i).toNat (by omega)
    refine r_iload (n := 9) C dX5_ofRow_7 rfl rfl ?_
    refine r_iload (n := 11) C dX5_ofRow_9 rfl rfl ?_
    refine r_icmp_gt (t := 58) (n := 14) C dX5_ofRow_11 (by decide) rfl (fun c_11 => ?_) (fun c_11 => ?_)
    · refine r_iload (n := 60) C dX5_ofRow_58 rfl rfl ?_
      refine r_ireturn C hQ dX5_ofRow_60 ?_
      refine ⟨rfl, rfl, ?_⟩
      rw [show k = j + 1 by omega, show j + 1 - i = j - i + 1 by omega]
    · refine r_aload_n (n := 15) C dX5_ofRow_14 rfl rfl rfl ?_
      refine r_iload_n (n := 16) C dX5_ofRow_15 rfl rfl rfl ?_
      refine r_iload_n (n := 17) C dX5_ofRow_16 rfl rfl rfl ?_
      refine r_iload (n := 19) C dX5_ofRow_17 rfl rfl ?_
      refine r_callV (n := 22) (n0 := 3) (ci := 5) C (ct_mcostOf (xL x) g o F A r sz a i k (by omega) (by omega) (by omega)) (lw_V q964 q966 qs28 q48 q967) ⟨by decide, by decide, by decide +kernel⟩ rfl MH_o rfl dX5_ofRow_19 rfl rfl ?_
      rintro v h' sz' ⟨rfl, rfl, rfl⟩ - -
      dsimp only [stk]
      refine r_aload_n (n := 23) C dX5_ofRow_22 rfl rfl rfl ?_
      refine r_iload_n (n := 24) C dX5_ofRow_23 rfl rfl rfl ?_
      refine r_iload (n := 26) C dX5_ofRow_24 rfl rfl ?_
      refine r_iload (n := 28) C dX5_ofRow_26 rfl rfl ?_
      refine r_callV (n := 31) (n0 := 3) (ci := 5) C (ct_mcostOf (xL x) g o F A r sz b k j (by omega) (by omega) (by omega)) (lw_V q964 q966 qs28 q48 q967) ⟨by decide, by decide, by decide +kernel⟩ rfl MH_o rfl dX5_ofRow_28 rfl rfl ?_
      rintro v h' sz' ⟨rfl, rfl, rfl⟩ - -
      have hra9 := hra k.toNat (by omega) (by omega)
      have hrb9 := hrb k.toNat (by omega) (by omega)
      have hms : 0 ≤ mSum (cel A a.toNat i.toNat k.toNat) (cel A b.toNat k.toNat j.toNat) ∧ mSum (cel A a.toNat i.toNat k.toNat) (cel A b.toNat k.toNat j.toNat) ≤ 2000000 := by
        unfold mSum
        split <;> omega
      dsimp only [stk]
      refine r_callS (n := 34) (n0 := 2) C (ct_sum (xL x) g (MH g o F A r) sz _ _ hra9 hrb9) (lw_S q968 q969 q48 q970) ⟨by decide, by decide, by decide +kernel⟩ rfl dX5_ofRow_31 rfl rfl ?_
      rintro v h' sz' ⟨rfl, rfl, rfl⟩ - -
      dsimp only [stk]
      refine r_istore (n := 36) C dX5_ofRow_34 rfl ?_
      refine r_iload (n := 38) C dX5_ofRow_36 rfl rfl ?_
      refine r_iload (n := 40) C dX5_ofRow_38 rfl rfl ?_
      refine r_icmp_ge (t := 48) (n := 43) C dX5_ofRow_40 (by decide) rfl (fun c_40 => ?_) (fun c_40 => ?_)
      · refine r_iload (n := 50) C dX5_ofRow_48 rfl rfl ?_
        refine r_istore (n := 52) C dX5_ofRow_50 rfl ?_
        refine r_iinc (n := 55) C dX5_ofRow_52 rfl rfl ?_
        refine r_goto (n := 7) C dX5_ofRow_55 (by decide) ?_
        have e9 : rowM (cel A a.toNat) (cel A b.toNat) i.toNat j.toNat (k + 1 - i).toNat = min (rowM (cel A a.toNat) (cel A b.toNat) i.toNat j.toNat (k - i).toNat) (mSum (cel A a.toNat i.toNat k.toNat) (cel A b.toNat k.toNat j.toNat)) := by
          rw [show (k + 1 - i).toNat = (k - i).toNat + 1 by omega, rowM, show i.toNat + (k - i).toNat = k.toNat by omega]
        refine V.ls (ih (k + 1) ⟨by omega, by omega⟩ (by omega)) ⟨rfl, rfl, rfl, rfl, rfl, ?_, rfl, trivial⟩
        rw [e9]
        refine congrArg some (congrArg vI ?_)
        omega
      · refine r_iload (n := 45) C dX5_ofRow_43 rfl rfl ?_
        refine r_goto (n := 50) C dX5_ofRow_45 (by decide) ?_
        refine r_istore (n := 52) C dX5_ofRow_50 rfl ?_
        refine r_iinc (n := 55) C dX5_ofRow_52 rfl rfl ?_
        refine r_goto (n := 7) C dX5_ofRow_55 (by decide) ?_
        have e9 : rowM (cel A a.toNat) (cel A b.toNat) i.toNat j.toNat (k + 1 - i).toNat = min (rowM (cel A a.toNat) (cel A b.toNat) i.toNat j.toNat (k - i).toNat) (mSum (cel A a.toNat i.toNat k.toNat) (cel A b.toNat k.toNat j.toNat)) := by
          rw [show (k + 1 - i).toNat = (k - i).toNat + 1 by omega, rowM, show i.toNat + (k - i).toNat = k.toNat by omega]
        refine V.ls (ih (k + 1) ⟨by omega, by omega⟩ (by omega)) ⟨rfl, rfl, rfl, rfl, rfl, ?_, rfl, trivial⟩
        rw [e9]
        refine congrArg some (congrArg vI ?_)
        omega
  refine V.ls (key i ⟨by omega, by omega⟩) ⟨rfl, rfl, rfl, rfl, rfl, ?_, rfl, trivial⟩
  rw [show (i - i).toNat = 0 by omega]
  rfl
theorem ct_ofPlus (l : Launch) (g : GG) (o : Nat) (F : Nat → Int) (A : Nat → Nat → Int) (r : HM) (sz : Nat) (n a i j : Int) (hn : 0 ≤ n ∧ n < 24) (ha : 0 ≤ a ∧ a < 24) (hi : 0 ≤ i) (hij : i ≤ j) (hj : j < 25) (hrn : ∀ k : Nat, i < k → k < j → 0 ≤ cel A n.toNat i.toNat k ∧ cel A n.toNat i.toNat k ≤ 1000000) (hra : ∀ k : Nat, i ≤ k → k ≤ j → 0 ≤ cel A a.toNat k j.toNat ∧ cel A a.toNat k j.toNat ≤ 1000000) : RT l yX5_ofPlus cX5_ofPlus 8 (some .int) 1 [.ref o, vI n, vI a, vI i, vI j] g (MH g o F A r) sz (fun v => v = some (vI (plM (cel A n.toNat) (cel A a.toNat) i.toNat j.toNat (j - i - 1).toNat))) := by
  refine CT.of (lo := [some (.ref o), some (vI n), some (vI a), some (vI i), some (vI j), none, none, none]) (by decide) (by simp [Value.category]) (Nat.le_of_ble_eq_true rfl) rfl ?_
  intro x h0 Q C hQ hl hni
  have hrg : ∀ m : Nat, i.toNat + 1 + m ≤ j.toNat ∨ m = 0 → 0 ≤ plM (cel A n.toNat) (cel A a.toNat) i.toNat j.toNat m ∧ plM (cel A n.toNat) (cel A a.toNat) i.toNat j.toNat m ≤ 1000000 := plM_rg (fun k h1 h2 => hrn k (by omega) (by omega)) (fun k h1 h2 => hra k (by omega) (by omega)) (by omega)
  refine r_aload_n (n := 1) C dX5_ofPlus_0 rfl rfl rfl ?_
  refine r_iload_n (n := 2) C dX5_ofPlus_1 rfl rfl rfl ?_
  refine r_iload_n (n := 3) C dX5_ofPlus_2 rfl rfl rfl ?_
  refine r_iload (n := 5) C dX5_ofPlus_3 rfl rfl ?_
  refine r_callV (n := 8) (n0 := 3) (ci := 5) C (ct_mcostOf (xL x) g o F A r sz a i j (by omega) (by omega) (by omega)) (lw_V q964 q966 qs28 q48 q967) ⟨by decide, by decide, by decide +kernel⟩ rfl MH_o rfl dX5_ofPlus_5 rfl rfl ?_
  rintro v h' sz' ⟨rfl, rfl, rfl⟩ - -
  dsimp only [stk]
  refine r_istore (n := 10) C dX5_ofPlus_8 rfl ?_
  refine r_iload_n (n := 11) C dX5_ofPlus_10 rfl rfl rfl ?_
  refine r_iconst (n := 12) C dX5_ofPlus_11 rfl ?_
  refine r_iadd (n := 13) C dX5_ofPlus_12 rfl ?_
  refine r_istore (n := 15) C dX5_ofPlus_13 rfl ?_
  have key : ∀ (k : Int), i + 1 ≤ k ∧ (k ≤ j ∨ k = i + 1) → V x g h0 Q (MH g o F A r) sz 0 0 15 [some (.ref o), some (vI n), some (vI a), some (vI i), some (vI j), some (vI (plM (cel A n.toNat) (cel A a.toNat) i.toNat j.toNat (k - i - 1).toNat)), some (vI k), none] [] := by
    refine lp_v _ _ (fun k => (j + 1 - k).toNat) ?_
    rintro k ⟨hk1, hk2⟩ ih
    have hr9 := hrg (k - i - 1).toNat (by omega)
    refine r_iload (n := 17) C dX5_ofPlus_15 rfl rfl ?_
    refine r_iload (n := 19) C dX5_ofPlus_17 rfl rfl ?_
    refine r_icmp_ge (t := 66) (n := 22) C dX5_ofPlus_19 (by decide) rfl (fun c_19 => ?_) (fun c_19 => ?_)
    · refine r_iload (n := 68) C dX5_ofPlus_66 rfl rfl ?_
      refine r_ireturn C hQ dX5_ofPlus_68 ?_
      refine ⟨rfl, rfl, ?_⟩
      rw [show (k - i - 1).toNat = (j - i - 1).toNat by omega]
    · refine r_aload_n (n := 23) C dX5_ofPlus_22 rfl rfl rfl ?_
      refine r_iload_n (n := 24) C dX5_ofPlus_23 rfl rfl rfl ?_
      refine r_iload_n (n := 25) C dX5_ofPlus_24 rfl rfl rfl ?_
      refine r_iload (n := 27) C dX5_ofPlus_25 rfl rfl ?_
      refine r_callV (n := 30) (n0 := 3) (ci := 5) C (ct_mcostOf (xL x) g o F A r sz n i k (by omega) (by omega) (by omega)) (lw_V q964 q966 qs28 q48 q967) ⟨by decide, by decide, by decide +kernel⟩ rfl MH_o rfl dX5_ofPlus_27 rfl rfl ?_
      rintro v h' sz' ⟨rfl, rfl, rfl⟩ - -
      dsimp only [stk]
      refine r_aload_n (n := 31) C dX5_ofPlus_30 rfl rfl rfl ?_
      refine r_iload_n (n := 32) C dX5_ofPlus_31 rfl rfl rfl ?_
      refine r_iload (n := 34) C dX5_ofPlus_32 rfl rfl ?_
      refine r_iload (n := 36) C dX5_ofPlus_34 rfl rfl ?_
      refine r_callV (n := 39) (n0 := 3) (ci := 5) C (ct_mcostOf (xL x) g o F A r sz a k j (by omega) (by omega) (by omega)) (lw_V q964 q966 qs28 q48 q967) ⟨by decide, by decide, by decide +kernel⟩ rfl MH_o rfl dX5_ofPlus_36 rfl rfl ?_
      rintro v h' sz' ⟨rfl, rfl, rfl⟩ - -
      have hra9 := hrn k.toNat (by omega) (by omega)
      have hrb9 := hra k.toNat (by omega) (by omega)
      have hms : 0 ≤ mSum (cel A n.toNat i.toNat k.toNat) (cel A a.toNat k.toNat j.toNat) ∧ mSum (cel A n.toNat i.toNat k.toNat) (cel A a.toNat k.toNat j.toNat) ≤ 2000000 := by
        unfold mSum
        split <;> omega
      dsimp only [stk]
      refine r_callS (n := 42) (n0 := 2) C (ct_sum (xL x) g (MH g o F A r) sz _ _ hra9 hrb9) (lw_S q968 q969 q48 q970) ⟨by decide, by decide, by decide +kernel⟩ rfl dX5_ofPlus_39 rfl rfl ?_
      rintro v h' sz' ⟨rfl, rfl, rfl⟩ - -
      dsimp only [stk]
      refine r_istore (n := 44) C dX5_ofPlus_42 rfl ?_
      refine r_iload (n := 46) C dX5_ofPlus_44 rfl rfl ?_
      refine r_iload (n := 48) C dX5_ofPlus_46 rfl rfl ?_
      refine r_icmp_ge (t := 56) (n := 51) C dX5_ofPlus_48 (by decide) rfl (fun c_48 => ?_) (fun c_48 => ?_)
      · refine r_iload (n := 58) C dX5_ofPlus_56 rfl rfl ?_
        refine r_istore (n := 60) C dX5_ofPlus_58 rfl ?_
        refine r_iinc (n := 63) C dX5_ofPlus_60 rfl rfl ?_
        refine r_goto (n := 15) C dX5_ofPlus_63 (by decide) ?_
        have e9 : plM (cel A n.toNat) (cel A a.toNat) i.toNat j.toNat (k + 1 - i - 1).toNat = min (plM (cel A n.toNat) (cel A a.toNat) i.toNat j.toNat (k - i - 1).toNat) (mSum (cel A n.toNat i.toNat k.toNat) (cel A a.toNat k.toNat j.toNat)) := by
          rw [show (k + 1 - i - 1).toNat = (k - i - 1).toNat + 1 by omega, plM, show i.toNat + 1 + (k - i - 1).toNat = k.toNat by omega]
        refine V.ls (ih (k + 1) ⟨by omega, by omega⟩ (by omega)) ⟨rfl, rfl, rfl, rfl, rfl, ?_, rfl, trivial⟩
        rw [e9]
        refine congrArg some (congrArg vI ?_)
        omega
      · refine r_iload (n := 53) C dX5_ofPlus_51 rfl rfl ?_
        refine r_goto (n := 58) C dX5_ofPlus_53 (by decide) ?_
        refine r_istore (n := 60) C dX5_ofPlus_58 rfl ?_
        refine r_iinc (n := 63) C dX5_ofPlus_60 rfl rfl ?_
        refine r_goto (n := 15) C dX5_ofPlus_63 (by decide) ?_
        have e9 : plM (cel A n.toNat) (cel A a.toNat) i.toNat j.toNat (k + 1 - i - 1).toNat = min (plM (cel A n.toNat) (cel A a.toNat) i.toNat j.toNat (k - i - 1).toNat) (mSum (cel A n.toNat i.toNat k.toNat) (cel A a.toNat k.toNat j.toNat)) := by
          rw [show (k + 1 - i - 1).toNat = (k - i - 1).toNat + 1 by omega, plM, show i.toNat + 1 + (k - i - 1).toNat = k.toNat by omega]
        refine V.ls (ih (k + 1) ⟨by omega, by omega⟩ (by omega)) ⟨rfl, rfl, rfl, rfl, rfl, ?_, rfl, trivial⟩
        rw [e9]
        refine congrArg some (congrArg vI ?_)
        omega
  refine V.ls (key (i + 1) ⟨by omega, by omega⟩) ⟨rfl, rfl, rfl, rfl, rfl, ?_, rfl, trivial⟩
  rw [show (i + 1 - i - 1).toNat = 0 by omega]
  rfl
