/-! the model: cost, matches, before, find, ends -/
/-- c is the root's table, whether it is worked out or not -/
def IsC (F : Nat → Int) (A : Nat → Nat → Int) (c : Nat → Nat → Int) : Prop := ∀ A' : Nat → Nat → Int, (∀ q, q ≠ 10 → A' q = A q) → Cok F A' (F 2) → ∀ i j : Nat, i ≤ j → j ≤ (F 19).toNat → cel A' (F 2 - 1).toNat i j = c i j
def KI (F : Nat → Int) (A : Nat → Nat → Int) : Prop := F 21 = 0 ∨ (F 21 = 1 ∧ Cok F A (F 2))
/-- what may change while costs are asked -/
def ST (F : Nat → Int) (A : Nat → Nat → Int) (F' : Nat → Int) (A' : Nat → Nat → Int) : Prop := (∀ k, k ≠ 21 → F' k = F k) ∧ (∀ q, q ≠ 10 → A' q = A q) ∧ KI F' A'
theorem Cok_F {F F' : Nat → Int} {A : Nat → Nat → Int} {N : Int} (h : ∀ k, k ≠ 21 → F' k = F k) (hC : Cok F A N) : Cok F' A N := by
  intro n hn
  have := hC n hn
  rw [h 15 (by decide), h 16 (by decide), h 17 (by decide), h 19 (by decide)]
  exact this
theorem ST.rf {F : Nat → Int} {A : Nat → Nat → Int} (h : KI F A) : ST F A F A := ⟨fun _ _ => rfl, fun _ _ => rfl, h⟩
theorem ST.tr {F F' F2 : Nat → Int} {A A' A2 : Nat → Nat → Int} (h : ST F A F' A') (h2 : ST F' A' F2 A2) : ST F A F2 A2 := ⟨fun k hk => (h2.1 k hk).trans (h.1 k hk), fun q hq => (h2.2.1 q hq).trans (h.2.1 q hq), h2.2.2⟩
theorem ST.wok {F F' : Nat → Int} {A A' : Nat → Nat → Int} (h : ST F A F' A') (hW : Wok F A) : Wok F' A' := by
  refine ⟨?_, ?_, ?_, ?_, ?_⟩
  · rw [h.1 15 (by decide)]; exact hW.1
  · rw [h.1 16 (by decide)]; exact hW.2.1
  · rw [h.1 17 (by decide)]; exact hW.2.2.1
  · rw [h.1 19 (by decide)]; exact hW.2.2.2.1
  · rw [h.1 19 (by decide), h.2.1 9 (by decide)]; exact hW.2.2.2.2
theorem ST.nok {F F' : Nat → Int} {A A' : Nat → Nat → Int} (h : ST F A F' A') (hN : Nok F A) : Nok F' A' := by
  refine ⟨?_, ?_⟩
  · rw [h.1 2 (by decide)]; exact hN.1
  · rw [h.1 2 (by decide), h.2.1 1 (by decide), h.2.1 2 (by decide), h.2.1 3 (by decide)]; exact hN.2
theorem ST.isC {F F' : Nat → Int} {A A' : Nat → Nat → Int} {c : Nat → Nat → Int} (h : ST F A F' A') (hI : IsC F A c) : IsC F' A' c := by
  intro A2 hA2 hC i j q1 q2
  rw [h.1 2 (by decide)] at hC ⊢
  rw [h.1 19 (by decide)] at q2
  exact hI A2 (fun q hq => (hA2 q hq).trans (h.2.1 q hq)) (Cok_F (fun k hk => (h.1 k hk).symm) hC) i j q1 q2
/-- what cost(i, j) answers -/
def cV (F : Nat → Int) (c : Nat → Nat → Int) (i j : Int) : Int := if F 2 = 0 ∨ i < 0 ∨ j < i ∨ F 19 < j then -1 else if 1000000 ≤ c i.toNat j.toNat then -1 else c i.toNat j.toNat
theorem cV_F {F F' : Nat → Int} {c : Nat → Nat → Int} (h : ∀ k, k ≠ 21 → F' k = F k) (i j : Int) : cV F' c i j = cV F c i j := by
  unfold cV
  rw [h 2 (by decide), h 19 (by decide)]
theorem ct_mcost (l : Launch) (g : GG) (o : Nat) (F : Nat → Int) (A : Nat → Nat → Int) (r : HM) (sz : Nat) (i j : Int) (hi : -2147483648 ≤ i ∧ i < 2147483648) (hj : -2147483648 ≤ j ∧ j < 2147483648) (hW : Wok F A) (hN : Nok F A) (hk : KI F A) (c : Nat → Nat → Int) (hc : IsC F A c) : MT l yX5_cost cX5_cost 4 (some .int) 4 [.ref o, vI i, vI j] g o F A r sz (fun v F' A' => ∃ z : Int, v = some (vI z) ∧ z = cV F c i j ∧ -1 ≤ z ∧ z < 1000000 ∧ ST F A F' A') := by
  have h2 := hN.1
  have h19 := hW.2.2.2.1
  refine CT.of (lo := [some (.ref o), some (vI i), some (vI j), none]) (by decide) (by simp [Value.category]) (Nat.le_of_ble_eq_true rfl) rfl ?_
  intro x h0 Q C hQ hl hni
  refine r_aload_n (n := 1) C dX5_cost_0 rfl rfl rfl ?_
  refine r_get (n := 4) (ci := 5) (k := 2) C in_X5 rfl (by decide) q786 rfl dX5_cost_1 rfl MH_o rfl ?_
  refine r_if_eq (t := 24) (n := 7) C dX5_cost_4 (by decide) rfl (fun c_4 => ?_) (fun c_4 => ?_)
  · refine r_iconst (n := 25) C dX5_cost_24 rfl ?_
    refine r_ireturn C hQ dX5_cost_25 ?_
    refine ⟨F, A, rfl, rfl, _, rfl, ?_, by omega, by omega, ST.rf hk⟩
    unfold cV
    rw [if_pos (by omega)]
  · refine r_iload_n (n := 8) C dX5_cost_7 rfl rfl rfl ?_
    refine r_if_lt (t := 24) (n := 11) C dX5_cost_8 (by decide) rfl (fun c_8 => ?_) (fun c_8 => ?_)
    · refine r_iconst (n := 25) C dX5_cost_24 rfl ?_
      refine r_ireturn C hQ dX5_cost_25 ?_
      refine ⟨F, A, rfl, rfl, _, rfl, ?_, by omega, by omega, ST.rf hk⟩
      unfold cV
      rw [if_pos (by omega)]
    · refine r_iload_n (n := 12) C dX5_cost_11 rfl rfl rfl ?_
      refine r_iload_n (n := 13) C dX5_cost_12 rfl rfl rfl ?_
      refine r_icmp_lt (t := 24) (n := 16) C dX5_cost_13 (by decide) rfl (fun c_13 => ?_) (fun c_13 => ?_)
      · refine r_iconst (n := 25) C dX5_cost_24 rfl ?_
        refine r_ireturn C hQ dX5_cost_25 ?_
        refine ⟨F, A, rfl, rfl, _, rfl, ?_, by omega, by omega, ST.rf hk⟩
        unfold cV
        rw [if_pos (by omega)]
      · refine r_iload_n (n := 17) C dX5_cost_16 rfl rfl rfl ?_
        refine r_aload_n (n := 18) C dX5_cost_17 rfl rfl rfl ?_
        refine r_get (n := 21) (ci := 5) (k := 19) C in_X5 rfl (by decide) q803 rfl dX5_cost_18 rfl MH_o rfl ?_
        refine r_icmp_le (t := 26) (n := 24) C dX5_cost_21 (by decide) rfl (fun c_21 => ?_) (fun c_21 => ?_)
        · refine r_aload_n (n := 27) C dX5_cost_26 rfl rfl rfl ?_
          refine r_callV (n := 30) (n0 := 0) (ci := 5) C (ct_work (xL x) g o F A r sz hW hN hk) (lw_V q947 q949 qs24 q48 q950) ⟨by decide, by decide, by decide +kernel⟩ rfl MH_o rfl dX5_cost_27 rfl rfl ?_
          rintro v h' sz' ⟨F1, A1, rfl, rfl, rfl, hF1, hA1, hC1⟩ - -
          have f2 : F1 2 = F 2 := by rw [hF1]; rfl
          have hST : ST F A F1 A1 := ⟨fun k hk => by rw [hF1]; exact va_up_ne _ _ hk, hA1, Or.inr ⟨by rw [hF1]; exact va_up_self _ _ _, by rw [f2]; exact Cok_F (fun k hk => by rw [hF1]; exact va_up_ne _ _ hk) hC1⟩⟩
          have e9 := hc A1 hA1 hC1 i.toNat j.toNat (by omega) (by omega)
          have hr9 := (hC1 (F 2 - 1).toNat (by omega)).2 i.toNat j.toNat (by omega) (by omega)
          dsimp only [stk]
          refine r_aload_n (n := 31) C dX5_cost_30 rfl rfl rfl ?_
          refine r_aload_n (n := 32) C dX5_cost_31 rfl rfl rfl ?_
          refine r_get (n := 35) (ci := 5) (k := 2) C in_X5 rfl (by decide) q786 rfl dX5_cost_32 rfl MH_o rfl ?_
          refine r_iconst (n := 36) C dX5_cost_35 rfl ?_
          rw [f2]
          refine r_isub (n := 37) C dX5_cost_36 rfl ?_
          refine r_iload_n (n := 38) C dX5_cost_37 rfl rfl rfl ?_
          refine r_iload_n (n := 39) C dX5_cost_38 rfl rfl rfl ?_
          refine r_callV (n := 42) (n0 := 3) (ci := 5) C (ct_mcostOf (xL x) g o F1 A1 r sz (F 2 - 1) i j (by omega) (by omega) (by omega)) (lw_V q964 q966 qs28 q48 q967) ⟨by decide, by decide, by decide +kernel⟩ rfl MH_o rfl dX5_cost_39 rfl rfl ?_
          rintro v h' sz' ⟨rfl, rfl, rfl⟩ - -
          rw [e9]
          rw [e9] at hr9
          dsimp only [stk]
          refine r_istore_n (n := 43) C dX5_cost_42 rfl rfl ?_
          refine r_iload_n (n := 44) C dX5_cost_43 rfl rfl rfl ?_
          refine r_ldc (n := 46) (z := 1000000) C q963 (by decide) dX5_cost_44 rfl ?_
          refine r_icmp_lt (t := 53) (n := 49) C dX5_cost_46 (by decide) rfl (fun c_46 => ?_) (fun c_46 => ?_)
          · refine r_iload_n (n := 54) C dX5_cost_53 rfl rfl rfl ?_
            refine r_ireturn C hQ dX5_cost_54 ?_
            refine ⟨F1, A1, rfl, rfl, _, rfl, ?_, by omega, by omega, hST⟩
            unfold cV
            rw [if_neg (by omega)]
            first | rw [if_pos (by omega)] | rw [if_neg (by omega)]
          · refine r_iconst (n := 50) C dX5_cost_49 rfl ?_
            refine r_goto (n := 54) C dX5_cost_50 (by decide) ?_
            refine r_ireturn C hQ dX5_cost_54 ?_
            refine ⟨F1, A1, rfl, rfl, _, rfl, ?_, by omega, by omega, hST⟩
            unfold cV
            rw [if_neg (by omega)]
            first | rw [if_pos (by omega)] | rw [if_neg (by omega)]
        · refine r_iconst (n := 25) C dX5_cost_24 rfl ?_
          refine r_ireturn C hQ dX5_cost_25 ?_
          refine ⟨F, A, rfl, rfl, _, rfl, ?_, by omega, by omega, ST.rf hk⟩
          unfold cV
          rw [if_pos (by omega)]
theorem ct_matches (l : Launch) (g : GG) (o : Nat) (F : Nat → Int) (A : Nat → Nat → Int) (r : HM) (sz : Nat) (i j : Int) (hi : -2147483648 ≤ i ∧ i < 2147483648) (hj : -2147483648 ≤ j ∧ j < 2147483648) (hW : Wok F A) (hN : Nok F A) (hk : KI F A) (c : Nat → Nat → Int) (hc : IsC F A c) (hm : 0 ≤ F 18 ∧ F 18 ≤ 999) : MT l yX5_matches cX5_matches 4 (some .boolean) 5 [.ref o, vI i, vI j] g o F A r sz (fun v F' A' => ∃ z : Int, v = some (vI z) ∧ ((z = 1 ∧ 0 ≤ cV F c i j ∧ cV F c i j ≤ F 18) ∨ (z = 0 ∧ ¬ (0 ≤ cV F c i j ∧ cV F c i j ≤ F 18))) ∧ ST F A F' A') := by
  refine CT.of (lo := [some (.ref o), some (vI i), some (vI j), none]) (by decide) (by simp [Value.category]) (Nat.le_of_ble_eq_true rfl) rfl ?_
  intro x h0 Q C hQ hl hni
  refine r_aload_n (n := 1) C dX5_matches_0 rfl rfl rfl ?_
  refine r_iload_n (n := 2) C dX5_matches_1 rfl rfl rfl ?_
  refine r_iload_n (n := 3) C dX5_matches_2 rfl rfl rfl ?_
  refine r_callV (n := 6) (n0 := 2) (ci := 5) C (ct_mcost (xL x) g o F A r sz i j hi hj hW hN hk c hc) (lw_V q983 q944 q945 q48 q946) ⟨by decide, by decide, by decide +kernel⟩ rfl MH_o rfl dX5_matches_3 rfl rfl ?_
  rintro v h' sz' ⟨F1, A1, rfl, rfl, z, rfl, hz, hz1, hz2, hST⟩ - -
  have f18 : F1 18 = F 18 := hST.1 18 (by decide)
  dsimp only [stk]
  refine r_istore_n (n := 7) C dX5_matches_6 rfl rfl ?_
  refine r_iload_n (n := 8) C dX5_matches_7 rfl rfl rfl ?_
  refine r_if_lt (t := 23) (n := 11) C dX5_matches_8 (by decide) rfl (fun c_8 => ?_) (fun c_8 => ?_)
  · refine r_iconst (n := 24) C dX5_matches_23 rfl ?_
    refine r_zreturn C hQ rfl dX5_matches_24 ?_
    exact ⟨F1, A1, rfl, rfl, _, rfl, by omega, hST⟩
  · refine r_iload_n (n := 12) C dX5_matches_11 rfl rfl rfl ?_
    refine r_aload_n (n := 13) C dX5_matches_12 rfl rfl rfl ?_
    refine r_get (n := 16) (ci := 5) (k := 18) C in_X5 rfl (by decide) q802 rfl dX5_matches_13 rfl MH_o rfl ?_
    rw [f18]
    refine r_icmp_gt (t := 23) (n := 19) C dX5_matches_16 (by decide) rfl (fun c_16 => ?_) (fun c_16 => ?_)
    · refine r_iconst (n := 24) C dX5_matches_23 rfl ?_
      refine r_zreturn C hQ rfl dX5_matches_24 ?_
      exact ⟨F1, A1, rfl, rfl, _, rfl, by omega, hST⟩
    · refine r_iconst (n := 20) C dX5_matches_19 rfl ?_
      refine r_goto (n := 24) C dX5_matches_20 (by decide) ?_
      refine r_zreturn C hQ rfl dX5_matches_24 ?_
      exact ⟨F1, A1, rfl, rfl, _, rfl, by omega, hST⟩
/-- whether [i, j) comes before [a, b) -/
def Bf (F : Nat → Int) (c : Nat → Nat → Int) (best : Int) (i j a b : Int) : Prop := (best ≠ 0 ∧ (cV F c i j < cV F c a b ∨ (cV F c i j = cV F c a b ∧ (i < a ∨ (i = a ∧ b < j))))) ∨ (best = 0 ∧ (i < a ∨ (i = a ∧ (cV F c i j < cV F c a b ∨ (cV F c i j = cV F c a b ∧ b < j)))))
theorem ct_before (l : Launch) (g : GG) (o : Nat) (F : Nat → Int) (A : Nat → Nat → Int) (r : HM) (sz : Nat) (best i j a b : Int) (hbe : best = 0 ∨ best = 1) (hi : -2147483648 ≤ i ∧ i < 2147483648) (hj : -2147483648 ≤ j ∧ j < 2147483648) (ha : -2147483648 ≤ a ∧ a < 2147483648) (hb : -2147483648 ≤ b ∧ b < 2147483648) (hW : Wok F A) (hN : Nok F A) (hk : KI F A) (c : Nat → Nat → Int) (hc : IsC F A c) : MT l yX5_before cX5_before 8 (some .boolean) 5 [.ref o, vI best, vI i, vI j, vI a, vI b] g o F A r sz (fun v F' A' => ∃ z : Int, v = some (vI z) ∧ ((z = 1 ∧ Bf F c best i j a b) ∨ (z = 0 ∧ ¬ Bf F c best i j a b)) ∧ ST F A F' A') := by
  refine CT.of (lo := [some (.ref o), some (vI best), some (vI i), some (vI j), some (vI a), some (vI b), none, none]) (by decide) (by simp [Value.category]) (Nat.le_of_ble_eq_true rfl) rfl ?_
  intro x h0 Q C hQ hl hni
  refine r_aload_n (n := 1) C dX5_before_0 rfl rfl rfl ?_
  refine r_iload_n (n := 2) C dX5_before_1 rfl rfl rfl ?_
  refine r_iload_n (n := 3) C dX5_before_2 rfl rfl rfl ?_
  refine r_callV (n := 6) (n0 := 2) (ci := 5) C (ct_mcost (xL x) g o F A r sz i j hi hj hW hN hk c hc) (lw_V q983 q944 q945 q48 q946) ⟨by decide, by decide, by decide +kernel⟩ rfl MH_o rfl dX5_before_3 rfl rfl ?_
  rintro v h' sz' ⟨F1, A1, rfl, rfl, z, rfl, hz, hz1, hz2, hST⟩ - -
  dsimp only [stk]
  refine r_istore (n := 8) C dX5_before_6 rfl ?_
  refine r_aload_n (n := 9) C dX5_before_8 rfl rfl rfl ?_
  refine r_iload (n := 11) C dX5_before_9 rfl rfl ?_
  refine r_iload (n := 13) C dX5_before_11 rfl rfl ?_
  refine r_callV (n := 16) (n0 := 2) (ci := 5) C (ct_mcost (xL x) g o F1 A1 r sz a b ha hb (hST.wok hW) (hST.nok hN) hST.2.2 c (hST.isC hc)) (lw_V q983 q944 q945 q48 q946) ⟨by decide, by decide, by decide +kernel⟩ rfl MH_o rfl dX5_before_13 rfl rfl ?_
  rintro v h' sz' ⟨F2, A2, rfl, rfl, w, rfl, hw, hw1, hw2, hST2⟩ - -
  rw [cV_F hST.1] at hw
  dsimp only [stk]
  refine r_istore (n := 18) C dX5_before_16 rfl ?_
  refine r_iload_n (n := 19) C dX5_before_18 rfl rfl rfl ?_
  refine r_if_eq (t := 60) (n := 22) C dX5_before_19 (by decide) rfl (fun c_19 => ?_) (fun c_19 => ?_)
  · refine r_iload_n (n := 61) C dX5_before_60 rfl rfl rfl ?_
    refine r_iload (n := 63) C dX5_before_61 rfl rfl ?_
    refine r_icmp_lt (t := 92) (n := 66) C dX5_before_63 (by decide) rfl (fun c_63 => ?_) (fun c_63 => ?_)
    · refine r_iconst (n := 93) C dX5_before_92 rfl ?_
      refine r_goto (n := 97) C dX5_before_93 (by decide) ?_
      refine r_zreturn C hQ rfl dX5_before_97 ?_
      refine ⟨F2, A2, rfl, rfl, _, rfl, ?_, hST.tr hST2⟩
      unfold Bf
      omega
    · refine r_iload_n (n := 67) C dX5_before_66 rfl rfl rfl ?_
      refine r_iload (n := 69) C dX5_before_67 rfl rfl ?_
      refine r_icmp_ne (t := 96) (n := 72) C dX5_before_69 (by decide) rfl (fun c_69 => ?_) (fun c_69 => ?_)
      · refine r_iconst (n := 97) C dX5_before_96 rfl ?_
        refine r_zreturn C hQ rfl dX5_before_97 ?_
        refine ⟨F2, A2, rfl, rfl, _, rfl, ?_, hST.tr hST2⟩
        unfold Bf
        omega
      · refine r_iload (n := 74) C dX5_before_72 rfl rfl ?_
        refine r_iload (n := 76) C dX5_before_74 rfl rfl ?_
        refine r_icmp_lt (t := 92) (n := 79) C dX5_before_76 (by decide) rfl (fun c_76 => ?_) (fun c_76 => ?_)
        · refine r_iconst (n := 93) C dX5_before_92 rfl ?_
          refine r_goto (n := 97) C dX5_before_93 (by decide) ?_
          refine r_zreturn C hQ rfl dX5_before_97 ?_
          refine ⟨F2, A2, rfl, rfl, _, rfl, ?_, hST.tr hST2⟩
          unfold Bf
          omega
        · refine r_iload (n := 81) C dX5_before_79 rfl rfl ?_
          refine r_iload (n := 83) C dX5_before_81 rfl rfl ?_
          refine r_icmp_ne (t := 96) (n := 86) C dX5_before_83 (by decide) rfl (fun c_83 => ?_) (fun c_83 => ?_)
          · refine r_iconst (n := 97) C dX5_before_96 rfl ?_
            refine r_zreturn C hQ rfl dX5_before_97 ?_
            refine ⟨F2, A2, rfl, rfl, _, rfl, ?_, hST.tr hST2⟩
            unfold Bf
            omega
          · refine r_iload_n (n := 87) C dX5_before_86 rfl rfl rfl ?_
            refine r_iload (n := 89) C dX5_before_87 rfl rfl ?_
            refine r_icmp_le (t := 96) (n := 92) C dX5_before_89 (by decide) rfl (fun c_89 => ?_) (fun c_89 => ?_)
            · refine r_iconst (n := 97) C dX5_before_96 rfl ?_
              refine r_zreturn C hQ rfl dX5_before_97 ?_
              refine ⟨F2, A2, rfl, rfl, _, rfl, ?_, hST.tr hST2⟩
              unfold Bf
              omega
            · refine r_iconst (n := 93) C dX5_before_92 rfl ?_
              refine r_goto (n := 97) C dX5_before_93 (by decide) ?_
              refine r_zreturn C hQ rfl dX5_before_97 ?_
              refine ⟨F2, A2, rfl, rfl, _, rfl, ?_, hST.tr hST2⟩
              unfold Bf
              omega
  · refine r_iload (n := 24) C dX5_before_22 rfl rfl ?_
    refine r_iload (n := 26) C dX5_before_24 rfl rfl ?_
    refine r_icmp_lt (t := 54) (n := 29) C dX5_before_26 (by decide) rfl (fun c_26 => ?_) (fun c_26 => ?_)
    · refine r_iconst (n := 55) C dX5_before_54 rfl ?_
      refine r_goto (n := 59) C dX5_before_55 (by decide) ?_
      refine r_zreturn C hQ rfl dX5_before_59 ?_
      refine ⟨F2, A2, rfl, rfl, _, rfl, ?_, hST.tr hST2⟩
      unfold Bf
      omega
    · refine r_iload (n := 31) C dX5_before_29 rfl rfl ?_
      refine r_iload (n := 33) C dX5_before_31 rfl rfl ?_
      refine r_icmp_ne (t := 58) (n := 36) C dX5_before_33 (by decide) rfl (fun c_33 => ?_) (fun c_33 => ?_)
      · refine r_iconst (n := 59) C dX5_before_58 rfl ?_
        refine r_zreturn C hQ rfl dX5_before_59 ?_
        refine ⟨F2, A2, rfl, rfl, _, rfl, ?_, hST.tr hST2⟩
        unfold Bf
        omega
      · refine r_iload_n (n := 37) C dX5_before_36 rfl rfl rfl ?_
        refine r_iload (n := 39) C dX5_before_37 rfl rfl ?_
        refine r_icmp_lt (t := 54) (n := 42) C dX5_before_39 (by decide) rfl (fun c_39 => ?_) (fun c_39 => ?_)
        · refine r_iconst (n := 55) C dX5_before_54 rfl ?_
          refine r_goto (n := 59) C dX5_before_55 (by decide) ?_
          refine r_zreturn C hQ rfl dX5_before_59 ?_
          refine ⟨F2, A2, rfl, rfl, _, rfl, ?_, hST.tr hST2⟩
          unfold Bf
          omega
        · refine r_iload_n (n := 43) C dX5_before_42 rfl rfl rfl ?_
          refine r_iload (n := 45) C dX5_before_43 rfl rfl ?_
          refine r_icmp_ne (t := 58) (n := 48) C dX5_before_45 (by decide) rfl (fun c_45 => ?_) (fun c_45 => ?_)
          · refine r_iconst (n := 59) C dX5_before_58 rfl ?_
            refine r_zreturn C hQ rfl dX5_before_59 ?_
            refine ⟨F2, A2, rfl, rfl, _, rfl, ?_, hST.tr hST2⟩
            unfold Bf
            omega
          · refine r_iload_n (n := 49) C dX5_before_48 rfl rfl rfl ?_
            refine r_iload (n := 51) C dX5_before_49 rfl rfl ?_
            refine r_icmp_le (t := 58) (n := 54) C dX5_before_51 (by decide) rfl (fun c_51 => ?_) (fun c_51 => ?_)
            · refine r_iconst (n := 59) C dX5_before_58 rfl ?_
              refine r_zreturn C hQ rfl dX5_before_59 ?_
              refine ⟨F2, A2, rfl, rfl, _, rfl, ?_, hST.tr hST2⟩
              unfold Bf
              omega
            · refine r_iconst (n := 55) C dX5_before_54 rfl ?_
              refine r_goto (n := 59) C dX5_before_55 (by decide) ?_
              refine r_zreturn C hQ rfl dX5_before_59 ?_
              refine ⟨F2, A2, rfl, rfl, _, rfl, ?_, hST.tr hST2⟩
              unfold Bf
              omega
/-- what find leaves: no match, or the match that none comes before -/
def FdP (F : Nat → Int) (c : Nat → Nat → Int) (best f t : Int) : Prop :=
  (f = -1 ∧ t = -1 ∧ ∀ i j : Int, 0 ≤ i → i ≤ j → j ≤ F 19 → ¬ (0 ≤ cV F c i j ∧ cV F c i j ≤ F 18)) ∨
  (0 ≤ f ∧ f ≤ t ∧ t ≤ F 19 ∧ (0 ≤ cV F c f t ∧ cV F c f t ≤ F 18) ∧ ∀ i j : Int, 0 ≤ i → i ≤ j → j ≤ F 19 → (0 ≤ cV F c i j ∧ cV F c i j ≤ F 18) → ¬ Bf F c best i j f t)
/-- the same, of the pieces seen so far -/
def Fp (F : Nat → Int) (c : Nat → Nat → Int) (best f t : Int) (i0 j0 : Int) : Prop :=
  (f = -1 ∧ t = -1 ∧ ∀ i j : Int, 0 ≤ i → i ≤ j → j ≤ F 19 → (i < i0 ∨ (i = i0 ∧ j < j0)) → ¬ (0 ≤ cV F c i j ∧ cV F c i j ≤ F 18)) ∨
  (0 ≤ f ∧ f ≤ t ∧ t ≤ F 19 ∧ (0 ≤ cV F c f t ∧ cV F c f t ≤ F 18) ∧ ∀ i j : Int, 0 ≤ i → i ≤ j → j ≤ F 19 → (i < i0 ∨ (i = i0 ∧ j < j0)) → (0 ≤ cV F c i j ∧ cV F c i j ≤ F 18) → ¬ Bf F c best i j f t)
theorem Bf_tr {F : Nat → Int} {c : Nat → Nat → Int} {best i j a b p q : Int} (h1 : Bf F c best i j a b) (h2 : Bf F c best a b p q) : Bf F c best i j p q := by
  unfold Bf at *
  omega
theorem Bf_ir {F : Nat → Int} {c : Nat → Nat → Int} {best i j : Int} : ¬ Bf F c best i j i j := by
  unfold Bf
  omega
/-- what find may change -/
def ST2 (F : Nat → Int) (A : Nat → Nat → Int) (F' : Nat → Int) (A' : Nat → Nat → Int) : Prop := (∀ k, k ≠ 21 → k ≠ 23 → k ≠ 24 → F' k = F k) ∧ (∀ q, q ≠ 10 → A' q = A q) ∧ KI F' A'
theorem KI_F {F F' : Nat → Int} {A : Nat → Nat → Int} (h : ∀ k, k ≠ 23 → k ≠ 24 → F' k = F k) (hk : KI F A) : KI F' A := by
  unfold KI at *
  rw [h 21 (by decide) (by decide), h 2 (by decide) (by decide)]
  rcases hk with hk | ⟨h1, h2⟩
  · exact Or.inl hk
  · refine Or.inr ⟨h1, ?_⟩
    intro n hn
    have := h2 n hn
    rw [h 15 (by decide) (by decide), h 16 (by decide) (by decide), h 17 (by decide) (by decide), h 19 (by decide) (by decide)]
    exact this
/-- fields 21, 23, 24 and the costs apart, all is as it was: then all that costs rest on holds as it did -/
theorem ST2.all {F F' : Nat → Int} {A A' : Nat → Nat → Int} {c : Nat → Nat → Int} (h : ST2 F A F' A') (hW : Wok F A) (hN : Nok F A) (hc : IsC F A c) : Wok F' A' ∧ Nok F' A' ∧ KI F' A' ∧ IsC F' A' c := by
  have e : ∀ k, k ≠ 21 → k ≠ 23 → k ≠ 24 → F' k = F k := h.1
  refine ⟨⟨?_, ?_, ?_, ?_, ?_⟩, ⟨?_, ?_⟩, h.2.2, ?_⟩
  · rw [e 15 (by decide) (by decide) (by decide)]; exact hW.1
  · rw [e 16 (by decide) (by decide) (by decide)]; exact hW.2.1
  · rw [e 17 (by decide) (by decide) (by decide)]; exact hW.2.2.1
  · rw [e 19 (by decide) (by decide) (by decide)]; exact hW.2.2.2.1
  · rw [e 19 (by decide) (by decide) (by decide), h.2.1 9 (by decide)]; exact hW.2.2.2.2
  · rw [e 2 (by decide) (by decide) (by decide)]; exact hN.1
  · rw [e 2 (by decide) (by decide) (by decide), h.2.1 1 (by decide), h.2.1 2 (by decide), h.2.1 3 (by decide)]; exact hN.2
  · intro A2 hA2 hC i j q1 q2
    rw [e 2 (by decide) (by decide) (by decide)] at hC ⊢
    rw [e 19 (by decide) (by decide) (by decide)] at q2
    refine hc A2 (fun q hq => (hA2 q hq).trans (h.2.1 q hq)) ?_ i j q1 q2
    intro n hn
    have := hC n hn
    rw [e 15 (by decide) (by decide) (by decide), e 16 (by decide) (by decide) (by decide), e 17 (by decide) (by decide) (by decide), e 19 (by decide) (by decide) (by decide)] at this
    exact this
theorem ST2.cv {F F' : Nat → Int} {A A' : Nat → Nat → Int} {c : Nat → Nat → Int} (h : ST2 F A F' A') (i j : Int) : cV F' c i j = cV F c i j := by
  unfold cV
  rw [h.1 2 (by decide) (by decide) (by decide), h.1 19 (by decide) (by decide) (by decide)]
theorem ST2.bf {F F' : Nat → Int} {A A' : Nat → Nat → Int} {c : Nat → Nat → Int} (h : ST2 F A F' A') {best i j a b : Int} : Bf F' c best i j a b ↔ Bf F c best i j a b := by
  unfold Bf
  rw [h.cv, h.cv]
theorem ST2.tr {F F' F2 : Nat → Int} {A A' A2 : Nat → Nat → Int} (h : ST2 F A F' A') (h2 : ST F' A' F2 A2) : ST2 F A F2 A2 := ⟨fun k k1 k2 k3 => (h2.1 k k1).trans (h.1 k k1 k2 k3), fun q hq => (h2.2.1 q hq).trans (h.2.1 q hq), h2.2.2⟩

theorem ct_mfind (l : Launch) (g : GG) (o : Nat) (F : Nat → Int) (A : Nat → Nat → Int) (r : HM) (sz : Nat) (best : Int) (hbe : best = 0 ∨ best = 1) (hW : Wok F A) (hN : Nok F A) (hk : KI F A) (c : Nat → Nat → Int) (hc : IsC F A c) (hm : 0 ≤ F 18 ∧ F 18 ≤ 999) : MT l yX5_find cX5_find 4 (some .int) 6 [.ref o, vI best] g o F A r sz (fun v F' A' => ∃ f t : Int, F' 23 = f ∧ F' 24 = t ∧ FdP F c best f t ∧ v = some (vI (if f < 0 then -1 else cV F c f t)) ∧ ST2 F A F' A') := by
  have h19 := hW.2.2.2.1
  refine CT.of (lo := [some (.ref o), some (vI best), none, none]) (by decide) (by simp [Value.category]) (Nat.le_of_ble_eq_true rfl) rfl ?_
  intro x h0 Q C hQ hl hni
  -- the state between pieces
  have hI : ∀ (F1 : Nat → Int) (A1 : Nat → Nat → Int), ST2 F A F1 A1 → F1 19 = F 19 ∧ F1 18 = F 18 := fun F1 A1 h => ⟨h.1 19 (by decide) (by decide) (by decide), h.1 18 (by decide) (by decide) (by decide)⟩
  have k12 : ∀ (i : Int) (F1 : Nat → Int) (A1 : Nat → Nat → Int), (0 ≤ i ∧ i ≤ F 19 + 1 ∧ ST2 F A F1 A1 ∧ Fp F c best (F1 23) (F1 24) i 0) → V x g h0 Q (MH g o F1 A1 r) sz 0 0 12 [some (.ref o), some (vI best), some (vI i), none] [] := by
    refine lpv3 _ _ (fun i _ _ => (F 19 + 1 - i).toNat) ?_
    rintro i F1 A1 ⟨hi0, hi, hS1, hp1⟩ ih
    have k22 : ∀ (j : Int) (F2 : Nat → Int) (A2 : Nat → Nat → Int), (i ≤ j ∧ j ≤ F 19 + 1 ∧ i ≤ F 19 ∧ ST2 F A F2 A2 ∧ Fp F c best (F2 23) (F2 24) i j) → V x g h0 Q (MH g o F2 A2 r) sz 0 0 22 [some (.ref o), some (vI best), some (vI i), some (vI j)] [] := by
      refine lpv3 _ _ (fun j _ _ => (F 19 + 1 - j).toNat) ?_
      rintro j F2 A2 ⟨hj0, hj, hiF, hS2, hp2⟩ ih2
      obtain ⟨e19, e18⟩ := hI F2 A2 hS2
      obtain ⟨hW2, hN2, hk2, hc2⟩ := hS2.all hW hN hc
      have k74 : ∀ (F3 : Nat → Int) (A3 : Nat → Nat → Int), ST2 F A F3 A3 → j ≤ F 19 → Fp F c best (F3 23) (F3 24) i (j + 1) → V x g h0 Q (MH g o F3 A3 r) sz 0 0 74 [some (.ref o), some (vI best), some (vI i), some (vI j)] [] := by
        intro F3 A3 hS3 hjF hp3
        refine r_iinc (n := 77) C dX5_find_74 rfl rfl ?_
        refine r_goto (n := 22) C dX5_find_77 (by decide) ?_
        exact ih2 (j + 1) F3 A3 ⟨by omega, by omega, hiF, hS3, hp3⟩ (by omega)
      have hrf : -1 ≤ F2 23 ∧ F2 23 ≤ F 19 ∧ -1 ≤ F2 24 ∧ F2 24 ≤ F 19 := by
        rcases hp2 with ⟨a1, a2, -⟩ | ⟨a1, a2, a3, -⟩ <;> omega
      -- taken
      have k64 : ∀ (F3 : Nat → Int) (A3 : Nat → Nat → Int), ST2 F A F3 A3 → j ≤ F 19 → (0 ≤ cV F c i j ∧ cV F c i j ≤ F 18) → (F2 23 < 0 ∨ Bf F c best i j (F2 23) (F2 24)) → V x g h0 Q (MH g o F3 A3 r) sz 0 0 64 [some (.ref o), some (vI best), some (vI i), some (vI j)] [] := by
        intro F3 A3 hS3 hjF hM hB
        refine r_aload_n (n := 65) C dX5_find_64 rfl rfl rfl ?_
        refine r_iload_n (n := 66) C dX5_find_65 rfl rfl rfl ?_
        refine r_mput (n := 69) (ty := .int) (k := 23) C (by decide) q807 rfl rfl (by decide +kernel) rfl rfl dX5_find_66 rfl rfl ?_
        refine r_aload_n (n := 70) C dX5_find_69 rfl rfl rfl ?_
        refine r_iload_n (n := 71) C dX5_find_70 rfl rfl rfl ?_
        refine r_mput (n := 74) (ty := .int) (k := 24) C (by decide) q808 rfl rfl (by decide +kernel) rfl rfl dX5_find_71 rfl rfl ?_
        refine k74 _ A3 ⟨?_, hS3.2.1, ?_⟩ hjF ?_
        · intro k q1 q2 q3
          rw [va_up_ne _ _ q3, va_up_ne _ _ q2]
          exact hS3.1 k q1 q2 q3
        · refine KI_F (fun k q2 q3 => ?_) hS3.2.2
          rw [va_up_ne _ _ q3, va_up_ne _ _ q2]
        · rw [va_up_self, va_up_ne _ _ (by decide), va_up_self]
          refine Or.inr ⟨by omega, by omega, by omega, hM, ?_⟩
          intro a b q1 q2 q3 q4 q5 q6
          by_cases h9 : a = i ∧ b = j
          · rw [h9.1, h9.2] at q6
            exact Bf_ir q6
          · rcases hp2 with ⟨p1, p2, p3⟩ | ⟨p1, p2, p3, p4, p5⟩
            · exact p3 a b q1 q2 q3 (by omega) q5
            · rcases hB with hB | hB
              · omega
              · exact p5 a b q1 q2 q3 (by omega) q5 (Bf_tr q6 hB)
      refine r_iload_n (n := 23) C dX5_find_22 rfl rfl rfl ?_
      refine r_aload_n (n := 24) C dX5_find_23 rfl rfl rfl ?_
      refine r_get (n := 27) (ci := 5) (k := 19) C in_X5 rfl (by decide) q803 rfl dX5_find_24 rfl MH_o rfl ?_
      rw [e19]
      refine r_icmp_gt (t := 80) (n := 30) C dX5_find_27 (by decide) rfl (fun c_27 => ?_) (fun c_27 => ?_)
      · have hjj : j = F 19 + 1 := by omega
        refine r_iinc (n := 83) C dX5_find_80 rfl rfl ?_
        refine r_goto (n := 12) C dX5_find_83 (by decide) ?_
        refine V.ls (ih (i + 1) F2 A2 ⟨by omega, by omega, hS2, ?_⟩ (by omega)) ⟨rfl, rfl, rfl, trivial⟩
        rcases hp2 with ⟨p1, p2, p3⟩ | ⟨p1, p2, p3, p4, p5⟩
        · exact Or.inl ⟨p1, p2, fun a b q1 q2 q3 q4 => p3 a b q1 q2 q3 (by omega)⟩
        · exact Or.inr ⟨p1, p2, p3, p4, fun a b q1 q2 q3 q4 => p5 a b q1 q2 q3 (by omega)⟩
      · refine r_aload_n (n := 31) C dX5_find_30 rfl rfl rfl ?_
        refine r_iload_n (n := 32) C dX5_find_31 rfl rfl rfl ?_
        refine r_iload_n (n := 33) C dX5_find_32 rfl rfl rfl ?_
        refine r_callV (n := 36) (n0 := 2) (ci := 5) C (ct_matches (xL x) g o F2 A2 r sz i j (by omega) (by omega) hW2 hN2 hk2 c hc2 (by rw [e18]; exact hm)) (lw_V q979 q981 qs30 q48 q982) ⟨by decide, by decide, by decide +kernel⟩ rfl MH_o rfl dX5_find_33 rfl rfl ?_
        rintro v h' sz' ⟨F3, A3, rfl, rfl, z, rfl, hz, hS3⟩ - -
        rw [hS2.cv, e18] at hz
        have hS3' := hS2.tr hS3
        have f23 : F3 23 = F2 23 := hS3.1 23 (by decide)
        have f24 : F3 24 = F2 24 := hS3.1 24 (by decide)
        have hjF : j ≤ F 19 := by omega
        obtain ⟨hW3, hN3, hk3, hc3⟩ := hS3'.all hW hN hc
        dsimp only [stk]
        refine r_if_eq (t := 74) (n := 39) C dX5_find_36 (by decide) rfl (fun c_36 => ?_) (fun c_36 => ?_)
        · first
            | (refine k74 F4 A4 hS4' hjF ?_
               rw [g23, g24]
               rcases hp2 with ⟨p1, p2, p3⟩ | ⟨p1, p2, p3, p4, p5⟩
               · omega
               · refine Or.inr ⟨p1, p2, p3, p4, fun a b q1 q2 q3 q4 q5 => ?_⟩
                 by_cases h9 : a = i ∧ b = j
                 · rw [h9.1, h9.2]
                   rcases hw with ⟨w1, w2⟩ | ⟨w1, w2⟩
                   · omega
                   · exact w2
                 · exact p5 a b q1 q2 q3 (by omega) q5)
            | (refine k74 F3 A3 hS3' hjF ?_
               rw [f23, f24]
               rcases hp2 with ⟨p1, p2, p3⟩ | ⟨p1, p2, p3, p4, p5⟩
               · refine Or.inl ⟨p1, p2, fun a b q1 q2 q3 q4 => ?_⟩
                 by_cases h9 : a = i ∧ b = j
                 · rw [h9.1, h9.2]
                   omega
                 · exact p3 a b q1 q2 q3 (by omega)
               · refine Or.inr ⟨p1, p2, p3, p4, fun a b q1 q2 q3 q4 q5 => ?_⟩
                 by_cases h9 : a = i ∧ b = j
                 · rw [h9.1, h9.2] at q5
                   omega
                 · exact p5 a b q1 q2 q3 (by omega) q5)
        · refine r_aload_n (n := 40) C dX5_find_39 rfl rfl rfl ?_
          refine r_get (n := 43) (ci := 5) (k := 23) C in_X5 rfl (by decide) q807 rfl dX5_find_40 rfl MH_o rfl ?_
          rw [f23]
          refine r_if_lt (t := 64) (n := 46) C dX5_find_43 (by decide) rfl (fun c_43 => ?_) (fun c_43 => ?_)
          · first
              | exact k64 F4 A4 hS4' hjF (by omega) (Or.inr (by rcases hw with ⟨w1, w2⟩ | ⟨w1, w2⟩; exact w2; omega))
              | exact k64 F3 A3 hS3' hjF (by omega) (Or.inl (by omega))
          · refine r_aload_n (n := 47) C dX5_find_46 rfl rfl rfl ?_
            refine r_iload_n (n := 48) C dX5_find_47 rfl rfl rfl ?_
            refine r_iload_n (n := 49) C dX5_find_48 rfl rfl rfl ?_
            refine r_iload_n (n := 50) C dX5_find_49 rfl rfl rfl ?_
            refine r_aload_n (n := 51) C dX5_find_50 rfl rfl rfl ?_
            refine r_get (n := 54) (ci := 5) (k := 23) C in_X5 rfl (by decide) q807 rfl dX5_find_51 rfl MH_o rfl ?_
            rw [f23]
            refine r_aload_n (n := 55) C dX5_find_54 rfl rfl rfl ?_
            refine r_get (n := 58) (ci := 5) (k := 24) C in_X5 rfl (by decide) q808 rfl dX5_find_55 rfl MH_o rfl ?_
            rw [f24]
            refine r_callV (n := 61) (n0 := 5) (ci := 5) C (ct_before (xL x) g o F3 A3 r sz best i j (F2 23) (F2 24) hbe (by omega) (by omega) (by omega) (by omega) hW3 hN3 hk3 c hc3) (lw_V q984 q986 qs31 q48 q987) ⟨by decide, by decide, by decide +kernel⟩ rfl MH_o rfl dX5_find_58 rfl rfl ?_
            rintro v h' sz' ⟨F4, A4, rfl, rfl, w, rfl, hw, hS4⟩ - -
            rw [hS3'.bf] at hw
            have hS4' := hS3'.tr hS4
            have g23 : F4 23 = F2 23 := (hS4.1 23 (by decide)).trans f23
            have g24 : F4 24 = F2 24 := (hS4.1 24 (by decide)).trans f24
            dsimp only [stk]
            refine r_if_eq (t := 74) (n := 64) C dX5_find_61 (by decide) rfl (fun c_61 => ?_) (fun c_61 => ?_)
            · first
                | (refine k74 F4 A4 hS4' hjF ?_
                   rw [g23, g24]
                   rcases hp2 with ⟨p1, p2, p3⟩ | ⟨p1, p2, p3, p4, p5⟩
                   · omega
                   · refine Or.inr ⟨p1, p2, p3, p4, fun a b q1 q2 q3 q4 q5 => ?_⟩
                     by_cases h9 : a = i ∧ b = j
                     · rw [h9.1, h9.2]
                       rcases hw with ⟨w1, w2⟩ | ⟨w1, w2⟩
                       · omega
                       · exact w2
                     · exact p5 a b q1 q2 q3 (by omega) q5)
                | (refine k74 F3 A3 hS3' hjF ?_
                   rw [f23, f24]
                   rcases hp2 with ⟨p1, p2, p3⟩ | ⟨p1, p2, p3, p4, p5⟩
                   · refine Or.inl ⟨p1, p2, fun a b q1 q2 q3 q4 => ?_⟩
                     by_cases h9 : a = i ∧ b = j
                     · rw [h9.1, h9.2]
                       omega
                     · exact p3 a b q1 q2 q3 (by omega)
                   · refine Or.inr ⟨p1, p2, p3, p4, fun a b q1 q2 q3 q4 q5 => ?_⟩
                     by_cases h9 : a = i ∧ b = j
                     · rw [h9.1, h9.2] at q5
                       omega
                     · exact p5 a b q1 q2 q3 (by omega) q5)
            · first
                | exact k64 F4 A4 hS4' hjF (by omega) (Or.inr (by rcases hw with ⟨w1, w2⟩ | ⟨w1, w2⟩; exact w2; omega))
                | exact k64 F3 A3 hS3' hjF (by omega) (Or.inl (by omega))
    obtain ⟨e19, e18⟩ := hI F1 A1 hS1
    obtain ⟨hW1, hN1, hk1, hc1⟩ := hS1.all hW hN hc
    refine r_iload_n (n := 13) C dX5_find_12 rfl rfl rfl ?_
    refine r_aload_n (n := 14) C dX5_find_13 rfl rfl rfl ?_
    refine r_get (n := 17) (ci := 5) (k := 19) C in_X5 rfl (by decide) q803 rfl dX5_find_14 rfl MH_o rfl ?_
    rw [e19]
    refine r_icmp_gt (t := 86) (n := 20) C dX5_find_17 (by decide) rfl (fun c_17 => ?_) (fun c_17 => ?_)
    · have hFd : FdP F c best (F1 23) (F1 24) := by
        rcases hp1 with ⟨p1, p2, p3⟩ | ⟨p1, p2, p3, p4, p5⟩
        · exact Or.inl ⟨p1, p2, fun a b q1 q2 q3 => p3 a b q1 q2 q3 (by omega)⟩
        · exact Or.inr ⟨p1, p2, p3, p4, fun a b q1 q2 q3 => p5 a b q1 q2 q3 (by omega)⟩
      have hrf : -1 ≤ F1 23 ∧ F1 23 ≤ F 19 ∧ -1 ≤ F1 24 ∧ F1 24 ≤ F 19 := by
        rcases hp1 with ⟨a1, a2, -⟩ | ⟨a1, a2, a3, -⟩ <;> omega
      refine r_aload_n (n := 87) C dX5_find_86 rfl rfl rfl ?_
      refine r_get (n := 90) (ci := 5) (k := 23) C in_X5 rfl (by decide) q807 rfl dX5_find_87 rfl MH_o rfl ?_
      refine r_if_ge (t := 97) (n := 93) C dX5_find_90 (by decide) rfl (fun c_90 => ?_) (fun c_90 => ?_)
      · refine r_aload_n (n := 98) C dX5_find_97 rfl rfl rfl ?_
        refine r_aload_n (n := 99) C dX5_find_98 rfl rfl rfl ?_
        refine r_get (n := 102) (ci := 5) (k := 23) C in_X5 rfl (by decide) q807 rfl dX5_find_99 rfl MH_o rfl ?_
        refine r_aload_n (n := 103) C dX5_find_102 rfl rfl rfl ?_
        refine r_get (n := 106) (ci := 5) (k := 24) C in_X5 rfl (by decide) q808 rfl dX5_find_103 rfl MH_o rfl ?_
        refine r_callV (n := 109) (n0 := 2) (ci := 5) C (ct_mcost (xL x) g o F1 A1 r sz (F1 23) (F1 24) (by omega) (by omega) hW1 hN1 hk1 c hc1) (lw_V q983 q944 q945 q48 q946) ⟨by decide, by decide, by decide +kernel⟩ rfl MH_o rfl dX5_find_106 rfl rfl ?_
        rintro v h' sz' ⟨F2, A2, rfl, rfl, z, rfl, hz, hz1, hz2, hST⟩ - -
        rw [hS1.cv] at hz
        dsimp only [stk]
        refine r_ireturn C hQ dX5_find_109 ?_
        first
          | exact ⟨F2, A2, rfl, rfl, F1 23, F1 24, hST.1 23 (by decide), hST.1 24 (by decide), hFd, by rw [if_neg (by omega), hz], hS1.tr hST⟩
          | exact ⟨F1, A1, rfl, rfl, F1 23, F1 24, rfl, rfl, hFd, by rw [if_pos (by omega)], hS1⟩
      · refine r_iconst (n := 94) C dX5_find_93 rfl ?_
        refine r_goto (n := 109) C dX5_find_94 (by decide) ?_
        refine r_ireturn C hQ dX5_find_109 ?_
        first
          | exact ⟨F2, A2, rfl, rfl, F1 23, F1 24, hST.1 23 (by decide), hST.1 24 (by decide), hFd, by rw [if_neg (by omega), hz], hS1.tr hST⟩
          | exact ⟨F1, A1, rfl, rfl, F1 23, F1 24, rfl, rfl, hFd, by rw [if_pos (by omega)], hS1⟩
    · refine r_iload_n (n := 21) C dX5_find_20 rfl rfl rfl ?_
      refine r_istore_n (n := 22) C dX5_find_21 rfl rfl ?_
      refine k22 i F1 A1 ⟨by omega, by omega, by omega, hS1, ?_⟩
      rcases hp1 with ⟨p1, p2, p3⟩ | ⟨p1, p2, p3, p4, p5⟩
      · exact Or.inl ⟨p1, p2, fun a b q1 q2 q3 q4 => p3 a b q1 q2 q3 (by omega)⟩
      · exact Or.inr ⟨p1, p2, p3, p4, fun a b q1 q2 q3 q4 => p5 a b q1 q2 q3 (by omega)⟩
  refine r_aload_n (n := 1) C dX5_find_0 rfl rfl rfl ?_
  refine r_iconst (n := 2) C dX5_find_1 rfl ?_
  refine r_mput (n := 5) (ty := .int) (k := 23) C (by decide) q807 rfl rfl (by decide +kernel) rfl rfl dX5_find_2 rfl rfl ?_
  refine r_aload_n (n := 6) C dX5_find_5 rfl rfl rfl ?_
  refine r_iconst (n := 7) C dX5_find_6 rfl ?_
  refine r_mput (n := 10) (ty := .int) (k := 24) C (by decide) q808 rfl rfl (by decide +kernel) rfl rfl dX5_find_7 rfl rfl ?_
  refine r_iconst (n := 11) C dX5_find_10 rfl ?_
  refine r_istore_n (n := 12) C dX5_find_11 rfl rfl ?_
  refine V.ls (k12 0 _ A ⟨by omega, by omega, ⟨?_, fun _ _ => rfl, ?_⟩, ?_⟩) ⟨rfl, rfl, rfl, trivial⟩
  · intro k q1 q2 q3
    rw [va_up_ne _ _ q3, va_up_ne _ _ q2]
  · refine KI_F (fun k q2 q3 => ?_) hk
    rw [va_up_ne _ _ q3, va_up_ne _ _ q2]
  · refine Or.inl ⟨by simp [va_up], by simp [va_up], fun a b q1 q2 q3 q4 => ?_⟩
    omega
def enI (M : Nat → Nat → Bool) (j : Nat) : Nat → Int → Int
  | 0, acc => acc
  | m + 1, acc => if M m j then zor (enI M j m acc) (zshl 1 j) else enI M j m acc
def enJ (M : Nat → Nat → Bool) : Nat → Int
  | 0 => 0
  | n + 1 => enI M n (n + 1) (enJ M n)
/-- the matches -/
def mB (F : Nat → Int) (c : Nat → Nat → Int) (i j : Nat) : Bool := decide (0 ≤ cV F c i j ∧ cV F c i j ≤ F 18)
theorem ct_mends (l : Launch) (g : GG) (o : Nat) (F : Nat → Int) (A : Nat → Nat → Int) (r : HM) (sz : Nat) (hW : Wok F A) (hN : Nok F A) (hk : KI F A) (c : Nat → Nat → Int) (hc : IsC F A c) (hm : 0 ≤ F 18 ∧ F 18 ≤ 999) : MT l yX5_ends cX5_ends 4 (some .int) 6 [.ref o] g o F A r sz (fun v F' A' => v = some (vI (enJ (mB F c) ((F 19).toNat + 1))) ∧ ST F A F' A') := by
  have h19 := hW.2.2.2.1
  refine CT.of (lo := [some (.ref o), none, none, none]) (by decide) (by simp [Value.category]) (Nat.le_of_ble_eq_true rfl) rfl ?_
  intro x h0 Q C hQ hl hni
  have k4 : ∀ (j : Int) (F1 : Nat → Int) (A1 : Nat → Nat → Int), (0 ≤ j ∧ j ≤ F 19 + 1 ∧ ST F A F1 A1) → V x g h0 Q (MH g o F1 A1 r) sz 0 0 4 [some (.ref o), some (vI (enJ (mB F c) j.toNat)), some (vI j), none] [] := by
    refine lpv3 _ _ (fun j _ _ => (F 19 + 1 - j).toNat) ?_
    rintro j F1 A1 ⟨hj0, hj, hS1⟩ ih
    have k14 : ∀ (i : Int) (F2 : Nat → Int) (A2 : Nat → Nat → Int), (0 ≤ i ∧ i ≤ j + 1 ∧ j ≤ F 19 ∧ ST F A F2 A2) → V x g h0 Q (MH g o F2 A2 r) sz 0 0 14 [some (.ref o), some (vI (enI (mB F c) j.toNat i.toNat (enJ (mB F c) j.toNat))), some (vI j), some (vI i)] [] := by
      refine lpv3 _ _ (fun i _ _ => (j + 1 - i).toNat) ?_
      rintro i F2 A2 ⟨hi0, hi, hjF, hS2⟩ ih2
      have e18 : F2 18 = F 18 := hS2.1 18 (by decide)
      refine r_iload_n (n := 15) C dX5_ends_14 rfl rfl rfl ?_
      refine r_iload_n (n := 16) C dX5_ends_15 rfl rfl rfl ?_
      refine r_icmp_gt (t := 44) (n := 19) C dX5_ends_16 (by decide) rfl (fun c_16 => ?_) (fun c_16 => ?_)
      · have hij : i = j + 1 := by omega
        refine r_iinc (n := 47) C dX5_ends_44 rfl rfl ?_
        refine r_goto (n := 4) C dX5_ends_47 (by decide) ?_
        refine V.ls (ih (j + 1) F2 A2 ⟨by omega, by omega, hS2⟩ (by omega)) ⟨rfl, ?_, rfl, trivial⟩
        rw [hij, show (j + 1).toNat = j.toNat + 1 by omega]
        rfl
      · refine r_aload_n (n := 20) C dX5_ends_19 rfl rfl rfl ?_
        refine r_iload_n (n := 21) C dX5_ends_20 rfl rfl rfl ?_
        refine r_iload_n (n := 22) C dX5_ends_21 rfl rfl rfl ?_
        refine r_callV (n := 25) (n0 := 2) (ci := 5) C (ct_matches (xL x) g o F2 A2 r sz i j (by omega) (by omega) (hS2.wok hW) (hS2.nok hN) hS2.2.2 c (hS2.isC hc) (by rw [e18]; exact hm)) (lw_V q979 q981 qs30 q48 q982) ⟨by decide, by decide, by decide +kernel⟩ rfl MH_o rfl dX5_ends_22 rfl rfl ?_
        rintro v h' sz' ⟨F3, A3, rfl, rfl, z, rfl, hz, hS3⟩ - -
        rw [cV_F hS2.1, e18] at hz
        have eM : mB F c i.toNat j.toNat = decide (0 ≤ cV F c i j ∧ cV F c i j ≤ F 18) := by
          unfold mB
          rw [show ((i.toNat : Nat) : Int) = i by omega, show ((j.toNat : Nat) : Int) = j by omega]
        dsimp only [stk]
        refine r_if_eq (t := 36) (n := 28) C dX5_ends_25 (by decide) rfl (fun c_25 => ?_) (fun c_25 => ?_)
        · refine r_iload_n (n := 37) C dX5_ends_36 rfl rfl rfl ?_
          refine r_istore_n (n := 38) C dX5_ends_37 rfl rfl ?_
          refine r_iinc (n := 41) C dX5_ends_38 rfl rfl ?_
          refine r_goto (n := 14) C dX5_ends_41 (by decide) ?_
          refine V.ls (ih2 (i + 1) F3 A3 ⟨by omega, by omega, hjF, hS2.tr hS3⟩ (by omega)) ⟨rfl, ?_, rfl, rfl, trivial⟩
          rw [show (i + 1).toNat = i.toNat + 1 by omega, enI, eM]
          rcases hz with ⟨z1, z2⟩ | ⟨z1, z2⟩
          · first
              | (exfalso; omega)
              | (rw [decide_eq_true z2, if_pos rfl, show ((j.toNat : Nat) : Int) = j by omega])
          · first
              | (exfalso; omega)
              | (rw [decide_eq_false z2, if_neg (by decide)])
        · refine r_iload_n (n := 29) C dX5_ends_28 rfl rfl rfl ?_
          refine r_iconst (n := 30) C dX5_ends_29 rfl ?_
          refine r_iload_n (n := 31) C dX5_ends_30 rfl rfl rfl ?_
          refine r_ishl (n := 32) C dX5_ends_31 rfl ?_
          refine r_ior (n := 33) C dX5_ends_32 rfl ?_
          refine r_goto (n := 37) C dX5_ends_33 (by decide) ?_
          refine r_istore_n (n := 38) C dX5_ends_37 rfl rfl ?_
          refine r_iinc (n := 41) C dX5_ends_38 rfl rfl ?_
          refine r_goto (n := 14) C dX5_ends_41 (by decide) ?_
          refine V.ls (ih2 (i + 1) F3 A3 ⟨by omega, by omega, hjF, hS2.tr hS3⟩ (by omega)) ⟨rfl, ?_, rfl, rfl, trivial⟩
          rw [show (i + 1).toNat = i.toNat + 1 by omega, enI, eM]
          rcases hz with ⟨z1, z2⟩ | ⟨z1, z2⟩
          · first
              | (exfalso; omega)
              | (rw [decide_eq_true z2, if_pos rfl, show ((j.toNat : Nat) : Int) = j by omega])
          · first
              | (exfalso; omega)
              | (rw [decide_eq_false z2, if_neg (by decide)])
    have e19 : F1 19 = F 19 := hS1.1 19 (by decide)
    refine r_iload_n (n := 5) C dX5_ends_4 rfl rfl rfl ?_
    refine r_aload_n (n := 6) C dX5_ends_5 rfl rfl rfl ?_
    refine r_get (n := 9) (ci := 5) (k := 19) C in_X5 rfl (by decide) q803 rfl dX5_ends_6 rfl MH_o rfl ?_
    rw [e19]
    refine r_icmp_gt (t := 50) (n := 12) C dX5_ends_9 (by decide) rfl (fun c_9 => ?_) (fun c_9 => ?_)
    · refine r_iload_n (n := 51) C dX5_ends_50 rfl rfl rfl ?_
      refine r_ireturn C hQ dX5_ends_51 ?_
      exact ⟨F1, A1, rfl, rfl, by rw [show j.toNat = (F 19).toNat + 1 by omega], hS1⟩
    · refine r_iconst (n := 13) C dX5_ends_12 rfl ?_
      refine r_istore_n (n := 14) C dX5_ends_13 rfl rfl ?_
      exact k14 0 F1 A1 ⟨by omega, by omega, by omega, hS1⟩
  refine r_iconst (n := 1) C dX5_ends_0 rfl ?_
  refine r_istore_n (n := 2) C dX5_ends_1 rfl rfl ?_
  refine r_iconst (n := 3) C dX5_ends_2 rfl ?_
  refine r_istore_n (n := 4) C dX5_ends_3 rfl rfl ?_
  exact V.ls (k4 0 F A ⟨by omega, by omega, ST.rf hk⟩) ⟨rfl, rfl, rfl, trivial⟩
