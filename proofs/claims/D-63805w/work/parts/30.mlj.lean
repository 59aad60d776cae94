/-! the model: the dictionary, further -/
/-- the distance of word w -/
def dsM (F : Nat → Int) (A : Nat → Nat → Int) (ex : Int) (w : Nat) : Int := lev ex (wdM A w) (A 9) (A 11 w).toNat (F 19).toNat
theorem dsM_rg {F : Nat → Int} {A : Nat → Nat → Int} {ex : Int} {w : Nat} (hD : Dok F A) (hw : (w : Int) < F 25) : 0 ≤ dsM F A ex w ∧ dsM F A ex w ≤ 24 := by
  obtain ⟨h19, h25, htx, hwd⟩ := hD
  have h1 := (hwd w hw).1
  have h2 := lev_rg (ex := ex) (a := wdM A w) (t := A 9) (A 11 w).toNat (F 19).toNat
  have h3 := lev_max (ex := ex) (a := wdM A w) (t := A 9) (A 11 w).toNat (F 19).toNat
  unfold dsM
  omega
theorem stM_up {A : Nat → Nat → Int} {p q p' q' : Nat} {z : Int} (hq : q < 25) (hq' : q' < 25) : stM (va_up A 13 (va_up (A 13) (25 * p + q) z)) p' q' = if p' = p ∧ q' = q then z else stM A p' q' := by
  show va_up A 13 (va_up (A 13) (25 * p + q) z) 13 (25 * p' + q') = _
  rw [va_up_self]
  by_cases h : p' = p ∧ q' = q
  · rw [if_pos h, h.1, h.2, va_up_self]
  · rw [if_neg h, va_up_ne _ _ (by omega)]
theorem Dok_A {F : Nat → Int} {A A' : Nat → Nat → Int} (h : ∀ j, j ≠ 13 → A' j = A j) (hD : Dok F A) : Dok F A' := by
  obtain ⟨h19, h25, htx, hwd⟩ := hD
  refine ⟨h19, h25, ?_, ?_⟩
  · rw [h 9 (by decide)]
    exact htx
  · intro w hw
    have e : wdM A' w = wdM A w := by
      funext k
      show A' 12 _ = A 12 _
      rw [h 12 (by decide)]
    rw [h 11 (by decide), e]
    exact hwd w hw
theorem dsM_A {F : Nat → Int} {A A' : Nat → Nat → Int} (h : ∀ j, j ≠ 13 → A' j = A j) (ex : Int) (w : Nat) : dsM F A' ex w = dsM F A ex w := by
  unfold dsM
  have e : wdM A' w = wdM A w := by
    funext k
    show A' 12 _ = A 12 _
    rw [h 12 (by decide)]
  rw [e, h 9 (by decide), h 11 (by decide)]
theorem ct_mdistance (l : Launch) (g : GG) (o : Nat) (F : Nat → Int) (A : Nat → Nat → Int) (r : HM) (sz : Nat) (w ex : Int) (hw : -2147483648 ≤ w ∧ w < 2147483648) (hex : ex = 0 ∨ ex = 1) (hD : Dok F A) : MT l yX5_distance cX5_distance 5 (some .int) 1 [.ref o, vI w, vI ex] g o F A r sz (fun v F' A' => ∃ z : Int, v = some (vI z) ∧ z = (if w < 0 ∨ F 25 ≤ w then -1 else dsM F A ex w.toNat) ∧ -1 ≤ z ∧ z ≤ 24 ∧ F' = F ∧ ∀ j, j ≠ 13 → A' j = A j) := by
  have hD0 := hD
  obtain ⟨h19, h25, htx, hwd⟩ := hD
  refine CT.of (lo := [some (.ref o), some (vI w), some (vI ex), none, none]) (by decide) (by simp [Value.category]) (Nat.le_of_ble_eq_true rfl) rfl ?_
  intro x h0 Q C hQ hl hni
  by_cases hin : w < 0 ∨ F 25 ≤ w
  · skip
    refine r_iload_n (n := 1) C dX5_distance_0 rfl rfl rfl ?_
    refine r_if_lt (t := 12) (n := 4) C dX5_distance_1 (by decide) rfl (fun c_1 => ?_) (fun c_1 => ?_)
    · refine r_iconst (n := 13) C dX5_distance_12 rfl ?_
      refine r_ireturn C hQ dX5_distance_13 ?_
      exact ⟨F, A, rfl, rfl, _, rfl, by rw [if_pos hin], by omega, by omega, rfl, fun _ _ => rfl⟩
    · refine r_iload_n (n := 5) C dX5_distance_4 rfl rfl rfl ?_
      refine r_aload_n (n := 6) C dX5_distance_5 rfl rfl rfl ?_
      refine r_get (n := 9) (ci := 5) (k := 25) C in_X5 rfl (by decide) q809 rfl dX5_distance_6 rfl MH_o rfl ?_
      refine r_icmp_lt (t := 14) (n := 12) C dX5_distance_9 (by decide) rfl (fun c_9 => ?_) (fun c_9 => ?_)
      · exfalso; omega
      · refine r_iconst (n := 13) C dX5_distance_12 rfl ?_
        refine r_ireturn C hQ dX5_distance_13 ?_
        exact ⟨F, A, rfl, rfl, _, rfl, by rw [if_pos hin], by omega, by omega, rfl, fun _ _ => rfl⟩
  · obtain ⟨hsz, hle⟩ := hwd w.toNat (by omega)
    have hds := dsM_rg (ex := ex) hD0 (w := w.toNat) (by omega)
    have k16 : ∀ (p : Int) (A1 : Nat → Nat → Int), (0 ≤ p ∧ p ≤ A 11 w.toNat + 1 ∧ (∀ j, j ≠ 13 → A1 j = A j) ∧ (∀ p' q' : Nat, p' < p → q' ≤ F 19 → stM A1 p' q' = lev ex (wdM A w.toNat) (A 9) p' q')) → V x g h0 Q (MH g o F A1 r) sz 0 0 16 [some (.ref o), some (vI w), some (vI ex), some (vI p), none] [] := by
      refine lpv2 _ _ (fun p _ => (A 11 w.toNat + 1 - p).toNat) ?_
      rintro p A1 ⟨hp0, hp, hA1, hd1⟩ ih
      have e11 : A1 11 = A 11 := hA1 11 (by decide)
      have k29 : ∀ (q : Int) (A2 : Nat → Nat → Int), (0 ≤ q ∧ q ≤ F 19 + 1 ∧ p ≤ A 11 w.toNat ∧ (∀ j, j ≠ 13 → A2 j = A j) ∧ (∀ p' q' : Nat, q' ≤ F 19 → (p' < p ∨ (p' = p ∧ q' < q)) → stM A2 p' q' = lev ex (wdM A w.toNat) (A 9) p' q')) → V x g h0 Q (MH g o F A2 r) sz 0 0 29 [some (.ref o), some (vI w), some (vI ex), some (vI p), some (vI q)] [] := by
        refine lpv2 _ _ (fun q _ => (F 19 + 1 - q).toNat) ?_
        rintro q A2 ⟨hq0, hq, hpp, hA2, hd2⟩ ih2
        have hD2 := Dok_A hA2 hD0
        have e112 : A2 11 = A 11 := hA2 11 (by decide)
        have ewd : wdM A2 w.toNat = wdM A w.toNat := by
          funext k
          show A2 12 _ = A 12 _
          rw [hA2 12 (by decide)]
        have e9 : A2 9 = A 9 := hA2 9 (by decide)
        refine r_iload (n := 31) C dX5_distance_29 rfl rfl ?_
        refine r_aload_n (n := 32) C dX5_distance_31 rfl rfl rfl ?_
        refine r_get (n := 35) (ci := 5) (k := 19) C in_X5 rfl (by decide) q803 rfl dX5_distance_32 rfl MH_o rfl ?_
        refine r_icmp_gt (t := 65) (n := 38) C dX5_distance_35 (by decide) rfl (fun c_35 => ?_) (fun c_35 => ?_)
        · have hqq : q = F 19 + 1 := by omega
          refine r_iinc (n := 68) C dX5_distance_65 rfl rfl ?_
          refine r_goto (n := 16) C dX5_distance_68 (by decide) ?_
          exact V.ls (ih (p + 1) A2 ⟨by omega, by omega, hA2, fun p' q' q1 q2 => hd2 p' q' q2 (by omega)⟩ (by omega)) ⟨rfl, rfl, rfl, rfl, trivial⟩
        · have hlv : stD ex (wdM A2 w.toNat) (A2 9) (stM A2) p.toNat q.toNat = lev ex (wdM A w.toNat) (A 9) p.toNat q.toNat := by
            rw [ewd, e9]
            exact stD_lev (by omega) (by omega) (fun p' q' q1 q2 q3 => hd2 p' q' (by omega) (by omega))
          refine r_aload_n (n := 39) C dX5_distance_38 rfl rfl rfl ?_
          refine r_get (n := 42) (ci := 5) (k := 28) C in_X5 rfl (by decide) q812 rfl dX5_distance_39 rfl MH_o rfl ?_
          refine r_bipush (n := 44) C dX5_distance_42 (by decide) rfl ?_
          refine r_iload_n (n := 45) C dX5_distance_44 rfl rfl rfl ?_
          refine r_imul (n := 46) C dX5_distance_45 rfl ?_
          refine r_iload (n := 48) C dX5_distance_46 rfl rfl ?_
          refine r_iadd (n := 49) C dX5_distance_48 rfl ?_
          refine r_aload_n (n := 50) C dX5_distance_49 rfl rfl rfl ?_
          refine r_iload_n (n := 51) C dX5_distance_50 rfl rfl rfl ?_
          refine r_iload_n (n := 52) C dX5_distance_51 rfl rfl rfl ?_
          refine r_iload (n := 54) C dX5_distance_52 rfl rfl ?_
          refine r_iload_n (n := 55) C dX5_distance_54 rfl rfl rfl ?_
          refine r_callV (n := 58) (n0 := 4) (ci := 5) C (ct_mstep (xL x) g o F A2 r sz w p q ex hex hD2 (by omega) (by rw [e112]; omega) (by omega) (fun p' q' q1 q2 q3 => by rw [hd2 p' q' (by omega) (by omega)]; have := lev_rg (ex := ex) (a := wdM A w.toNat) (t := A 9) p' q'; omega)) (lw_V q1008 q1010 qs32 q48 q1011) ⟨by decide, by decide, by decide +kernel⟩ rfl MH_o rfl dX5_distance_55 rfl rfl ?_
          rintro v h' sz' ⟨rfl, rfl, rfl⟩ - -
          rw [hlv]
          dsimp only [stk]
          refine r_mast (n := 59) (j := 13) (N := 325) C dX5_distance_58 rfl rfl (by decide) ?_
          refine r_iinc (n := 62) C dX5_distance_59 rfl rfl ?_
          refine r_goto (n := 29) C dX5_distance_62 (by decide) ?_
          rw [show (25 * p + q).toNat = 25 * p.toNat + q.toNat by omega]
          refine ih2 (q + 1) _ ⟨by omega, by omega, hpp, ?_, ?_⟩ (by omega)
          · intro j hj
            rw [va_up_ne _ _ hj]
            exact hA2 j hj
          · intro p' q' q1 q2
            rw [stM_up (by omega) (by omega)]
            by_cases h9 : p' = p.toNat ∧ q' = q.toNat
            · rw [if_pos h9, h9.1, h9.2]
            · rw [if_neg h9]
              exact hd2 p' q' q1 (by omega)
      refine r_iload_n (n := 17) C dX5_distance_16 rfl rfl rfl ?_
      refine r_aload_n (n := 18) C dX5_distance_17 rfl rfl rfl ?_
      refine r_get (n := 21) (ci := 5) (k := 26) C in_X5 rfl (by decide) q810 rfl dX5_distance_18 rfl MH_o rfl ?_
      refine r_iload_n (n := 22) C dX5_distance_21 rfl rfl rfl ?_
      refine r_iaload (n := 23) (N := 20) C dX5_distance_22 rfl (MH_a 11 (by decide)) ?_
      rw [e11]
      refine r_icmp_gt (t := 71) (n := 26) C dX5_distance_23 (by decide) rfl (fun c_23 => ?_) (fun c_23 => ?_)
      · refine r_aload_n (n := 72) C dX5_distance_71 rfl rfl rfl ?_
        refine r_get (n := 75) (ci := 5) (k := 28) C in_X5 rfl (by decide) q812 rfl dX5_distance_72 rfl MH_o rfl ?_
        refine r_bipush (n := 77) C dX5_distance_75 (by decide) rfl ?_
        refine r_aload_n (n := 78) C dX5_distance_77 rfl rfl rfl ?_
        refine r_get (n := 81) (ci := 5) (k := 26) C in_X5 rfl (by decide) q810 rfl dX5_distance_78 rfl MH_o rfl ?_
        refine r_iload_n (n := 82) C dX5_distance_81 rfl rfl rfl ?_
        refine r_iaload (n := 83) (N := 20) C dX5_distance_82 rfl (MH_a 11 (by decide)) ?_
        rw [e11]
        refine r_imul (n := 84) C dX5_distance_83 rfl ?_
        refine r_aload_n (n := 85) C dX5_distance_84 rfl rfl rfl ?_
        refine r_get (n := 88) (ci := 5) (k := 19) C in_X5 rfl (by decide) q803 rfl dX5_distance_85 rfl MH_o rfl ?_
        refine r_iadd (n := 89) C dX5_distance_88 rfl ?_
        refine r_iaload (n := 90) (N := 325) C dX5_distance_89 rfl (MH_a 13 (by decide)) ?_
        rw [show (25 * A 11 w.toNat + F 19).toNat = 25 * (A 11 w.toNat).toNat + (F 19).toNat by omega]
        have e9 : A1 13 (25 * (A 11 w.toNat).toNat + (F 19).toNat) = dsM F A ex w.toNat := hd1 (A 11 w.toNat).toNat (F 19).toNat (by omega) (by omega)
        rw [e9]
        refine r_ireturn C hQ dX5_distance_90 ?_
        exact ⟨F, A1, rfl, rfl, _, rfl, by rw [if_neg hin], by omega, by omega, rfl, hA1⟩
      · refine r_iconst (n := 27) C dX5_distance_26 rfl ?_
        refine r_istore (n := 29) C dX5_distance_27 rfl ?_
        exact k29 0 A1 ⟨by omega, by omega, by omega, hA1, fun p' q' q1 q2 => hd1 p' q' (by omega) q1⟩
    refine r_iload_n (n := 1) C dX5_distance_0 rfl rfl rfl ?_
    refine r_if_lt (t := 12) (n := 4) C dX5_distance_1 (by decide) rfl (fun c_1 => ?_) (fun c_1 => ?_)
    · exfalso; omega
    · refine r_iload_n (n := 5) C dX5_distance_4 rfl rfl rfl ?_
      refine r_aload_n (n := 6) C dX5_distance_5 rfl rfl rfl ?_
      refine r_get (n := 9) (ci := 5) (k := 25) C in_X5 rfl (by decide) q809 rfl dX5_distance_6 rfl MH_o rfl ?_
      refine r_icmp_lt (t := 14) (n := 12) C dX5_distance_9 (by decide) rfl (fun c_9 => ?_) (fun c_9 => ?_)
      · refine r_iconst (n := 15) C dX5_distance_14 rfl ?_
        refine r_istore_n (n := 16) C dX5_distance_15 rfl rfl ?_
        exact k16 0 A ⟨by omega, by omega, fun _ _ => rfl, fun p' q' q1 q2 => by omega⟩
      · exfalso; omega
theorem ct_mnear (l : Launch) (g : GG) (o : Nat) (F : Nat → Int) (A : Nat → Nat → Int) (r : HM) (sz : Nat) (k ex : Int) (hk : -2147483648 ≤ k ∧ k < 2147483648) (hex : ex = 0 ∨ ex = 1) (hD : Dok F A) : MT l yX5_near cX5_near 5 (some .int) 2 [.ref o, vI k, vI ex] g o F A r sz (fun v F' A' => v = some (vI (cntB (fun w => decide (dsM F A ex w ≤ k)) (F 25).toNat)) ∧ F' = F ∧ ∀ j, j ≠ 13 → A' j = A j) := by
  have h25 := hD.2.1
  refine CT.of (lo := [some (.ref o), some (vI k), some (vI ex), none, none]) (by decide) (by simp [Value.category]) (Nat.le_of_ble_eq_true rfl) rfl ?_
  intro x h0 Q C hQ hl hni
  have k5 : ∀ (w : Int) (A1 : Nat → Nat → Int), (0 ≤ w ∧ w ≤ F 25 ∧ ∀ j, j ≠ 13 → A1 j = A j) → V x g h0 Q (MH g o F A1 r) sz 0 0 5 [some (.ref o), some (vI k), some (vI ex), some (vI (cntB (fun w => decide (dsM F A ex w ≤ k)) w.toNat)), some (vI w)] [] := by
    refine lpv2 _ _ (fun w _ => (F 25 - w).toNat) ?_
    rintro w A1 ⟨hw0, hw, hA1⟩ ih
    have hcn := cntB_rg (fun w => decide (dsM F A ex w ≤ k)) w.toNat
    have hst : ∀ z : Int, w < F 25 → ((z = 1 ∧ dsM F A ex w.toNat ≤ k) ∨ (z = 0 ∧ ¬ dsM F A ex w.toNat ≤ k)) → cntB (fun w => decide (dsM F A ex w ≤ k)) (w + 1).toNat = cntB (fun w => decide (dsM F A ex w ≤ k)) w.toNat + z := by
      intro z hwl hz
      rw [show (w + 1).toNat = w.toNat + 1 by omega, cntB]
      rcases hz with ⟨z1, z2⟩ | ⟨z1, z2⟩
      · rw [decide_eq_true z2, z1]
        rfl
      · rw [decide_eq_false z2, z1]
        rfl
    refine r_iload (n := 7) C dX5_near_5 rfl rfl ?_
    refine r_aload_n (n := 8) C dX5_near_7 rfl rfl rfl ?_
    refine r_get (n := 11) (ci := 5) (k := 25) C in_X5 rfl (by decide) q809 rfl dX5_near_8 rfl MH_o rfl ?_
    refine r_icmp_ge (t := 39) (n := 14) C dX5_near_11 (by decide) rfl (fun c_11 => ?_) (fun c_11 => ?_)
    · refine r_iload_n (n := 40) C dX5_near_39 rfl rfl rfl ?_
      refine r_ireturn C hQ dX5_near_40 ?_
      exact ⟨F, A1, rfl, rfl, by rw [show w = F 25 by omega], rfl, hA1⟩
    · refine r_iload_n (n := 15) C dX5_near_14 rfl rfl rfl ?_
      refine r_aload_n (n := 16) C dX5_near_15 rfl rfl rfl ?_
      refine r_iload (n := 18) C dX5_near_16 rfl rfl ?_
      refine r_iload_n (n := 19) C dX5_near_18 rfl rfl rfl ?_
      refine r_callV (n := 22) (n0 := 2) (ci := 5) C (ct_mdistance (xL x) g o F A1 r sz w ex (by omega) hex (Dok_A hA1 hD)) (lw_V q1004 q1005 q1006 q48 q1007) ⟨by decide, by decide, by decide +kernel⟩ rfl MH_o rfl dX5_near_19 rfl rfl ?_
      rintro v h' sz' ⟨F2, A2, rfl, rfl, z, rfl, hz, hz1, hz2, hF2, hA2⟩ - -
      have hF2 := hF2.symm
      subst hF2
      rw [if_neg (by omega), dsM_A hA1] at hz
      dsimp only [stk]
      refine r_iload_n (n := 23) C dX5_near_22 rfl rfl rfl ?_
      refine r_icmp_gt (t := 30) (n := 26) C dX5_near_23 (by decide) rfl (fun c_23 => ?_) (fun c_23 => ?_)
      · refine r_iconst (n := 31) C dX5_near_30 rfl ?_
        refine r_iadd (n := 32) C dX5_near_31 rfl ?_
        refine r_istore_n (n := 33) C dX5_near_32 rfl rfl ?_
        refine r_iinc (n := 36) C dX5_near_33 rfl rfl ?_
        refine r_goto (n := 5) C dX5_near_36 (by decide) ?_
        refine V.ls (ih (w + 1) A2 ⟨by omega, by omega, fun j hj => (hA2 j hj).trans (hA1 j hj)⟩ (by omega)) ⟨rfl, rfl, rfl, ?_, rfl, trivial⟩
        first | rw [hst 1 (by omega) (by omega)] | rw [hst 0 (by omega) (by omega)]
      · refine r_iconst (n := 27) C dX5_near_26 rfl ?_
        refine r_goto (n := 31) C dX5_near_27 (by decide) ?_
        refine r_iadd (n := 32) C dX5_near_31 rfl ?_
        refine r_istore_n (n := 33) C dX5_near_32 rfl rfl ?_
        refine r_iinc (n := 36) C dX5_near_33 rfl rfl ?_
        refine r_goto (n := 5) C dX5_near_36 (by decide) ?_
        refine V.ls (ih (w + 1) A2 ⟨by omega, by omega, fun j hj => (hA2 j hj).trans (hA1 j hj)⟩ (by omega)) ⟨rfl, rfl, rfl, ?_, rfl, trivial⟩
        first | rw [hst 1 (by omega) (by omega)] | rw [hst 0 (by omega) (by omega)]
  refine r_iconst (n := 1) C dX5_near_0 rfl ?_
  refine r_istore_n (n := 2) C dX5_near_1 rfl rfl ?_
  refine r_iconst (n := 3) C dX5_near_2 rfl ?_
  refine r_istore (n := 5) C dX5_near_3 rfl ?_
  exact k5 0 A ⟨by omega, by omega, fun _ _ => rfl⟩
theorem ct_earlier (l : Launch) (g : GG) (o : Nat) (F : Nat → Int) (A : Nat → Nat → Int) (r : HM) (sz : Nat) (v w : Int) (hv : 0 ≤ v ∧ v < F 25) (hw : 0 ≤ w ∧ w < F 25) (hD : Dok F A) : RT l yX5_earlier cX5_earlier 4 (some .boolean) 0 [.ref o, vI v, vI w] g (MH g o F A r) sz (fun u => ∃ z : Int, u = some (vI z) ∧ ((z = 1 ∧ Elr (A 11 v.toNat) (A 11 w.toNat) (wdM A v.toNat) (wdM A w.toNat)) ∨ (z = 0 ∧ ¬ Elr (A 11 v.toNat) (A 11 w.toNat) (wdM A v.toNat) (wdM A w.toNat)))) := by
  obtain ⟨h19, h25, htx, hwd⟩ := hD
  obtain ⟨hsv, hlv⟩ := hwd v.toNat (by omega)
  obtain ⟨hsw, hlw⟩ := hwd w.toNat (by omega)
  refine CT.of (lo := [some (.ref o), some (vI v), some (vI w), none]) (by decide) (by simp [Value.category]) (Nat.le_of_ble_eq_true rfl) rfl ?_
  intro x h0 Q C hQ hl hni
  have k2 : ∀ (k : Int), (0 ≤ k ∧ k ≤ A 11 v.toNat ∧ k ≤ A 11 w.toNat ∧ ∀ i : Nat, i < k → wdM A v.toNat i = wdM A w.toNat i) → V x g h0 Q (MH g o F A r) sz 0 0 2 [some (.ref o), some (vI v), some (vI w), some (vI k)] [] := by
    refine lp_v _ _ (fun k => (A 11 v.toNat - k).toNat) ?_
    rintro k ⟨hk0, hkv, hkw, heq⟩ ih
    have k53 : (k = A 11 v.toNat ∨ k = A 11 w.toNat ∨ wdM A v.toNat k.toNat ≠ wdM A w.toNat k.toNat) → V x g h0 Q (MH g o F A r) sz 0 0 53 [some (.ref o), some (vI v), some (vI w), some (vI k)] [] := by
      intro hst
      have hE : Elr (A 11 v.toNat) (A 11 w.toNat) (wdM A v.toNat) (wdM A w.toNat) ↔ ((k = A 11 v.toNat ∧ A 11 v.toNat < A 11 w.toNat) ∨ (k < A 11 v.toNat ∧ k < A 11 w.toNat ∧ A 12 (12 * v.toNat + k.toNat) < A 12 (12 * w.toNat + k.toNat))) := by
        have h9 := Elr_at (a := wdM A v.toNat) (b := wdM A w.toNat) (k := k.toNat) (sa := A 11 v.toNat) (sb := A 11 w.toNat) (by omega) (by omega) (fun i hi => heq i (by omega)) (by omega)
        rw [show ((k.toNat : Nat) : Int) = k by omega] at h9
        exact h9
      refine r_iload_n (n := 54) C dX5_earlier_53 rfl rfl rfl ?_
      refine r_aload_n (n := 55) C dX5_earlier_54 rfl rfl rfl ?_
      refine r_get (n := 58) (ci := 5) (k := 26) C in_X5 rfl (by decide) q810 rfl dX5_earlier_55 rfl MH_o rfl ?_
      refine r_iload_n (n := 59) C dX5_earlier_58 rfl rfl rfl ?_
      refine r_iaload (n := 60) (N := 20) C dX5_earlier_59 rfl (MH_a 11 (by decide)) ?_
      refine r_icmp_eq (t := 73) (n := 63) C dX5_earlier_60 (by decide) rfl (fun c_60 => ?_) (fun c_60 => ?_)
      · refine r_aload_n (n := 74) C dX5_earlier_73 rfl rfl rfl ?_
        refine r_get (n := 77) (ci := 5) (k := 26) C in_X5 rfl (by decide) q810 rfl dX5_earlier_74 rfl MH_o rfl ?_
        refine r_iload_n (n := 78) C dX5_earlier_77 rfl rfl rfl ?_
        refine r_iaload (n := 79) (N := 20) C dX5_earlier_78 rfl (MH_a 11 (by decide)) ?_
        refine r_aload_n (n := 80) C dX5_earlier_79 rfl rfl rfl ?_
        refine r_get (n := 83) (ci := 5) (k := 26) C in_X5 rfl (by decide) q810 rfl dX5_earlier_80 rfl MH_o rfl ?_
        refine r_iload_n (n := 84) C dX5_earlier_83 rfl rfl rfl ?_
        refine r_iaload (n := 85) (N := 20) C dX5_earlier_84 rfl (MH_a 11 (by decide)) ?_
        refine r_icmp_ge (t := 92) (n := 88) C dX5_earlier_85 (by decide) rfl (fun c_85 => ?_) (fun c_85 => ?_)
        · refine r_iconst (n := 93) C dX5_earlier_92 rfl ?_
          refine r_zreturn C hQ rfl dX5_earlier_93 ?_
          refine ⟨rfl, rfl, _, rfl, ?_⟩
          rw [hE]
          omega
        · refine r_iconst (n := 89) C dX5_earlier_88 rfl ?_
          refine r_goto (n := 93) C dX5_earlier_89 (by decide) ?_
          refine r_zreturn C hQ rfl dX5_earlier_93 ?_
          refine ⟨rfl, rfl, _, rfl, ?_⟩
          rw [hE]
          omega
      · refine r_iload_n (n := 64) C dX5_earlier_63 rfl rfl rfl ?_
        refine r_aload_n (n := 65) C dX5_earlier_64 rfl rfl rfl ?_
        refine r_get (n := 68) (ci := 5) (k := 26) C in_X5 rfl (by decide) q810 rfl dX5_earlier_65 rfl MH_o rfl ?_
        refine r_iload_n (n := 69) C dX5_earlier_68 rfl rfl rfl ?_
        refine r_iaload (n := 70) (N := 20) C dX5_earlier_69 rfl (MH_a 11 (by decide)) ?_
        refine r_icmp_ne (t := 94) (n := 73) C dX5_earlier_70 (by decide) rfl (fun c_70 => ?_) (fun c_70 => ?_)
        · have l1 : 0 ≤ A 12 (12 * v.toNat + k.toNat) ∧ A 12 (12 * v.toNat + k.toNat) ≤ 122 := hlv k.toNat (by omega)
          have l2 : 0 ≤ A 12 (12 * w.toNat + k.toNat) ∧ A 12 (12 * w.toNat + k.toNat) ≤ 122 := hlw k.toNat (by omega)
          refine r_aload_n (n := 95) C dX5_earlier_94 rfl rfl rfl ?_
          refine r_get (n := 98) (ci := 5) (k := 27) C in_X5 rfl (by decide) q811 rfl dX5_earlier_95 rfl MH_o rfl ?_
          refine r_bipush (n := 100) C dX5_earlier_98 (by decide) rfl ?_
          refine r_iload_n (n := 101) C dX5_earlier_100 rfl rfl rfl ?_
          refine r_imul (n := 102) C dX5_earlier_101 rfl ?_
          refine r_iload_n (n := 103) C dX5_earlier_102 rfl rfl rfl ?_
          refine r_iadd (n := 104) C dX5_earlier_103 rfl ?_
          refine r_iaload (n := 105) (N := 240) C dX5_earlier_104 rfl (MH_a 12 (by decide)) ?_
          rw [show (12 * v + k).toNat = 12 * v.toNat + k.toNat by omega]
          refine r_aload_n (n := 106) C dX5_earlier_105 rfl rfl rfl ?_
          refine r_get (n := 109) (ci := 5) (k := 27) C in_X5 rfl (by decide) q811 rfl dX5_earlier_106 rfl MH_o rfl ?_
          refine r_bipush (n := 111) C dX5_earlier_109 (by decide) rfl ?_
          refine r_iload_n (n := 112) C dX5_earlier_111 rfl rfl rfl ?_
          refine r_imul (n := 113) C dX5_earlier_112 rfl ?_
          refine r_iload_n (n := 114) C dX5_earlier_113 rfl rfl rfl ?_
          refine r_iadd (n := 115) C dX5_earlier_114 rfl ?_
          refine r_iaload (n := 116) (N := 240) C dX5_earlier_115 rfl (MH_a 12 (by decide)) ?_
          rw [show (12 * w + k).toNat = 12 * w.toNat + k.toNat by omega]
          refine r_icmp_ge (t := 123) (n := 119) C dX5_earlier_116 (by decide) rfl (fun c_116 => ?_) (fun c_116 => ?_)
          · refine r_iconst (n := 124) C dX5_earlier_123 rfl ?_
            refine r_zreturn C hQ rfl dX5_earlier_124 ?_
            refine ⟨rfl, rfl, _, rfl, ?_⟩
            rw [hE]
            omega
          · refine r_iconst (n := 120) C dX5_earlier_119 rfl ?_
            refine r_goto (n := 124) C dX5_earlier_120 (by decide) ?_
            refine r_zreturn C hQ rfl dX5_earlier_124 ?_
            refine ⟨rfl, rfl, _, rfl, ?_⟩
            rw [hE]
            omega
        · refine r_aload_n (n := 74) C dX5_earlier_73 rfl rfl rfl ?_
          refine r_get (n := 77) (ci := 5) (k := 26) C in_X5 rfl (by decide) q810 rfl dX5_earlier_74 rfl MH_o rfl ?_
          refine r_iload_n (n := 78) C dX5_earlier_77 rfl rfl rfl ?_
          refine r_iaload (n := 79) (N := 20) C dX5_earlier_78 rfl (MH_a 11 (by decide)) ?_
          refine r_aload_n (n := 80) C dX5_earlier_79 rfl rfl rfl ?_
          refine r_get (n := 83) (ci := 5) (k := 26) C in_X5 rfl (by decide) q810 rfl dX5_earlier_80 rfl MH_o rfl ?_
          refine r_iload_n (n := 84) C dX5_earlier_83 rfl rfl rfl ?_
          refine r_iaload (n := 85) (N := 20) C dX5_earlier_84 rfl (MH_a 11 (by decide)) ?_
          refine r_icmp_ge (t := 92) (n := 88) C dX5_earlier_85 (by decide) rfl (fun c_85 => ?_) (fun c_85 => ?_)
          · refine r_iconst (n := 93) C dX5_earlier_92 rfl ?_
            refine r_zreturn C hQ rfl dX5_earlier_93 ?_
            refine ⟨rfl, rfl, _, rfl, ?_⟩
            rw [hE]
            omega
          · refine r_iconst (n := 89) C dX5_earlier_88 rfl ?_
            refine r_goto (n := 93) C dX5_earlier_89 (by decide) ?_
            refine r_zreturn C hQ rfl dX5_earlier_93 ?_
            refine ⟨rfl, rfl, _, rfl, ?_⟩
            rw [hE]
            omega
    refine r_iload_n (n := 3) C dX5_earlier_2 rfl rfl rfl ?_
    refine r_aload_n (n := 4) C dX5_earlier_3 rfl rfl rfl ?_
    refine r_get (n := 7) (ci := 5) (k := 26) C in_X5 rfl (by decide) q810 rfl dX5_earlier_4 rfl MH_o rfl ?_
    refine r_iload_n (n := 8) C dX5_earlier_7 rfl rfl rfl ?_
    refine r_iaload (n := 9) (N := 20) C dX5_earlier_8 rfl (MH_a 11 (by decide)) ?_
    refine r_icmp_ge (t := 53) (n := 12) C dX5_earlier_9 (by decide) rfl (fun c_9 => ?_) (fun c_9 => ?_)
    · first
        | exact k53 (by omega)
        | exact k53 (Or.inr (Or.inr c_44))
    · refine r_iload_n (n := 13) C dX5_earlier_12 rfl rfl rfl ?_
      refine r_aload_n (n := 14) C dX5_earlier_13 rfl rfl rfl ?_
      refine r_get (n := 17) (ci := 5) (k := 26) C in_X5 rfl (by decide) q810 rfl dX5_earlier_14 rfl MH_o rfl ?_
      refine r_iload_n (n := 18) C dX5_earlier_17 rfl rfl rfl ?_
      refine r_iaload (n := 19) (N := 20) C dX5_earlier_18 rfl (MH_a 11 (by decide)) ?_
      refine r_icmp_ge (t := 53) (n := 22) C dX5_earlier_19 (by decide) rfl (fun c_19 => ?_) (fun c_19 => ?_)
      · first
          | exact k53 (by omega)
          | exact k53 (Or.inr (Or.inr c_44))
      · have l1 : 0 ≤ A 12 (12 * v.toNat + k.toNat) ∧ A 12 (12 * v.toNat + k.toNat) ≤ 122 := hlv k.toNat (by omega)
        have l2 : 0 ≤ A 12 (12 * w.toNat + k.toNat) ∧ A 12 (12 * w.toNat + k.toNat) ≤ 122 := hlw k.toNat (by omega)
        refine r_aload_n (n := 23) C dX5_earlier_22 rfl rfl rfl ?_
        refine r_get (n := 26) (ci := 5) (k := 27) C in_X5 rfl (by decide) q811 rfl dX5_earlier_23 rfl MH_o rfl ?_
        refine r_bipush (n := 28) C dX5_earlier_26 (by decide) rfl ?_
        refine r_iload_n (n := 29) C dX5_earlier_28 rfl rfl rfl ?_
        refine r_imul (n := 30) C dX5_earlier_29 rfl ?_
        refine r_iload_n (n := 31) C dX5_earlier_30 rfl rfl rfl ?_
        refine r_iadd (n := 32) C dX5_earlier_31 rfl ?_
        refine r_iaload (n := 33) (N := 240) C dX5_earlier_32 rfl (MH_a 12 (by decide)) ?_
        rw [show (12 * v + k).toNat = 12 * v.toNat + k.toNat by omega]
        refine r_aload_n (n := 34) C dX5_earlier_33 rfl rfl rfl ?_
        refine r_get (n := 37) (ci := 5) (k := 27) C in_X5 rfl (by decide) q811 rfl dX5_earlier_34 rfl MH_o rfl ?_
        refine r_bipush (n := 39) C dX5_earlier_37 (by decide) rfl ?_
        refine r_iload_n (n := 40) C dX5_earlier_39 rfl rfl rfl ?_
        refine r_imul (n := 41) C dX5_earlier_40 rfl ?_
        refine r_iload_n (n := 42) C dX5_earlier_41 rfl rfl rfl ?_
        refine r_iadd (n := 43) C dX5_earlier_42 rfl ?_
        refine r_iaload (n := 44) (N := 240) C dX5_earlier_43 rfl (MH_a 12 (by decide)) ?_
        rw [show (12 * w + k).toNat = 12 * w.toNat + k.toNat by omega]
        refine r_icmp_ne (t := 53) (n := 47) C dX5_earlier_44 (by decide) rfl (fun c_44 => ?_) (fun c_44 => ?_)
        · first
            | exact k53 (by omega)
            | exact k53 (Or.inr (Or.inr c_44))
        · refine r_iinc (n := 50) C dX5_earlier_47 rfl rfl ?_
          refine r_goto (n := 2) C dX5_earlier_50 (by decide) ?_
          refine ih (k + 1) ⟨by omega, by omega, by omega, fun i hi => ?_⟩ (by omega)
          by_cases h9 : i = k.toNat
          · rw [h9]
            exact c_44
          · exact heq i (by omega)
  refine r_iconst (n := 1) C dX5_earlier_0 rfl ?_
  refine r_istore_n (n := 2) C dX5_earlier_1 rfl rfl ?_
  exact k2 0 ⟨by omega, by omega, by omega, fun i hi => by omega⟩

/-- v is before w, by distance and then by letters -/
noncomputable def bfM (F : Nat → Int) (A : Nat → Nat → Int) (ex : Int) (w v : Nat) : Bool := bl (dsM F A ex v < dsM F A ex w ∨ (dsM F A ex v = dsM F A ex w ∧ Elr (A 11 v) (A 11 w) (wdM A v) (wdM A w)))
/-- how many are before w -/
noncomputable def rkM (F : Nat → Int) (A : Nat → Nat → Int) (ex : Int) (w : Nat) : Int := cntB (bfM F A ex w) (F 25).toNat
theorem ct_mrank (l : Launch) (g : GG) (o : Nat) (F : Nat → Int) (A : Nat → Nat → Int) (r : HM) (sz : Nat) (k ex : Int) (hk : -2147483648 ≤ k ∧ k < 2147483648) (hex : ex = 0 ∨ ex = 1) (hD : Dok F A) : MT l yX5_rank cX5_rank 8 (some .int) 2 [.ref o, vI k, vI ex] g o F A r sz (fun v F' A' => ((∃ w : Nat, (w : Int) < F 25 ∧ v = some (vI w) ∧ rkM F A ex w = k ∧ ∀ u : Nat, u < w → rkM F A ex u ≠ k) ∨ (v = some (vI (-1)) ∧ ∀ u : Nat, (u : Int) < F 25 → rkM F A ex u ≠ k)) ∧ F' = F ∧ ∀ j, j ≠ 13 → A' j = A j) := by
  have h25 := hD.2.1
  refine CT.of (lo := [some (.ref o), some (vI k), some (vI ex), none, none, none, none, none]) (by decide) (by simp [Value.category]) (Nat.le_of_ble_eq_true rfl) rfl ?_
  intro x h0 Q C hQ hl hni
  have k2 : ∀ (w : Int) (A1 : Nat → Nat → Int), (0 ≤ w ∧ w ≤ F 25 ∧ (∀ j, j ≠ 13 → A1 j = A j) ∧ ∀ u : Nat, (u : Int) < w → rkM F A ex u ≠ k) → V x g h0 Q (MH g o F A1 r) sz 0 0 2 [some (.ref o), some (vI k), some (vI ex), some (vI w), none, none, none, none] [] := by
    refine lpv2 _ _ (fun w _ => (F 25 - w).toNat) ?_
    rintro w A1 ⟨hw0, hw, hA1, hno⟩ ih
    have k24 : ∀ (v : Int) (A2 : Nat → Nat → Int), (0 ≤ v ∧ v ≤ F 25 ∧ w < F 25 ∧ ∀ j, j ≠ 13 → A2 j = A j) → V x g h0 Q (MH g o F A2 r) sz 0 0 24 [some (.ref o), some (vI k), some (vI ex), some (vI w), some (vI (dsM F A ex w.toNat)), some (vI (cntB (bfM F A ex w.toNat) v.toNat)), some (vI v), none] [] := by
      refine lpv2 _ _ (fun v _ => (F 25 - v).toNat) ?_
      rintro v A2 ⟨hv0, hv, hwl, hA2⟩ ih2
      have hcn := cntB_rg (bfM F A ex w.toNat) v.toNat
      have hdw := dsM_rg (ex := ex) hD (w := w.toNat) (by omega)
      have hst : ∀ z : Int, ((z = 1 ∧ (dsM F A ex v.toNat < dsM F A ex w.toNat ∨ (dsM F A ex v.toNat = dsM F A ex w.toNat ∧ Elr (A 11 v.toNat) (A 11 w.toNat) (wdM A v.toNat) (wdM A w.toNat)))) ∨ (z = 0 ∧ ¬ (dsM F A ex v.toNat < dsM F A ex w.toNat ∨ (dsM F A ex v.toNat = dsM F A ex w.toNat ∧ Elr (A 11 v.toNat) (A 11 w.toNat) (wdM A v.toNat) (wdM A w.toNat))))) → cntB (bfM F A ex w.toNat) (v + 1).toNat = cntB (bfM F A ex w.toNat) v.toNat + z := by
        intro z hz
        rw [show (v + 1).toNat = v.toNat + 1 by omega, cntB]
        rcases hz with ⟨z1, z2⟩ | ⟨z1, z2⟩
        · rw [show bfM F A ex w.toNat v.toNat = true from bl_t z2, z1]
          rfl
        · rw [show bfM F A ex w.toNat v.toNat = false from bl_f z2, z1]
          rfl
      have k73 : ∀ (z : Int) (A3 : Nat → Nat → Int) (dv : Int), v < F 25 → (∀ j, j ≠ 13 → A3 j = A j) → ((z = 1 ∧ (dsM F A ex v.toNat < dsM F A ex w.toNat ∨ (dsM F A ex v.toNat = dsM F A ex w.toNat ∧ Elr (A 11 v.toNat) (A 11 w.toNat) (wdM A v.toNat) (wdM A w.toNat)))) ∨ (z = 0 ∧ ¬ (dsM F A ex v.toNat < dsM F A ex w.toNat ∨ (dsM F A ex v.toNat = dsM F A ex w.toNat ∧ Elr (A 11 v.toNat) (A 11 w.toNat) (wdM A v.toNat) (wdM A w.toNat))))) → V x g h0 Q (MH g o F A3 r) sz 0 0 73 [some (.ref o), some (vI k), some (vI ex), some (vI w), some (vI (dsM F A ex w.toNat)), some (vI (cntB (bfM F A ex w.toNat) v.toNat)), some (vI v), some (vI dv)] [vI z, vI (cntB (bfM F A ex w.toNat) v.toNat)] := by
        intro z A3 dv hvl hA3 hz
        refine r_iadd (n := 74) C dX5_rank_73 rfl ?_
        refine r_istore (n := 76) C dX5_rank_74 rfl ?_
        refine r_iinc (n := 79) C dX5_rank_76 rfl rfl ?_
        refine r_goto (n := 24) C dX5_rank_79 (by decide) ?_
        refine V.ls (ih2 (v + 1) A3 ⟨by omega, by omega, hwl, hA3⟩ (by omega)) ⟨rfl, rfl, rfl, rfl, rfl, ?_, rfl, trivial⟩
        rw [hst z hz]
      refine r_iload (n := 26) C dX5_rank_24 rfl rfl ?_
      refine r_aload_n (n := 27) C dX5_rank_26 rfl rfl rfl ?_
      refine r_get (n := 30) (ci := 5) (k := 25) C in_X5 rfl (by decide) q809 rfl dX5_rank_27 rfl MH_o rfl ?_
      refine r_icmp_ge (t := 82) (n := 33) C dX5_rank_30 (by decide) rfl (fun c_30 => ?_) (fun c_30 => ?_)
      · refine r_iload (n := 84) C dX5_rank_82 rfl rfl ?_
        refine r_iload_n (n := 85) C dX5_rank_84 rfl rfl rfl ?_
        refine r_icmp_ne (t := 90) (n := 88) C dX5_rank_85 (by decide) rfl (fun c_85 => ?_) (fun c_85 => ?_)
        · refine r_iinc (n := 93) C dX5_rank_90 rfl rfl ?_
          refine r_goto (n := 2) C dX5_rank_93 (by decide) ?_
          refine V.ls (ih (w + 1) A2 ⟨by omega, by omega, hA2, fun u hu => ?_⟩ (by omega)) ⟨rfl, rfl, rfl, rfl, trivial⟩
          by_cases h9 : (u : Int) < w
          · exact hno u h9
          · rw [show u = w.toNat by omega]
            unfold rkM
            rw [show F 25 = v by omega]
            exact c_85
        · refine r_iload_n (n := 89) C dX5_rank_88 rfl rfl rfl ?_
          refine r_ireturn C hQ dX5_rank_89 ?_
          refine ⟨F, A2, rfl, rfl, Or.inl ⟨w.toNat, by omega, by rw [show ((w.toNat : Nat) : Int) = w by omega], ?_, fun u hu => hno u (by omega)⟩, rfl, hA2⟩
          unfold rkM
          rw [show F 25 = v by omega]
          exact c_85
      · refine r_aload_n (n := 34) C dX5_rank_33 rfl rfl rfl ?_
        refine r_iload (n := 36) C dX5_rank_34 rfl rfl ?_
        refine r_iload_n (n := 37) C dX5_rank_36 rfl rfl rfl ?_
        refine r_callV (n := 40) (n0 := 2) (ci := 5) C (ct_mdistance (xL x) g o F A2 r sz v ex (by omega) hex (Dok_A hA2 hD)) (lw_V q1004 q1005 q1006 q48 q1007) ⟨by decide, by decide, by decide +kernel⟩ rfl MH_o rfl dX5_rank_37 rfl rfl ?_
        rintro v9 h' sz' ⟨F3, A3, rfl, rfl, z, rfl, hz, hz1, hz2, hF3, hA3⟩ - -
        have hF3 := hF3.symm
        subst hF3
        rw [if_neg (by omega), dsM_A hA2] at hz
        have hA3' : ∀ j, j ≠ 13 → A3 j = A j := fun j hj => (hA3 j hj).trans (hA2 j hj)
        have ewv : wdM A3 v.toNat = wdM A v.toNat := by
          funext q
          show A3 12 _ = A 12 _
          rw [hA3' 12 (by decide)]
        have eww : wdM A3 w.toNat = wdM A w.toNat := by
          funext q
          show A3 12 _ = A 12 _
          rw [hA3' 12 (by decide)]
        dsimp only [stk]
        refine r_istore (n := 42) C dX5_rank_40 rfl ?_
        refine r_iload (n := 44) C dX5_rank_42 rfl rfl ?_
        refine r_iload (n := 46) C dX5_rank_44 rfl rfl ?_
        refine r_iload (n := 48) C dX5_rank_46 rfl rfl ?_
        refine r_icmp_lt (t := 68) (n := 51) C dX5_rank_48 (by decide) rfl (fun c_48 => ?_) (fun c_48 => ?_)
        · refine r_iconst (n := 69) C dX5_rank_68 rfl ?_
          refine r_goto (n := 73) C dX5_rank_69 (by decide) ?_
          refine V.ls (k73 _ A3 z (by omega) hA3' ?_) ⟨rfl, rfl, rfl, rfl, rfl, rfl, rfl, rfl, trivial⟩
          first
            | omega
            | (rcases he with ⟨e1, e2⟩ | ⟨e1, e2⟩ <;> first | (exfalso; omega) | exact Or.inl ⟨rfl, Or.inr ⟨by omega, e2⟩⟩ | exact Or.inr ⟨rfl, by rintro (e3 | ⟨-, e3⟩); omega; exact e2 e3⟩)
        · refine r_iload (n := 53) C dX5_rank_51 rfl rfl ?_
          refine r_iload (n := 55) C dX5_rank_53 rfl rfl ?_
          refine r_icmp_ne (t := 72) (n := 58) C dX5_rank_55 (by decide) rfl (fun c_55 => ?_) (fun c_55 => ?_)
          · refine r_iconst (n := 73) C dX5_rank_72 rfl ?_
            refine V.ls (k73 _ A3 z (by omega) hA3' ?_) ⟨rfl, rfl, rfl, rfl, rfl, rfl, rfl, rfl, trivial⟩
            first
              | omega
              | (rcases he with ⟨e1, e2⟩ | ⟨e1, e2⟩ <;> first | (exfalso; omega) | exact Or.inl ⟨rfl, Or.inr ⟨by omega, e2⟩⟩ | exact Or.inr ⟨rfl, by rintro (e3 | ⟨-, e3⟩); omega; exact e2 e3⟩)
          · refine r_aload_n (n := 59) C dX5_rank_58 rfl rfl rfl ?_
            refine r_iload (n := 61) C dX5_rank_59 rfl rfl ?_
            refine r_iload_n (n := 62) C dX5_rank_61 rfl rfl rfl ?_
            refine r_callV (n := 65) (n0 := 2) (ci := 5) C (ct_earlier (xL x) g o F A3 r sz v w (by omega) (by omega) (Dok_A hA3' hD)) (lw_V q1025 q1027 qs33 q48 q1028) ⟨by decide, by decide, by decide +kernel⟩ rfl MH_o rfl dX5_rank_62 rfl rfl ?_
            rintro v9 h' sz' ⟨rfl, rfl, e, rfl, he⟩ - -
            rw [hA3' 11 (by decide), ewv, eww] at he
            dsimp only [stk]
            refine r_if_eq (t := 72) (n := 68) C dX5_rank_65 (by decide) rfl (fun c_65 => ?_) (fun c_65 => ?_)
            · refine r_iconst (n := 73) C dX5_rank_72 rfl ?_
              refine V.ls (k73 _ A3 z (by omega) hA3' ?_) ⟨rfl, rfl, rfl, rfl, rfl, rfl, rfl, rfl, trivial⟩
              first
                | omega
                | (rcases he with ⟨e1, e2⟩ | ⟨e1, e2⟩ <;> first | (exfalso; omega) | exact Or.inl ⟨rfl, Or.inr ⟨by omega, e2⟩⟩ | exact Or.inr ⟨rfl, by rintro (e3 | ⟨-, e3⟩); omega; exact e2 e3⟩)
            · refine r_iconst (n := 69) C dX5_rank_68 rfl ?_
              refine r_goto (n := 73) C dX5_rank_69 (by decide) ?_
              refine V.ls (k73 _ A3 z (by omega) hA3' ?_) ⟨rfl, rfl, rfl, rfl, rfl, rfl, rfl, rfl, trivial⟩
              first
                | omega
                | (rcases he with ⟨e1, e2⟩ | ⟨e1, e2⟩ <;> first | (exfalso; omega) | exact Or.inl ⟨rfl, Or.inr ⟨by omega, e2⟩⟩ | exact Or.inr ⟨rfl, by rintro (e3 | ⟨-, e3⟩); omega; exact e2 e3⟩)
    refine r_iload_n (n := 3) C dX5_rank_2 rfl rfl rfl ?_
    refine r_aload_n (n := 4) C dX5_rank_3 rfl rfl rfl ?_
    refine r_get (n := 7) (ci := 5) (k := 25) C in_X5 rfl (by decide) q809 rfl dX5_rank_4 rfl MH_o rfl ?_
    refine r_icmp_ge (t := 96) (n := 10) C dX5_rank_7 (by decide) rfl (fun c_7 => ?_) (fun c_7 => ?_)
    · refine r_iconst (n := 97) C dX5_rank_96 rfl ?_
      refine r_ireturn C hQ dX5_rank_97 ?_
      exact ⟨F, A1, rfl, rfl, Or.inr ⟨rfl, fun u hu => hno u (by omega)⟩, rfl, hA1⟩
    · refine r_aload_n (n := 11) C dX5_rank_10 rfl rfl rfl ?_
      refine r_iload_n (n := 12) C dX5_rank_11 rfl rfl rfl ?_
      refine r_iload_n (n := 13) C dX5_rank_12 rfl rfl rfl ?_
      refine r_callV (n := 16) (n0 := 2) (ci := 5) C (ct_mdistance (xL x) g o F A1 r sz w ex (by omega) hex (Dok_A hA1 hD)) (lw_V q1004 q1005 q1006 q48 q1007) ⟨by decide, by decide, by decide +kernel⟩ rfl MH_o rfl dX5_rank_13 rfl rfl ?_
      rintro v9 h' sz' ⟨F3, A3, rfl, rfl, z, rfl, hz, hz1, hz2, hF3, hA3⟩ - -
      have hF3 := hF3.symm
      subst hF3
      rw [if_neg (by omega), dsM_A hA1] at hz
      subst hz
      dsimp only [stk]
      refine r_istore (n := 18) C dX5_rank_16 rfl ?_
      refine r_iconst (n := 19) C dX5_rank_18 rfl ?_
      refine r_istore (n := 21) C dX5_rank_19 rfl ?_
      refine r_iconst (n := 22) C dX5_rank_21 rfl ?_
      refine r_istore (n := 24) C dX5_rank_22 rfl ?_
      exact V.ls (k24 0 A3 ⟨by omega, by omega, by omega, fun j hj => (hA3 j hj).trans (hA1 j hj)⟩) ⟨rfl, rfl, rfl, rfl, rfl, rfl, rfl, trivial⟩
  refine r_iconst (n := 1) C dX5_rank_0 rfl ?_
  refine r_istore_n (n := 2) C dX5_rank_1 rfl rfl ?_
  exact V.ls (k2 0 A ⟨by omega, by omega, fun _ _ => rfl, fun u hu => by omega⟩) ⟨rfl, rfl, rfl, rfl, trivial⟩
/-- what add does -/
def AdM (F : Nat → Int) (A : Nat → Nat → Int) (v : Option Value) (F' : Nat → Int) (A' : Nat → Nat → Int) : Prop :=
  (v = some (vI (-1)) ∧ (F 19 = 0 ∨ 12 < F 19 ∨ F 25 = 20 ∨ ∃ w : Nat, (w : Int) < F 25 ∧ dsM F A 0 w = 0) ∧ F' = F ∧ ∀ j, j ≠ 13 → A' j = A j) ∨
  (v = some (vI (F 25)) ∧ ¬ (F 19 = 0 ∨ 12 < F 19 ∨ F 25 = 20) ∧ (∀ w : Nat, (w : Int) < F 25 → dsM F A 0 w ≠ 0) ∧ F' = va_up F 25 (F 25 + 1) ∧ (∀ j, j ≠ 11 → j ≠ 12 → j ≠ 13 → A' j = A j) ∧ A' 11 = va_up (A 11) (F 25).toNat (F 19) ∧ (∀ q : Nat, (q : Int) < 12 * F 25 → A' 12 q = A 12 q) ∧ ∀ k : Nat, (k : Int) < F 19 → A' 12 (12 * (F 25).toNat + k) = A 9 k)
theorem ct_madd (l : Launch) (g : GG) (o : Nat) (F : Nat → Int) (A : Nat → Nat → Int) (r : HM) (sz : Nat) (hD : Dok F A) : MT l yX5_add cX5_add 2 (some .int) 2 [.ref o] g o F A r sz (AdM F A) := by
  have h25 := hD.2.1
  have h19 := hD.1
  refine CT.of (lo := [some (.ref o), none]) (by decide) (by simp [Value.category]) (Nat.le_of_ble_eq_true rfl) rfl ?_
  intro x h0 Q C hQ hl hni
  have k29 : ¬ (F 19 = 0 ∨ 12 < F 19 ∨ F 25 = 20) → ∀ (w : Int) (A1 : Nat → Nat → Int), (0 ≤ w ∧ w ≤ F 25 ∧ (∀ j, j ≠ 13 → A1 j = A j) ∧ ∀ u : Nat, (u : Int) < w → dsM F A 0 u ≠ 0) → V x g h0 Q (MH g o F A1 r) sz 0 0 29 [some (.ref o), some (vI w)] [] := by
    intro hok
    refine lpv2 _ _ (fun w _ => (F 25 - w).toNat) ?_
    rintro w A1 ⟨hw0, hw, hA1, hno⟩ ih
    have k69 : w = F 25 → ∀ (k : Int) (A2 : Nat → Nat → Int), (0 ≤ k ∧ k ≤ F 19 ∧ (∀ j, j ≠ 11 → j ≠ 12 → j ≠ 13 → A2 j = A j) ∧ A2 11 = va_up (A 11) (F 25).toNat (F 19) ∧ (∀ q : Nat, (q : Int) < 12 * F 25 → A2 12 q = A 12 q) ∧ ∀ i : Nat, (i : Int) < k → A2 12 (12 * (F 25).toNat + i) = A 9 i) → V x g h0 Q (MH g o F A2 r) sz 0 0 69 [some (.ref o), some (vI k)] [] := by
      intro hwe
      refine lpv2 _ _ (fun k _ => (F 19 - k).toNat) ?_
      rintro k A2 ⟨hk0, hk, hA2, h11, hlo, hhi⟩ ih2
      have e9 : A2 9 = A 9 := hA2 9 (by decide) (by decide) (by decide)
      refine r_iload_n (n := 70) C dX5_add_69 rfl rfl rfl ?_
      refine r_aload_n (n := 71) C dX5_add_70 rfl rfl rfl ?_
      refine r_get (n := 74) (ci := 5) (k := 19) C in_X5 rfl (by decide) q803 rfl dX5_add_71 rfl MH_o rfl ?_
      refine r_icmp_ge (t := 103) (n := 77) C dX5_add_74 (by decide) rfl (fun c_74 => ?_) (fun c_74 => ?_)
      · refine r_aload_n (n := 104) C dX5_add_103 rfl rfl rfl ?_
        refine r_dup (n := 105) C dX5_add_104 rfl rfl ?_
        refine r_get (n := 108) (ci := 5) (k := 25) C in_X5 rfl (by decide) q809 rfl dX5_add_105 rfl MH_o rfl ?_
        refine r_iconst (n := 109) C dX5_add_108 rfl ?_
        refine r_iadd (n := 110) C dX5_add_109 rfl ?_
        refine r_mput (n := 113) (ty := .int) (k := 25) C (by decide) q809 rfl rfl (by decide +kernel) rfl rfl dX5_add_110 rfl rfl ?_
        refine r_aload_n (n := 114) C dX5_add_113 rfl rfl rfl ?_
        refine r_get (n := 117) (ci := 5) (k := 25) C in_X5 rfl (by decide) q809 rfl dX5_add_114 rfl MH_o rfl ?_
        rw [va_up_self]
        refine r_iconst (n := 118) C dX5_add_117 rfl ?_
        refine r_isub (n := 119) C dX5_add_118 rfl ?_
        rw [show F 25 + 1 - 1 = F 25 by omega]
        refine r_ireturn C hQ dX5_add_119 ?_
        exact ⟨_, A2, rfl, rfl, Or.inr ⟨rfl, hok, fun u hu => hno u (by omega), rfl, hA2, h11, hlo, fun i hi => hhi i (by omega)⟩⟩
      · refine r_aload_n (n := 78) C dX5_add_77 rfl rfl rfl ?_
        refine r_get (n := 81) (ci := 5) (k := 27) C in_X5 rfl (by decide) q811 rfl dX5_add_78 rfl MH_o rfl ?_
        refine r_bipush (n := 83) C dX5_add_81 (by decide) rfl ?_
        refine r_aload_n (n := 84) C dX5_add_83 rfl rfl rfl ?_
        refine r_get (n := 87) (ci := 5) (k := 25) C in_X5 rfl (by decide) q809 rfl dX5_add_84 rfl MH_o rfl ?_
        refine r_imul (n := 88) C dX5_add_87 rfl ?_
        refine r_iload_n (n := 89) C dX5_add_88 rfl rfl rfl ?_
        refine r_iadd (n := 90) C dX5_add_89 rfl ?_
        refine r_aload_n (n := 91) C dX5_add_90 rfl rfl rfl ?_
        refine r_get (n := 94) (ci := 5) (k := 20) C in_X5 rfl (by decide) q804 rfl dX5_add_91 rfl MH_o rfl ?_
        refine r_iload_n (n := 95) C dX5_add_94 rfl rfl rfl ?_
        refine r_iaload (n := 96) (N := 24) C dX5_add_95 rfl (MH_a 9 (by decide)) ?_
        rw [e9]
        refine r_mast (n := 97) (j := 12) (N := 240) C dX5_add_96 rfl rfl (by decide) ?_
        refine r_iinc (n := 100) C dX5_add_97 rfl rfl ?_
        refine r_goto (n := 69) C dX5_add_100 (by decide) ?_
        rw [show (12 * F 25 + k).toNat = 12 * (F 25).toNat + k.toNat by omega]
        refine ih2 (k + 1) _ ⟨by omega, by omega, ?_, ?_, ?_, ?_⟩ (by omega)
        · intro j j1 j2 j3
          rw [va_up_ne _ _ j2]
          exact hA2 j j1 j2 j3
        · rw [va_up_ne _ _ (by decide)]
          exact h11
        · intro q hq
          rw [va_up_self, va_up_ne _ _ (by omega)]
          exact hlo q hq
        · intro i hi
          rw [va_up_self]
          by_cases h9 : i = k.toNat
          · rw [h9, va_up_self]
          · rw [va_up_ne _ _ (by omega)]
            exact hhi i (by omega)
    refine r_iload_n (n := 30) C dX5_add_29 rfl rfl rfl ?_
    refine r_aload_n (n := 31) C dX5_add_30 rfl rfl rfl ?_
    refine r_get (n := 34) (ci := 5) (k := 25) C in_X5 rfl (by decide) q809 rfl dX5_add_31 rfl MH_o rfl ?_
    refine r_icmp_ge (t := 54) (n := 37) C dX5_add_34 (by decide) rfl (fun c_34 => ?_) (fun c_34 => ?_)
    · refine r_aload_n (n := 55) C dX5_add_54 rfl rfl rfl ?_
      refine r_get (n := 58) (ci := 5) (k := 26) C in_X5 rfl (by decide) q810 rfl dX5_add_55 rfl MH_o rfl ?_
      refine r_aload_n (n := 59) C dX5_add_58 rfl rfl rfl ?_
      refine r_get (n := 62) (ci := 5) (k := 25) C in_X5 rfl (by decide) q809 rfl dX5_add_59 rfl MH_o rfl ?_
      refine r_aload_n (n := 63) C dX5_add_62 rfl rfl rfl ?_
      refine r_get (n := 66) (ci := 5) (k := 19) C in_X5 rfl (by decide) q803 rfl dX5_add_63 rfl MH_o rfl ?_
      refine r_mast (n := 67) (j := 11) (N := 20) C dX5_add_66 rfl rfl (by decide) ?_
      refine r_iconst (n := 68) C dX5_add_67 rfl ?_
      refine r_istore_n (n := 69) C dX5_add_68 rfl rfl ?_
      refine k69 (by omega) 0 _ ⟨by omega, by omega, ?_, ?_, ?_, fun i hi => by omega⟩
      · intro j j1 j2 j3
        rw [va_up_ne _ _ j1]
        exact hA1 j j3
      · rw [va_up_self, hA1 11 (by decide)]
      · intro q hq
        rw [va_up_ne _ _ (by decide), hA1 12 (by decide)]
    · refine r_aload_n (n := 38) C dX5_add_37 rfl rfl rfl ?_
      refine r_iload_n (n := 39) C dX5_add_38 rfl rfl rfl ?_
      refine r_iconst (n := 40) C dX5_add_39 rfl ?_
      refine r_callV (n := 43) (n0 := 2) (ci := 5) C (ct_mdistance (xL x) g o F A1 r sz w 0 (by omega) (Or.inl rfl) (Dok_A hA1 hD)) (lw_V q1004 q1005 q1006 q48 q1007) ⟨by decide, by decide, by decide +kernel⟩ rfl MH_o rfl dX5_add_40 rfl rfl ?_
      rintro v9 h' sz' ⟨F3, A3, rfl, rfl, z, rfl, hz, hz1, hz2, hF3, hA3⟩ - -
      have hF3 := hF3.symm
      subst hF3
      rw [if_neg (by omega), dsM_A hA1] at hz
      have hA3' : ∀ j, j ≠ 13 → A3 j = A j := fun j hj => (hA3 j hj).trans (hA1 j hj)
      dsimp only [stk]
      refine r_if_ne (t := 48) (n := 46) C dX5_add_43 (by decide) rfl (fun c_43 => ?_) (fun c_43 => ?_)
      · refine r_iinc (n := 51) C dX5_add_48 rfl rfl ?_
        refine r_goto (n := 29) C dX5_add_51 (by decide) ?_
        refine ih (w + 1) A3 ⟨by omega, by omega, hA3', fun u hu => ?_⟩ (by omega)
        by_cases h9 : (u : Int) < w
        · exact hno u h9
        · rw [show u = w.toNat by omega]
          omega
      · refine r_iconst (n := 47) C dX5_add_46 rfl ?_
        refine r_ireturn C hQ dX5_add_47 ?_
        exact ⟨F, A3, rfl, rfl, Or.inl ⟨rfl, Or.inr (Or.inr (Or.inr ⟨w.toNat, by omega, by omega⟩)), rfl, hA3'⟩⟩
  refine r_aload_n (n := 1) C dX5_add_0 rfl rfl rfl ?_
  refine r_get (n := 4) (ci := 5) (k := 19) C in_X5 rfl (by decide) q803 rfl dX5_add_1 rfl MH_o rfl ?_
  refine r_if_eq (t := 25) (n := 7) C dX5_add_4 (by decide) rfl (fun c_4 => ?_) (fun c_4 => ?_)
  · refine r_iconst (n := 26) C dX5_add_25 rfl ?_
    refine r_ireturn C hQ dX5_add_26 ?_
    exact ⟨F, A, rfl, rfl, Or.inl ⟨rfl, by omega, rfl, fun _ _ => rfl⟩⟩
  · refine r_aload_n (n := 8) C dX5_add_7 rfl rfl rfl ?_
    refine r_get (n := 11) (ci := 5) (k := 19) C in_X5 rfl (by decide) q803 rfl dX5_add_8 rfl MH_o rfl ?_
    refine r_bipush (n := 13) C dX5_add_11 (by decide) rfl ?_
    refine r_icmp_gt (t := 25) (n := 16) C dX5_add_13 (by decide) rfl (fun c_13 => ?_) (fun c_13 => ?_)
    · refine r_iconst (n := 26) C dX5_add_25 rfl ?_
      refine r_ireturn C hQ dX5_add_26 ?_
      exact ⟨F, A, rfl, rfl, Or.inl ⟨rfl, by omega, rfl, fun _ _ => rfl⟩⟩
    · refine r_aload_n (n := 17) C dX5_add_16 rfl rfl rfl ?_
      refine r_get (n := 20) (ci := 5) (k := 25) C in_X5 rfl (by decide) q809 rfl dX5_add_17 rfl MH_o rfl ?_
      refine r_bipush (n := 22) C dX5_add_20 (by decide) rfl ?_
      refine r_icmp_ne (t := 27) (n := 25) C dX5_add_22 (by decide) rfl (fun c_22 => ?_) (fun c_22 => ?_)
      · refine r_iconst (n := 28) C dX5_add_27 rfl ?_
        refine r_istore_n (n := 29) C dX5_add_28 rfl rfl ?_
        exact k29 (by omega) 0 A ⟨by omega, by omega, fun _ _ => rfl, fun u hu => by omega⟩
      · refine r_iconst (n := 26) C dX5_add_25 rfl ?_
        refine r_ireturn C hQ dX5_add_26 ?_
        exact ⟨F, A, rfl, rfl, Or.inl ⟨rfl, by omega, rfl, fun _ _ => rfl⟩⟩
