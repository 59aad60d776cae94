/-! the model: compile and the small methods -/
theorem ct_changed (l : Launch) (g : GG) (o : Nat) (F : Nat → Int) (A : Nat → Nat → Int) (r : HM) (sz : Nat) : MT l yX5_changed cX5_changed 1 none 0 [.ref o] g o F A r sz (fun v F' A' => v = none ∧ F' = va_up (va_up (va_up F 21 0) 23 (-1)) 24 (-1) ∧ A' = A) := by
  refine CT.of (lo := [some (.ref o)]) (by decide) (by simp [Value.category]) (Nat.le_of_ble_eq_true rfl) rfl ?_
  intro x h0 Q C hQ hl hni
  refine r_aload_n (n := 1) C dX5_changed_0 rfl rfl rfl ?_
  refine r_iconst (n := 2) C dX5_changed_1 rfl ?_
  refine r_mput (n := 5) (ty := .boolean) (k := 21) C (by decide) q805 rfl rfl (by decide +kernel) rfl rfl dX5_changed_2 rfl rfl ?_
  refine r_aload_n (n := 6) C dX5_changed_5 rfl rfl rfl ?_
  refine r_iconst (n := 7) C dX5_changed_6 rfl ?_
  refine r_mput (n := 10) (ty := .int) (k := 23) C (by decide) q807 rfl rfl (by decide +kernel) rfl rfl dX5_changed_7 rfl rfl ?_
  refine r_aload_n (n := 11) C dX5_changed_10 rfl rfl rfl ?_
  refine r_iconst (n := 12) C dX5_changed_11 rfl ?_
  refine r_mput (n := 15) (ty := .int) (k := 24) C (by decide) q808 rfl rfl (by decide +kernel) rfl rfl dX5_changed_12 rfl rfl ?_
  refine r_return C hQ dX5_changed_15 ?_
  exact ⟨_, _, rfl, rfl, rfl, rfl, rfl⟩
/-- compile, where the signs are no expression; too long; good -/
def CoP (F : Nat → Int) (A : Nat → Nat → Int) (v : Option Value) (F' : Nat → Int) (A' : Nat → Nat → Int) : Prop :=
  (fl (sl (A 0) 0 (F 0).toNat) 0 0 ≠ none ∧ v = some (vI (flI (sl (A 0) 0 (F 0).toNat) (F 0))) ∧ F' = va_up F 0 0 ∧ A' = A) ∨
  (fl (sl (A 0) 0 (F 0).toNat) 0 0 = none ∧ 24 < (rdA (sl (A 0) 0 (F 0).toNat)).length ∧ v = some (vI (-2)) ∧ F' 0 = 0 ∧ (∀ k, k ≠ 0 → k ≠ 6 → k ≠ 10 → k ≠ 12 → k ≠ 14 → F' k = F k) ∧ (∀ j, j < 4 ∨ 8 < j → A' j = A j)) ∨
  (fl (sl (A 0) 0 (F 0).toNat) 0 0 = none ∧ (rdA (sl (A 0) 0 (F 0).toNat)).length ≤ 24 ∧ v = some (vI (-1)) ∧ F' 0 = 0 ∧ F' 2 = (rdA (sl (A 0) 0 (F 0).toNat)).length ∧ F' 21 = 0 ∧ F' 23 = -1 ∧ F' 24 = -1 ∧ (∀ k, k ≠ 0 → k ≠ 2 → k ≠ 6 → k ≠ 10 → k ≠ 12 → k ≠ 14 → k ≠ 21 → k ≠ 23 → k ≠ 24 → F' k = F k) ∧ OA (A' 1) (A' 2) (A' 3) (rdA (sl (A 0) 0 (F 0).toNat)) ∧ (∀ j, j < 1 ∨ 8 < j → A' j = A j))
theorem OA_ext {k a b k' a' b' : Nat → Int} : ∀ (l : List T3), (∀ j, j < l.length → k' j = k j ∧ a' j = a j ∧ b' j = b j) → OA k a b l → OA k' a' b' l
  | [], _, _ => trivial
  | t :: l, he, h => by
    have h1 := he l.length (by simp)
    exact ⟨h1.1.trans h.1, h1.2.1.trans h.2.1, h1.2.2.trans h.2.2.1, OA_ext l (fun j hj => he j (by simp; omega)) h.2.2.2⟩
theorem flI_rg {cs : List Int} {n : Int} (h : fl cs 0 0 ≠ none) (hn : cs.length = n) : 0 ≤ flI cs n ∧ flI cs n ≤ n := by
  have key : ∀ (cs : List Int) (s d : Int) (r : List Int), fl cs s d = some r → r.length ≤ cs.length := by
    intro cs
    induction cs with
    | nil =>
      intro s d r h
      unfold fl at h
      split at h
      · cases h
      · cases h; simp
    | cons c cs ih =>
      intro s d r h
      unfold fl at h
      split at h
      · cases h; simp
      · have := ih _ _ _ h
        simp
        omega
  unfold flI
  cases hf : fl cs 0 0 with
  | none => exact absurd hf h
  | some r =>
    have := key _ _ _ _ hf
    simp
    omega
theorem ct_compile (l : Launch) (g : GG) (o : Nat) (F : Nat → Int) (A : Nat → Nat → Int) (r : HM) (sz : Nat) (hn : 0 ≤ F 0 ∧ F 0 ≤ 40) (hc : ∀ j : Nat, (j : Int) < F 0 → 0 ≤ A 0 j ∧ A 0 j < 65536) : MT l yX5_compile cX5_compile 3 (some .int) 4 [.ref o] g o F A r sz (CoP F A) := by
  refine CT.of (lo := [some (.ref o), none, none]) (by decide) (by simp [Value.category]) (Nat.le_of_ble_eq_true rfl) rfl ?_
  intro x h0 Q C hQ hl hni
  have hsl : ((sl (A 0) 0 (F 0).toNat).length : Int) = F 0 := by rw [sl_len]; omega
  by_cases hf : fl (sl (A 0) 0 (F 0).toNat) 0 0 = none
  · have e1 : flI (sl (A 0) 0 (F 0).toNat) (F 0) = -1 := by
      unfold flI
      rw [hf]
    refine r_aload_n (n := 1) C dX5_compile_0 rfl rfl rfl ?_
    refine r_callV (n := 4) (n0 := 0) (ci := 5) C (ct_fault (xL x) g o F A r sz hn hc) (lw_V q880 q882 qs15 q48 q883) ⟨by decide, by decide, by decide +kernel⟩ rfl MH_o rfl dX5_compile_1 rfl rfl ?_
    rintro v h' sz' ⟨rfl, rfl, rfl⟩ - -
    dsimp only [stk]
    rw [e1]
    refine r_istore_n (n := 5) C dX5_compile_4 rfl rfl ?_
    refine r_iload_n (n := 6) C dX5_compile_5 rfl rfl rfl ?_
    refine r_iconst (n := 7) C dX5_compile_6 rfl ?_
    refine r_icmp_eq (t := 17) (n := 10) C dX5_compile_7 (by decide) rfl (fun c_7 => ?_) (fun c_7 => ?_)
    · refine r_aload_n (n := 18) C dX5_compile_17 rfl rfl rfl ?_
      refine r_callV (n := 21) (n0 := 0) (ci := 5) C (ct_read (xL x) g o F A r sz hn hc hf) (lw_V q890 q892 qs16 q48 q893) ⟨by decide, by decide, by decide +kernel⟩ rfl MH_o rfl dX5_compile_18 rfl rfl ?_
      rintro v h' sz' ⟨F1, A1, rfl, rfl, rfl, hR, hFM, hle⟩ - -
      have e6 : F1 6 = ((rdA (sl (A 0) 0 (F 0).toNat)).length : Int) := hR.1
      dsimp only [stk]
      refine r_aload_n (n := 22) C dX5_compile_21 rfl rfl rfl ?_
      refine r_iconst (n := 23) C dX5_compile_22 rfl ?_
      refine r_mput (n := 26) (ty := .int) (k := 0) C (by decide) q784 rfl rfl (by decide +kernel) rfl rfl dX5_compile_23 rfl rfl ?_
      refine r_aload_n (n := 27) C dX5_compile_26 rfl rfl rfl ?_
      refine r_get (n := 30) (ci := 5) (k := 6) C in_X5 rfl (by decide) q790 rfl dX5_compile_27 rfl MH_o rfl ?_
      rw [show va_up F1 0 0 6 = F1 6 from rfl, e6]
      refine r_bipush (n := 32) C dX5_compile_30 (by decide) rfl ?_
      refine r_icmp_le (t := 38) (n := 35) C dX5_compile_32 (by decide) rfl (fun c_32 => ?_) (fun c_32 => ?_)
      · have hle2 : (rdA (sl (A 0) 0 (F 0).toNat)).length ≤ 24 := by omega
        obtain ⟨F2, hF2⟩ : ∃ z, z = va_up (va_up F1 0 0) 2 ((rdA (sl (A 0) 0 (F 0).toNat)).length : Int) := ⟨_, rfl⟩
        have e2 : F2 2 = ((rdA (sl (A 0) 0 (F 0).toNat)).length : Int) := by rw [hF2]; simp [va_up]
        refine r_aload_n (n := 39) C dX5_compile_38 rfl rfl rfl ?_
        refine r_aload_n (n := 40) C dX5_compile_39 rfl rfl rfl ?_
        refine r_get (n := 43) (ci := 5) (k := 6) C in_X5 rfl (by decide) q790 rfl dX5_compile_40 rfl MH_o rfl ?_
        rw [show va_up F1 0 0 6 = F1 6 from rfl, e6]
        refine r_mput (n := 46) (ty := .int) (k := 2) C (by decide) q786 rfl rfl (by decide +kernel) rfl rfl dX5_compile_43 rfl rfl ?_
        rw [← hF2]
        refine r_iconst (n := 47) C dX5_compile_46 rfl ?_
        refine r_istore_n (n := 48) C dX5_compile_47 rfl rfl ?_
        refine lpv2 (fun (k : Int) (A2 : Nat → Nat → Int) => V x g h0 Q (MH g o F2 A2 r) sz 0 0 48 [some (.ref o), some (vI (-1)), some (vI k)] []) (fun k A2 => 0 ≤ k ∧ k ≤ (rdA (sl (A 0) 0 (F 0).toNat)).length ∧ (∀ j, j < 1 ∨ 3 < j → A2 j = A1 j) ∧ ∀ j : Nat, (j : Int) < k → A2 1 j = A1 4 j ∧ A2 2 j = A1 5 j ∧ A2 3 j = A1 6 j) (fun k _ => ((rdA (sl (A 0) 0 (F 0).toNat)).length - k).toNat) ?_ 0 A1 ⟨by omega, by omega, fun _ _ => rfl, fun j hj => by omega⟩
        rintro k A2 ⟨hk0, hk, hA2, hcp⟩ ih
        refine r_iload_n (n := 49) C dX5_compile_48 rfl rfl rfl ?_
        refine r_aload_n (n := 50) C dX5_compile_49 rfl rfl rfl ?_
        refine r_get (n := 53) (ci := 5) (k := 2) C in_X5 rfl (by decide) q786 rfl dX5_compile_50 rfl MH_o rfl ?_
        rw [e2]
        refine r_icmp_ge (t := 98) (n := 56) C dX5_compile_53 (by decide) rfl (fun c_53 => ?_) (fun c_53 => ?_)
        · have hk9 : k = (rdA (sl (A 0) 0 (F 0).toNat)).length := by omega
          refine r_aload_n (n := 99) C dX5_compile_98 rfl rfl rfl ?_
          refine r_callV (n := 102) (n0 := 0) (ci := 5) C (ct_changed (xL x) g o F2 A2 r sz) (lw_V q919 q921 qs23 q48 q922) ⟨by decide, by decide, by decide +kernel⟩ rfl MH_o rfl dX5_compile_99 rfl rfl ?_
          rintro v h' sz' ⟨F3, A3, rfl, rfl, rfl, rfl, rfl⟩ - -
          dsimp only [stk]
          refine r_iconst (n := 103) C dX5_compile_102 rfl ?_
          refine r_ireturn C hQ dX5_compile_103 ?_
          refine ⟨_, _, rfl, rfl, Or.inr (Or.inr ⟨hf, hle2, rfl, ?_, ?_, ?_, ?_, ?_, ?_, ?_, ?_⟩)⟩
          · rw [hF2]; simp [va_up]
          · rw [hF2]; simp [va_up]
          · rw [hF2]; simp [va_up]
          · rw [hF2]; simp [va_up]
          · rw [hF2]; simp [va_up]
          · intro q q0 q1 q2 q3 q4 q5 q6 q7 q8
            rw [hF2]
            simp only [va_up, q0, q1, q6, q7, q8, if_false]
            exact hFM.1 q q2 q3 q4 q5
          · refine OA_ext _ (fun j hj => hcp j (by omega)) hR.2.2.2.1
          · intro j hj
            rw [hA2 j (by omega)]
            exact hFM.2 j (by omega)
        · refine r_aload_n (n := 57) C dX5_compile_56 rfl rfl rfl ?_
          refine r_get (n := 60) (ci := 5) (k := 3) C in_X5 rfl (by decide) q787 rfl dX5_compile_57 rfl MH_o rfl ?_
          refine r_iload_n (n := 61) C dX5_compile_60 rfl rfl rfl ?_
          refine r_aload_n (n := 62) C dX5_compile_61 rfl rfl rfl ?_
          refine r_get (n := 65) (ci := 5) (k := 7) C in_X5 rfl (by decide) q791 rfl dX5_compile_62 rfl MH_o rfl ?_
          refine r_iload_n (n := 66) C dX5_compile_65 rfl rfl rfl ?_
          refine r_iaload (n := 67) (N := 80) C dX5_compile_66 rfl (MH_a 4 (by decide)) ?_
          refine r_mast (n := 68) (j := 1) (N := 24) C dX5_compile_67 rfl rfl (by decide) ?_
          refine r_aload_n (n := 69) C dX5_compile_68 rfl rfl rfl ?_
          refine r_get (n := 72) (ci := 5) (k := 4) C in_X5 rfl (by decide) q788 rfl dX5_compile_69 rfl MH_o rfl ?_
          refine r_iload_n (n := 73) C dX5_compile_72 rfl rfl rfl ?_
          refine r_aload_n (n := 74) C dX5_compile_73 rfl rfl rfl ?_
          refine r_get (n := 77) (ci := 5) (k := 8) C in_X5 rfl (by decide) q792 rfl dX5_compile_74 rfl MH_o rfl ?_
          refine r_iload_n (n := 78) C dX5_compile_77 rfl rfl rfl ?_
          refine r_iaload (n := 79) (N := 80) C dX5_compile_78 rfl (MH_a 5 (by decide)) ?_
          refine r_mast (n := 80) (j := 2) (N := 24) C dX5_compile_79 rfl rfl (by decide) ?_
          refine r_aload_n (n := 81) C dX5_compile_80 rfl rfl rfl ?_
          refine r_get (n := 84) (ci := 5) (k := 5) C in_X5 rfl (by decide) q789 rfl dX5_compile_81 rfl MH_o rfl ?_
          refine r_iload_n (n := 85) C dX5_compile_84 rfl rfl rfl ?_
          refine r_aload_n (n := 86) C dX5_compile_85 rfl rfl rfl ?_
          refine r_get (n := 89) (ci := 5) (k := 9) C in_X5 rfl (by decide) q793 rfl dX5_compile_86 rfl MH_o rfl ?_
          refine r_iload_n (n := 90) C dX5_compile_89 rfl rfl rfl ?_
          refine r_iaload (n := 91) (N := 80) C dX5_compile_90 rfl (MH_a 6 (by decide)) ?_
          refine r_mast (n := 92) (j := 3) (N := 24) C dX5_compile_91 rfl rfl (by decide) ?_
          refine r_iinc (n := 95) C dX5_compile_92 rfl rfl ?_
          refine r_goto (n := 48) C dX5_compile_95 (by decide) ?_
          refine ih (k + 1) _ ⟨by omega, by omega, ?_, ?_⟩ (by omega)
          · intro j hj
            rw [va_up_ne _ _ (by omega), va_up_ne _ _ (by omega), va_up_ne _ _ (by omega)]
            exact hA2 j hj
          · intro j hj
            have e4 : A2 4 = A1 4 := hA2 4 (by decide)
            have e5 : A2 5 = A1 5 := hA2 5 (by decide)
            have e66 : A2 6 = A1 6 := hA2 6 (by decide)
            by_cases hjk : j = k.toNat
            · subst hjk
              simp [va_up, e4, e5, e66]
            · have := hcp j (by omega)
              simp [va_up, hjk]
              exact this
      · refine r_bipush (n := 37) C dX5_compile_35 (by decide) rfl ?_
        refine r_ireturn C hQ dX5_compile_37 ?_
        refine ⟨_, _, rfl, rfl, Or.inr (Or.inl ⟨hf, by omega, rfl, ?_, ?_, ?_⟩)⟩
        · simp [va_up]
        · intro q q0 q1 q2 q3 q4
          rw [va_up_ne _ _ q0]
          exact hFM.1 q q1 q2 q3 q4
        · exact hFM.2
    · exfalso; omega
  · have hrg := flI_rg hf hsl
    refine r_aload_n (n := 1) C dX5_compile_0 rfl rfl rfl ?_
    refine r_callV (n := 4) (n0 := 0) (ci := 5) C (ct_fault (xL x) g o F A r sz hn hc) (lw_V q880 q882 qs15 q48 q883) ⟨by decide, by decide, by decide +kernel⟩ rfl MH_o rfl dX5_compile_1 rfl rfl ?_
    rintro v h' sz' ⟨rfl, rfl, rfl⟩ - -
    dsimp only [stk]
    refine r_istore_n (n := 5) C dX5_compile_4 rfl rfl ?_
    refine r_iload_n (n := 6) C dX5_compile_5 rfl rfl rfl ?_
    refine r_iconst (n := 7) C dX5_compile_6 rfl ?_
    refine r_icmp_eq (t := 17) (n := 10) C dX5_compile_7 (by decide) rfl (fun c_7 => ?_) (fun c_7 => ?_)
    · exfalso; omega
    · refine r_aload_n (n := 11) C dX5_compile_10 rfl rfl rfl ?_
      refine r_iconst (n := 12) C dX5_compile_11 rfl ?_
      refine r_mput (n := 15) (ty := .int) (k := 0) C (by decide) q784 rfl rfl (by decide +kernel) rfl rfl dX5_compile_12 rfl rfl ?_
      refine r_iload_n (n := 16) C dX5_compile_15 rfl rfl rfl ?_
      refine r_ireturn C hQ dX5_compile_16 ?_
      exact ⟨_, _, rfl, rfl, Or.inl ⟨hf, rfl, rfl, rfl⟩⟩
