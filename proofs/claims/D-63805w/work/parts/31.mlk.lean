/-! the model: its constructor -/
def F0m : Nat → Int := fun k => if k = 15 ∨ k = 16 ∨ k = 17 then 1 else if k = 23 ∨ k = 24 then -1 else 0
def A0m : Nat → Nat → Int := fun _ _ => 0
def f0m : Nat → Value := fun k => ([vI 0, .null, vI 0, .null, .null, .null, vI 0, .null, .null, .null, vI 0, .null, vI 0, .null, vI 0, vI 0, vI 0, vI 0, vI 0, vI 0, .null, vI 0, .null, vI 0, vI 0, vI 0, .null, .null, .null] : List Value).getD k .null
theorem f0m_eq : ff 29 f0m = [vI 0, .null, vI 0, .null, .null, .null, vI 0, .null, .null, .null, vI 0, .null, vI 0, .null, vI 0, vI 0, vI 0, vI 0, vI 0, vI 0, .null, vI 0, .null, vI 0, vI 0, vI 0, .null, .null, .null] := rfl
theorem ct_minit (l : Launch) (g : GG) (o : Nat) (h : HM) (sz : Nat) (hsz : sz = o + 1) (ho : h o = some (oC 5 (ff 29 f0m))) : CT l yX5_init cX5_init 1 none 1 14 16161 [.ref o] g h sz (fun v h' sz' => v = none ∧ sz' = o + 15 ∧ h' = MH g o F0m A0m h) := by
  subst hsz
  refine CT.of (lo := [some (.ref o)]) (by decide) (by simp [Value.category]) (Nat.le_of_ble_eq_true rfl) rfl ?_
  intro x h0 Q C hQ hl hni
  refine r_aload_n (n := 1) C dX5_init_0 rfl rfl rfl ?_
  refine r_objInit (n := 4) C q783 q71 q72 dX5_init_1 rfl ?_
  refine r_aload_n (n := 5) C dX5_init_4 rfl rfl rfl ?_
  refine r_bipush (n := 7) C dX5_init_5 (by decide) rfl ?_
  refine r_newI (n := 9) (N := 40) C q106 dX5_init_7 rfl rfl ?_
  refine r_putFF (n := 12) (ty := (.array .int)) (ci := 5) (k := 1) C hni in_X5 tyX5 tyX5_ok nmX5 rfl (by decide) q785 rfl rfl rfl (by decide +kernel) rfl rfl dX5_init_9 rfl ((va_up_ne _ _ (by omega)).trans ho) ?_
  refine r_aload_n (n := 13) C dX5_init_12 rfl rfl rfl ?_
  refine r_bipush (n := 15) C dX5_init_13 (by decide) rfl ?_
  refine r_newI (n := 17) (N := 24) C q106 dX5_init_15 rfl rfl ?_
  refine r_putFF (n := 20) (ty := (.array .int)) (ci := 5) (k := 3) C hni in_X5 tyX5 tyX5_ok nmX5 rfl (by decide) q787 rfl rfl rfl (by decide +kernel) rfl rfl dX5_init_17 rfl ((va_up_ne _ _ (by omega)).trans (va_up_self _ _ _)) ?_
  rw [up_over (by omega)]
  refine r_aload_n (n := 21) C dX5_init_20 rfl rfl rfl ?_
  refine r_bipush (n := 23) C dX5_init_21 (by decide) rfl ?_
  refine r_newI (n := 25) (N := 24) C q106 dX5_init_23 rfl rfl ?_
  refine r_putFF (n := 28) (ty := (.array .int)) (ci := 5) (k := 4) C hni in_X5 tyX5 tyX5_ok nmX5 rfl (by decide) q788 rfl rfl rfl (by decide +kernel) rfl rfl dX5_init_25 rfl ((va_up_ne _ _ (by omega)).trans (va_up_self _ _ _)) ?_
  rw [up_over (by omega)]
  refine r_aload_n (n := 29) C dX5_init_28 rfl rfl rfl ?_
  refine r_bipush (n := 31) C dX5_init_29 (by decide) rfl ?_
  refine r_newI (n := 33) (N := 24) C q106 dX5_init_31 rfl rfl ?_
  refine r_putFF (n := 36) (ty := (.array .int)) (ci := 5) (k := 5) C hni in_X5 tyX5 tyX5_ok nmX5 rfl (by decide) q789 rfl rfl rfl (by decide +kernel) rfl rfl dX5_init_33 rfl ((va_up_ne _ _ (by omega)).trans (va_up_self _ _ _)) ?_
  rw [up_over (by omega)]
  refine r_aload_n (n := 37) C dX5_init_36 rfl rfl rfl ?_
  refine r_bipush (n := 39) C dX5_init_37 (by decide) rfl ?_
  refine r_newI (n := 41) (N := 80) C q106 dX5_init_39 rfl rfl ?_
  refine r_putFF (n := 44) (ty := (.array .int)) (ci := 5) (k := 7) C hni in_X5 tyX5 tyX5_ok nmX5 rfl (by decide) q791 rfl rfl rfl (by decide +kernel) rfl rfl dX5_init_41 rfl ((va_up_ne _ _ (by omega)).trans (va_up_self _ _ _)) ?_
  rw [up_over (by omega)]
  refine r_aload_n (n := 45) C dX5_init_44 rfl rfl rfl ?_
  refine r_bipush (n := 47) C dX5_init_45 (by decide) rfl ?_
  refine r_newI (n := 49) (N := 80) C q106 dX5_init_47 rfl rfl ?_
  refine r_putFF (n := 52) (ty := (.array .int)) (ci := 5) (k := 8) C hni in_X5 tyX5 tyX5_ok nmX5 rfl (by decide) q792 rfl rfl rfl (by decide +kernel) rfl rfl dX5_init_49 rfl ((va_up_ne _ _ (by omega)).trans (va_up_self _ _ _)) ?_
  rw [up_over (by omega)]
  refine r_aload_n (n := 53) C dX5_init_52 rfl rfl rfl ?_
  refine r_bipush (n := 55) C dX5_init_53 (by decide) rfl ?_
  refine r_newI (n := 57) (N := 80) C q106 dX5_init_55 rfl rfl ?_
  refine r_putFF (n := 60) (ty := (.array .int)) (ci := 5) (k := 9) C hni in_X5 tyX5 tyX5_ok nmX5 rfl (by decide) q793 rfl rfl rfl (by decide +kernel) rfl rfl dX5_init_57 rfl ((va_up_ne _ _ (by omega)).trans (va_up_self _ _ _)) ?_
  rw [up_over (by omega)]
  refine r_aload_n (n := 61) C dX5_init_60 rfl rfl rfl ?_
  refine r_bipush (n := 63) C dX5_init_61 (by decide) rfl ?_
  refine r_newI (n := 65) (N := 80) C q106 dX5_init_63 rfl rfl ?_
  refine r_putFF (n := 68) (ty := (.array .int)) (ci := 5) (k := 11) C hni in_X5 tyX5 tyX5_ok nmX5 rfl (by decide) q795 rfl rfl rfl (by decide +kernel) rfl rfl dX5_init_65 rfl ((va_up_ne _ _ (by omega)).trans (va_up_self _ _ _)) ?_
  rw [up_over (by omega)]
  refine r_aload_n (n := 69) C dX5_init_68 rfl rfl rfl ?_
  refine r_bipush (n := 71) C dX5_init_69 (by decide) rfl ?_
  refine r_newI (n := 73) (N := 80) C q106 dX5_init_71 rfl rfl ?_
  refine r_putFF (n := 76) (ty := (.array .int)) (ci := 5) (k := 13) C hni in_X5 tyX5 tyX5_ok nmX5 rfl (by decide) q797 rfl rfl rfl (by decide +kernel) rfl rfl dX5_init_73 rfl ((va_up_ne _ _ (by omega)).trans (va_up_self _ _ _)) ?_
  rw [up_over (by omega)]
  refine r_aload_n (n := 77) C dX5_init_76 rfl rfl rfl ?_
  refine r_iconst (n := 78) C dX5_init_77 rfl ?_
  refine r_putf (n := 81) (ty := .int) (ci := 5) (k := 15) C in_X5 tyX5 tyX5_ok nmX5 rfl (by decide) q799 rfl rfl (by decide +kernel) rfl rfl dX5_init_78 rfl (va_up_self _ _ _) ?_
  rw [bx_uu]
  refine r_aload_n (n := 82) C dX5_init_81 rfl rfl rfl ?_
  refine r_iconst (n := 83) C dX5_init_82 rfl ?_
  refine r_putf (n := 86) (ty := .int) (ci := 5) (k := 16) C in_X5 tyX5 tyX5_ok nmX5 rfl (by decide) q800 rfl rfl (by decide +kernel) rfl rfl dX5_init_83 rfl (va_up_self _ _ _) ?_
  rw [bx_uu]
  refine r_aload_n (n := 87) C dX5_init_86 rfl rfl rfl ?_
  refine r_iconst (n := 88) C dX5_init_87 rfl ?_
  refine r_putf (n := 91) (ty := .int) (ci := 5) (k := 17) C in_X5 tyX5 tyX5_ok nmX5 rfl (by decide) q801 rfl rfl (by decide +kernel) rfl rfl dX5_init_88 rfl (va_up_self _ _ _) ?_
  rw [bx_uu]
  refine r_aload_n (n := 92) C dX5_init_91 rfl rfl rfl ?_
  refine r_bipush (n := 94) C dX5_init_92 (by decide) rfl ?_
  refine r_newI (n := 96) (N := 24) C q106 dX5_init_94 rfl rfl ?_
  refine r_putFF (n := 99) (ty := (.array .int)) (ci := 5) (k := 20) C hni in_X5 tyX5 tyX5_ok nmX5 rfl (by decide) q804 rfl rfl rfl (by decide +kernel) rfl rfl dX5_init_96 rfl ((va_up_ne _ _ (by omega)).trans (va_up_self _ _ _)) ?_
  rw [up_over (by omega)]
  refine r_aload_n (n := 100) C dX5_init_99 rfl rfl rfl ?_
  refine r_sipush (n := 103) C dX5_init_100 (by decide) rfl ?_
  refine r_newI (n := 105) (N := 15000) C q106 dX5_init_103 rfl rfl ?_
  refine r_putFF (n := 108) (ty := (.array .int)) (ci := 5) (k := 22) C hni in_X5 tyX5 tyX5_ok nmX5 rfl (by decide) q806 rfl rfl rfl (by decide +kernel) rfl rfl dX5_init_105 rfl ((va_up_ne _ _ (by omega)).trans (va_up_self _ _ _)) ?_
  rw [up_over (by omega)]
  refine r_aload_n (n := 109) C dX5_init_108 rfl rfl rfl ?_
  refine r_iconst (n := 110) C dX5_init_109 rfl ?_
  refine r_putf (n := 113) (ty := .int) (ci := 5) (k := 23) C in_X5 tyX5 tyX5_ok nmX5 rfl (by decide) q807 rfl rfl (by decide +kernel) rfl rfl dX5_init_110 rfl (va_up_self _ _ _) ?_
  rw [bx_uu]
  refine r_aload_n (n := 114) C dX5_init_113 rfl rfl rfl ?_
  refine r_iconst (n := 115) C dX5_init_114 rfl ?_
  refine r_putf (n := 118) (ty := .int) (ci := 5) (k := 24) C in_X5 tyX5 tyX5_ok nmX5 rfl (by decide) q808 rfl rfl (by decide +kernel) rfl rfl dX5_init_115 rfl (va_up_self _ _ _) ?_
  rw [bx_uu]
  refine r_aload_n (n := 119) C dX5_init_118 rfl rfl rfl ?_
  refine r_bipush (n := 121) C dX5_init_119 (by decide) rfl ?_
  refine r_newI (n := 123) (N := 20) C q106 dX5_init_121 rfl rfl ?_
  refine r_putFF (n := 126) (ty := (.array .int)) (ci := 5) (k := 26) C hni in_X5 tyX5 tyX5_ok nmX5 rfl (by decide) q810 rfl rfl rfl (by decide +kernel) rfl rfl dX5_init_123 rfl ((va_up_ne _ _ (by omega)).trans (va_up_self _ _ _)) ?_
  rw [up_over (by omega)]
  refine r_aload_n (n := 127) C dX5_init_126 rfl rfl rfl ?_
  refine r_sipush (n := 130) C dX5_init_127 (by decide) rfl ?_
  refine r_newI (n := 132) (N := 240) C q106 dX5_init_130 rfl rfl ?_
  refine r_putFF (n := 135) (ty := (.array .int)) (ci := 5) (k := 27) C hni in_X5 tyX5 tyX5_ok nmX5 rfl (by decide) q811 rfl rfl rfl (by decide +kernel) rfl rfl dX5_init_132 rfl ((va_up_ne _ _ (by omega)).trans (va_up_self _ _ _)) ?_
  rw [up_over (by omega)]
  refine r_aload_n (n := 136) C dX5_init_135 rfl rfl rfl ?_
  refine r_sipush (n := 139) C dX5_init_136 (by decide) rfl ?_
  refine r_newI (n := 141) (N := 325) C q106 dX5_init_139 rfl rfl ?_
  refine r_putFF (n := 144) (ty := (.array .int)) (ci := 5) (k := 28) C hni in_X5 tyX5 tyX5_ok nmX5 rfl (by decide) q812 rfl rfl rfl (by decide +kernel) rfl rfl dX5_init_141 rfl ((va_up_ne _ _ (by omega)).trans (va_up_self _ _ _)) ?_
  refine r_return C hQ dX5_init_144 ?_
  refine ⟨rfl, rfl, ?_⟩
  rw [up_over (by omega)]
  funext q
  by_cases h1 : q = o
  · subst h1
    rw [MH_o, va_up_self]
    refine congrArg some (congrArg (oC 5) ?_)
    rfl
  · rw [va_up_ne _ _ h1]
    by_cases h2 : o < q ∧ q < o + 15
    · obtain ⟨j, hj, rfl⟩ : ∃ j, j < 14 ∧ q = o + (j + 1) := ⟨q - o - 1, by omega, by omega⟩
      rw [MH_a j hj]
      match j, hj with
      | 0, _ => simp [va_up, mlen, A0m]
      | 1, _ => simp [va_up, mlen, A0m]
      | 2, _ => simp [va_up, mlen, A0m]
      | 3, _ => simp [va_up, mlen, A0m]
      | 4, _ => simp [va_up, mlen, A0m]
      | 5, _ => simp [va_up, mlen, A0m]
      | 6, _ => simp [va_up, mlen, A0m]
      | 7, _ => simp [va_up, mlen, A0m]
      | 8, _ => simp [va_up, mlen, A0m]
      | 9, _ => simp [va_up, mlen, A0m]
      | 10, _ => simp [va_up, mlen, A0m]
      | 11, _ => simp [va_up, mlen, A0m]
      | 12, _ => simp [va_up, mlen, A0m]
      | 13, _ => simp [va_up, mlen, A0m]
    · rw [MH_r (by omega)]
      repeat rw [va_up_ne _ _ (show q ≠ _ by omega)]
