/-! the model's small methods -/
theorem ct_small (l : Launch) (g : GG) (h : HM) (sz : Nat) (c : Int) (hc : -2147483648 ≤ c ∧ c < 2147483648) : RT l yX5_small cX5_small 1 (some .boolean) 0 [vI c] g h sz (fun v => ∃ z : Int, v = some (vI z) ∧ ((z = 1 ∧ 97 ≤ c ∧ c ≤ 122) ∨ (z = 0 ∧ ¬ (97 ≤ c ∧ c ≤ 122)))) := by
  refine CT.of (lo := [some (vI c)]) (by decide) (by simp [Value.category]) (Nat.le_of_ble_eq_true rfl) rfl ?_
  intro x h0 Q C hQ hl hni
  refine r_iload_n (n := 1) C dX5_small_0 rfl rfl rfl ?_
  refine r_bipush (n := 3) C dX5_small_1 (by decide) rfl ?_
  refine r_icmp_lt (t := 16) (n := 6) C dX5_small_3 (by decide) rfl (fun c_3 => ?_) (fun c_3 => ?_)
  · refine r_iconst (n := 17) C dX5_small_16 rfl ?_
    refine r_zreturn C hQ rfl dX5_small_17 ?_
    exact ⟨rfl, rfl, _, rfl, by omega⟩
  · refine r_iload_n (n := 7) C dX5_small_6 rfl rfl rfl ?_
    refine r_bipush (n := 9) C dX5_small_7 (by decide) rfl ?_
    refine r_icmp_gt (t := 16) (n := 12) C dX5_small_9 (by decide) rfl (fun c_9 => ?_) (fun c_9 => ?_)
    · refine r_iconst (n := 17) C dX5_small_16 rfl ?_
      refine r_zreturn C hQ rfl dX5_small_17 ?_
      exact ⟨rfl, rfl, _, rfl, by omega⟩
    · refine r_iconst (n := 13) C dX5_small_12 rfl ?_
      refine r_goto (n := 17) C dX5_small_13 (by decide) ?_
      refine r_zreturn C hQ rfl dX5_small_17 ?_
      exact ⟨rfl, rfl, _, rfl, by omega⟩
theorem ct_make0 (l : Launch) (g : GG) (o : Nat) (F : Nat → Int) (A : Nat → Nat → Int) (r : HM) (sz : Nat) (w a b : Int) (h1 : 0 ≤ F 6 ∧ F 6 < 80) (h2 : 0 ≤ F 12 ∧ F 12 < 80) : MT l yX5_make cX5_make 4 none 0 [.ref o, vI w, vI a, vI b] g o F A r sz (fun v F' A' => v = none ∧ F' = va_up (va_up F 12 (F 12 + 1)) 6 (F 6 + 1) ∧ A' = va_up (va_up (va_up (va_up A 4 (va_up (A 4) (F 6).toNat w)) 5 (va_up (A 5) (F 6).toNat a)) 6 (va_up (A 6) (F 6).toNat b)) 8 (va_up (A 8) (F 12).toNat (F 6))) := by
  refine CT.of (lo := [some (.ref o), some (vI w), some (vI a), some (vI b)]) (by decide) (by simp [Value.category]) (Nat.le_of_ble_eq_true rfl) rfl ?_
  intro x h0 Q C hQ hl hni
  refine r_aload_n (n := 1) C dX5_make_0 rfl rfl rfl ?_
  refine r_get (n := 4) (ci := 5) (k := 7) C in_X5 rfl (by decide) q791 rfl dX5_make_1 rfl MH_o rfl ?_
  refine r_aload_n (n := 5) C dX5_make_4 rfl rfl rfl ?_
  refine r_get (n := 8) (ci := 5) (k := 6) C in_X5 rfl (by decide) q790 rfl dX5_make_5 rfl MH_o rfl ?_
  refine r_iload_n (n := 9) C dX5_make_8 rfl rfl rfl ?_
  refine r_mast (n := 10) (j := 4) (N := 80) C dX5_make_9 rfl rfl (by decide) ?_
  refine r_aload_n (n := 11) C dX5_make_10 rfl rfl rfl ?_
  refine r_get (n := 14) (ci := 5) (k := 8) C in_X5 rfl (by decide) q792 rfl dX5_make_11 rfl MH_o rfl ?_
  refine r_aload_n (n := 15) C dX5_make_14 rfl rfl rfl ?_
  refine r_get (n := 18) (ci := 5) (k := 6) C in_X5 rfl (by decide) q790 rfl dX5_make_15 rfl MH_o rfl ?_
  refine r_iload_n (n := 19) C dX5_make_18 rfl rfl rfl ?_
  refine r_mast (n := 20) (j := 5) (N := 80) C dX5_make_19 rfl rfl (by decide) ?_
  refine r_aload_n (n := 21) C dX5_make_20 rfl rfl rfl ?_
  refine r_get (n := 24) (ci := 5) (k := 9) C in_X5 rfl (by decide) q793 rfl dX5_make_21 rfl MH_o rfl ?_
  refine r_aload_n (n := 25) C dX5_make_24 rfl rfl rfl ?_
  refine r_get (n := 28) (ci := 5) (k := 6) C in_X5 rfl (by decide) q790 rfl dX5_make_25 rfl MH_o rfl ?_
  refine r_iload_n (n := 29) C dX5_make_28 rfl rfl rfl ?_
  refine r_mast (n := 30) (j := 6) (N := 80) C dX5_make_29 rfl rfl (by decide) ?_
  refine r_aload_n (n := 31) C dX5_make_30 rfl rfl rfl ?_
  refine r_get (n := 34) (ci := 5) (k := 13) C in_X5 rfl (by decide) q797 rfl dX5_make_31 rfl MH_o rfl ?_
  refine r_aload_n (n := 35) C dX5_make_34 rfl rfl rfl ?_
  refine r_get (n := 38) (ci := 5) (k := 12) C in_X5 rfl (by decide) q796 rfl dX5_make_35 rfl MH_o rfl ?_
  refine r_aload_n (n := 39) C dX5_make_38 rfl rfl rfl ?_
  refine r_get (n := 42) (ci := 5) (k := 6) C in_X5 rfl (by decide) q790 rfl dX5_make_39 rfl MH_o rfl ?_
  refine r_mast (n := 43) (j := 8) (N := 80) C dX5_make_42 rfl rfl (by decide) ?_
  refine r_aload_n (n := 44) C dX5_make_43 rfl rfl rfl ?_
  refine r_dup (n := 45) C dX5_make_44 rfl rfl ?_
  refine r_get (n := 48) (ci := 5) (k := 12) C in_X5 rfl (by decide) q796 rfl dX5_make_45 rfl MH_o rfl ?_
  refine r_iconst (n := 49) C dX5_make_48 rfl ?_
  refine r_iadd (n := 50) C dX5_make_49 rfl ?_
  refine r_mput (n := 53) (ty := .int) (k := 12) C (by decide) q796 rfl rfl (by decide +kernel) rfl rfl dX5_make_50 rfl rfl ?_
  refine r_aload_n (n := 54) C dX5_make_53 rfl rfl rfl ?_
  refine r_dup (n := 55) C dX5_make_54 rfl rfl ?_
  refine r_get (n := 58) (ci := 5) (k := 6) C in_X5 rfl (by decide) q790 rfl dX5_make_55 rfl MH_o rfl ?_
  refine r_iconst (n := 59) C dX5_make_58 rfl ?_
  refine r_iadd (n := 60) C dX5_make_59 rfl ?_
  refine r_mput (n := 63) (ty := .int) (k := 6) C (by decide) q790 rfl rfl (by decide +kernel) rfl rfl dX5_make_60 rfl rfl ?_
  refine r_return C hQ dX5_make_63 ?_
  exact ⟨_, _, rfl, rfl, rfl, rfl, rfl⟩
theorem ct_hold0 (l : Launch) (g : GG) (o : Nat) (F : Nat → Int) (A : Nat → Nat → Int) (r : HM) (sz : Nat) (w : Int) (h1 : 0 ≤ F 10 ∧ F 10 < 80) : MT l yX5_hold cX5_hold 2 none 0 [.ref o, vI w] g o F A r sz (fun v F' A' => v = none ∧ F' = va_up F 10 (F 10 + 1) ∧ A' = va_up A 7 (va_up (A 7) (F 10).toNat w)) := by
  refine CT.of (lo := [some (.ref o), some (vI w)]) (by decide) (by simp [Value.category]) (Nat.le_of_ble_eq_true rfl) rfl ?_
  intro x h0 Q C hQ hl hni
  refine r_aload_n (n := 1) C dX5_hold_0 rfl rfl rfl ?_
  refine r_get (n := 4) (ci := 5) (k := 11) C in_X5 rfl (by decide) q795 rfl dX5_hold_1 rfl MH_o rfl ?_
  refine r_aload_n (n := 5) C dX5_hold_4 rfl rfl rfl ?_
  refine r_get (n := 8) (ci := 5) (k := 10) C in_X5 rfl (by decide) q794 rfl dX5_hold_5 rfl MH_o rfl ?_
  refine r_iload_n (n := 9) C dX5_hold_8 rfl rfl rfl ?_
  refine r_mast (n := 10) (j := 7) (N := 80) C dX5_hold_9 rfl rfl (by decide) ?_
  refine r_aload_n (n := 11) C dX5_hold_10 rfl rfl rfl ?_
  refine r_dup (n := 12) C dX5_hold_11 rfl rfl ?_
  refine r_get (n := 15) (ci := 5) (k := 10) C in_X5 rfl (by decide) q794 rfl dX5_hold_12 rfl MH_o rfl ?_
  refine r_iconst (n := 16) C dX5_hold_15 rfl ?_
  refine r_iadd (n := 17) C dX5_hold_16 rfl ?_
  refine r_mput (n := 20) (ty := .int) (k := 10) C (by decide) q794 rfl rfl (by decide +kernel) rfl rfl dX5_hold_17 rfl rfl ?_
  refine r_return C hQ dX5_hold_20 ?_
  exact ⟨_, _, rfl, rfl, rfl, rfl, rfl⟩
theorem ct_next (l : Launch) (g : GG) (h : HM) (sz : Nat) (s c d : Int) (hs : 0 ≤ s ∧ s ≤ 6) (hc : 0 ≤ c ∧ c < 65536) (hd : -1000 ≤ d ∧ d < 1000) : RT l yX5_next cX5_next 4 (some .int) 1 [vI s, vI c, vI d] g h sz (fun v => ∃ z : Int, v = some (vI z) ∧ z = nxS s c d) := by
  refine CT.of (lo := [some (vI s), some (vI c), some (vI d), none]) (by decide) (by simp [Value.category]) (Nat.le_of_ble_eq_true rfl) rfl ?_
  intro x h0 Q C hQ hl hni
  have k76 : ∀ dg : Int, ((dg = 1 ∧ 48 ≤ c ∧ c ≤ 57) ∨ (dg = 0 ∧ ¬ (48 ≤ c ∧ c ≤ 57))) → ¬ (s = 2 ∨ s = 3 ∨ s = 4) → V x g h0 Q h sz 0 0 76 [some (vI s), some (vI c), some (vI d), some (vI dg)] [] := by
    intro dg hdg hns
    have k151 : ¬ s = 5 → ¬ (s = 6 ∧ 48 ≤ c ∧ c ≤ 57) → ¬ (97 ≤ c ∧ c ≤ 122) → c ≠ 46 → c ≠ 91 → c ≠ 40 → ¬ s = 0 → V x g h0 Q h sz 0 0 151 [some (vI s), some (vI c), some (vI d), some (vI dg)] [] := by
      intro e1 e2 e3 e4 e5 e6 e7
      refine r_iload_n (n := 152) C dX5_next_151 rfl rfl rfl ?_
      refine r_bipush (n := 154) C dX5_next_152 (by decide) rfl ?_
      refine r_icmp_eq (t := 169) (n := 157) C dX5_next_154 (by decide) rfl (fun c_154 => ?_) (fun c_154 => ?_)
      · refine r_iconst (n := 170) C dX5_next_169 rfl ?_
        refine r_ireturn C hQ dX5_next_170 ?_
        refine ⟨rfl, rfl, _, rfl, ?_⟩
        unfold nxS
        repeat first | rw [if_pos (by omega)] | rw [if_neg (by omega)]
      · refine r_iload_n (n := 158) C dX5_next_157 rfl rfl rfl ?_
        refine r_bipush (n := 160) C dX5_next_158 (by decide) rfl ?_
        refine r_icmp_eq (t := 169) (n := 163) C dX5_next_160 (by decide) rfl (fun c_160 => ?_) (fun c_160 => ?_)
        · refine r_iconst (n := 170) C dX5_next_169 rfl ?_
          refine r_ireturn C hQ dX5_next_170 ?_
          refine ⟨rfl, rfl, _, rfl, ?_⟩
          unfold nxS
          repeat first | rw [if_pos (by omega)] | rw [if_neg (by omega)]
        · refine r_iload_n (n := 164) C dX5_next_163 rfl rfl rfl ?_
          refine r_bipush (n := 166) C dX5_next_164 (by decide) rfl ?_
          refine r_icmp_ne (t := 171) (n := 169) C dX5_next_166 (by decide) rfl (fun c_166 => ?_) (fun c_166 => ?_)
          · refine r_iload_n (n := 172) C dX5_next_171 rfl rfl rfl ?_
            refine r_bipush (n := 174) C dX5_next_172 (by decide) rfl ?_
            refine r_icmp_ne (t := 181) (n := 177) C dX5_next_174 (by decide) rfl (fun c_174 => ?_) (fun c_174 => ?_)
            · refine r_iload_n (n := 182) C dX5_next_181 rfl rfl rfl ?_
              refine r_bipush (n := 184) C dX5_next_182 (by decide) rfl ?_
              refine r_icmp_ne (t := 191) (n := 187) C dX5_next_184 (by decide) rfl (fun c_184 => ?_) (fun c_184 => ?_)
              · refine r_iload_n (n := 192) C dX5_next_191 rfl rfl rfl ?_
                refine r_bipush (n := 194) C dX5_next_192 (by decide) rfl ?_
                refine r_icmp_ne (t := 205) (n := 197) C dX5_next_194 (by decide) rfl (fun c_194 => ?_) (fun c_194 => ?_)
                · refine r_iconst (n := 206) C dX5_next_205 rfl ?_
                  refine r_ireturn C hQ dX5_next_206 ?_
                  refine ⟨rfl, rfl, _, rfl, ?_⟩
                  unfold nxS
                  repeat first | rw [if_pos (by omega)] | rw [if_neg (by omega)]
                · refine r_iload_n (n := 198) C dX5_next_197 rfl rfl rfl ?_
                  refine r_if_le (t := 205) (n := 201) C dX5_next_198 (by decide) rfl (fun c_198 => ?_) (fun c_198 => ?_)
                  · refine r_iconst (n := 206) C dX5_next_205 rfl ?_
                    refine r_ireturn C hQ dX5_next_206 ?_
                    refine ⟨rfl, rfl, _, rfl, ?_⟩
                    unfold nxS
                    repeat first | rw [if_pos (by omega)] | rw [if_neg (by omega)]
                  · refine r_iconst (n := 202) C dX5_next_201 rfl ?_
                    refine r_goto (n := 206) C dX5_next_202 (by decide) ?_
                    refine r_ireturn C hQ dX5_next_206 ?_
                    refine ⟨rfl, rfl, _, rfl, ?_⟩
                    unfold nxS
                    repeat first | rw [if_pos (by omega)] | rw [if_neg (by omega)]
              · refine r_iconst (n := 188) C dX5_next_187 rfl ?_
                refine r_goto (n := 206) C dX5_next_188 (by decide) ?_
                refine r_ireturn C hQ dX5_next_206 ?_
                refine ⟨rfl, rfl, _, rfl, ?_⟩
                unfold nxS
                repeat first | rw [if_pos (by omega)] | rw [if_neg (by omega)]
            · refine r_iconst (n := 178) C dX5_next_177 rfl ?_
              refine r_goto (n := 206) C dX5_next_178 (by decide) ?_
              refine r_ireturn C hQ dX5_next_206 ?_
              refine ⟨rfl, rfl, _, rfl, ?_⟩
              unfold nxS
              repeat first | rw [if_pos (by omega)] | rw [if_neg (by omega)]
          · refine r_iconst (n := 170) C dX5_next_169 rfl ?_
            refine r_ireturn C hQ dX5_next_170 ?_
            refine ⟨rfl, rfl, _, rfl, ?_⟩
            unfold nxS
            repeat first | rw [if_pos (by omega)] | rw [if_neg (by omega)]
    have k111 : ¬ s = 5 → ¬ (s = 6 ∧ 48 ≤ c ∧ c ≤ 57) → ¬ (97 ≤ c ∧ c ≤ 122) → V x g h0 Q h sz 0 0 111 [some (vI s), some (vI c), some (vI d), some (vI dg)] [] := by
      intro e1 e2 e3
      refine r_iload_n (n := 112) C dX5_next_111 rfl rfl rfl ?_
      refine r_bipush (n := 114) C dX5_next_112 (by decide) rfl ?_
      refine r_icmp_ne (t := 119) (n := 117) C dX5_next_114 (by decide) rfl (fun c_114 => ?_) (fun c_114 => ?_)
      · refine r_iload_n (n := 120) C dX5_next_119 rfl rfl rfl ?_
        refine r_bipush (n := 122) C dX5_next_120 (by decide) rfl ?_
        refine r_icmp_ne (t := 127) (n := 125) C dX5_next_122 (by decide) rfl (fun c_122 => ?_) (fun c_122 => ?_)
        · refine r_iload_n (n := 128) C dX5_next_127 rfl rfl rfl ?_
          refine r_bipush (n := 130) C dX5_next_128 (by decide) rfl ?_
          refine r_icmp_ne (t := 145) (n := 133) C dX5_next_130 (by decide) rfl (fun c_130 => ?_) (fun c_130 => ?_)
          · refine r_iload_n (n := 146) C dX5_next_145 rfl rfl rfl ?_
            refine r_if_ne (t := 151) (n := 149) C dX5_next_146 (by decide) rfl (fun c_146 => ?_) (fun c_146 => ?_)
            · exact k151 (by omega) (by omega) (by omega) (by omega) (by omega) (by omega) (by omega)
            · refine r_iconst (n := 150) C dX5_next_149 rfl ?_
              refine r_ireturn C hQ dX5_next_150 ?_
              refine ⟨rfl, rfl, _, rfl, ?_⟩
              unfold nxS
              repeat first | rw [if_pos (by omega)] | rw [if_neg (by omega)]
          · refine r_iload_n (n := 134) C dX5_next_133 rfl rfl rfl ?_
            refine r_bipush (n := 136) C dX5_next_134 (by decide) rfl ?_
            refine r_icmp_ge (t := 143) (n := 139) C dX5_next_136 (by decide) rfl (fun c_136 => ?_) (fun c_136 => ?_)
            · refine r_iconst (n := 144) C dX5_next_143 rfl ?_
              refine r_ireturn C hQ dX5_next_144 ?_
              refine ⟨rfl, rfl, _, rfl, ?_⟩
              unfold nxS
              repeat first | rw [if_pos (by omega)] | rw [if_neg (by omega)]
            · refine r_iconst (n := 140) C dX5_next_139 rfl ?_
              refine r_goto (n := 144) C dX5_next_140 (by decide) ?_
              refine r_ireturn C hQ dX5_next_144 ?_
              refine ⟨rfl, rfl, _, rfl, ?_⟩
              unfold nxS
              repeat first | rw [if_pos (by omega)] | rw [if_neg (by omega)]
        · refine r_iconst (n := 126) C dX5_next_125 rfl ?_
          refine r_ireturn C hQ dX5_next_126 ?_
          refine ⟨rfl, rfl, _, rfl, ?_⟩
          unfold nxS
          repeat first | rw [if_pos (by omega)] | rw [if_neg (by omega)]
      · refine r_iconst (n := 118) C dX5_next_117 rfl ?_
        refine r_ireturn C hQ dX5_next_118 ?_
        refine ⟨rfl, rfl, _, rfl, ?_⟩
        unfold nxS
        repeat first | rw [if_pos (by omega)] | rw [if_neg (by omega)]
    have k104 : ¬ s = 5 → ¬ (s = 6 ∧ 48 ≤ c ∧ c ≤ 57) → V x g h0 Q h sz 0 0 104 [some (vI s), some (vI c), some (vI d), some (vI dg)] [] := by
      intro e1 e2
      refine r_iload_n (n := 105) C dX5_next_104 rfl rfl rfl ?_
      refine r_callS (n := 108) (n0 := 1) C (ct_small (xL x) g h sz c (by omega)) (lw_S q887 q888 q48 q889) ⟨by decide, by decide, by decide +kernel⟩ rfl dX5_next_105 rfl rfl ?_
      rintro v h' sz' ⟨rfl, rfl, z, rfl, hz⟩ - -
      dsimp only [stk]
      refine r_if_ne (t := 117) (n := 111) C dX5_next_108 (by decide) rfl (fun c_108 => ?_) (fun c_108 => ?_)
      · refine r_iconst (n := 118) C dX5_next_117 rfl ?_
        refine r_ireturn C hQ dX5_next_118 ?_
        refine ⟨rfl, rfl, _, rfl, ?_⟩
        unfold nxS
        repeat first | rw [if_pos (by omega)] | rw [if_neg (by omega)]
      · exact k111 (by omega) (by omega) (by omega)
    refine r_iload_n (n := 77) C dX5_next_76 rfl rfl rfl ?_
    refine r_iconst (n := 78) C dX5_next_77 rfl ?_
    refine r_icmp_ne (t := 92) (n := 81) C dX5_next_78 (by decide) rfl (fun c_78 => ?_) (fun c_78 => ?_)
    · refine r_iload_n (n := 93) C dX5_next_92 rfl rfl rfl ?_
      refine r_bipush (n := 95) C dX5_next_93 (by decide) rfl ?_
      refine r_icmp_ne (t := 104) (n := 98) C dX5_next_95 (by decide) rfl (fun c_95 => ?_) (fun c_95 => ?_)
      · exact k104 (by omega) (by omega)
      · refine r_iload_n (n := 99) C dX5_next_98 rfl rfl rfl ?_
        refine r_if_eq (t := 104) (n := 102) C dX5_next_99 (by decide) rfl (fun c_99 => ?_) (fun c_99 => ?_)
        · exact k104 (by omega) (by omega)
        · refine r_iconst (n := 103) C dX5_next_102 rfl ?_
          refine r_ireturn C hQ dX5_next_103 ?_
          refine ⟨rfl, rfl, _, rfl, ?_⟩
          unfold nxS
          repeat first | rw [if_pos (by omega)] | rw [if_neg (by omega)]
    · refine r_iload_n (n := 82) C dX5_next_81 rfl rfl rfl ?_
      refine r_if_eq (t := 90) (n := 85) C dX5_next_82 (by decide) rfl (fun c_82 => ?_) (fun c_82 => ?_)
      · refine r_iconst (n := 91) C dX5_next_90 rfl ?_
        refine r_ireturn C hQ dX5_next_91 ?_
        refine ⟨rfl, rfl, _, rfl, ?_⟩
        unfold nxS
        repeat first | rw [if_pos (by omega)] | rw [if_neg (by omega)]
      · refine r_bipush (n := 87) C dX5_next_85 (by decide) rfl ?_
        refine r_goto (n := 91) C dX5_next_87 (by decide) ?_
        refine r_ireturn C hQ dX5_next_91 ?_
        refine ⟨rfl, rfl, _, rfl, ?_⟩
        unfold nxS
        repeat first | rw [if_pos (by omega)] | rw [if_neg (by omega)]
  have k15 : (s = 2 ∨ s = 3 ∨ s = 4) → V x g h0 Q h sz 0 0 15 [some (vI s), some (vI c), some (vI d), none] [] := by
    intro hns
    refine r_iload_n (n := 16) C dX5_next_15 rfl rfl rfl ?_
    refine r_callS (n := 19) (n0 := 1) C (ct_small (xL x) g h sz c (by omega)) (lw_S q887 q888 q48 q889) ⟨by decide, by decide, by decide +kernel⟩ rfl dX5_next_16 rfl rfl ?_
    rintro v h' sz' ⟨rfl, rfl, z, rfl, hz⟩ - -
    dsimp only [stk]
    refine r_if_eq (t := 26) (n := 22) C dX5_next_19 (by decide) rfl (fun c_19 => ?_) (fun c_19 => ?_)
    · refine r_iload_n (n := 27) C dX5_next_26 rfl rfl rfl ?_
      refine r_iconst (n := 28) C dX5_next_27 rfl ?_
      refine r_icmp_ne (t := 41) (n := 31) C dX5_next_28 (by decide) rfl (fun c_28 => ?_) (fun c_28 => ?_)
      · refine r_iload_n (n := 42) C dX5_next_41 rfl rfl rfl ?_
        refine r_iconst (n := 43) C dX5_next_42 rfl ?_
        refine r_icmp_ne (t := 56) (n := 46) C dX5_next_43 (by decide) rfl (fun c_43 => ?_) (fun c_43 => ?_)
        · refine r_iconst (n := 57) C dX5_next_56 rfl ?_
          refine r_ireturn C hQ dX5_next_57 ?_
          refine ⟨rfl, rfl, _, rfl, ?_⟩
          first | (exfalso; omega) | unfold nxS
          repeat first | rw [if_pos (by omega)] | rw [if_neg (by omega)]
        · refine r_iload_n (n := 47) C dX5_next_46 rfl rfl rfl ?_
          refine r_bipush (n := 49) C dX5_next_47 (by decide) rfl ?_
          refine r_icmp_ne (t := 56) (n := 52) C dX5_next_49 (by decide) rfl (fun c_49 => ?_) (fun c_49 => ?_)
          · refine r_iconst (n := 57) C dX5_next_56 rfl ?_
            refine r_ireturn C hQ dX5_next_57 ?_
            refine ⟨rfl, rfl, _, rfl, ?_⟩
            first | (exfalso; omega) | unfold nxS
            repeat first | rw [if_pos (by omega)] | rw [if_neg (by omega)]
          · refine r_iconst (n := 53) C dX5_next_52 rfl ?_
            refine r_goto (n := 57) C dX5_next_53 (by decide) ?_
            refine r_ireturn C hQ dX5_next_57 ?_
            refine ⟨rfl, rfl, _, rfl, ?_⟩
            first | (exfalso; omega) | unfold nxS
            repeat first | rw [if_pos (by omega)] | rw [if_neg (by omega)]
      · refine r_iload_n (n := 32) C dX5_next_31 rfl rfl rfl ?_
        refine r_bipush (n := 34) C dX5_next_32 (by decide) rfl ?_
        refine r_icmp_ne (t := 41) (n := 37) C dX5_next_34 (by decide) rfl (fun c_34 => ?_) (fun c_34 => ?_)
        · refine r_iload_n (n := 42) C dX5_next_41 rfl rfl rfl ?_
          refine r_iconst (n := 43) C dX5_next_42 rfl ?_
          refine r_icmp_ne (t := 56) (n := 46) C dX5_next_43 (by decide) rfl (fun c_43 => ?_) (fun c_43 => ?_)
          · refine r_iconst (n := 57) C dX5_next_56 rfl ?_
            refine r_ireturn C hQ dX5_next_57 ?_
            refine ⟨rfl, rfl, _, rfl, ?_⟩
            first | (exfalso; omega) | unfold nxS
            repeat first | rw [if_pos (by omega)] | rw [if_neg (by omega)]
          · refine r_iload_n (n := 47) C dX5_next_46 rfl rfl rfl ?_
            refine r_bipush (n := 49) C dX5_next_47 (by decide) rfl ?_
            refine r_icmp_ne (t := 56) (n := 52) C dX5_next_49 (by decide) rfl (fun c_49 => ?_) (fun c_49 => ?_)
            · refine r_iconst (n := 57) C dX5_next_56 rfl ?_
              refine r_ireturn C hQ dX5_next_57 ?_
              refine ⟨rfl, rfl, _, rfl, ?_⟩
              first | (exfalso; omega) | unfold nxS
              repeat first | rw [if_pos (by omega)] | rw [if_neg (by omega)]
            · refine r_iconst (n := 53) C dX5_next_52 rfl ?_
              refine r_goto (n := 57) C dX5_next_53 (by decide) ?_
              refine r_ireturn C hQ dX5_next_57 ?_
              refine ⟨rfl, rfl, _, rfl, ?_⟩
              first | (exfalso; omega) | unfold nxS
              repeat first | rw [if_pos (by omega)] | rw [if_neg (by omega)]
        · refine r_iconst (n := 38) C dX5_next_37 rfl ?_
          refine r_goto (n := 57) C dX5_next_38 (by decide) ?_
          refine r_ireturn C hQ dX5_next_57 ?_
          refine ⟨rfl, rfl, _, rfl, ?_⟩
          first | (exfalso; omega) | unfold nxS
          repeat first | rw [if_pos (by omega)] | rw [if_neg (by omega)]
    · refine r_iconst (n := 23) C dX5_next_22 rfl ?_
      refine r_goto (n := 57) C dX5_next_23 (by decide) ?_
      refine r_ireturn C hQ dX5_next_57 ?_
      refine ⟨rfl, rfl, _, rfl, ?_⟩
      first | (exfalso; omega) | unfold nxS
      repeat first | rw [if_pos (by omega)] | rw [if_neg (by omega)]
  refine r_iload_n (n := 1) C dX5_next_0 rfl rfl rfl ?_
  refine r_iconst (n := 2) C dX5_next_1 rfl ?_
  refine r_icmp_eq (t := 15) (n := 5) C dX5_next_2 (by decide) rfl (fun c_2 => ?_) (fun c_2 => ?_)
  · exact k15 (by omega)
  · refine r_iload_n (n := 6) C dX5_next_5 rfl rfl rfl ?_
    refine r_iconst (n := 7) C dX5_next_6 rfl ?_
    refine r_icmp_eq (t := 15) (n := 10) C dX5_next_7 (by decide) rfl (fun c_7 => ?_) (fun c_7 => ?_)
    · exact k15 (by omega)
    · refine r_iload_n (n := 11) C dX5_next_10 rfl rfl rfl ?_
      refine r_iconst (n := 12) C dX5_next_11 rfl ?_
      refine r_icmp_ne (t := 58) (n := 15) C dX5_next_12 (by decide) rfl (fun c_12 => ?_) (fun c_12 => ?_)
      · refine r_iload_n (n := 59) C dX5_next_58 rfl rfl rfl ?_
        refine r_bipush (n := 61) C dX5_next_59 (by decide) rfl ?_
        refine r_icmp_lt (t := 74) (n := 64) C dX5_next_61 (by decide) rfl (fun c_61 => ?_) (fun c_61 => ?_)
        · refine r_iconst (n := 75) C dX5_next_74 rfl ?_
          refine r_istore_n (n := 76) C dX5_next_75 rfl rfl ?_
          exact k76 _ (by omega) (by omega)
        · refine r_iload_n (n := 65) C dX5_next_64 rfl rfl rfl ?_
          refine r_bipush (n := 67) C dX5_next_65 (by decide) rfl ?_
          refine r_icmp_gt (t := 74) (n := 70) C dX5_next_67 (by decide) rfl (fun c_67 => ?_) (fun c_67 => ?_)
          · refine r_iconst (n := 75) C dX5_next_74 rfl ?_
            refine r_istore_n (n := 76) C dX5_next_75 rfl rfl ?_
            exact k76 _ (by omega) (by omega)
          · refine r_iconst (n := 71) C dX5_next_70 rfl ?_
            refine r_goto (n := 75) C dX5_next_71 (by decide) ?_
            refine r_istore_n (n := 76) C dX5_next_75 rfl rfl ?_
            exact k76 _ (by omega) (by omega)
      · exact k15 (by omega)
theorem ct_fault (l : Launch) (g : GG) (o : Nat) (F : Nat → Int) (A : Nat → Nat → Int) (r : HM) (sz : Nat) (h1 : 0 ≤ F 0 ∧ F 0 ≤ 40) (h2 : ∀ k : Nat, (k : Int) < F 0 → 0 ≤ A 0 k ∧ A 0 k < 65536) : RT l yX5_fault cX5_fault 6 (some .int) 2 [.ref o] g (MH g o F A r) sz (fun v => v = some (vI (flI (sl (A 0) 0 (F 0).toNat) (F 0)))) := by
  refine CT.of (lo := [some (.ref o), none, none, none, none, none]) (by decide) (by simp [Value.category]) (Nat.le_of_ble_eq_true rfl) rfl ?_
  intro x h0 Q C hQ hl hni
  refine r_iconst (n := 1) C dX5_fault_0 rfl ?_
  refine r_istore_n (n := 2) C dX5_fault_1 rfl rfl ?_
  refine r_iconst (n := 3) C dX5_fault_2 rfl ?_
  refine r_istore_n (n := 4) C dX5_fault_3 rfl rfl ?_
  refine r_iconst (n := 5) C dX5_fault_4 rfl ?_
  refine r_istore_n (n := 6) C dX5_fault_5 rfl rfl ?_
  refine lpv3 (fun k s d => V x g h0 Q (MH g o F A r) sz 0 0 6 [some (.ref o), some (vI s), some (vI d), some (vI k), none, none] []) (fun k s d => 0 ≤ k ∧ k ≤ F 0 ∧ 0 ≤ s ∧ s ≤ 6 ∧ -k ≤ d ∧ d ≤ k ∧ fl (sl (A 0) 0 (F 0).toNat) 0 0 = fl (sl (A 0) k.toNat (F 0 - k).toNat) s d) (fun k s d => (F 0 - k).toNat) ?_ 0 0 0 ⟨by omega, by omega, by omega, by omega, by omega, by omega, by simp⟩
  rintro k s d ⟨hk0, hk, hs0, hs, hd0, hd, hfl⟩ ih
  have k104 : F 0 ≤ k → V x g h0 Q (MH g o F A r) sz 0 0 104 [some (.ref o), some (vI s), some (vI d), some (vI k), none, none] [] := by
    intro hkk
    rw [show (F 0 - k).toNat = 0 by omega, sl, fl] at hfl
    refine r_iload_n (n := 105) C dX5_fault_104 rfl rfl rfl ?_
    refine r_if_ne (t := 123) (n := 108) C dX5_fault_105 (by decide) rfl (fun c_105 => ?_) (fun c_105 => ?_)
    · refine r_aload_n (n := 124) C dX5_fault_123 rfl rfl rfl ?_
      refine r_get (n := 127) (ci := 5) (k := 0) C in_X5 rfl (by decide) q784 rfl dX5_fault_124 rfl MH_o rfl ?_
      refine r_ireturn C hQ dX5_fault_127 ?_
      refine ⟨rfl, rfl, ?_⟩
      unfold flI
      first | (rw [if_pos (by omega)] at hfl; rw [hfl]) | (rw [if_neg (by omega)] at hfl; rw [hfl]; simp)
    · refine r_iload_n (n := 109) C dX5_fault_108 rfl rfl rfl ?_
      refine r_iconst (n := 110) C dX5_fault_109 rfl ?_
      refine r_icmp_eq (t := 119) (n := 113) C dX5_fault_110 (by decide) rfl (fun c_110 => ?_) (fun c_110 => ?_)
      · refine r_iconst (n := 120) C dX5_fault_119 rfl ?_
        refine r_goto (n := 127) C dX5_fault_120 (by decide) ?_
        refine r_ireturn C hQ dX5_fault_127 ?_
        refine ⟨rfl, rfl, ?_⟩
        unfold flI
        first | (rw [if_pos (by omega)] at hfl; rw [hfl]) | (rw [if_neg (by omega)] at hfl; rw [hfl]; simp)
      · refine r_iload_n (n := 114) C dX5_fault_113 rfl rfl rfl ?_
        refine r_bipush (n := 116) C dX5_fault_114 (by decide) rfl ?_
        refine r_icmp_ne (t := 123) (n := 119) C dX5_fault_116 (by decide) rfl (fun c_116 => ?_) (fun c_116 => ?_)
        · refine r_aload_n (n := 124) C dX5_fault_123 rfl rfl rfl ?_
          refine r_get (n := 127) (ci := 5) (k := 0) C in_X5 rfl (by decide) q784 rfl dX5_fault_124 rfl MH_o rfl ?_
          refine r_ireturn C hQ dX5_fault_127 ?_
          refine ⟨rfl, rfl, ?_⟩
          unfold flI
          first | (rw [if_pos (by omega)] at hfl; rw [hfl]) | (rw [if_neg (by omega)] at hfl; rw [hfl]; simp)
        · refine r_iconst (n := 120) C dX5_fault_119 rfl ?_
          refine r_goto (n := 127) C dX5_fault_120 (by decide) ?_
          refine r_ireturn C hQ dX5_fault_127 ?_
          refine ⟨rfl, rfl, ?_⟩
          unfold flI
          first | (rw [if_pos (by omega)] at hfl; rw [hfl]) | (rw [if_neg (by omega)] at hfl; rw [hfl]; simp)
  refine r_iload_n (n := 7) C dX5_fault_6 rfl rfl rfl ?_
  refine r_aload_n (n := 8) C dX5_fault_7 rfl rfl rfl ?_
  refine r_get (n := 11) (ci := 5) (k := 0) C in_X5 rfl (by decide) q784 rfl dX5_fault_8 rfl MH_o rfl ?_
  refine r_icmp_ge (t := 104) (n := 14) C dX5_fault_11 (by decide) rfl (fun c_11 => ?_) (fun c_11 => ?_)
  · exact k104 (by omega)
  · have hck := h2 k.toNat (by omega)
    have hsl : sl (A 0) k.toNat (F 0 - k).toNat = A 0 k.toNat :: sl (A 0) (k + 1).toNat (F 0 - (k + 1)).toNat := by
      rw [show (F 0 - k).toNat = (F 0 - (k + 1)).toNat + 1 by omega, sl, show k.toNat + 1 = (k + 1).toNat by omega]
    have hnr := nxS_rg s (A 0 k.toNat) d
    rw [hsl, fl] at hfl
    have hkl : k < F 0 := by omega
    have k98 : ∀ d' : Int, d' = dpS s (A 0 k.toNat) d → ¬ nxS s (A 0 k.toNat) d < 0 → V x g h0 Q (MH g o F A r) sz 0 0 98 [some (.ref o), some (vI (nxS s (A 0 k.toNat) d)), some (vI d'), some (vI k), none, none] [] := by
      intro d' ed hn
      have hdr : d - 1 ≤ d' ∧ d' ≤ d + 1 := by
        rw [ed]
        unfold dpS
        split
        · omega
        · split <;> omega
      rw [if_neg hn, ← ed] at hfl
      subst ed
      refine r_iinc (n := 101) C dX5_fault_98 rfl rfl ?_
      refine r_goto (n := 6) C dX5_fault_101 (by decide) ?_
      exact ih (k + 1) _ _ ⟨by omega, by omega, by omega, by omega, by omega, by omega, hfl⟩ (by omega)
    have k52 : ∀ op : Int, ((op = 1 ∧ (s < 2 ∨ 4 < s)) ∨ (op = 0 ∧ ¬ (s < 2 ∨ 4 < s))) → ¬ nxS s (A 0 k.toNat) d < 0 → V x g h0 Q (MH g o F A r) sz 0 0 52 [some (.ref o), some (vI (nxS s (A 0 k.toNat) d)), some (vI d), some (vI k), some (vI s), none] [vI op] := by
      intro op hop hn
      refine r_istore (n := 54) C dX5_fault_52 rfl ?_
      refine r_iload_n (n := 55) C dX5_fault_54 rfl rfl rfl ?_
      refine r_iload (n := 57) C dX5_fault_55 rfl rfl ?_
      refine r_if_eq (t := 75) (n := 60) C dX5_fault_57 (by decide) rfl (fun c_57 => ?_) (fun c_57 => ?_)
      · refine r_iload (n := 77) C dX5_fault_75 rfl rfl ?_
        refine r_if_eq (t := 95) (n := 80) C dX5_fault_77 (by decide) rfl (fun c_77 => ?_) (fun c_77 => ?_)
        · refine r_iconst (n := 96) C dX5_fault_95 rfl ?_
          refine r_iadd (n := 97) C dX5_fault_96 rfl ?_
          refine r_istore_n (n := 98) C dX5_fault_97 rfl rfl ?_
          refine V.ls (k98 _ ?_ hn) ⟨rfl, rfl, rfl, rfl, trivial⟩
          unfold dpS
          first | (exfalso; omega) | skip
          repeat first | rw [if_pos (by omega)] | rw [if_neg (by omega)]
          try omega
        · refine r_aload_n (n := 81) C dX5_fault_80 rfl rfl rfl ?_
          refine r_get (n := 84) (ci := 5) (k := 1) C in_X5 rfl (by decide) q785 rfl dX5_fault_81 rfl MH_o rfl ?_
          refine r_iload_n (n := 85) C dX5_fault_84 rfl rfl rfl ?_
          refine r_iaload (n := 86) (N := 40) C dX5_fault_85 rfl (MH_a 0 (by decide)) ?_
          refine r_bipush (n := 88) C dX5_fault_86 (by decide) rfl ?_
          refine r_icmp_ne (t := 95) (n := 91) C dX5_fault_88 (by decide) rfl (fun c_88 => ?_) (fun c_88 => ?_)
          · refine r_iconst (n := 96) C dX5_fault_95 rfl ?_
            refine r_iadd (n := 97) C dX5_fault_96 rfl ?_
            refine r_istore_n (n := 98) C dX5_fault_97 rfl rfl ?_
            refine V.ls (k98 _ ?_ hn) ⟨rfl, rfl, rfl, rfl, trivial⟩
            unfold dpS
            first | (exfalso; omega) | skip
            repeat first | rw [if_pos (by omega)] | rw [if_neg (by omega)]
            try omega
          · refine r_iconst (n := 92) C dX5_fault_91 rfl ?_
            refine r_goto (n := 96) C dX5_fault_92 (by decide) ?_
            refine r_iadd (n := 97) C dX5_fault_96 rfl ?_
            refine r_istore_n (n := 98) C dX5_fault_97 rfl rfl ?_
            refine V.ls (k98 _ ?_ hn) ⟨rfl, rfl, rfl, rfl, trivial⟩
            unfold dpS
            first | (exfalso; omega) | skip
            repeat first | rw [if_pos (by omega)] | rw [if_neg (by omega)]
            try omega
      · refine r_aload_n (n := 61) C dX5_fault_60 rfl rfl rfl ?_
        refine r_get (n := 64) (ci := 5) (k := 1) C in_X5 rfl (by decide) q785 rfl dX5_fault_61 rfl MH_o rfl ?_
        refine r_iload_n (n := 65) C dX5_fault_64 rfl rfl rfl ?_
        refine r_iaload (n := 66) (N := 40) C dX5_fault_65 rfl (MH_a 0 (by decide)) ?_
        refine r_bipush (n := 68) C dX5_fault_66 (by decide) rfl ?_
        refine r_icmp_ne (t := 75) (n := 71) C dX5_fault_68 (by decide) rfl (fun c_68 => ?_) (fun c_68 => ?_)
        · refine r_iload (n := 77) C dX5_fault_75 rfl rfl ?_
          refine r_if_eq (t := 95) (n := 80) C dX5_fault_77 (by decide) rfl (fun c_77 => ?_) (fun c_77 => ?_)
          · refine r_iconst (n := 96) C dX5_fault_95 rfl ?_
            refine r_iadd (n := 97) C dX5_fault_96 rfl ?_
            refine r_istore_n (n := 98) C dX5_fault_97 rfl rfl ?_
            refine V.ls (k98 _ ?_ hn) ⟨rfl, rfl, rfl, rfl, trivial⟩
            unfold dpS
            first | (exfalso; omega) | skip
            repeat first | rw [if_pos (by omega)] | rw [if_neg (by omega)]
            try omega
          · refine r_aload_n (n := 81) C dX5_fault_80 rfl rfl rfl ?_
            refine r_get (n := 84) (ci := 5) (k := 1) C in_X5 rfl (by decide) q785 rfl dX5_fault_81 rfl MH_o rfl ?_
            refine r_iload_n (n := 85) C dX5_fault_84 rfl rfl rfl ?_
            refine r_iaload (n := 86) (N := 40) C dX5_fault_85 rfl (MH_a 0 (by decide)) ?_
            refine r_bipush (n := 88) C dX5_fault_86 (by decide) rfl ?_
            refine r_icmp_ne (t := 95) (n := 91) C dX5_fault_88 (by decide) rfl (fun c_88 => ?_) (fun c_88 => ?_)
            · refine r_iconst (n := 96) C dX5_fault_95 rfl ?_
              refine r_iadd (n := 97) C dX5_fault_96 rfl ?_
              refine r_istore_n (n := 98) C dX5_fault_97 rfl rfl ?_
              refine V.ls (k98 _ ?_ hn) ⟨rfl, rfl, rfl, rfl, trivial⟩
              unfold dpS
              first | (exfalso; omega) | skip
              repeat first | rw [if_pos (by omega)] | rw [if_neg (by omega)]
              try omega
            · refine r_iconst (n := 92) C dX5_fault_91 rfl ?_
              refine r_goto (n := 96) C dX5_fault_92 (by decide) ?_
              refine r_iadd (n := 97) C dX5_fault_96 rfl ?_
              refine r_istore_n (n := 98) C dX5_fault_97 rfl rfl ?_
              refine V.ls (k98 _ ?_ hn) ⟨rfl, rfl, rfl, rfl, trivial⟩
              unfold dpS
              first | (exfalso; omega) | skip
              repeat first | rw [if_pos (by omega)] | rw [if_neg (by omega)]
              try omega
        · refine r_iconst (n := 72) C dX5_fault_71 rfl ?_
          refine r_goto (n := 96) C dX5_fault_72 (by decide) ?_
          refine r_iadd (n := 97) C dX5_fault_96 rfl ?_
          refine r_istore_n (n := 98) C dX5_fault_97 rfl rfl ?_
          refine V.ls (k98 _ ?_ hn) ⟨rfl, rfl, rfl, rfl, trivial⟩
          unfold dpS
          first | (exfalso; omega) | skip
          repeat first | rw [if_pos (by omega)] | rw [if_neg (by omega)]
          try omega
    refine r_iload_n (n := 15) C dX5_fault_14 rfl rfl rfl ?_
    refine r_istore (n := 17) C dX5_fault_15 rfl ?_
    refine r_iload_n (n := 18) C dX5_fault_17 rfl rfl rfl ?_
    refine r_aload_n (n := 19) C dX5_fault_18 rfl rfl rfl ?_
    refine r_get (n := 22) (ci := 5) (k := 1) C in_X5 rfl (by decide) q785 rfl dX5_fault_19 rfl MH_o rfl ?_
    refine r_iload_n (n := 23) C dX5_fault_22 rfl rfl rfl ?_
    refine r_iaload (n := 24) (N := 40) C dX5_fault_23 rfl (MH_a 0 (by decide)) ?_
    refine r_iload_n (n := 25) C dX5_fault_24 rfl rfl rfl ?_
    refine r_callS (n := 28) (n0 := 3) C (ct_next (xL x) g (MH g o F A r) sz s (A 0 k.toNat) d (by omega) (by omega) (by omega)) (lw_S q884 q885 q48 q886) ⟨by decide, by decide, by decide +kernel⟩ rfl dX5_fault_25 rfl rfl ?_
    rintro v h' sz' ⟨rfl, rfl, z, rfl, rfl⟩ - -
    dsimp only [stk]
    refine r_istore_n (n := 29) C dX5_fault_28 rfl rfl ?_
    refine r_iload_n (n := 30) C dX5_fault_29 rfl rfl rfl ?_
    refine r_if_ge (t := 35) (n := 33) C dX5_fault_30 (by decide) rfl (fun c_30 => ?_) (fun c_30 => ?_)
    · refine r_iload (n := 37) C dX5_fault_35 rfl rfl ?_
      refine r_iconst (n := 38) C dX5_fault_37 rfl ?_
      refine r_icmp_lt (t := 47) (n := 41) C dX5_fault_38 (by decide) rfl (fun c_38 => ?_) (fun c_38 => ?_)
      · refine r_iconst (n := 48) C dX5_fault_47 rfl ?_
        refine r_goto (n := 52) C dX5_fault_48 (by decide) ?_
        exact V.ls (k52 _ (by omega) (by omega)) ⟨rfl, rfl, rfl, rfl, rfl, trivial⟩
      · refine r_iload (n := 43) C dX5_fault_41 rfl rfl ?_
        refine r_iconst (n := 44) C dX5_fault_43 rfl ?_
        refine r_icmp_le (t := 51) (n := 47) C dX5_fault_44 (by decide) rfl (fun c_44 => ?_) (fun c_44 => ?_)
        · refine r_iconst (n := 52) C dX5_fault_51 rfl ?_
          exact V.ls (k52 _ (by omega) (by omega)) ⟨rfl, rfl, rfl, rfl, rfl, trivial⟩
        · refine r_iconst (n := 48) C dX5_fault_47 rfl ?_
          refine r_goto (n := 52) C dX5_fault_48 (by decide) ?_
          exact V.ls (k52 _ (by omega) (by omega)) ⟨rfl, rfl, rfl, rfl, rfl, trivial⟩
    · refine r_iload_n (n := 34) C dX5_fault_33 rfl rfl rfl ?_
      refine r_ireturn C hQ dX5_fault_34 ?_
      refine ⟨rfl, rfl, ?_⟩
      rw [if_pos (by omega)] at hfl
      unfold flI
      rw [hfl]
      simp only [List.length_cons, sl_len]
      congr 2
      omega
