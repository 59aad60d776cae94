/-! the model: costs -/
/-- the nodes are right -/
def Nok (F : Nat → Int) (A : Nat → Nat → Int) : Prop := (0 ≤ F 2 ∧ F 2 ≤ 24) ∧ ∀ n : Nat, (n : Int) < F 2 → NdOk n (A 1 n) (A 2 n) (A 3 n)
abbrev ofC (F : Nat → Int) (A : Nat → Nat → Int) (n i j : Nat) : Int := ofN (F 15) (F 16) (F 17) (txM A) (A 1 n) (A 2 n) (A 3 n) (cel A) (cel A n) i j
theorem ct_ofNode (l : Launch) (g : GG) (o : Nat) (F : Nat → Int) (A : Nat → Nat → Int) (r : HM) (sz : Nat) (n i j : Int) (hW : Wok F A) (hN : Nok F A) (hn : 0 ≤ n ∧ n < F 2) (hi : 0 ≤ i) (hij : i ≤ j) (hj : j ≤ F 19) (hT : ∀ m : Nat, m < n → ∀ i' j' : Nat, i ≤ i' → i' ≤ j' → j' ≤ j → 0 ≤ cel A m i' j' ∧ cel A m i' j' ≤ 1000000) (ht : ∀ k : Nat, i < k → k < j → 0 ≤ cel A n.toNat i.toNat k ∧ cel A n.toNat i.toNat k ≤ 1000000) : RT l yX5_ofNode cX5_ofNode 6 (some .int) 2 [.ref o, vI n, vI i, vI j] g (MH g o F A r) sz (fun v => v = some (vI (ofC F A n.toNat i.toNat j.toNat))) := by
  have hok := hN.2 n.toNat (by omega)
  have hN2 := hN.1
  have h19 := hW.2.2.2.1
  have h15 := hW.1
  have hjm := jmul h15 (i := i.toNat) (j := j.toNat) (by omega) (by omega)
  rw [show ((j.toNat : Int) - i.toNat) = j - i by omega] at hjm
  have hjm2 : ((j.toNat : Int) - i.toNat) * F 15 = (j - i) * F 15 := by rw [show ((j.toNat : Int) - i.toNat) = j - i by omega]
  generalize hk : A 1 n.toNat = kd at hok
  generalize ha : A 2 n.toNat = a at hok
  generalize hb : A 3 n.toNat = b at hok
  have eo : ofC F A n.toNat i.toNat j.toNat = ofN (F 15) (F 16) (F 17) (txM A) kd a b (cel A) (cel A n.toNat) i.toNat j.toNat := by
    unfold ofC
    rw [hk, ha, hb]
  rw [eo]
  unfold ofN
  obtain ⟨k0, k6, kr, ka, kb, kc⟩ := hok
  have hTa : kd ≠ 0 → 0 ≤ cel A a.toNat i.toNat j.toNat ∧ cel A a.toNat i.toNat j.toNat ≤ 1000000 := fun h9 => hT a.toNat (by have := ka h9; omega) i.toNat j.toNat (by omega) (by omega) (by omega)
  refine CT.of (lo := [some (.ref o), some (vI n), some (vI i), some (vI j), none, none]) (by decide) (by simp [Value.category]) (Nat.le_of_ble_eq_true rfl) rfl ?_
  intro x h0 Q C hQ hl hni
  refine r_aload_n (n := 1) C dX5_ofNode_0 rfl rfl rfl ?_
  refine r_get (n := 4) (ci := 5) (k := 4) C in_X5 rfl (by decide) q788 rfl dX5_ofNode_1 rfl MH_o rfl ?_
  refine r_iload_n (n := 5) C dX5_ofNode_4 rfl rfl rfl ?_
  refine r_iaload (n := 6) (N := 24) C dX5_ofNode_5 rfl (MH_a 2 (by decide)) ?_
  rw [ha]
  refine r_istore (n := 8) C dX5_ofNode_6 rfl ?_
  refine r_aload_n (n := 9) C dX5_ofNode_8 rfl rfl rfl ?_
  refine r_get (n := 12) (ci := 5) (k := 5) C in_X5 rfl (by decide) q789 rfl dX5_ofNode_9 rfl MH_o rfl ?_
  refine r_iload_n (n := 13) C dX5_ofNode_12 rfl rfl rfl ?_
  refine r_iaload (n := 14) (N := 24) C dX5_ofNode_13 rfl (MH_a 3 (by decide)) ?_
  rw [hb]
  refine r_istore (n := 16) C dX5_ofNode_14 rfl ?_
  refine r_aload_n (n := 17) C dX5_ofNode_16 rfl rfl rfl ?_
  refine r_get (n := 20) (ci := 5) (k := 3) C in_X5 rfl (by decide) q787 rfl dX5_ofNode_17 rfl MH_o rfl ?_
  refine r_iload_n (n := 21) C dX5_ofNode_20 rfl rfl rfl ?_
  refine r_iaload (n := 22) (N := 24) C dX5_ofNode_21 rfl (MH_a 1 (by decide)) ?_
  rw [hk]
  by_cases c0 : kd = 0
  · rw [if_pos c0] at hQ
    refine r_tableIn (t := 64) (off := 42) C dX5_ofNode_22 (by omega) (by omega) (by omega) (by rw [c0]; rfl) (by decide) ?_
    refine r_aload_n (n := 65) C dX5_ofNode_64 rfl rfl rfl ?_
    refine r_iload (n := 67) C dX5_ofNode_65 rfl rfl ?_
    refine r_iload_n (n := 68) C dX5_ofNode_67 rfl rfl rfl ?_
    refine r_iload_n (n := 69) C dX5_ofNode_68 rfl rfl rfl ?_
    refine r_callV (n := 72) (n0 := 3) (ci := 5) C (ct_ofSet (xL x) g o F A r sz a i j kr hi hij hj hW) (lw_V q955 q957 qs26 q48 q958) ⟨by decide, by decide, by decide +kernel⟩ rfl MH_o rfl dX5_ofNode_69 rfl rfl ?_
    rintro v h' sz' ⟨rfl, rfl, rfl⟩ - -
    dsimp only [stk]
    refine r_ireturn C hQ dX5_ofNode_72 ?_
    exact ⟨rfl, rfl, rfl⟩
  rw [if_neg c0] at hQ
  have ha9 := ka c0
  by_cases c1 : kd = 1
  · rw [if_pos c1] at hQ
    have hb9 := kb (Or.inl c1)
    refine r_tableIn (t := 73) (off := 51) C dX5_ofNode_22 (by omega) (by omega) (by omega) (by rw [c1]; rfl) (by decide) ?_
    refine r_aload_n (n := 74) C dX5_ofNode_73 rfl rfl rfl ?_
    refine r_iload (n := 76) C dX5_ofNode_74 rfl rfl ?_
    refine r_iload (n := 78) C dX5_ofNode_76 rfl rfl ?_
    refine r_iload_n (n := 79) C dX5_ofNode_78 rfl rfl rfl ?_
    refine r_iload_n (n := 80) C dX5_ofNode_79 rfl rfl rfl ?_
    refine r_callV (n := 83) (n0 := 4) (ci := 5) C (ct_ofRow (xL x) g o F A r sz a b i j (by omega) (by omega) hi hij (by omega) (fun k q1 q2 => hT a.toNat (by omega) i.toNat k (by omega) (by omega) (by omega)) (fun k q1 q2 => hT b.toNat (by omega) k j.toNat (by omega) (by omega) (by omega))) (lw_V q959 q961 qs27 q48 q962) ⟨by decide, by decide, by decide +kernel⟩ rfl MH_o rfl dX5_ofNode_80 rfl rfl ?_
    rintro v h' sz' ⟨rfl, rfl, rfl⟩ - -
    dsimp only [stk]
    refine r_ireturn C hQ dX5_ofNode_83 ?_
    exact ⟨rfl, rfl, by rw [show (j - i + 1).toNat = j.toNat - i.toNat + 1 by omega]⟩
  rw [if_neg c1] at hQ
  have hTa := hTa c0
  by_cases c2 : kd = 2
  · rw [if_pos c2] at hQ
    have hb9 := kb (Or.inr c2)
    have hTb := hT b.toNat (by omega) i.toNat j.toNat (by omega) (by omega) (by omega)
    refine r_tableIn (t := 84) (off := 62) C dX5_ofNode_22 (by omega) (by omega) (by omega) (by rw [c2]; rfl) (by decide) ?_
    refine r_aload_n (n := 85) C dX5_ofNode_84 rfl rfl rfl ?_
    refine r_iload (n := 87) C dX5_ofNode_85 rfl rfl ?_
    refine r_iload_n (n := 88) C dX5_ofNode_87 rfl rfl rfl ?_
    refine r_iload_n (n := 89) C dX5_ofNode_88 rfl rfl rfl ?_
    refine r_callV (n := 92) (n0 := 3) (ci := 5) C (ct_mcostOf (xL x) g o F A r sz a i j (by omega) (by omega) (by omega)) (lw_V q964 q966 qs28 q48 q967) ⟨by decide, by decide, by decide +kernel⟩ rfl MH_o rfl dX5_ofNode_89 rfl rfl ?_
    rintro v h' sz' ⟨rfl, rfl, rfl⟩ - -
    dsimp only [stk]
    refine r_aload_n (n := 93) C dX5_ofNode_92 rfl rfl rfl ?_
    refine r_iload (n := 95) C dX5_ofNode_93 rfl rfl ?_
    refine r_iload_n (n := 96) C dX5_ofNode_95 rfl rfl rfl ?_
    refine r_iload_n (n := 97) C dX5_ofNode_96 rfl rfl rfl ?_
    refine r_callV (n := 100) (n0 := 3) (ci := 5) C (ct_mcostOf (xL x) g o F A r sz b i j (by omega) (by omega) (by omega)) (lw_V q964 q966 qs28 q48 q967) ⟨by decide, by decide, by decide +kernel⟩ rfl MH_o rfl dX5_ofNode_97 rfl rfl ?_
    rintro v h' sz' ⟨rfl, rfl, rfl⟩ - -
    dsimp only [stk]
    refine r_icmp_ge (t := 114) (n := 103) C dX5_ofNode_100 (by decide) rfl (fun c_100 => ?_) (fun c_100 => ?_)
    · refine r_aload_n (n := 115) C dX5_ofNode_114 rfl rfl rfl ?_
      refine r_iload (n := 117) C dX5_ofNode_115 rfl rfl ?_
      refine r_iload_n (n := 118) C dX5_ofNode_117 rfl rfl rfl ?_
      refine r_iload_n (n := 119) C dX5_ofNode_118 rfl rfl rfl ?_
      refine r_callV (n := 122) (n0 := 3) (ci := 5) C (ct_mcostOf (xL x) g o F A r sz b i j (by omega) (by omega) (by omega)) (lw_V q964 q966 qs28 q48 q967) ⟨by decide, by decide, by decide +kernel⟩ rfl MH_o rfl dX5_ofNode_119 rfl rfl ?_
      rintro v h' sz' ⟨rfl, rfl, rfl⟩ - -
      dsimp only [stk]
      refine r_ireturn C hQ dX5_ofNode_122 ?_
      refine ⟨rfl, rfl, congrArg some (congrArg vI ?_)⟩
      omega
    · refine r_aload_n (n := 104) C dX5_ofNode_103 rfl rfl rfl ?_
      refine r_iload (n := 106) C dX5_ofNode_104 rfl rfl ?_
      refine r_iload_n (n := 107) C dX5_ofNode_106 rfl rfl rfl ?_
      refine r_iload_n (n := 108) C dX5_ofNode_107 rfl rfl rfl ?_
      refine r_callV (n := 111) (n0 := 3) (ci := 5) C (ct_mcostOf (xL x) g o F A r sz a i j (by omega) (by omega) (by omega)) (lw_V q964 q966 qs28 q48 q967) ⟨by decide, by decide, by decide +kernel⟩ rfl MH_o rfl dX5_ofNode_108 rfl rfl ?_
      rintro v h' sz' ⟨rfl, rfl, rfl⟩ - -
      dsimp only [stk]
      refine r_goto (n := 122) C dX5_ofNode_111 (by decide) ?_
      refine r_ireturn C hQ dX5_ofNode_122 ?_
      refine ⟨rfl, rfl, congrArg some (congrArg vI ?_)⟩
      omega
  rw [if_neg c2] at hQ
  by_cases c5 : kd = 5
  · rw [if_pos c5, hjm2] at hQ
    refine r_tableIn (t := 123) (off := 101) C dX5_ofNode_22 (by omega) (by omega) (by omega) (by rw [c5]; rfl) (by decide) ?_
    refine r_aload_n (n := 124) C dX5_ofNode_123 rfl rfl rfl ?_
    refine r_iload (n := 126) C dX5_ofNode_124 rfl rfl ?_
    refine r_iload_n (n := 127) C dX5_ofNode_126 rfl rfl rfl ?_
    refine r_iload_n (n := 128) C dX5_ofNode_127 rfl rfl rfl ?_
    refine r_callV (n := 131) (n0 := 3) (ci := 5) C (ct_mcostOf (xL x) g o F A r sz a i j (by omega) (by omega) (by omega)) (lw_V q964 q966 qs28 q48 q967) ⟨by decide, by decide, by decide +kernel⟩ rfl MH_o rfl dX5_ofNode_128 rfl rfl ?_
    rintro v h' sz' ⟨rfl, rfl, rfl⟩ - -
    dsimp only [stk]
    refine r_iload_n (n := 132) C dX5_ofNode_131 rfl rfl rfl ?_
    refine r_iload_n (n := 133) C dX5_ofNode_132 rfl rfl rfl ?_
    refine r_isub (n := 134) C dX5_ofNode_133 rfl ?_
    refine r_aload_n (n := 135) C dX5_ofNode_134 rfl rfl rfl ?_
    refine r_get (n := 138) (ci := 5) (k := 15) C in_X5 rfl (by decide) q799 rfl dX5_ofNode_135 rfl MH_o rfl ?_
    refine r_imul (n := 139) C dX5_ofNode_138 rfl ?_
    refine r_icmp_ge (t := 153) (n := 142) C dX5_ofNode_139 (by decide) rfl (fun c_139 => ?_) (fun c_139 => ?_)
    · refine r_iload_n (n := 154) C dX5_ofNode_153 rfl rfl rfl ?_
      refine r_iload_n (n := 155) C dX5_ofNode_154 rfl rfl rfl ?_
      refine r_isub (n := 156) C dX5_ofNode_155 rfl ?_
      refine r_aload_n (n := 157) C dX5_ofNode_156 rfl rfl rfl ?_
      refine r_get (n := 160) (ci := 5) (k := 15) C in_X5 rfl (by decide) q799 rfl dX5_ofNode_157 rfl MH_o rfl ?_
      refine r_imul (n := 161) C dX5_ofNode_160 rfl ?_
      refine r_ireturn C hQ dX5_ofNode_161 ?_
      refine ⟨rfl, rfl, congrArg some (congrArg vI ?_)⟩
      omega
    · refine r_aload_n (n := 143) C dX5_ofNode_142 rfl rfl rfl ?_
      refine r_iload (n := 145) C dX5_ofNode_143 rfl rfl ?_
      refine r_iload_n (n := 146) C dX5_ofNode_145 rfl rfl rfl ?_
      refine r_iload_n (n := 147) C dX5_ofNode_146 rfl rfl rfl ?_
      refine r_callV (n := 150) (n0 := 3) (ci := 5) C (ct_mcostOf (xL x) g o F A r sz a i j (by omega) (by omega) (by omega)) (lw_V q964 q966 qs28 q48 q967) ⟨by decide, by decide, by decide +kernel⟩ rfl MH_o rfl dX5_ofNode_147 rfl rfl ?_
      rintro v h' sz' ⟨rfl, rfl, rfl⟩ - -
      dsimp only [stk]
      refine r_goto (n := 161) C dX5_ofNode_150 (by decide) ?_
      refine r_ireturn C hQ dX5_ofNode_161 ?_
      refine ⟨rfl, rfl, congrArg some (congrArg vI ?_)⟩
      omega
  rw [if_neg c5] at hQ
  by_cases c6 : kd = 6
  · rw [if_pos c6] at hQ
    have hb9 := kc c6
    refine r_tableIn (t := 162) (off := 140) C dX5_ofNode_22 (by omega) (by omega) (by omega) (by rw [c6]; rfl) (by decide) ?_
    refine r_aload_n (n := 163) C dX5_ofNode_162 rfl rfl rfl ?_
    refine r_iload (n := 165) C dX5_ofNode_163 rfl rfl ?_
    refine r_iload_n (n := 166) C dX5_ofNode_165 rfl rfl rfl ?_
    refine r_iload_n (n := 167) C dX5_ofNode_166 rfl rfl rfl ?_
    refine r_callV (n := 170) (n0 := 3) (ci := 5) C (ct_mcostOf (xL x) g o F A r sz a i j (by omega) (by omega) (by omega)) (lw_V q964 q966 qs28 q48 q967) ⟨by decide, by decide, by decide +kernel⟩ rfl MH_o rfl dX5_ofNode_167 rfl rfl ?_
    rintro v h' sz' ⟨rfl, rfl, rfl⟩ - -
    dsimp only [stk]
    refine r_iload (n := 172) C dX5_ofNode_170 rfl rfl ?_
    refine r_icmp_gt (t := 186) (n := 175) C dX5_ofNode_172 (by decide) rfl (fun c_172 => ?_) (fun c_172 => ?_)
    · refine r_ldc (n := 188) (z := 1000000) C q963 (by decide) dX5_ofNode_186 rfl ?_
      refine r_ireturn C hQ dX5_ofNode_188 ?_
      refine ⟨rfl, rfl, congrArg some (congrArg vI ?_)⟩
      first | rw [if_pos (by omega)] | rw [if_neg (by omega)]
    · refine r_aload_n (n := 176) C dX5_ofNode_175 rfl rfl rfl ?_
      refine r_iload (n := 178) C dX5_ofNode_176 rfl rfl ?_
      refine r_iload_n (n := 179) C dX5_ofNode_178 rfl rfl rfl ?_
      refine r_iload_n (n := 180) C dX5_ofNode_179 rfl rfl rfl ?_
      refine r_callV (n := 183) (n0 := 3) (ci := 5) C (ct_mcostOf (xL x) g o F A r sz a i j (by omega) (by omega) (by omega)) (lw_V q964 q966 qs28 q48 q967) ⟨by decide, by decide, by decide +kernel⟩ rfl MH_o rfl dX5_ofNode_180 rfl rfl ?_
      rintro v h' sz' ⟨rfl, rfl, rfl⟩ - -
      dsimp only [stk]
      refine r_goto (n := 188) C dX5_ofNode_183 (by decide) ?_
      refine r_ireturn C hQ dX5_ofNode_188 ?_
      refine ⟨rfl, rfl, congrArg some (congrArg vI ?_)⟩
      first | rw [if_pos (by omega)] | rw [if_neg (by omega)]
  rw [if_neg c6] at hQ
  refine r_tableIn (t := 189) (off := 167) C dX5_ofNode_22 (by omega) (by omega) (by omega) (by rcases (show kd = 3 ∨ kd = 4 by omega) with c9 | c9 <;> rw [c9] <;> rfl) (by decide) ?_
  refine r_aload_n (n := 190) C dX5_ofNode_189 rfl rfl rfl ?_
  refine r_iload_n (n := 191) C dX5_ofNode_190 rfl rfl rfl ?_
  refine r_iload (n := 193) C dX5_ofNode_191 rfl rfl ?_
  refine r_iload_n (n := 194) C dX5_ofNode_193 rfl rfl rfl ?_
  refine r_iload_n (n := 195) C dX5_ofNode_194 rfl rfl rfl ?_
  refine r_callV (n := 198) (n0 := 4) (ci := 5) C (ct_ofPlus (xL x) g o F A r sz n a i j (by omega) (by omega) hi hij (by omega) ht (fun k q1 q2 => hT a.toNat (by omega) k j.toNat (by omega) (by omega) (by omega))) (lw_V q971 q973 qs29 q48 q974) ⟨by decide, by decide, by decide +kernel⟩ rfl MH_o rfl dX5_ofNode_195 rfl rfl ?_
  rintro v h' sz' ⟨rfl, rfl, rfl⟩ - -
  dsimp only [stk]
  refine r_ireturn C hQ dX5_ofNode_198 ?_
  exact ⟨rfl, rfl, by rw [show (j - i - 1).toNat = j.toNat - i.toNat - 1 by omega]⟩
/-- the costs of all nodes stand -/
def Cok (F : Nat → Int) (A : Nat → Nat → Int) (N : Int) : Prop := ∀ n : Nat, (n : Int) < N → NdM (F 15) (F 16) (F 17) (txM A) (F 19).toNat (A 1 n) (A 2 n) (A 3 n) (cel A) (cel A n) ∧ ∀ i j : Nat, i ≤ j → j ≤ (F 19).toNat → 0 ≤ cel A n i j ∧ cel A n i j ≤ 1000000
theorem NdM_ext {ad mi wr : Int} {tx : Nat → Int} {len n : Nat} {kd a b : Int} {T T' : Nat → Nat → Nat → Int} {t t' : Nat → Nat → Int} (ok : NdOk n kd a b) (h : NdM ad mi wr tx len kd a b T t) (hT : ∀ m, m < n → ∀ i j, i ≤ j → j ≤ len → T' m i j = T m i j) (ht : ∀ i j, i ≤ j → j ≤ len → t' i j = t i j) : NdM ad mi wr tx len kd a b T' t' := by
  obtain ⟨k0, k6, -, ka, kb, -⟩ := ok
  obtain ⟨h0, h1, h2, h3, h4, h5, h6⟩ := h
  refine ⟨fun c => ?_, fun c => ?_, fun c => ?_, fun c => ?_, fun c => ?_, fun c => ?_, fun c => ?_⟩
  · intro i j q1 q2
    rw [ht i j q1 q2, h0 c i j q1 q2]
  · intro i j q1 q2
    have := ka (by omega)
    have := kb (by omega)
    rw [ht i j q1 q2, h1 c i j q1 q2]
    exact (rowM_ext _ (fun k p1 p2 => hT a.toNat (by omega) i k p1 (by omega)) (fun k p1 p2 => hT b.toNat (by omega) k j (by omega) q2)).symm
  · intro i j q1 q2
    have := ka (by omega)
    have := kb (by omega)
    rw [ht i j q1 q2, h2 c i j q1 q2, hT a.toNat (by omega) i j q1 q2, hT b.toNat (by omega) i j q1 q2]
  · have := ka (by omega)
    obtain ⟨u, u1, u2⟩ := h3 c
    refine ⟨u, fun i j q1 q2 => ?_, fun i j q1 q2 => ?_⟩
    · rw [u1 i j q1 q2]
      exact (plM_ext _ (fun _ _ _ => rfl) (fun k p1 p2 => hT a.toNat (by omega) k j (by omega) q2)).symm
    · rw [ht i j q1 q2, u2 i j q1 q2]
  · intro i j q1 q2
    have := ka (by omega)
    rw [ht i j q1 q2, h4 c i j q1 q2]
    exact (plM_ext _ (fun k p1 p2 => ht i k (by omega) (by omega)) (fun k p1 p2 => hT a.toNat (by omega) k j (by omega) q2)).symm
  · intro i j q1 q2
    have := ka (by omega)
    rw [ht i j q1 q2, h5 c i j q1 q2, hT a.toNat (by omega) i j q1 q2]
  · intro i j q1 q2
    have := ka (by omega)
    rw [ht i j q1 q2, h6 c i j q1 q2, hT a.toNat (by omega) i j q1 q2]
/-- a write into node n's cell (i, j) -/
theorem cel_up {A : Nat → Nat → Int} {n i j m i' j' : Nat} {z : Int} (hj : j < 25) (hi : i < 25) (hj' : j' < 25) (hi' : i' < 25) : cel (va_up A 10 (va_up (A 10) (625 * n + 25 * i + j) z)) m i' j' = if m = n ∧ i' = i ∧ j' = j then z else cel A m i' j' := by
  show va_up A 10 (va_up (A 10) (625 * n + 25 * i + j) z) 10 (625 * m + 25 * i' + j') = _
  rw [va_up_self]
  by_cases h : m = n ∧ i' = i ∧ j' = j
  · rw [if_pos h, h.1, h.2.1, h.2.2, va_up_self]
  · rw [if_neg h, va_up_ne _ _ (by omega)]
def P1 (F : Nat → Int) (A : Nat → Nat → Int) (n i j : Nat) : Prop := ∀ i' j' : Nat, i' ≤ j' → j' ≤ (F 19).toNat → (i' < i ∨ (i' = i ∧ j' < j)) → cel A n i' j' = ofC F A n i' j' ∧ 0 ≤ cel A n i' j' ∧ cel A n i' j' ≤ 1000000
theorem Cok_ext {F : Nat → Int} {A A' : Nat → Nat → Int} {n : Nat} (hN : ∀ m : Nat, m < n → NdOk m (A 1 m) (A 2 m) (A 3 m)) (hA : ∀ q, q ≠ 10 → A' q = A q) (hc : ∀ m : Nat, m < n → ∀ i j : Nat, i ≤ j → j ≤ (F 19).toNat → cel A' m i j = cel A m i j) (h : Cok F A n) : Cok F A' n := by
  intro m hm
  obtain ⟨h1, h2⟩ := h m hm
  have e1 : A' 1 = A 1 := hA 1 (by decide)
  have e2 : A' 2 = A 2 := hA 2 (by decide)
  have e3 : A' 3 = A 3 := hA 3 (by decide)
  have e9 : A' 9 = A 9 := hA 9 (by decide)
  have et : txM A' = txM A := by
    funext p
    show A' 9 p - 97 = A 9 p - 97
    rw [e9]
  rw [e1, e2, e3, et]
  refine ⟨NdM_ext (hN m (by omega)) h1 (fun m' hm' i j q1 q2 => hc m' (by omega) i j q1 q2) (fun i j q1 q2 => hc m (by omega) i j q1 q2), fun i j q1 q2 => ?_⟩
  rw [hc m (by omega) i j q1 q2]
  exact h2 i j q1 q2
theorem P1_step {F : Nat → Int} {A : Nat → Nat → Int} {n i j : Nat} (hW : Wok F A) (hN : ∀ m : Nat, m ≤ n → NdOk m (A 1 m) (A 2 m) (A 3 m)) (hij : i ≤ j) (hj : j ≤ (F 19).toNat) (hC : Cok F A n) (hP : P1 F A n i j) : Cok F (va_up A 10 (va_up (A 10) (625 * n + 25 * i + j) (ofC F A n i j))) n ∧ P1 F (va_up A 10 (va_up (A 10) (625 * n + 25 * i + j) (ofC F A n i j))) n i (j + 1) := by
  have h19 := hW.2.2.2.1
  obtain ⟨A', hA'⟩ : ∃ z, z = va_up A 10 (va_up (A 10) (625 * n + 25 * i + j) (ofC F A n i j)) := ⟨_, rfl⟩
  rw [← hA']
  have hq : ∀ q, q ≠ 10 → A' q = A q := fun q h9 => by rw [hA']; exact va_up_ne _ _ h9
  have hcel : ∀ m i' j' : Nat, i' ≤ j' → j' ≤ (F 19).toNat → cel A' m i' j' = if m = n ∧ i' = i ∧ j' = j then ofC F A n i j else cel A m i' j' := fun m i' j' q1 q2 => by
    rw [hA']
    exact cel_up (by omega) (by omega) (by omega) (by omega)
  have hlt : ∀ m : Nat, m < n → ∀ i' j' : Nat, i' ≤ j' → j' ≤ (F 19).toNat → cel A' m i' j' = cel A m i' j' := fun m hm i' j' q1 q2 => by
    rw [hcel m i' j' q1 q2, if_neg (by omega)]
  refine ⟨Cok_ext (fun m hm => hN m (by omega)) hq hlt hC, ?_⟩
  have eo : ∀ i' j' : Nat, i' ≤ j' → j' ≤ (F 19).toNat → (i' < i ∨ (i' = i ∧ j' ≤ j)) → ofC F A' n i' j' = ofC F A n i' j' := by
    intro i' j' q1 q2 q3
    unfold ofC
    have e9 : A' 9 = A 9 := hq 9 (by decide)
    have et : txM A' = txM A := by
      funext p
      show A' 9 p - 97 = A 9 p - 97
      rw [e9]
    rw [hq 1 (by decide), hq 2 (by decide), hq 3 (by decide), et]
    refine ofN_ext q1 (hN n (Nat.le_refl _)) (fun m hm a b p1 p2 p3 => hlt m hm a b p2 (by omega)) (fun k p1 p2 => ?_)
    rw [hcel n i' k (by omega) (by omega), if_neg (by omega)]
  have hrg : 0 ≤ ofC F A n i j ∧ ofC F A n i j ≤ 1000000 := ofN_rg hW.1 hW.2.1 hW.2.2.1 hij (by omega) (hN n (Nat.le_refl _)) (fun m hm a b p1 p2 p3 => (hC m (by omega)).2 a b p2 (by omega)) (fun k p1 p2 => (hP i k (by omega) (by omega) (by omega)).2)
  intro i' j' q1 q2 q3
  rw [eo i' j' q1 q2 (by omega), hcel n i' j' q1 q2]
  by_cases h9 : n = n ∧ i' = i ∧ j' = j
  · rw [if_pos h9, h9.2.1, h9.2.2]
    exact ⟨rfl, hrg⟩
  · rw [if_neg h9]
    exact hP i' j' q1 q2 (by omega)
def P2 (F : Nat → Int) (u : Nat → Nat → Int) (A : Nat → Nat → Int) (n i j : Nat) : Prop := ∀ i' j' : Nat, i' ≤ j' → j' ≤ (F 19).toNat → cel A n i' j' = if i' < i ∨ (i' = i ∧ j' < j) then min (u i' j') (((j' : Int) - i') * F 15) else u i' j'
/-- the end of a node -/
theorem Cok_node {F : Nat → Int} {A A' : Nat → Nat → Int} {n : Nat} (hW : Wok F A) (hN : ∀ m : Nat, m ≤ n → NdOk m (A 1 m) (A 2 m) (A 3 m)) (hC : Cok F A n) (hP : P1 F A n ((F 19).toNat + 1) 0) (hA : ∀ q, q ≠ 10 → A' q = A q) (hc : ∀ m : Nat, m < n → ∀ i j : Nat, i ≤ j → j ≤ (F 19).toNat → cel A' m i j = cel A m i j) (ht : ∀ i j : Nat, i ≤ j → j ≤ (F 19).toNat → cel A' n i j = if A 1 n = 3 then min (cel A n i j) (((j : Int) - i) * F 15) else cel A n i j) : Cok F A' ((n : Int) + 1) := by
  have h19 := hW.2.2.2.1
  intro m hm
  by_cases hmn : m < n
  · exact Cok_ext (fun m hm => hN m (by omega)) hA hc hC m (by omega)
  · obtain rfl : m = n := by omega
    have e9 : A' 9 = A 9 := hA 9 (by decide)
    have et : txM A' = txM A := by
      funext p
      show A' 9 p - 97 = A 9 p - 97
      rw [e9]
    rw [hA 1 (by decide), hA 2 (by decide), hA 3 (by decide), et]
    refine ⟨NdM_of (u := cel A m) (fun i j q1 q2 => ?_) ht, fun i j q1 q2 => ?_⟩
    · rw [(hP i j q1 q2 (by omega)).1]
      exact (ofN_ext q1 (hN m (Nat.le_refl _)) (fun m' hm' a b p1 p2 p3 => hc m' hm' a b p2 (by omega)) (fun _ _ _ => rfl)).symm
    · have h9 := (hP i j q1 q2 (by omega)).2
      have := jmul hW.1 q1 (by omega)
      rw [ht i j q1 q2]
      split <;> omega
theorem ct_work (l : Launch) (g : GG) (o : Nat) (F : Nat → Int) (A : Nat → Nat → Int) (r : HM) (sz : Nat) (hW : Wok F A) (hN : Nok F A) (hk : F 21 = 0 ∨ (F 21 = 1 ∧ Cok F A (F 2))) : MT l yX5_work cX5_work 5 none 3 [.ref o] g o F A r sz (fun v F' A' => v = none ∧ F' = va_up F 21 1 ∧ (∀ q, q ≠ 10 → A' q = A q) ∧ Cok F A' (F 2)) := by
  refine CT.of (lo := [some (.ref o), none, none, none, none]) (by decide) (by simp [Value.category]) (Nat.le_of_ble_eq_true rfl) rfl ?_
  intro x h0 Q C hQ hl hni
  rcases hk with hk | ⟨hk, hC⟩
  · have h15 := hW.1
    have h19 := hW.2.2.2.1
    have h2 := hN.1
    obtain ⟨F2, hF2⟩ : ∃ z, z = va_up F 21 1 := ⟨_, rfl⟩
    have f15 : F2 15 = F 15 := by rw [hF2]; rfl
    have f19 : F2 19 = F 19 := by rw [hF2]; rfl
    have f2 : F2 2 = F 2 := by rw [hF2]; rfl
    have hWA : ∀ A2 : Nat → Nat → Int, (∀ q, q ≠ 10 → A2 q = A q) → Wok F A2 ∧ Wok F2 A2 ∧ Nok F2 A2 ∧ ∀ n i j, ofC F2 A2 n i j = ofC F A2 n i j := by
      intro A2 hA2
      refine ⟨⟨hW.1, hW.2.1, hW.2.2.1, hW.2.2.2.1, ?_⟩, ⟨?_, ?_, ?_, ?_, ?_⟩, ⟨?_, ?_⟩, ?_⟩
      · rw [hA2 9 (by decide)]
        exact hW.2.2.2.2
      · rw [hF2]; exact hW.1
      · rw [hF2]; exact hW.2.1
      · rw [hF2]; exact hW.2.2.1
      · rw [hF2]; exact hW.2.2.2.1
      · rw [hA2 9 (by decide), hF2]
        exact hW.2.2.2.2
      · rw [hF2]; exact hN.1
      · rw [hA2 1 (by decide), hA2 2 (by decide), hA2 3 (by decide), hF2]
        exact hN.2
      · intro n i j
        rw [hF2]
        rfl
    have hNA : ∀ A2 : Nat → Nat → Int, (∀ q, q ≠ 10 → A2 q = A q) → ∀ m : Nat, (m : Int) < F 2 → NdOk m (A2 1 m) (A2 2 m) (A2 3 m) := by
      intro A2 hA2 m hm
      rw [hA2 1 (by decide), hA2 2 (by decide), hA2 3 (by decide)]
      exact hN.2 m hm
    have k15 : ∀ (n : Int) (A1 : Nat → Nat → Int), (0 ≤ n ∧ n ≤ F 2 ∧ (∀ q, q ≠ 10 → A1 q = A q) ∧ Cok F A1 n) → V x g h0 Q (MH g o F2 A1 r) sz 0 0 15 [some (.ref o), some (vI n), none, none, none] [] := by
      refine lpv2 _ _ (fun n _ => (F 2 - n).toNat) ?_
      rintro n A1 ⟨hn0, hn, hA1, hC1⟩ ih
      by_cases hnn : n < F 2
      · -- the last part of a node
        have k172 : ∀ A5 : Nat → Nat → Int, (∀ q, q ≠ 10 → A5 q = A q) → Cok F A5 (n + 1) → V x g h0 Q (MH g o F2 A5 r) sz 0 0 172 [some (.ref o), some (vI n), none, none, none] [] := by
          intro A5 hA5 hC5
          refine r_iinc (n := 175) C dX5_work_172 rfl rfl ?_
          refine r_goto (n := 15) C dX5_work_175 (by decide) ?_
          exact ih (n + 1) A5 ⟨by omega, by omega, hA5, hC5⟩ (by omega)
        have k79 : ∀ A2 : Nat → Nat → Int, (∀ q, q ≠ 10 → A2 q = A q) → Cok F A2 n → P1 F A2 n.toNat ((F 19).toNat + 1) 0 → V x g h0 Q (MH g o F2 A2 r) sz 0 0 79 [some (.ref o), some (vI n), none, none, none] [] := by
          intro A2 hA2 hC2 hP2
          have hN2 : ∀ m : Nat, m ≤ n.toNat → NdOk m (A2 1 m) (A2 2 m) (A2 3 m) := fun m hm => hNA A2 hA2 m (by omega)
          have hC2' : Cok F A2 n.toNat := by rw [show ((n.toNat : Nat) : Int) = n by omega]; exact hC2
          by_cases hk3 : A2 1 n.toNat = 3
          · have hu : ∀ i j : Nat, i ≤ j → j ≤ (F 19).toNat → 0 ≤ cel A2 n.toNat i j ∧ cel A2 n.toNat i j ≤ 1000000 := fun i j q1 q2 => (hP2 i j q1 q2 (by omega)).2
            have k81 : ∀ (i : Int) (A5 : Nat → Nat → Int), (0 ≤ i ∧ i ≤ F 19 + 1 ∧ (∀ q, q ≠ 10 → A5 q = A q) ∧ (∀ m : Nat, m < n.toNat → ∀ a b : Nat, a ≤ b → b ≤ (F 19).toNat → cel A5 m a b = cel A2 m a b) ∧ P2 F (cel A2 n.toNat) A5 n.toNat i.toNat 0) → V x g h0 Q (MH g o F2 A5 r) sz 0 0 81 [some (.ref o), some (vI n), some (vI i), none, none] [] := by
              refine lpv2 _ _ (fun i _ => (F 19 + 1 - i).toNat) ?_
              rintro i A5 ⟨hi0, hi, hA5, hm5, hP5⟩ ih2
              have k101 : ∀ (j : Int) (A6 : Nat → Nat → Int), (i ≤ j ∧ j ≤ F 19 + 1 ∧ i ≤ F 19 ∧ (∀ q, q ≠ 10 → A6 q = A q) ∧ (∀ m : Nat, m < n.toNat → ∀ a b : Nat, a ≤ b → b ≤ (F 19).toNat → cel A6 m a b = cel A2 m a b) ∧ P2 F (cel A2 n.toNat) A6 n.toNat i.toNat j.toNat) → V x g h0 Q (MH g o F2 A6 r) sz 0 0 101 [some (.ref o), some (vI n), some (vI i), some (vI j), none] [] := by
                refine lpv2 _ _ (fun j _ => (F 19 + 1 - j).toNat) ?_
                rintro j A6 ⟨hj0, hj, hiF, hA6, hm6, hP6⟩ ih3
                have hjm : j ≤ F 19 → 0 ≤ (j - i) * F 15 ∧ (j - i) * F 15 ≤ 216 := fun h9 => by
                  have := jmul h15 (i := i.toNat) (j := j.toNat) (by omega) (by omega)
                  rw [show ((j.toNat : Int) - i.toNat) = j - i by omega] at this
                  exact this
                have e6 : j ≤ F 19 → cel A6 n.toNat i.toNat j.toNat = cel A2 n.toNat i.toNat j.toNat := fun h9 => by
                  rw [hP6 i.toNat j.toNat (by omega) (by omega), if_neg (by omega)]
                have hstep : ∀ z : Int, j ≤ F 19 → z = min (cel A2 n.toNat i.toNat j.toNat) ((j - i) * F 15) → V x g h0 Q (MH g o F2 A6 r) sz 0 0 159 [some (.ref o), some (vI n), some (vI i), some (vI j), some (vI ((j - i) * F 15))] [vI z, vI (625 * n + 25 * i + j), .ref (o + 11)] := by
                  intro z hjF hz
                  refine r_mast (n := 160) (j := 10) (N := 15000) C dX5_work_159 rfl rfl (by decide) ?_
                  refine r_iinc (n := 163) C dX5_work_160 rfl rfl ?_
                  refine r_goto (n := 101) C dX5_work_163 (by decide) ?_
                  rw [show (625 * n + 25 * i + j).toNat = 625 * n.toNat + 25 * i.toNat + j.toNat by omega]
                  refine V.ls (ih3 (j + 1) _ ⟨by omega, by omega, by omega, ?_, ?_, ?_⟩ (by omega)) ⟨rfl, rfl, rfl, rfl, trivial⟩
                  · intro q hq
                    rw [va_up_ne _ _ hq]
                    exact hA6 q hq
                  · intro m hm a b q1 q2
                    rw [cel_up (by omega) (by omega) (by omega) (by omega), if_neg (by omega)]
                    exact hm6 m hm a b q1 q2
                  · intro a b q1 q2
                    rw [cel_up (by omega) (by omega) (by omega) (by omega)]
                    by_cases h9 : n.toNat = n.toNat ∧ a = i.toNat ∧ b = j.toNat
                    · rw [if_pos h9, if_pos (by omega), h9.2.1, h9.2.2, hz, show ((j.toNat : Int) - i.toNat) = j - i by omega]
                    · rw [if_neg h9, hP6 a b q1 q2]
                      by_cases h8 : a < i.toNat ∨ (a = i.toNat ∧ b < j.toNat)
                      · rw [if_pos h8, if_pos (by omega)]
                      · rw [if_neg h8, if_neg (by omega)]
                refine r_iload_n (n := 102) C dX5_work_101 rfl rfl rfl ?_
                refine r_aload_n (n := 103) C dX5_work_102 rfl rfl rfl ?_
                refine r_get (n := 106) (ci := 5) (k := 19) C in_X5 rfl (by decide) q803 rfl dX5_work_103 rfl MH_o rfl ?_
                rw [f19]
                refine r_icmp_gt (t := 166) (n := 109) C dX5_work_106 (by decide) rfl (fun c_106 => ?_) (fun c_106 => ?_)
                · have hjj : j = F 19 + 1 := by omega
                  refine r_iinc (n := 169) C dX5_work_166 rfl rfl ?_
                  refine r_goto (n := 81) C dX5_work_169 (by decide) ?_
                  refine V.ls (ih2 (i + 1) A6 ⟨by omega, by omega, hA6, hm6, ?_⟩ (by omega)) ⟨rfl, rfl, rfl, trivial⟩
                  intro a b q1 q2
                  rw [hP6 a b q1 q2]
                  by_cases h8 : a < i.toNat ∨ (a = i.toNat ∧ b < j.toNat)
                  · rw [if_pos h8, if_pos (by omega)]
                  · rw [if_neg h8, if_neg (by omega)]
                · have hjF : j ≤ F 19 := by omega
                  have hjm := hjm hjF
                  have hu9 := hu i.toNat j.toNat (by omega) (by omega)
                  refine r_iload_n (n := 110) C dX5_work_109 rfl rfl rfl ?_
                  refine r_iload_n (n := 111) C dX5_work_110 rfl rfl rfl ?_
                  refine r_isub (n := 112) C dX5_work_111 rfl ?_
                  refine r_aload_n (n := 113) C dX5_work_112 rfl rfl rfl ?_
                  refine r_get (n := 116) (ci := 5) (k := 15) C in_X5 rfl (by decide) q799 rfl dX5_work_113 rfl MH_o rfl ?_
                  rw [f15]
                  refine r_imul (n := 117) C dX5_work_116 rfl ?_
                  refine r_istore (n := 119) C dX5_work_117 rfl ?_
                  refine r_aload_n (n := 120) C dX5_work_119 rfl rfl rfl ?_
                  refine r_get (n := 123) (ci := 5) (k := 22) C in_X5 rfl (by decide) q806 rfl dX5_work_120 rfl MH_o rfl ?_
                  refine r_sipush (n := 126) C dX5_work_123 (by decide) rfl ?_
                  refine r_iload_n (n := 127) C dX5_work_126 rfl rfl rfl ?_
                  refine r_imul (n := 128) C dX5_work_127 rfl ?_
                  refine r_bipush (n := 130) C dX5_work_128 (by decide) rfl ?_
                  refine r_iload_n (n := 131) C dX5_work_130 rfl rfl rfl ?_
                  refine r_imul (n := 132) C dX5_work_131 rfl ?_
                  refine r_iadd (n := 133) C dX5_work_132 rfl ?_
                  refine r_iload_n (n := 134) C dX5_work_133 rfl rfl rfl ?_
                  refine r_iadd (n := 135) C dX5_work_134 rfl ?_
                  refine r_aload_n (n := 136) C dX5_work_135 rfl rfl rfl ?_
                  refine r_iload_n (n := 137) C dX5_work_136 rfl rfl rfl ?_
                  refine r_iload_n (n := 138) C dX5_work_137 rfl rfl rfl ?_
                  refine r_iload_n (n := 139) C dX5_work_138 rfl rfl rfl ?_
                  refine r_callV (n := 142) (n0 := 3) (ci := 5) C (ct_mcostOf (xL x) g o F2 A6 r sz n i j (by omega) (by omega) (by omega)) (lw_V q964 q966 qs28 q48 q967) ⟨by decide, by decide, by decide +kernel⟩ rfl MH_o rfl dX5_work_139 rfl rfl ?_
                  rintro v h' sz' ⟨rfl, rfl, rfl⟩ - -
                  rw [e6 hjF]
                  dsimp only [stk]
                  refine r_iload (n := 144) C dX5_work_142 rfl rfl ?_
                  refine r_icmp_ge (t := 157) (n := 147) C dX5_work_144 (by decide) rfl (fun c_144 => ?_) (fun c_144 => ?_)
                  · refine r_iload (n := 159) C dX5_work_157 rfl rfl ?_
                    exact hstep _ hjF (by omega)
                  · refine r_aload_n (n := 148) C dX5_work_147 rfl rfl rfl ?_
                    refine r_iload_n (n := 149) C dX5_work_148 rfl rfl rfl ?_
                    refine r_iload_n (n := 150) C dX5_work_149 rfl rfl rfl ?_
                    refine r_iload_n (n := 151) C dX5_work_150 rfl rfl rfl ?_
                    refine r_callV (n := 154) (n0 := 3) (ci := 5) C (ct_mcostOf (xL x) g o F2 A6 r sz n i j (by omega) (by omega) (by omega)) (lw_V q964 q966 qs28 q48 q967) ⟨by decide, by decide, by decide +kernel⟩ rfl MH_o rfl dX5_work_151 rfl rfl ?_
                    rintro v h' sz' ⟨rfl, rfl, rfl⟩ - -
                    rw [e6 hjF]
                    dsimp only [stk]
                    refine r_goto (n := 159) C dX5_work_154 (by decide) ?_
                    exact hstep _ hjF (by omega)
              have hA51 : A5 1 n.toNat = 3 := by rw [hA5 1 (by decide), ← hA2 1 (by decide)]; exact hk3
              refine r_iload_n (n := 82) C dX5_work_81 rfl rfl rfl ?_
              refine r_aload_n (n := 83) C dX5_work_82 rfl rfl rfl ?_
              refine r_get (n := 86) (ci := 5) (k := 19) C in_X5 rfl (by decide) q803 rfl dX5_work_83 rfl MH_o rfl ?_
              rw [f19]
              refine r_icmp_gt (t := 172) (n := 89) C dX5_work_86 (by decide) rfl (fun c_86 => ?_) (fun c_86 => ?_)
              · refine V.ls (k172 A5 hA5 ?_) ⟨rfl, rfl, trivial⟩
                have := Cok_node (A' := A5) (hWA A2 hA2).1 hN2 hC2' hP2 (fun q hq => by rw [hA5 q hq, hA2 q hq]) hm5 (fun a b q1 q2 => by rw [if_pos hk3, hP5 a b q1 q2, if_pos (by omega)])
                rw [show ((n.toNat : Nat) : Int) = n by omega] at this
                exact this
              · refine r_aload_n (n := 90) C dX5_work_89 rfl rfl rfl ?_
                refine r_get (n := 93) (ci := 5) (k := 3) C in_X5 rfl (by decide) q787 rfl dX5_work_90 rfl MH_o rfl ?_
                refine r_iload_n (n := 94) C dX5_work_93 rfl rfl rfl ?_
                refine r_iaload (n := 95) (N := 24) C dX5_work_94 rfl (MH_a 1 (by decide)) ?_
                rw [hA51]
                refine r_iconst (n := 96) C dX5_work_95 rfl ?_
                refine r_icmp_ne (t := 172) (n := 99) C dX5_work_96 (by decide) rfl (fun c_96 => ?_) (fun c_96 => ?_)
                · exfalso; omega
                · refine r_iload_n (n := 100) C dX5_work_99 rfl rfl rfl ?_
                  refine r_istore_n (n := 101) C dX5_work_100 rfl rfl ?_
                  refine V.ls (k101 i A5 ⟨by omega, by omega, by omega, hA5, hm5, ?_⟩) ⟨rfl, rfl, rfl, rfl, trivial⟩
                  intro a b q1 q2
                  rw [hP5 a b q1 q2]
                  by_cases h8 : a < i.toNat ∨ (a = i.toNat ∧ b < 0)
                  · rw [if_pos h8, if_pos (by omega)]
                  · rw [if_neg h8, if_neg (by omega)]
            refine r_iconst (n := 80) C dX5_work_79 rfl ?_
            refine r_istore_n (n := 81) C dX5_work_80 rfl rfl ?_
            exact V.ls (k81 0 A2 ⟨by omega, by omega, hA2, fun _ _ _ _ _ _ => rfl, fun a b q1 q2 => by rw [if_neg (by omega)]⟩) ⟨rfl, rfl, rfl, trivial⟩
          · have hC5 : Cok F A2 (n + 1) := by
              have := Cok_node (hWA A2 hA2).1 hN2 hC2' hP2 (fun _ _ => rfl) (fun _ _ _ _ _ _ => rfl) (fun i j q1 q2 => by rw [if_neg hk3])
              rw [show ((n.toNat : Nat) : Int) = n by omega] at this
              exact this
            have hkr := hN2 n.toNat (Nat.le_refl _)
            refine r_iconst (n := 80) C dX5_work_79 rfl ?_
            refine r_istore_n (n := 81) C dX5_work_80 rfl rfl ?_
            refine r_iload_n (n := 82) C dX5_work_81 rfl rfl rfl ?_
            refine r_aload_n (n := 83) C dX5_work_82 rfl rfl rfl ?_
            refine r_get (n := 86) (ci := 5) (k := 19) C in_X5 rfl (by decide) q803 rfl dX5_work_83 rfl MH_o rfl ?_
            refine r_icmp_gt (t := 172) (n := 89) C dX5_work_86 (by decide) rfl (fun c_86 => ?_) (fun c_86 => ?_)
            · exfalso; omega
            · refine r_aload_n (n := 90) C dX5_work_89 rfl rfl rfl ?_
              refine r_get (n := 93) (ci := 5) (k := 3) C in_X5 rfl (by decide) q787 rfl dX5_work_90 rfl MH_o rfl ?_
              refine r_iload_n (n := 94) C dX5_work_93 rfl rfl rfl ?_
              refine r_iaload (n := 95) (N := 24) C dX5_work_94 rfl (MH_a 1 (by decide)) ?_
              refine r_iconst (n := 96) C dX5_work_95 rfl ?_
              refine r_icmp_ne (t := 172) (n := 99) C dX5_work_96 (by decide) rfl (fun c_96 => ?_) (fun c_96 => ?_) (by have := hkr.1; have := hkr.2.1; omega)
              · exact V.ls (k172 A2 hA2 hC5) ⟨rfl, rfl, trivial⟩
              · exact absurd c_96 hk3
        have k25 : ∀ (i : Int) (A2 : Nat → Nat → Int), (0 ≤ i ∧ i ≤ F 19 + 1 ∧ (∀ q, q ≠ 10 → A2 q = A q) ∧ Cok F A2 n ∧ P1 F A2 n.toNat i.toNat 0) → V x g h0 Q (MH g o F2 A2 r) sz 0 0 25 [some (.ref o), some (vI n), some (vI i), none, none] [] := by
          refine lpv2 _ _ (fun i _ => (F 19 + 1 - i).toNat) ?_
          rintro i A2 ⟨hi0, hi, hA2, hC2, hP2⟩ ih2
          have k35 : ∀ (j : Int) (A3 : Nat → Nat → Int), (i ≤ j ∧ j ≤ F 19 + 1 ∧ i ≤ F 19 ∧ (∀ q, q ≠ 10 → A3 q = A q) ∧ Cok F A3 n ∧ P1 F A3 n.toNat i.toNat j.toNat) → V x g h0 Q (MH g o F2 A3 r) sz 0 0 35 [some (.ref o), some (vI n), some (vI i), some (vI j), none] [] := by
            refine lpv2 _ _ (fun j _ => (F 19 + 1 - j).toNat) ?_
            rintro j A3 ⟨hj0, hj, hiF, hA3, hC3, hP3⟩ ih3
            obtain ⟨hW3, hW3', hN3', hofc⟩ := hWA A3 hA3
            refine r_iload_n (n := 36) C dX5_work_35 rfl rfl rfl ?_
            refine r_aload_n (n := 37) C dX5_work_36 rfl rfl rfl ?_
            refine r_get (n := 40) (ci := 5) (k := 19) C in_X5 rfl (by decide) q803 rfl dX5_work_37 rfl MH_o rfl ?_
            rw [f19]
            refine r_icmp_gt (t := 73) (n := 43) C dX5_work_40 (by decide) rfl (fun c_40 => ?_) (fun c_40 => ?_)
            · have hjj : j = F 19 + 1 := by omega
              refine r_iinc (n := 76) C dX5_work_73 rfl rfl ?_
              refine r_goto (n := 25) C dX5_work_76 (by decide) ?_
              refine V.ls (ih2 (i + 1) A3 ⟨by omega, by omega, hA3, hC3, ?_⟩ (by omega)) ⟨rfl, rfl, rfl, trivial⟩
              intro a b q1 q2 q3
              exact hP3 a b q1 q2 (by omega)
            · refine r_aload_n (n := 44) C dX5_work_43 rfl rfl rfl ?_
              refine r_get (n := 47) (ci := 5) (k := 22) C in_X5 rfl (by decide) q806 rfl dX5_work_44 rfl MH_o rfl ?_
              refine r_sipush (n := 50) C dX5_work_47 (by decide) rfl ?_
              refine r_iload_n (n := 51) C dX5_work_50 rfl rfl rfl ?_
              refine r_imul (n := 52) C dX5_work_51 rfl ?_
              refine r_bipush (n := 54) C dX5_work_52 (by decide) rfl ?_
              refine r_iload_n (n := 55) C dX5_work_54 rfl rfl rfl ?_
              refine r_imul (n := 56) C dX5_work_55 rfl ?_
              refine r_iadd (n := 57) C dX5_work_56 rfl ?_
              refine r_iload_n (n := 58) C dX5_work_57 rfl rfl rfl ?_
              refine r_iadd (n := 59) C dX5_work_58 rfl ?_
              refine r_aload_n (n := 60) C dX5_work_59 rfl rfl rfl ?_
              refine r_iload_n (n := 61) C dX5_work_60 rfl rfl rfl ?_
              refine r_iload_n (n := 62) C dX5_work_61 rfl rfl rfl ?_
              refine r_iload_n (n := 63) C dX5_work_62 rfl rfl rfl ?_
              refine r_callV (n := 66) (n0 := 3) (ci := 5) C (ct_ofNode (xL x) g o F2 A3 r sz n i j hW3' hN3' (by omega) (by omega) (by omega) (by omega) (fun m hm a b q0 q1 q2 => (hC3 m (by omega)).2 a b q1 (by omega)) (fun k q1 q2 => (hP3 i.toNat k (by omega) (by omega) (by omega)).2)) (lw_V q951 q953 qs25 q48 q954) ⟨by decide, by decide, by decide +kernel⟩ rfl MH_o rfl dX5_work_63 rfl rfl ?_
              rintro v h' sz' ⟨rfl, rfl, rfl⟩ - -
              dsimp only [stk]
              refine r_mast (n := 67) (j := 10) (N := 15000) C dX5_work_66 rfl rfl (by decide) ?_
              refine r_iinc (n := 70) C dX5_work_67 rfl rfl ?_
              refine r_goto (n := 35) C dX5_work_70 (by decide) ?_
              rw [show (625 * n + 25 * i + j).toNat = 625 * n.toNat + 25 * i.toNat + j.toNat by omega, hofc]
              have hst := P1_step (j := j.toNat) hW3 (fun m hm => hNA A3 hA3 m (by omega)) (by omega) (by omega) (show Cok F A3 ((n.toNat : Nat) : Int) by rw [show ((n.toNat : Nat) : Int) = n by omega]; exact hC3) hP3
              refine ih3 (j + 1) _ ⟨by omega, by omega, by omega, ?_, ?_, ?_⟩ (by omega)
              · intro q hq
                rw [va_up_ne _ _ hq]
                exact hA3 q hq
              · have := hst.1
                rw [show ((n.toNat : Nat) : Int) = n by omega] at this
                exact this
              · rw [show (j + 1).toNat = j.toNat + 1 by omega]
                exact hst.2
          refine r_iload_n (n := 26) C dX5_work_25 rfl rfl rfl ?_
          refine r_aload_n (n := 27) C dX5_work_26 rfl rfl rfl ?_
          refine r_get (n := 30) (ci := 5) (k := 19) C in_X5 rfl (by decide) q803 rfl dX5_work_27 rfl MH_o rfl ?_
          rw [f19]
          refine r_icmp_gt (t := 79) (n := 33) C dX5_work_30 (by decide) rfl (fun c_30 => ?_) (fun c_30 => ?_)
          · refine V.ls (k79 A2 hA2 hC2 ?_) ⟨rfl, rfl, trivial⟩
            intro a b q1 q2 q3
            exact hP2 a b q1 q2 (by omega)
          · refine r_iload_n (n := 34) C dX5_work_33 rfl rfl rfl ?_
            refine r_istore_n (n := 35) C dX5_work_34 rfl rfl ?_
            exact V.ls (k35 i A2 ⟨by omega, by omega, by omega, hA2, hC2, fun a b q1 q2 q3 => hP2 a b q1 q2 (by omega)⟩) ⟨rfl, rfl, rfl, rfl, trivial⟩
        refine r_iload_n (n := 16) C dX5_work_15 rfl rfl rfl ?_
        refine r_aload_n (n := 17) C dX5_work_16 rfl rfl rfl ?_
        refine r_get (n := 20) (ci := 5) (k := 2) C in_X5 rfl (by decide) q786 rfl dX5_work_17 rfl MH_o rfl ?_
        rw [f2]
        refine r_icmp_ge (t := 178) (n := 23) C dX5_work_20 (by decide) rfl (fun c_20 => ?_) (fun c_20 => ?_)
        · exfalso; omega
        · refine r_iconst (n := 24) C dX5_work_23 rfl ?_
          refine r_istore_n (n := 25) C dX5_work_24 rfl rfl ?_
          exact V.ls (k25 0 A1 ⟨by omega, by omega, hA1, hC1, fun a b q1 q2 q3 => by omega⟩) ⟨rfl, rfl, rfl, trivial⟩
      · skip
        refine r_iload_n (n := 16) C dX5_work_15 rfl rfl rfl ?_
        refine r_aload_n (n := 17) C dX5_work_16 rfl rfl rfl ?_
        refine r_get (n := 20) (ci := 5) (k := 2) C in_X5 rfl (by decide) q786 rfl dX5_work_17 rfl MH_o rfl ?_
        rw [f2]
        refine r_icmp_ge (t := 178) (n := 23) C dX5_work_20 (by decide) rfl (fun c_20 => ?_) (fun c_20 => ?_)
        · refine r_return C hQ dX5_work_178 ?_
          refine ⟨F2, A1, rfl, rfl, rfl, hF2, hA1, ?_⟩
          rw [show F 2 = n by omega]
          exact hC1
        · exfalso; omega
    refine r_aload_n (n := 1) C dX5_work_0 rfl rfl rfl ?_
    refine r_get (n := 4) (ci := 5) (k := 21) C in_X5 rfl (by decide) q805 rfl dX5_work_1 rfl MH_o rfl ?_
    refine r_if_eq (t := 8) (n := 7) C dX5_work_4 (by decide) rfl (fun c_4 => ?_) (fun c_4 => ?_)
    · refine r_aload_n (n := 9) C dX5_work_8 rfl rfl rfl ?_
      refine r_iconst (n := 10) C dX5_work_9 rfl ?_
      refine r_mput (n := 13) (ty := .boolean) (k := 21) C (by decide) q805 rfl rfl (by decide +kernel) rfl rfl dX5_work_10 rfl rfl ?_
      refine r_iconst (n := 14) C dX5_work_13 rfl ?_
      refine r_istore_n (n := 15) C dX5_work_14 rfl rfl ?_
      rw [← hF2]
      exact V.ls (k15 0 A ⟨by omega, by omega, fun _ _ => rfl, fun m hm => by omega⟩) ⟨rfl, rfl, trivial⟩
    · exfalso; omega
  · skip
    refine r_aload_n (n := 1) C dX5_work_0 rfl rfl rfl ?_
    refine r_get (n := 4) (ci := 5) (k := 21) C in_X5 rfl (by decide) q805 rfl dX5_work_1 rfl MH_o rfl ?_
    refine r_if_eq (t := 8) (n := 7) C dX5_work_4 (by decide) rfl (fun c_4 => ?_) (fun c_4 => ?_)
    · exfalso; omega
    · refine r_return C hQ dX5_work_7 ?_
      refine ⟨F, A, rfl, rfl, rfl, ?_, fun _ _ => rfl, hC⟩
      funext q
      unfold va_up
      split
      · rename_i h9; rw [h9, hk]
      · rfl
