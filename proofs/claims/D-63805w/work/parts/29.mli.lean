/-! the model: the dictionary -/
/-- word w's letters -/
abbrev wdM (A : Nat → Nat → Int) (w : Nat) : Nat → Int := fun k => A 12 (12 * w + k)
abbrev stM (A : Nat → Nat → Int) : Nat → Nat → Int := fun p q => A 13 (25 * p + q)
/-- words, text -/
def Dok (F : Nat → Int) (A : Nat → Nat → Int) : Prop := (0 ≤ F 19 ∧ F 19 ≤ 24) ∧ (0 ≤ F 25 ∧ F 25 ≤ 20) ∧ (∀ p : Nat, (p : Int) < F 19 → 0 ≤ A 9 p ∧ A 9 p ≤ 122) ∧ ∀ w : Nat, (w : Int) < F 25 → (0 ≤ A 11 w ∧ A 11 w ≤ 12) ∧ ∀ k : Nat, (k : Int) < A 11 w → 0 ≤ wdM A w k ∧ wdM A w k ≤ 122
theorem ct_mstep (l : Launch) (g : GG) (o : Nat) (F : Nat → Int) (A : Nat → Nat → Int) (r : HM) (sz : Nat) (w p q ex : Int) (hex : ex = 0 ∨ ex = 1) (hD : Dok F A) (hw : 0 ≤ w ∧ w < F 25) (hp : 0 ≤ p ∧ p ≤ A 11 w.toNat) (hq : 0 ≤ q ∧ q ≤ F 19) (hs : ∀ p' q' : Nat, p' ≤ p → q' ≤ q → (p' < p ∨ q' < q) → 0 ≤ stM A p' q' ∧ stM A p' q' ≤ 100) : RT l yX5_step cX5_step 8 (some .int) 0 [.ref o, vI w, vI p, vI q, vI ex] g (MH g o F A r) sz (fun v => v = some (vI (stD ex (wdM A w.toNat) (A 9) (stM A) p.toNat q.toNat))) := by
  obtain ⟨h19, h25, htx, hwd⟩ := hD
  obtain ⟨hsz, hle⟩ := hwd w.toNat (by omega)
  refine CT.of (lo := [some (.ref o), some (vI w), some (vI p), some (vI q), some (vI ex), none, none, none]) (by decide) (by simp [Value.category]) (Nat.le_of_ble_eq_true rfl) rfl ?_
  intro x h0 Q C hQ hl hni
  have k257 : ∀ b : Int, b = stD ex (wdM A w.toNat) (A 9) (stM A) p.toNat q.toNat → V x g h0 Q (MH g o F A r) sz 0 0 257 [some (.ref o), some (vI w), some (vI p), some (vI q), some (vI ex), some (vI b), some (vI (12 * w + p - 1)), none] [] := by
    intro b hb
    refine r_iload (n := 259) C dX5_step_257 rfl rfl ?_
    refine r_ireturn C hQ dX5_step_259 ?_
    exact ⟨rfl, rfl, by rw [hb]⟩
  have k168 : ∀ b : Int, (0 ≤ b ∧ b ≤ 1000) → s4D ex (wdM A w.toNat) (A 9) (stM A) p.toNat q.toNat b = stD ex (wdM A w.toNat) (A 9) (stM A) p.toNat q.toNat → V x g h0 Q (MH g o F A r) sz 0 0 168 [some (.ref o), some (vI w), some (vI p), some (vI q), some (vI ex), some (vI b), some (vI (12 * w + p - 1)), none] [] := by
    intro b hbr hb
    unfold s4D at hb
    refine r_iload (n := 170) C dX5_step_168 rfl rfl ?_
    refine r_if_eq (t := 257) (n := 173) C dX5_step_170 (by decide) rfl (fun c_170 => ?_) (fun c_170 => ?_)
    · refine V.ls (k257 _ ?_) ⟨rfl, rfl, rfl, rfl, rfl, rfl, rfl, trivial⟩
      first
        | (rw [if_neg (by omega)] at hb; exact hb)
        | (rw [if_pos ⟨by omega, by omega, by omega, by assumption, by assumption⟩] at hb; rw [← hb]; omega)
    · refine r_iload_n (n := 174) C dX5_step_173 rfl rfl rfl ?_
      refine r_iconst (n := 175) C dX5_step_174 rfl ?_
      refine r_icmp_le (t := 257) (n := 178) C dX5_step_175 (by decide) rfl (fun c_175 => ?_) (fun c_175 => ?_)
      · refine V.ls (k257 _ ?_) ⟨rfl, rfl, rfl, rfl, rfl, rfl, rfl, trivial⟩
        first
          | (rw [if_neg (by omega)] at hb; exact hb)
          | (rw [if_pos ⟨by omega, by omega, by omega, by assumption, by assumption⟩] at hb; rw [← hb]; omega)
      · refine r_iload_n (n := 179) C dX5_step_178 rfl rfl rfl ?_
        refine r_iconst (n := 180) C dX5_step_179 rfl ?_
        refine r_icmp_le (t := 257) (n := 183) C dX5_step_180 (by decide) rfl (fun c_180 => ?_) (fun c_180 => ?_)
        · refine V.ls (k257 _ ?_) ⟨rfl, rfl, rfl, rfl, rfl, rfl, rfl, trivial⟩
          first
            | (rw [if_neg (by omega)] at hb; exact hb)
            | (rw [if_pos ⟨by omega, by omega, by omega, by assumption, by assumption⟩] at hb; rw [← hb]; omega)
        · have l1 := hle (p - 1).toNat (by omega)
          have l2 := hle (p - 2).toNat (by omega)
          have t1 := htx (q - 1).toNat (by omega)
          have t2 := htx (q - 2).toNat (by omega)
          have hd := hs (p - 2).toNat (q - 2).toNat (by omega) (by omega) (by omega)
          rw [show p.toNat - 1 = (p - 1).toNat by omega, show p.toNat - 2 = (p - 2).toNat by omega, show q.toNat - 1 = (q - 1).toNat by omega, show q.toNat - 2 = (q - 2).toNat by omega] at hb
          simp only [wdM, stM] at hb l1 l2 hd
          refine r_aload_n (n := 184) C dX5_step_183 rfl rfl rfl ?_
          refine r_get (n := 187) (ci := 5) (k := 27) C in_X5 rfl (by decide) q811 rfl dX5_step_184 rfl MH_o rfl ?_
          refine r_iload (n := 189) C dX5_step_187 rfl rfl ?_
          refine r_iaload (n := 190) (N := 240) C dX5_step_189 rfl (MH_a 12 (by decide)) ?_
          rw [show (12 * w + p - 1).toNat = 12 * w.toNat + (p - 1).toNat by omega]
          refine r_aload_n (n := 191) C dX5_step_190 rfl rfl rfl ?_
          refine r_get (n := 194) (ci := 5) (k := 20) C in_X5 rfl (by decide) q804 rfl dX5_step_191 rfl MH_o rfl ?_
          refine r_iload_n (n := 195) C dX5_step_194 rfl rfl rfl ?_
          refine r_iconst (n := 196) C dX5_step_195 rfl ?_
          refine r_isub (n := 197) C dX5_step_196 rfl ?_
          refine r_iaload (n := 198) (N := 24) C dX5_step_197 rfl (MH_a 9 (by decide)) ?_
          refine r_icmp_ne (t := 257) (n := 201) C dX5_step_198 (by decide) rfl (fun c_198 => ?_) (fun c_198 => ?_)
          · refine V.ls (k257 _ ?_) ⟨rfl, rfl, rfl, rfl, rfl, rfl, rfl, trivial⟩
            first
              | (rw [if_neg (by omega)] at hb; exact hb)
              | (rw [if_pos ⟨by omega, by omega, by omega, by assumption, by assumption⟩] at hb; rw [← hb]; omega)
          · refine r_aload_n (n := 202) C dX5_step_201 rfl rfl rfl ?_
            refine r_get (n := 205) (ci := 5) (k := 27) C in_X5 rfl (by decide) q811 rfl dX5_step_202 rfl MH_o rfl ?_
            refine r_iload (n := 207) C dX5_step_205 rfl rfl ?_
            refine r_iconst (n := 208) C dX5_step_207 rfl ?_
            refine r_isub (n := 209) C dX5_step_208 rfl ?_
            refine r_iaload (n := 210) (N := 240) C dX5_step_209 rfl (MH_a 12 (by decide)) ?_
            rw [show (12 * w + p - 1 - 1).toNat = 12 * w.toNat + (p - 2).toNat by omega]
            refine r_aload_n (n := 211) C dX5_step_210 rfl rfl rfl ?_
            refine r_get (n := 214) (ci := 5) (k := 20) C in_X5 rfl (by decide) q804 rfl dX5_step_211 rfl MH_o rfl ?_
            refine r_iload_n (n := 215) C dX5_step_214 rfl rfl rfl ?_
            refine r_iconst (n := 216) C dX5_step_215 rfl ?_
            refine r_isub (n := 217) C dX5_step_216 rfl ?_
            refine r_iaload (n := 218) (N := 24) C dX5_step_217 rfl (MH_a 9 (by decide)) ?_
            refine r_icmp_ne (t := 257) (n := 221) C dX5_step_218 (by decide) rfl (fun c_218 => ?_) (fun c_218 => ?_)
            · refine V.ls (k257 _ ?_) ⟨rfl, rfl, rfl, rfl, rfl, rfl, rfl, trivial⟩
              first
                | (rw [if_neg (by omega)] at hb; exact hb)
                | (rw [if_pos ⟨by omega, by omega, by omega, by assumption, by assumption⟩] at hb; rw [← hb]; omega)
            · refine r_aload_n (n := 222) C dX5_step_221 rfl rfl rfl ?_
              refine r_get (n := 225) (ci := 5) (k := 28) C in_X5 rfl (by decide) q812 rfl dX5_step_222 rfl MH_o rfl ?_
              refine r_bipush (n := 227) C dX5_step_225 (by decide) rfl ?_
              refine r_iload_n (n := 228) C dX5_step_227 rfl rfl rfl ?_
              refine r_imul (n := 229) C dX5_step_228 rfl ?_
              refine r_bipush (n := 231) C dX5_step_229 (by decide) rfl ?_
              refine r_isub (n := 232) C dX5_step_231 rfl ?_
              refine r_iload_n (n := 233) C dX5_step_232 rfl rfl rfl ?_
              refine r_iadd (n := 234) C dX5_step_233 rfl ?_
              refine r_iconst (n := 235) C dX5_step_234 rfl ?_
              refine r_isub (n := 236) C dX5_step_235 rfl ?_
              refine r_iaload (n := 237) (N := 325) C dX5_step_236 rfl (MH_a 13 (by decide)) ?_
              rw [show (25 * p - 50 + q - 2).toNat = 25 * (p - 2).toNat + (q - 2).toNat by omega]
              refine r_iconst (n := 238) C dX5_step_237 rfl ?_
              refine r_iadd (n := 239) C dX5_step_238 rfl ?_
              refine r_istore (n := 241) C dX5_step_239 rfl ?_
              refine r_iload (n := 243) C dX5_step_241 rfl rfl ?_
              refine r_iload (n := 245) C dX5_step_243 rfl rfl ?_
              refine r_icmp_ge (t := 253) (n := 248) C dX5_step_245 (by decide) rfl (fun c_245 => ?_) (fun c_245 => ?_)
              · refine r_iload (n := 255) C dX5_step_253 rfl rfl ?_
                refine r_istore (n := 257) C dX5_step_255 rfl ?_
                refine V.ls (k257 _ ?_) ⟨rfl, rfl, rfl, rfl, rfl, rfl, rfl, trivial⟩
                first
                  | (rw [if_neg (by omega)] at hb; exact hb)
                  | (rw [if_pos ⟨by omega, by omega, by omega, by assumption, by assumption⟩] at hb; rw [← hb]; omega)
              · refine r_iload (n := 250) C dX5_step_248 rfl rfl ?_
                refine r_goto (n := 255) C dX5_step_250 (by decide) ?_
                refine r_istore (n := 257) C dX5_step_255 rfl ?_
                refine V.ls (k257 _ ?_) ⟨rfl, rfl, rfl, rfl, rfl, rfl, rfl, trivial⟩
                first
                  | (rw [if_neg (by omega)] at hb; exact hb)
                  | (rw [if_pos ⟨by omega, by omega, by omega, by assumption, by assumption⟩] at hb; rw [← hb]; omega)
  have k102 : ∀ b : Int, (0 ≤ b ∧ b ≤ 1000) → s4D ex (wdM A w.toNat) (A 9) (stM A) p.toNat q.toNat (s3D (wdM A w.toNat) (A 9) (stM A) p.toNat q.toNat b) = stD ex (wdM A w.toNat) (A 9) (stM A) p.toNat q.toNat → V x g h0 Q (MH g o F A r) sz 0 0 102 [some (.ref o), some (vI w), some (vI p), some (vI q), some (vI ex), some (vI b), some (vI (12 * w + p - 1)), none] [] := by
    intro b hbr hb
    have k150 : ∀ z : Int, (0 ≤ z ∧ z ≤ 101) → min b z = s3D (wdM A w.toNat) (A 9) (stM A) p.toNat q.toNat b → V x g h0 Q (MH g o F A r) sz 0 0 150 [some (.ref o), some (vI w), some (vI p), some (vI q), some (vI ex), some (vI b), some (vI (12 * w + p - 1)), none] [vI z] := by
      intro z hzr hz
      rw [← hz] at hb
      refine r_istore (n := 152) C dX5_step_150 rfl ?_
      refine r_iload (n := 154) C dX5_step_152 rfl rfl ?_
      refine r_iload (n := 156) C dX5_step_154 rfl rfl ?_
      refine r_icmp_ge (t := 164) (n := 159) C dX5_step_156 (by decide) rfl (fun c_156 => ?_) (fun c_156 => ?_)
      · refine r_iload (n := 166) C dX5_step_164 rfl rfl ?_
        refine r_istore (n := 168) C dX5_step_166 rfl ?_
        refine V.ls (k168 (min b z) (by omega) hb) ⟨rfl, rfl, rfl, rfl, rfl, ?_, rfl, trivial⟩
        refine congrArg some (congrArg vI ?_)
        omega
      · refine r_iload (n := 161) C dX5_step_159 rfl rfl ?_
        refine r_goto (n := 166) C dX5_step_161 (by decide) ?_
        refine r_istore (n := 168) C dX5_step_166 rfl ?_
        refine V.ls (k168 (min b z) (by omega) hb) ⟨rfl, rfl, rfl, rfl, rfl, ?_, rfl, trivial⟩
        refine congrArg some (congrArg vI ?_)
        omega
    unfold s3D at hb k150
    refine r_iload_n (n := 103) C dX5_step_102 rfl rfl rfl ?_
    refine r_if_le (t := 168) (n := 106) C dX5_step_103 (by decide) rfl (fun c_103 => ?_) (fun c_103 => ?_)
    · refine V.ls (k168 b hbr ?_) ⟨rfl, rfl, rfl, rfl, rfl, rfl, rfl, trivial⟩
      rw [if_neg (by omega)] at hb
      exact hb
    · refine r_iload_n (n := 107) C dX5_step_106 rfl rfl rfl ?_
      refine r_if_le (t := 168) (n := 110) C dX5_step_107 (by decide) rfl (fun c_107 => ?_) (fun c_107 => ?_)
      · refine V.ls (k168 b hbr ?_) ⟨rfl, rfl, rfl, rfl, rfl, rfl, rfl, trivial⟩
        rw [if_neg (by omega)] at hb
        exact hb
      · have l1 := hle (p - 1).toNat (by omega)
        have t1 := htx (q - 1).toNat (by omega)
        have hd := hs (p - 1).toNat (q - 1).toNat (by omega) (by omega) (by omega)
        rw [if_pos (by omega), show p.toNat - 1 = (p - 1).toNat by omega, show q.toNat - 1 = (q - 1).toNat by omega] at k150
        simp only [wdM, stM] at k150 l1 hd
        refine r_aload_n (n := 111) C dX5_step_110 rfl rfl rfl ?_
        refine r_get (n := 114) (ci := 5) (k := 28) C in_X5 rfl (by decide) q812 rfl dX5_step_111 rfl MH_o rfl ?_
        refine r_bipush (n := 116) C dX5_step_114 (by decide) rfl ?_
        refine r_iload_n (n := 117) C dX5_step_116 rfl rfl rfl ?_
        refine r_imul (n := 118) C dX5_step_117 rfl ?_
        refine r_bipush (n := 120) C dX5_step_118 (by decide) rfl ?_
        refine r_isub (n := 121) C dX5_step_120 rfl ?_
        refine r_iload_n (n := 122) C dX5_step_121 rfl rfl rfl ?_
        refine r_iadd (n := 123) C dX5_step_122 rfl ?_
        refine r_iconst (n := 124) C dX5_step_123 rfl ?_
        refine r_isub (n := 125) C dX5_step_124 rfl ?_
        refine r_iaload (n := 126) (N := 325) C dX5_step_125 rfl (MH_a 13 (by decide)) ?_
        rw [show (25 * p - 25 + q - 1).toNat = 25 * (p - 1).toNat + (q - 1).toNat by omega]
        refine r_aload_n (n := 127) C dX5_step_126 rfl rfl rfl ?_
        refine r_get (n := 130) (ci := 5) (k := 27) C in_X5 rfl (by decide) q811 rfl dX5_step_127 rfl MH_o rfl ?_
        refine r_iload (n := 132) C dX5_step_130 rfl rfl ?_
        refine r_iaload (n := 133) (N := 240) C dX5_step_132 rfl (MH_a 12 (by decide)) ?_
        rw [show (12 * w + p - 1).toNat = 12 * w.toNat + (p - 1).toNat by omega]
        refine r_aload_n (n := 134) C dX5_step_133 rfl rfl rfl ?_
        refine r_get (n := 137) (ci := 5) (k := 20) C in_X5 rfl (by decide) q804 rfl dX5_step_134 rfl MH_o rfl ?_
        refine r_iload_n (n := 138) C dX5_step_137 rfl rfl rfl ?_
        refine r_iconst (n := 139) C dX5_step_138 rfl ?_
        refine r_isub (n := 140) C dX5_step_139 rfl ?_
        refine r_iaload (n := 141) (N := 24) C dX5_step_140 rfl (MH_a 9 (by decide)) ?_
        refine r_icmp_ne (t := 148) (n := 144) C dX5_step_141 (by decide) rfl (fun c_141 => ?_) (fun c_141 => ?_)
        · refine r_iconst (n := 149) C dX5_step_148 rfl ?_
          refine r_iadd (n := 150) C dX5_step_149 rfl ?_
          refine k150 _ (by omega) ?_
          first
            | rw [if_pos (by assumption)]
            | rw [if_neg (by assumption)]
        · refine r_iconst (n := 145) C dX5_step_144 rfl ?_
          refine r_goto (n := 149) C dX5_step_145 (by decide) ?_
          refine r_iadd (n := 150) C dX5_step_149 rfl ?_
          refine k150 _ (by omega) ?_
          first
            | rw [if_pos (by assumption)]
            | rw [if_neg (by assumption)]
  have k65 : ∀ b : Int, (0 ≤ b ∧ b ≤ 1000) → s4D ex (wdM A w.toNat) (A 9) (stM A) p.toNat q.toNat (s3D (wdM A w.toNat) (A 9) (stM A) p.toNat q.toNat (s2D (stM A) p.toNat q.toNat b)) = stD ex (wdM A w.toNat) (A 9) (stM A) p.toNat q.toNat → V x g h0 Q (MH g o F A r) sz 0 0 65 [some (.ref o), some (vI w), some (vI p), some (vI q), some (vI ex), some (vI b), some (vI (12 * w + p - 1)), none] [] := by
    intro b hbr hb
    have e2 : s2D (stM A) p.toNat q.toNat b = if 0 < q.toNat then min b (stM A p.toNat (q.toNat - 1) + 1) else b := rfl
    refine r_iload_n (n := 66) C dX5_step_65 rfl rfl rfl ?_
    refine r_if_le (t := 102) (n := 69) C dX5_step_66 (by decide) rfl (fun c_66 => ?_) (fun c_66 => ?_)
    · first
        | (rw [if_neg (by omega)] at e2; exact V.ls (k102 b hbr (by rw [e2] at hb; exact hb)) ⟨rfl, rfl, rfl, rfl, rfl, rfl, rfl, trivial⟩)
        | (rw [e2] at hb
           refine V.ls (k102 _ (by omega) hb) ⟨rfl, rfl, rfl, rfl, rfl, ?_, rfl, trivial⟩
           refine congrArg some (congrArg vI ?_)
           omega)
    · have hd := hs p.toNat (q - 1).toNat (by omega) (by omega) (by omega)
      rw [if_pos (by omega), show q.toNat - 1 = (q - 1).toNat by omega] at e2
      simp only [stM] at e2 hd
      refine r_aload_n (n := 70) C dX5_step_69 rfl rfl rfl ?_
      refine r_get (n := 73) (ci := 5) (k := 28) C in_X5 rfl (by decide) q812 rfl dX5_step_70 rfl MH_o rfl ?_
      refine r_bipush (n := 75) C dX5_step_73 (by decide) rfl ?_
      refine r_iload_n (n := 76) C dX5_step_75 rfl rfl rfl ?_
      refine r_imul (n := 77) C dX5_step_76 rfl ?_
      refine r_iload_n (n := 78) C dX5_step_77 rfl rfl rfl ?_
      refine r_iadd (n := 79) C dX5_step_78 rfl ?_
      refine r_iconst (n := 80) C dX5_step_79 rfl ?_
      refine r_isub (n := 81) C dX5_step_80 rfl ?_
      refine r_iaload (n := 82) (N := 325) C dX5_step_81 rfl (MH_a 13 (by decide)) ?_
      rw [show (25 * p + q - 1).toNat = 25 * p.toNat + (q - 1).toNat by omega]
      refine r_iconst (n := 83) C dX5_step_82 rfl ?_
      refine r_iadd (n := 84) C dX5_step_83 rfl ?_
      refine r_istore (n := 86) C dX5_step_84 rfl ?_
      refine r_iload (n := 88) C dX5_step_86 rfl rfl ?_
      refine r_iload (n := 90) C dX5_step_88 rfl rfl ?_
      refine r_icmp_ge (t := 98) (n := 93) C dX5_step_90 (by decide) rfl (fun c_90 => ?_) (fun c_90 => ?_)
      · refine r_iload (n := 100) C dX5_step_98 rfl rfl ?_
        refine r_istore (n := 102) C dX5_step_100 rfl ?_
        first
          | (rw [if_neg (by omega)] at e2; exact V.ls (k102 b hbr (by rw [e2] at hb; exact hb)) ⟨rfl, rfl, rfl, rfl, rfl, rfl, rfl, trivial⟩)
          | (rw [e2] at hb
             refine V.ls (k102 _ (by omega) hb) ⟨rfl, rfl, rfl, rfl, rfl, ?_, rfl, trivial⟩
             refine congrArg some (congrArg vI ?_)
             omega)
      · refine r_iload (n := 95) C dX5_step_93 rfl rfl ?_
        refine r_goto (n := 100) C dX5_step_95 (by decide) ?_
        refine r_istore (n := 102) C dX5_step_100 rfl ?_
        first
          | (rw [if_neg (by omega)] at e2; exact V.ls (k102 b hbr (by rw [e2] at hb; exact hb)) ⟨rfl, rfl, rfl, rfl, rfl, rfl, rfl, trivial⟩)
          | (rw [e2] at hb
             refine V.ls (k102 _ (by omega) hb) ⟨rfl, rfl, rfl, rfl, rfl, ?_, rfl, trivial⟩
             refine congrArg some (congrArg vI ?_)
             omega)
  have k27 : ∀ b : Int, (0 ≤ b ∧ b ≤ 1000) → b = (if p.toNat = 0 ∧ q.toNat = 0 then 0 else 1000) → V x g h0 Q (MH g o F A r) sz 0 0 27 [some (.ref o), some (vI w), some (vI p), some (vI q), some (vI ex), some (vI b), some (vI (12 * w + p - 1)), none] [] := by
    intro b hbr hb
    have hb2 : s4D ex (wdM A w.toNat) (A 9) (stM A) p.toNat q.toNat (s3D (wdM A w.toNat) (A 9) (stM A) p.toNat q.toNat (s2D (stM A) p.toNat q.toNat (s1D (stM A) p.toNat q.toNat b))) = stD ex (wdM A w.toNat) (A 9) (stM A) p.toNat q.toNat := by
      rw [hb]
      rfl
    have e1 : s1D (stM A) p.toNat q.toNat b = if 0 < p.toNat then min b (stM A (p.toNat - 1) q.toNat + 1) else b := rfl
    refine r_iload_n (n := 28) C dX5_step_27 rfl rfl rfl ?_
    refine r_if_le (t := 65) (n := 31) C dX5_step_28 (by decide) rfl (fun c_28 => ?_) (fun c_28 => ?_)
    · first
        | (rw [if_neg (by omega)] at e1; exact V.ls (k65 b hbr (by rw [e1] at hb2; exact hb2)) ⟨rfl, rfl, rfl, rfl, rfl, rfl, rfl, trivial⟩)
        | (rw [e1] at hb2
           refine V.ls (k65 _ (by omega) hb2) ⟨rfl, rfl, rfl, rfl, rfl, ?_, rfl, trivial⟩
           refine congrArg some (congrArg vI ?_)
           omega)
    · have hd := hs (p - 1).toNat q.toNat (by omega) (by omega) (by omega)
      rw [if_pos (by omega), show p.toNat - 1 = (p - 1).toNat by omega] at e1
      simp only [stM] at e1 hd
      refine r_aload_n (n := 32) C dX5_step_31 rfl rfl rfl ?_
      refine r_get (n := 35) (ci := 5) (k := 28) C in_X5 rfl (by decide) q812 rfl dX5_step_32 rfl MH_o rfl ?_
      refine r_bipush (n := 37) C dX5_step_35 (by decide) rfl ?_
      refine r_iload_n (n := 38) C dX5_step_37 rfl rfl rfl ?_
      refine r_imul (n := 39) C dX5_step_38 rfl ?_
      refine r_bipush (n := 41) C dX5_step_39 (by decide) rfl ?_
      refine r_isub (n := 42) C dX5_step_41 rfl ?_
      refine r_iload_n (n := 43) C dX5_step_42 rfl rfl rfl ?_
      refine r_iadd (n := 44) C dX5_step_43 rfl ?_
      refine r_iaload (n := 45) (N := 325) C dX5_step_44 rfl (MH_a 13 (by decide)) ?_
      rw [show (25 * p - 25 + q).toNat = 25 * (p - 1).toNat + q.toNat by omega]
      refine r_iconst (n := 46) C dX5_step_45 rfl ?_
      refine r_iadd (n := 47) C dX5_step_46 rfl ?_
      refine r_istore (n := 49) C dX5_step_47 rfl ?_
      refine r_iload (n := 51) C dX5_step_49 rfl rfl ?_
      refine r_iload (n := 53) C dX5_step_51 rfl rfl ?_
      refine r_icmp_ge (t := 61) (n := 56) C dX5_step_53 (by decide) rfl (fun c_53 => ?_) (fun c_53 => ?_)
      · refine r_iload (n := 63) C dX5_step_61 rfl rfl ?_
        refine r_istore (n := 65) C dX5_step_63 rfl ?_
        first
          | (rw [if_neg (by omega)] at e1; exact V.ls (k65 b hbr (by rw [e1] at hb2; exact hb2)) ⟨rfl, rfl, rfl, rfl, rfl, rfl, rfl, trivial⟩)
          | (rw [e1] at hb2
             refine V.ls (k65 _ (by omega) hb2) ⟨rfl, rfl, rfl, rfl, rfl, ?_, rfl, trivial⟩
             refine congrArg some (congrArg vI ?_)
             omega)
      · refine r_iload (n := 58) C dX5_step_56 rfl rfl ?_
        refine r_goto (n := 63) C dX5_step_58 (by decide) ?_
        refine r_istore (n := 65) C dX5_step_63 rfl ?_
        first
          | (rw [if_neg (by omega)] at e1; exact V.ls (k65 b hbr (by rw [e1] at hb2; exact hb2)) ⟨rfl, rfl, rfl, rfl, rfl, rfl, rfl, trivial⟩)
          | (rw [e1] at hb2
             refine V.ls (k65 _ (by omega) hb2) ⟨rfl, rfl, rfl, rfl, rfl, ?_, rfl, trivial⟩
             refine congrArg some (congrArg vI ?_)
             omega)
  refine r_iload_n (n := 1) C dX5_step_0 rfl rfl rfl ?_
  refine r_if_ne (t := 12) (n := 4) C dX5_step_1 (by decide) rfl (fun c_1 => ?_) (fun c_1 => ?_)
  · refine r_sipush (n := 15) C dX5_step_12 (by decide) rfl ?_
    refine r_istore (n := 17) C dX5_step_15 rfl ?_
    refine r_bipush (n := 19) C dX5_step_17 (by decide) rfl ?_
    refine r_iload_n (n := 20) C dX5_step_19 rfl rfl rfl ?_
    refine r_imul (n := 21) C dX5_step_20 rfl ?_
    refine r_iload_n (n := 22) C dX5_step_21 rfl rfl rfl ?_
    refine r_iadd (n := 23) C dX5_step_22 rfl ?_
    refine r_iconst (n := 24) C dX5_step_23 rfl ?_
    refine r_isub (n := 25) C dX5_step_24 rfl ?_
    refine r_istore (n := 27) C dX5_step_25 rfl ?_
    refine k27 _ (by omega) ?_
    first | rw [if_pos (by omega)] | rw [if_neg (by omega)]
  · refine r_iload_n (n := 5) C dX5_step_4 rfl rfl rfl ?_
    refine r_if_ne (t := 12) (n := 8) C dX5_step_5 (by decide) rfl (fun c_5 => ?_) (fun c_5 => ?_)
    · refine r_sipush (n := 15) C dX5_step_12 (by decide) rfl ?_
      refine r_istore (n := 17) C dX5_step_15 rfl ?_
      refine r_bipush (n := 19) C dX5_step_17 (by decide) rfl ?_
      refine r_iload_n (n := 20) C dX5_step_19 rfl rfl rfl ?_
      refine r_imul (n := 21) C dX5_step_20 rfl ?_
      refine r_iload_n (n := 22) C dX5_step_21 rfl rfl rfl ?_
      refine r_iadd (n := 23) C dX5_step_22 rfl ?_
      refine r_iconst (n := 24) C dX5_step_23 rfl ?_
      refine r_isub (n := 25) C dX5_step_24 rfl ?_
      refine r_istore (n := 27) C dX5_step_25 rfl ?_
      refine k27 _ (by omega) ?_
      first | rw [if_pos (by omega)] | rw [if_neg (by omega)]
    · refine r_iconst (n := 9) C dX5_step_8 rfl ?_
      refine r_goto (n := 15) C dX5_step_9 (by decide) ?_
      refine r_istore (n := 17) C dX5_step_15 rfl ?_
      refine r_bipush (n := 19) C dX5_step_17 (by decide) rfl ?_
      refine r_iload_n (n := 20) C dX5_step_19 rfl rfl rfl ?_
      refine r_imul (n := 21) C dX5_step_20 rfl ?_
      refine r_iload_n (n := 22) C dX5_step_21 rfl rfl rfl ?_
      refine r_iadd (n := 23) C dX5_step_22 rfl ?_
      refine r_iconst (n := 24) C dX5_step_23 rfl ?_
      refine r_isub (n := 25) C dX5_step_24 rfl ?_
      refine r_istore (n := 27) C dX5_step_25 rfl ?_
      refine k27 _ (by omega) ?_
      first | rw [if_pos (by omega)] | rw [if_neg (by omega)]
