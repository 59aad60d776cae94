/-! DISTANCES: step -/
abbrev xfs (o : Nat) (F : Nat → Int) (P : Option Nat) : List Value := [.ref (o + 1), .ref (o + 20), va_rf P, vI (F 3), vI (F 4), vI (F 5), vI (F 6), vI (F 7), vI (F 8), .ref (o + 24), vI (F 10), .ref (o + 25), .ref (o + 26), .ref (o + 40), .ref (o + 41)]
/-- the rows of distances and what they rest on -/
def DW (g : GG) (h : HM) (o : Nat) (F : Nat → Int) (P : Option Nat) (len ad mi wr : Int) (tf : Nat → Int) (T : Nat → Nat → Int) (pa : Nat → Int) (D : Nat → Nat → Int) : Prop := h o = some (oC 0 (xfs o F P)) ∧ BN g h (o + 1) len ad mi wr tf T ∧ h (o + 25) = some (eI g 12 pa) ∧ h (o + 26) = some (eG g 13 (fun j => some (o + 27 + j))) ∧ (∀ j, j < 13 → h (o + 27 + j) = some (eI g 25 (D j))) ∧ ∀ j : Nat, j < 12 → -1000 ≤ pa j ∧ pa j ≤ 1000
set_option maxHeartbeats 1000000 in
theorem ct_xstep0 (l : Launch) (g : GG) (h : HM) (sz o : Nat) (F : Nat → Int) (P : Option Nat) (len ad mi wr : Int) (tf : Nat → Int) (T : Nat → Nat → Int) (pa : Nat → Int) (D : Nat → Nat → Int) (p : Nat) (ex : Int) (LV : Nat → Nat → Int) (lvs : ∀ p q : Nat, LV (p + 1) (q + 1) = (if ex ≠ 0 ∧ 1 < p + 1 ∧ 1 ≤ q ∧ pa p = tf (q - 1) ∧ pa (p - 1) = tf q then min (min (min (LV p (q + 1) + 1) (LV (p + 1) q + 1)) (LV p q + (if pa p = tf q then 0 else 1))) (LV (p - 1) (q - 1) + 1) else min (min (LV p (q + 1) + 1) (LV (p + 1) q + 1)) (LV p q + (if pa p = tf q then 0 else 1)))) (lv0 : ∀ p : Nat, LV p 0 = p) (lvr : ∀ p q : Nat, 0 ≤ LV p q ∧ LV p q ≤ p + q) (hW : DW g h o F P len ad mi wr tf T pa D) (hp : p < 12) (hex : ex = 0 ∨ ex = 1) (hD1 : ∀ q : Nat, (q : Int) ≤ len → D p q = LV p q) (hD2 : 1 ≤ p → ∀ q : Nat, (q : Int) ≤ len → D (p - 1) q = LV (p - 1) q) : CT l yX0_step cX0_step 8 none 1 0 0 [.ref o, vI ((p + 1 : Nat) : Int), vI ex] g h sz (fun v h' sz' => v = none ∧ sz = sz' ∧ ∃ f', h' = va_up h (o + 27 + (p + 1)) (some (eI g 25 f')) ∧ ∀ q : Nat, (q : Int) ≤ len → f' q = LV (p + 1) q) := by
  obtain ⟨w1, ⟨b1, b2, b3, b4, bl, ba, bm, bw, bt⟩, w3, w4, w5, w6⟩ := hW
  obtain ⟨len, rfl⟩ : ∃ n : Nat, len = (n : Int) := ⟨len.toNat, by omega⟩
  have bA := w5 (p + 1) (by omega)
  have bB := w5 p (by omega)
  have wp := w6 p (by omega)
  refine CT.of (lo := [some (.ref o), some (vI ((p + 1 : Nat) : Int)), some (vI ex), none, none, none, none, none]) (by decide) (by simp [Value.category]) (Nat.le_of_ble_eq_true rfl) rfl ?_
  intro x h0 Q C hQ hl hni
  have nq : ∀ (f1 : Nat → Int) (a : Nat), a ≠ o + 27 + (p + 1) → va_up h (o + 27 + (p + 1)) (some (eI g 25 f1)) a = h a := fun f1 a ha => va_up_ne _ _ ha
  have L : ∀ (n q : Nat) (f1 : Nat → Int), len + 1 - q < n → 1 ≤ q → q ≤ len + 1 → (∀ q' : Nat, q' < q → f1 q' = LV (p + 1) q') → V x g h0 Q (va_up h (o + 27 + (p + 1)) (some (eI g 25 f1))) sz 0 0 24 [some (.ref o), some (vI ((p + 1 : Nat) : Int)), some (vI ex), some (.ref (o + 27 + (p + 1))), some (.ref (o + 27 + p)), some (vI q), none, none] [] := by
    intro n
    induction n with
    | zero => intro q f1 hn; omega
    | succ n ih =>
      intro q f1 hn hq1 hq2 hf
      refine r_iload (n := 26) C dX0_step_24 rfl rfl ?_
      refine r_aload_n (n := 27) C dX0_step_26 rfl rfl rfl ?_
      refine r_get (n := 30) (ci := 0) (k := 0) C in_X0 rfl (by decide) q228 rfl dX0_step_27 rfl ((nq _ _ (by omega)).trans w1) rfl ?_
      refine r_getN (n := 33) (ci := 1) (k := 1) C in_X1 rfl (by decide) q84 rfl dX0_step_30 rfl ((nq _ _ (by omega)).trans b1) rfl ?_
      refine r_icmp_gt (t := 186) (n := 36) C dX0_step_33 (by decide) rfl (fun c_33 => ?_) (fun c_33 => ?_)
      · refine r_return C hQ dX0_step_186 ?_
        exact ⟨rfl, rfl, f1, rfl, fun q' hq' => hf q' (by omega)⟩
      · obtain ⟨m, rfl⟩ : ∃ m, q = m + 1 := ⟨q - 1, by omega⟩
        have hm : m + 1 ≤ len := by omega
        have e1 : (((m + 1 : Nat) : Int) - 1).toNat = m := by omega
        have e2 : (((p + 1 : Nat) : Int) - 1).toNat = p := by omega
        have e3 : (((m + 1 : Nat) : Int)).toNat = m + 1 := by omega
        have e4 : (((m + 1 : Nat) : Int) - 2).toNat = m - 1 := by omega
        have e5 : (((p + 1 : Nat) : Int) - 2).toNat = p - 1 := by omega
        have t1 := bt m (by omega)
        have t2 := bt (m - 1) (by omega)
        have wp2 := w6 (p - 1) (by omega)
        have r1 := lvr p m
        have r2 := lvr p (m + 1)
        have r3 := lvr (p + 1) m
        have r4 := lvr (p - 1) (m - 1)
        have d1 := hD1 m (by omega)
        have d2 := hD1 (m + 1) (by omega)
        have f3 := hf m (by omega)
        have k174 : ∀ z : Int, z = LV (p + 1) (m + 1) → V x g h0 Q (va_up h (o + 27 + (p + 1)) (some (eI g 25 f1))) sz 0 0 174 [some (.ref o), some (vI ((p + 1 : Nat) : Int)), some (vI ex), some (.ref (o + 27 + (p + 1))), some (.ref (o + 27 + p)), some (vI ((m + 1 : Nat) : Int)), none, some (vI z)] [] := by
          intro z hz
          refine r_aload_n (n := 175) C dX0_step_174 rfl rfl rfl ?_
          refine r_iload (n := 177) C dX0_step_175 rfl rfl ?_
          refine r_iload (n := 179) C dX0_step_177 rfl rfl ?_
          refine r_iastore (n := 180) C dX0_step_179 rfl (va_up_self _ _ _) ?_
          rw [bx_uu, e3]
          refine r_iinc (n := 183) C dX0_step_180 rfl rfl ?_
          refine r_goto (n := 24) C dX0_step_183 (by decide) ?_
          refine V.ls (ih (m + 2) _ (by omega) (by omega) (by omega) ?_) ⟨rfl, rfl, rfl, rfl, rfl, congrArg (fun z => some (vI z)) (by omega), trivial⟩
          intro q' hq'
          by_cases e : q' = m + 1
          · rw [e, va_up_self, hz]
          · rw [va_up_ne _ _ e]
            exact hf q' (by omega)
        have k75 : ∀ w : Int, (True → (if pa p = tf m then (0 : Int) else 1) = w) → V x g h0 Q (va_up h (o + 27 + (p + 1)) (some (eI g 25 f1))) sz 0 0 75 [some (.ref o), some (vI ((p + 1 : Nat) : Int)), some (vI ex), some (.ref (o + 27 + (p + 1))), some (.ref (o + 27 + p)), some (vI ((m + 1 : Nat) : Int)), some (vI (tf m)), none] [vI w, vI (LV p m)] := by
          intro w hw
          have hw2 : 0 ≤ w ∧ w ≤ 1 := by
            rw [← hw trivial]
            split <;> omega
          refine r_iadd (n := 76) C dX0_step_75 rfl ?_
          refine r_istore (n := 78) C dX0_step_76 rfl ?_
          refine r_iload (n := 80) C dX0_step_78 rfl rfl ?_
          refine r_aload (n := 82) C dX0_step_80 rfl rfl ?_
          refine r_iload (n := 84) C dX0_step_82 rfl rfl ?_
          refine r_iaload (n := 85) C dX0_step_84 rfl ((nq _ _ (by omega)).trans bB) ?_
          rw [e3, d2]
          refine r_aload_n (n := 86) C dX0_step_85 rfl rfl rfl ?_
          refine r_iload (n := 88) C dX0_step_86 rfl rfl ?_
          refine r_iconst (n := 89) C dX0_step_88 rfl ?_
          refine r_isub (n := 90) C dX0_step_89 rfl ?_
          refine r_iaload (n := 91) C dX0_step_90 rfl (va_up_self _ _ _) ?_
          rw [e1, f3]
          refine r_mmin (n := 94) C q752 q322 q50 q323 dX0_step_91 rfl ?_
          refine r_iconst (n := 95) C dX0_step_94 rfl ?_
          refine r_iadd (n := 96) C dX0_step_95 rfl ?_
          refine r_mmin (n := 99) C q752 q322 q50 q323 dX0_step_96 rfl ?_
          refine r_istore (n := 101) C dX0_step_99 rfl ?_
          refine r_iload_n (n := 102) C dX0_step_101 rfl rfl rfl ?_
          refine r_if_eq (t := 174) (n := 105) C dX0_step_102 (by decide) rfl (fun c_102 => ?_) (fun c_102 => ?_)
          · refine V.ls (k174 _ ?_) ⟨rfl, rfl, rfl, rfl, rfl, rfl, rfl, trivial⟩
            rw [lvs p m, hw trivial]
            first
              | (rw [if_neg (by omega)]; omega)
              | (rw [if_pos (by omega)]; omega)
          · refine r_iload_n (n := 106) C dX0_step_105 rfl rfl rfl ?_
            refine r_iconst (n := 107) C dX0_step_106 rfl ?_
            refine r_icmp_le (t := 174) (n := 110) C dX0_step_107 (by decide) rfl (fun c_107 => ?_) (fun c_107 => ?_)
            · refine V.ls (k174 _ ?_) ⟨rfl, rfl, rfl, rfl, rfl, rfl, rfl, trivial⟩
              rw [lvs p m, hw trivial]
              first
                | (rw [if_neg (by omega)]; omega)
                | (rw [if_pos (by omega)]; omega)
            · refine r_iload (n := 112) C dX0_step_110 rfl rfl ?_
              refine r_iconst (n := 113) C dX0_step_112 rfl ?_
              refine r_icmp_le (t := 174) (n := 116) C dX0_step_113 (by decide) rfl (fun c_113 => ?_) (fun c_113 => ?_)
              · refine V.ls (k174 _ ?_) ⟨rfl, rfl, rfl, rfl, rfl, rfl, rfl, trivial⟩
                rw [lvs p m, hw trivial]
                first
                  | (rw [if_neg (by omega)]; omega)
                  | (rw [if_pos (by omega)]; omega)
              · refine r_aload_n (n := 117) C dX0_step_116 rfl rfl rfl ?_
                refine r_get (n := 120) (ci := 0) (k := 11) C in_X0 rfl (by decide) q239 rfl dX0_step_117 rfl ((nq _ _ (by omega)).trans w1) rfl ?_
                refine r_iload_n (n := 121) C dX0_step_120 rfl rfl rfl ?_
                refine r_iconst (n := 122) C dX0_step_121 rfl ?_
                refine r_isub (n := 123) C dX0_step_122 rfl ?_
                refine r_iaload (n := 124) C dX0_step_123 rfl ((nq _ _ (by omega)).trans w3) ?_
                rw [e2]
                refine r_aload_n (n := 125) C dX0_step_124 rfl rfl rfl ?_
                refine r_get (n := 128) (ci := 0) (k := 0) C in_X0 rfl (by decide) q228 rfl dX0_step_125 rfl ((nq _ _ (by omega)).trans w1) rfl ?_
                refine r_getN (n := 131) (ci := 1) (k := 0) C in_X1 rfl (by decide) q82 rfl dX0_step_128 rfl ((nq _ _ (by omega)).trans b1) rfl ?_
                refine r_iload (n := 133) C dX0_step_131 rfl rfl ?_
                refine r_iconst (n := 134) C dX0_step_133 rfl ?_
                refine r_isub (n := 135) C dX0_step_134 rfl ?_
                refine r_iaload (n := 136) C dX0_step_135 rfl ((nq _ _ (by omega)).trans b2) ?_
                rw [e4]
                refine r_icmp_ne (t := 174) (n := 139) C dX0_step_136 (by decide) rfl (fun c_136 => ?_) (fun c_136 => ?_)
                · refine V.ls (k174 _ ?_) ⟨rfl, rfl, rfl, rfl, rfl, rfl, rfl, trivial⟩
                  rw [lvs p m, hw trivial]
                  first
                    | (rw [if_neg (by omega)]; omega)
                    | (rw [if_pos (by omega)]; omega)
                · refine r_aload_n (n := 140) C dX0_step_139 rfl rfl rfl ?_
                  refine r_get (n := 143) (ci := 0) (k := 11) C in_X0 rfl (by decide) q239 rfl dX0_step_140 rfl ((nq _ _ (by omega)).trans w1) rfl ?_
                  refine r_iload_n (n := 144) C dX0_step_143 rfl rfl rfl ?_
                  refine r_iconst (n := 145) C dX0_step_144 rfl ?_
                  refine r_isub (n := 146) C dX0_step_145 rfl ?_
                  refine r_iaload (n := 147) C dX0_step_146 rfl ((nq _ _ (by omega)).trans w3) ?_
                  rw [e5]
                  refine r_iload (n := 149) C dX0_step_147 rfl rfl ?_
                  refine r_icmp_ne (t := 174) (n := 152) C dX0_step_149 (by decide) rfl (fun c_149 => ?_) (fun c_149 => ?_)
                  · refine V.ls (k174 _ ?_) ⟨rfl, rfl, rfl, rfl, rfl, rfl, rfl, trivial⟩
                    rw [lvs p m, hw trivial]
                    first
                      | (rw [if_neg (by omega)]; omega)
                      | (rw [if_pos (by omega)]; omega)
                  · refine r_iload (n := 154) C dX0_step_152 rfl rfl ?_
                    refine r_aload_n (n := 155) C dX0_step_154 rfl rfl rfl ?_
                    refine r_get (n := 158) (ci := 0) (k := 12) C in_X0 rfl (by decide) q240 rfl dX0_step_155 rfl ((nq _ _ (by omega)).trans w1) rfl ?_
                    refine r_iload_n (n := 159) C dX0_step_158 rfl rfl rfl ?_
                    refine r_iconst (n := 160) C dX0_step_159 rfl ?_
                    refine r_isub (n := 161) C dX0_step_160 rfl ?_
                    refine r_aaload2 (n := 162) C dX0_step_161 rfl ((nq _ _ (by omega)).trans w4) (r := some (o + 27 + (p - 1))) (by rw [e5]) ?_
                    refine r_iload (n := 164) C dX0_step_162 rfl rfl ?_
                    refine r_iconst (n := 165) C dX0_step_164 rfl ?_
                    refine r_isub (n := 166) C dX0_step_165 rfl ?_
                    refine r_iaload (n := 167) C dX0_step_166 rfl ((nq _ _ (by omega)).trans (w5 (p - 1) (by omega))) ?_
                    rw [e4, hD2 (by omega) (m - 1) (by omega)]
                    refine r_iconst (n := 168) C dX0_step_167 rfl ?_
                    refine r_iadd (n := 169) C dX0_step_168 rfl ?_
                    refine r_mmin (n := 172) C q752 q322 q50 q323 dX0_step_169 rfl ?_
                    refine r_istore (n := 174) C dX0_step_172 rfl ?_
                    refine V.ls (k174 _ ?_) ⟨rfl, rfl, rfl, rfl, rfl, rfl, rfl, trivial⟩
                    rw [lvs p m, hw trivial]
                    first
                      | (rw [if_neg (by omega)]; omega)
                      | (rw [if_pos (by omega)]; omega)
        refine r_aload_n (n := 37) C dX0_step_36 rfl rfl rfl ?_
        refine r_get (n := 40) (ci := 0) (k := 0) C in_X0 rfl (by decide) q228 rfl dX0_step_37 rfl ((nq _ _ (by omega)).trans w1) rfl ?_
        refine r_getN (n := 43) (ci := 1) (k := 0) C in_X1 rfl (by decide) q82 rfl dX0_step_40 rfl ((nq _ _ (by omega)).trans b1) rfl ?_
        refine r_iload (n := 45) C dX0_step_43 rfl rfl ?_
        refine r_iconst (n := 46) C dX0_step_45 rfl ?_
        refine r_isub (n := 47) C dX0_step_46 rfl ?_
        refine r_iaload (n := 48) C dX0_step_47 rfl ((nq _ _ (by omega)).trans b2) ?_
        rw [e1]
        refine r_istore (n := 50) C dX0_step_48 rfl ?_
        refine r_aload (n := 52) C dX0_step_50 rfl rfl ?_
        refine r_iload (n := 54) C dX0_step_52 rfl rfl ?_
        refine r_iconst (n := 55) C dX0_step_54 rfl ?_
        refine r_isub (n := 56) C dX0_step_55 rfl ?_
        refine r_iaload (n := 57) C dX0_step_56 rfl ((nq _ _ (by omega)).trans bB) ?_
        rw [e1, d1]
        refine r_aload_n (n := 58) C dX0_step_57 rfl rfl rfl ?_
        refine r_get (n := 61) (ci := 0) (k := 11) C in_X0 rfl (by decide) q239 rfl dX0_step_58 rfl ((nq _ _ (by omega)).trans w1) rfl ?_
        refine r_iload_n (n := 62) C dX0_step_61 rfl rfl rfl ?_
        refine r_iconst (n := 63) C dX0_step_62 rfl ?_
        refine r_isub (n := 64) C dX0_step_63 rfl ?_
        refine r_iaload (n := 65) C dX0_step_64 rfl ((nq _ _ (by omega)).trans w3) ?_
        rw [e2]
        refine r_iload (n := 67) C dX0_step_65 rfl rfl ?_
        refine r_icmp_ne (t := 74) (n := 70) C dX0_step_67 (by decide) rfl (fun c_67 => ?_) (fun c_67 => ?_)
        · refine r_iconst (n := 75) C dX0_step_74 rfl ?_
          first
            | exact k75 _ (fun _ => if_neg c_67)
            | exact k75 _ (fun _ => if_pos c_67)
        · refine r_iconst (n := 71) C dX0_step_70 rfl ?_
          refine r_goto (n := 75) C dX0_step_71 (by decide) ?_
          first
            | exact k75 _ (fun _ => if_neg c_67)
            | exact k75 _ (fun _ => if_pos c_67)
  refine r_aload_n (n := 1) C dX0_step_0 rfl rfl rfl ?_
  refine r_get (n := 4) (ci := 0) (k := 12) C in_X0 rfl (by decide) q240 rfl dX0_step_1 rfl (by assumption) rfl ?_
  refine r_iload_n (n := 5) C dX0_step_4 rfl rfl rfl ?_
  refine r_aaload2 (n := 6) C dX0_step_5 rfl (by assumption) (r := some (o + 27 + (p + 1))) (by rw [Int.toNat_natCast]) ?_
  refine r_astore_n (n := 7) C dX0_step_6 rfl rfl ?_
  refine r_aload_n (n := 8) C dX0_step_7 rfl rfl rfl ?_
  refine r_get (n := 11) (ci := 0) (k := 12) C in_X0 rfl (by decide) q240 rfl dX0_step_8 rfl (by assumption) rfl ?_
  refine r_iload_n (n := 12) C dX0_step_11 rfl rfl rfl ?_
  refine r_iconst (n := 13) C dX0_step_12 rfl ?_
  refine r_isub (n := 14) C dX0_step_13 rfl ?_
  refine r_aaload2 (n := 15) C dX0_step_14 rfl (by assumption) (r := some (o + 27 + p)) (by rw [show (((p + 1 : Nat) : Int) - 1).toNat = p by omega]) ?_
  refine r_astore (n := 17) C dX0_step_15 rfl ?_
  refine r_aload_n (n := 18) C dX0_step_17 rfl rfl rfl ?_
  refine r_iconst (n := 19) C dX0_step_18 rfl ?_
  refine r_iload_n (n := 20) C dX0_step_19 rfl rfl rfl ?_
  refine r_iastore (n := 21) C dX0_step_20 rfl (by assumption) ?_
  refine r_iconst (n := 22) C dX0_step_21 rfl ?_
  refine r_istore (n := 24) C dX0_step_22 rfl ?_
  refine V.ls (L (len + 2) 1 _ (by omega) (by omega) (by omega) ?_) ⟨rfl, rfl, rfl, rfl, rfl, rfl, trivial⟩
  intro q' hq'
  rw [show q' = 0 by omega, lv0]
  exact va_up_self _ _ _
theorem ct_xstep (l : Launch) (g : GG) (h : HM) (sz o : Nat) (F : Nat → Int) (P : Option Nat) (len ad mi wr : Int) (tf : Nat → Int) (T : Nat → Nat → Int) (pa : Nat → Int) (D : Nat → Nat → Int) (p : Nat) (ex : Int) (hW : DW g h o F P len ad mi wr tf T pa D) (hp : p < 12) (hex : ex = 0 ∨ ex = 1) (hD1 : ∀ q : Nat, (q : Int) ≤ len → D p q = lev ex pa tf p q) (hD2 : 1 ≤ p → ∀ q : Nat, (q : Int) ≤ len → D (p - 1) q = lev ex pa tf (p - 1) q) : CT l yX0_step cX0_step 8 none 1 0 0 [.ref o, vI ((p + 1 : Nat) : Int), vI ex] g h sz (fun v h' sz' => v = none ∧ sz = sz' ∧ ∃ f', h' = va_up h (o + 27 + (p + 1)) (some (eI g 25 f')) ∧ ∀ q : Nat, (q : Int) ≤ len → f' q = lev ex pa tf (p + 1) q) :=
  ct_xstep0 l g h sz o F P len ad mi wr tf T pa D p ex (lev ex pa tf) (fun p q => lev_s) (fun p => lev_p0 p) (fun p q => lev_rg p q) hW hp hex hD1 hD2
