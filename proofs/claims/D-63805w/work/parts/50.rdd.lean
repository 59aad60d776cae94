/-! THE READER: set; what every reading promises -/
def RP (g : GG) (h : HM) (sz rd sb vb rs cap : Nat) (ml : Int) (ct : Nat) (f : Nat → Int) (cs : List Int) (nd : Nat) (r : Res) : Option Value → HM → Nat → Prop := fun v h' sz' => ∃ nd' : Nat, RW g h' sz' rd sb vb rs cap ml ct f r.1 nd' (if r.2.isNone then 1 else 0) ∧ EX rd h h' ∧ nd' + 2 * r.1.length ≤ nd + 2 * cs.length ∧ (∀ t, r.2 = some t → nd' = nd + pSz t ∧ ∃ a, v = some (.ref a) ∧ (nd' ≤ 24 → NT g h' t a)) ∧ ∃ q, v = some (va_rf q)
section RF
variable (l : Launch) {g : GG} {h : HM} {sz rd sb vb rs cap : Nat} {ml : Int} {ct : Nat} {f : Nat → Int} {cs cs' : List Int} {nd nd' : Nat} {br br' : Int}
theorem RW.prev (hR : RW g h sz rd sb vb rs cap ml ct f cs nd br) (hn : 0 < cs.length) : f ((ct : Int) - cs.tail.length - 1).toNat = hdI cs ∧ 33 ≤ hdI cs ∧ hdI cs ≤ 126 := by
  have := hR.at hn
  have hl := hR.len
  have e := List.length_tail (l := cs)
  rw [show ((ct : Int) - cs.tail.length - 1).toNat = ct - cs.length by omega]
  exact this
theorem ro_at {sb rs : Nat} {a b nd br : Int} (e : a = b) : [Value.ref sb, vI a, vI nd, vI br, Value.ref rs] = [Value.ref sb, vI b, vI nd, vI br, Value.ref rs] := by rw [e]
theorem ltX_no {cs : List Int} {acc : Int} (h : ¬ isS (hdI cs)) : ltX cs acc = (cs, none) := by
  cases cs with
  | nil => rfl
  | cons c r =>
    unfold ltX
    rw [if_neg (show ¬ isS c from h)]
theorem ltX_in {cs : List Int} {acc : Int} (h : isS (hdI cs)) (h2 : hdI cs.tail = 93) : ltX cs acc = (cs.tail.tail, some (zor acc (zshl 1 (hdI cs - 97)))) := by
  cases cs with
  | nil => exact absurd h (by decide)
  | cons c r =>
    rw [ltX, if_pos (show isS c from h), if_pos (show hdI r = 93 from h2)]
    rfl
theorem ltX_go {cs : List Int} {acc : Int} (h : isS (hdI cs)) (h2 : hdI cs.tail ≠ 93) : ltX cs acc = ltX cs.tail (zor acc (zshl 1 (hdI cs - 97))) := by
  cases cs with
  | nil => exact absurd h (by decide)
  | cons c r =>
    rw [ltX, if_pos (show isS c from h), if_neg (show ¬ hdI r = 93 from h2)]
    rfl
def mkS (oth : Int) (s : Int) : PT := .num (if oth = 1 then zand 67108863 (zxor s (-1)) else s)
set_option maxHeartbeats 4000000 in
theorem ct_rset (hR : RW g h sz rd sb vb rs cap ml ct f cs nd 0) (hc : hdI cs = 91) (hb : nd + 2 * cs.length ≤ 200) : CT l yX2_set cX2_set 4 (some (.object "FuzzyFinder$Node")) 6 1 2 [.ref rd] g h sz (RP g h sz rd sb vb rs cap ml ct f cs nd (stX cs.tail)) := by
  have hlen := hR.len
  have hnd := hR.2.2.2.2.2.2.2.2
  have htl := tl_len (cs := cs) (by omega)
  have h1 := hR.1
  have hR1 : RW g (va_up h rd (some (RO sb rs ((ct : Int) - cs.tail.length) nd 0))) sz rd sb vb rs cap ml ct f cs.tail nd 0 := hR.put (tl_suf cs) hnd
  have hE1 : EX rd h (va_up h rd (some (RO sb rs ((ct : Int) - cs.tail.length) nd 0))) := EX.put
  refine CT.of (lo := [some (.ref rd), none, none, none]) (by decide) (by simp [Value.category]) (Nat.le_of_ble_eq_true rfl) rfl ?_
  intro x h0 Q C hQ hl hni
  /- broken -/
  have fl9 : ∀ (h2 : HM) (cs2 : List Int) (pc : Nat) (lo : List (Option Value)), RW g h2 sz rd sb vb rs cap ml ct f cs2 nd 0 → EX rd h h2 → cs2 <:+ cs → stX cs.tail = (cs2, none) → RP g h sz rd sb vb rs cap ml ct f cs nd (stX cs.tail) (some .null) (va_up h2 rd (some (RO sb rs ((ct : Int) - cs2.length) nd 1))) sz := by
    intro h2 cs2 pc lo hR2 hE2 hs2 he
    have hsl := hs2.length_le
    rw [he]
    exact ⟨nd, hR2.put (List.suffix_refl _) hnd, hE2.tr EX.put, by dsimp only; omega, fun t ht => by simp at ht, none, rfl⟩
  have k97 : ∀ (h2 : HM) (cs2 : List Int) (oth s : Int), (oth = 0 ∨ oth = 1) → RW g h2 sz rd sb vb rs cap ml ct f cs2 nd 0 → EX rd h h2 → cs2 <:+ cs → cs2.length + 1 ≤ cs.length → stX cs.tail = (cs2, some (mkS oth s)) → V x g h0 Q h2 sz 0 0 97 [some (.ref rd), some (vI oth), some (vI s), none] [] := by
    intro h2 cs2 oth s ho hR2 hE2 hs2 hl2 he
    rw [he] at hQ
    have g1 := hR2.1
    have hR3 : RW g (va_up h2 rd (some (RO sb rs ((ct : Int) - cs2.length) ((nd + 1 : Nat) : Int) 0))) sz rd sb vb rs cap ml ct f cs2 (nd + 1) 0 := hR2.put (List.suffix_refl _) (by omega)
    have hE3 : EX rd h (va_up h2 rd (some (RO sb rs ((ct : Int) - cs2.length) ((nd + 1 : Nat) : Int) 0))) := hE2.tr EX.put
    have hz := hR3.2.2.2.2.1 sz (Nat.le_refl _)
    have hrs := hR3.2.2.2.1
    have g3 := hR3.1
    generalize hh3 : va_up h2 rd (some (RO sb rs ((ct : Int) - cs2.length) ((nd + 1 : Nat) : Int) 0)) = h3 at hR3 hE3 hz hrs g3
    have mk : ∀ z : Int, z = (if oth = 1 then zand 67108863 (zxor s (-1)) else s) → nd + 1 ≤ 24 → V x g h0 Q (va_up h3 sz (some (oC 3 [vI 0]))) (sz + 1) 1 1 139 [some (.ref rd), some (vI oth), some (vI s), none] [vI z, .ref sz, .ref sz] := by
      intro z hz2 hn2
      refine r_callIN (n := 142) (n0 := 1) C (ct_n3 (xL x) g (va_up h3 sz (some (oC 3 [vI 0]))) (sz + 1) sz z (va_up_self _ _ _)) q150 q43 q148 q149 rfl ⟨by decide, by decide, by decide +kernel⟩ rfl dX2_set_139 rfl rfl ?_
      rintro v h' sz' ⟨rfl, rfl, rfl⟩ - -
      dsimp only [stk]
      refine r_areturn C hQ (Or.inl ⟨_, rfl⟩) (Or.inr ⟨_, rfl⟩) dX2_set_142 ?_
      rw [bx_uu]
      refine ⟨nd + 1, hR3.new, hE3.tr (EX.new hz), by dsimp only; omega, fun t ht => ?_, some sz, rfl⟩
      have ht := Option.some.inj ht
      subst ht
      exact ⟨rfl, sz, rfl, fun _ => by rw [mkS, ← hz2]; exact va_up_self _ _ _⟩
    refine r_aload_n (n := 98) C dX2_set_97 rfl rfl rfl ?_
    refine r_dup (n := 99) C dX2_set_98 rfl rfl ?_
    refine r_get (n := 102) (ci := 2) (k := 2) C in_X2 rfl (by decide) q163 rfl dX2_set_99 rfl (by assumption) rfl ?_
    refine r_iconst (n := 103) C dX2_set_102 rfl ?_
    refine r_iadd (n := 104) C dX2_set_103 rfl ?_
    refine r_put (n := 107) (ty := .int) (ci := 2) (k := 2) C in_X2 tyX2 tyX2_ok nmX2 rfl (by decide) q163 rfl rfl (by decide +kernel) rfl rfl dX2_set_104 rfl (by assumption) (Nat.le_of_ble_eq_true rfl) ?_
    rw [show va_up h2 rd (some (oC 2 ([Value.ref sb, vI ((ct : Int) - cs2.length), vI nd, vI 0, Value.ref rs].set 2 (vI ((nd : Int) + 1))))) = h3 from hh3]
    refine r_aload_n (n := 108) C dX2_set_107 rfl rfl rfl ?_
    refine r_callV (n := 111) (n0 := 0) (ci := 2) C (ct_rfull (xL x) hR3) (lw_V q436 q438 qs5 q37 q439) ⟨by decide, by decide, by decide +kernel⟩ rfl (by assumption) rfl dX2_set_108 rfl rfl ?_
    rintro v h' sz' ⟨rfl, rfl, z, rfl, hz9⟩ - -
    dsimp only [stk]
    refine r_if_eq (t := 121) (n := 114) C dX2_set_111 (by decide) rfl (fun c_111 => ?_) (fun c_111 => ?_)
    · refine r_new (n := 124) (ci := 3) (fs := [vI 0]) C in_X3 tyX3 tyX3_ok q145 q146 q43 rfl (by decide +kernel) dX2_set_121 rfl ?_
      refine r_dup (n := 125) C dX2_set_124 rfl rfl ?_
      refine r_iload_n (n := 126) C dX2_set_125 rfl rfl rfl ?_
      refine r_if_eq (t := 138) (n := 129) C dX2_set_126 (by decide) rfl (fun c_126 => ?_) (fun c_126 => ?_)
      · refine r_iload_n (n := 139) C dX2_set_138 rfl rfl rfl ?_
        first
          | exact mk _ (by rw [if_pos (by omega)]) (by omega)
          | exact mk _ (by rw [if_neg (by omega)]) (by omega)
      · refine r_ldc (n := 131) (z := 67108863) C q147 (by decide) dX2_set_129 rfl ?_
        refine r_iload_n (n := 132) C dX2_set_131 rfl rfl rfl ?_
        refine r_iconst (n := 133) C dX2_set_132 rfl ?_
        refine r_ixor (n := 134) C dX2_set_133 rfl ?_
        refine r_iand (n := 135) C dX2_set_134 rfl ?_
        refine r_goto (n := 139) C dX2_set_135 (by decide) ?_
        first
          | exact mk _ (by rw [if_pos (by omega)]) (by omega)
          | exact mk _ (by rw [if_neg (by omega)]) (by omega)
    · skip
      refine r_aload_n (n := 115) C dX2_set_114 rfl rfl rfl ?_
      refine r_get (n := 118) (ci := 2) (k := 4) C in_X2 rfl (by decide) q166 rfl dX2_set_115 rfl (by assumption) rfl ?_
      refine r_goto (n := 142) C dX2_set_118 (by decide) ?_
      refine r_areturn C hQ (Or.inl ⟨_, rfl⟩) (Or.inr ⟨_, rfl⟩) dX2_set_142 ?_
      refine ⟨nd + 1, hR3, hE3, by dsimp only; omega, fun t ht => ?_, some rs, rfl⟩
      have ht := Option.some.inj ht
      subst ht
      exact ⟨rfl, rs, rfl, fun _ => by omega⟩
  have L : ∀ (n : Nat) (h2 : HM) (cs2 : List Int) (oth acc : Int), cs2.length < n → (oth = 0 ∨ oth = 1) → RW g h2 sz rd sb vb rs cap ml ct f cs2 nd 0 → EX rd h h2 → cs2 <:+ cs → cs2.length + 1 ≤ cs.length → stX cs.tail = ((ltX cs2 acc).1, (ltX cs2 acc).2.map (mkS oth)) → V x g h0 Q h2 sz 0 0 19 [some (.ref rd), some (vI oth), some (vI acc), none] [] := by
    intro n
    induction n with
    | zero => intro h2 cs2 oth acc hn; omega
    | succ n ih =>
      intro h2 cs2 oth acc hn ho hR2 hE2 hs2 hl2 he
      have g1 := hR2.1
      have hrg := hR2.rg
      refine r_aload_n (n := 20) C dX2_set_19 rfl rfl rfl ?_
      refine r_callV (n := 23) (n0 := 0) (ci := 2) C (ct_rnext (xL x) hR2) (lw_V q400 q402 qs0 q37 q403) ⟨by decide, by decide, by decide +kernel⟩ rfl (by assumption) rfl dX2_set_20 rfl rfl ?_
      rintro v h' sz' ⟨rfl, rfl, rfl⟩ - -
      dsimp only [stk]
      refine r_istore_n (n := 24) C dX2_set_23 rfl rfl ?_
      refine r_iload_n (n := 25) C dX2_set_24 rfl rfl rfl ?_
      refine r_callS (n := 28) (n0 := 1) C (ct_rsmall (xL x) g h2 sz (hdI cs2) (by omega)) (lw_S q433 q434 q37 q435) ⟨by decide, by decide, by decide +kernel⟩ rfl dX2_set_25 rfl rfl ?_
      rintro v h' sz' ⟨rfl, rfl, z, rfl, hz⟩ - -
      dsimp only [stk]
      refine r_if_ne (t := 36) (n := 31) C dX2_set_28 (by decide) rfl (fun c_28 => ?_) (fun c_28 => ?_)
      · have hS : isS (hdI cs2) := by omega
        have htl2 := tl_len (cs := cs2) (by omega)
        have hR3 : RW g (va_up h2 rd (some (RO sb rs ((ct : Int) - cs2.tail.length) nd 0))) sz rd sb vb rs cap ml ct f cs2.tail nd 0 := hR2.put (tl_suf _) hnd
        have hE3 : EX rd h (va_up h2 rd (some (RO sb rs ((ct : Int) - cs2.tail.length) nd 0))) := hE2.tr EX.put
        have hrg3 := hR3.rg
        have hl3 := hR3.len
        have hp2 := hR2.prev (by omega)
        have g3 := hR3.1
        generalize hh3 : va_up h2 rd (some (RO sb rs ((ct : Int) - cs2.tail.length) nd 0)) = h3 at hR3 hE3 g3
        refine r_iload_n (n := 37) C dX2_set_36 rfl rfl rfl ?_
        refine r_iconst (n := 38) C dX2_set_37 rfl ?_
        refine r_iload_n (n := 39) C dX2_set_38 rfl rfl rfl ?_
        refine r_bipush (n := 41) C dX2_set_39 (by decide) rfl ?_
        refine r_isub (n := 42) C dX2_set_41 rfl ?_
        refine r_ishl (n := 43) C dX2_set_42 rfl ?_
        refine r_ior (n := 44) C dX2_set_43 rfl ?_
        refine r_istore_n (n := 45) C dX2_set_44 rfl rfl ?_
        refine r_aload_n (n := 46) C dX2_set_45 rfl rfl rfl ?_
        refine r_dup (n := 47) C dX2_set_46 rfl rfl ?_
        refine r_get (n := 50) (ci := 2) (k := 1) C in_X2 rfl (by decide) q161 rfl dX2_set_47 rfl (by assumption) rfl ?_
        refine r_iconst (n := 51) C dX2_set_50 rfl ?_
        refine r_iadd (n := 52) C dX2_set_51 rfl ?_
        refine r_put (n := 55) (ty := .int) (ci := 2) (k := 1) C in_X2 tyX2 tyX2_ok nmX2 rfl (by decide) q161 rfl rfl (by decide +kernel) rfl rfl dX2_set_52 rfl (by assumption) (Nat.le_of_ble_eq_true rfl) ?_
        rw [show va_up h2 rd (some (oC 2 ([Value.ref sb, vI ((ct : Int) - cs2.length), vI nd, vI 0, Value.ref rs].set 1 (vI ((ct : Int) - cs2.length + 1))))) = h3 by rw [← hh3, show (ct : Int) - cs2.tail.length = (ct : Int) - cs2.length + 1 by omega]; rfl]
        refine r_aload_n (n := 56) C dX2_set_55 rfl rfl rfl ?_
        refine r_bipush (n := 58) C dX2_set_56 (by decide) rfl ?_
        refine r_callV (n := 61) (n0 := 1) (ci := 2) C (ct_raccept (xL x) 93 (by omega) hR3) (lw_V q425 q427 qs3 q37 q428) ⟨by decide, by decide, by decide +kernel⟩ rfl g3 rfl dX2_set_58 rfl rfl ?_
        rintro v h' sz' ⟨rfl, z2, rfl, hz2⟩ - -
        dsimp only [stk]
        refine r_if_ne (t := 74) (n := 64) C dX2_set_61 (by decide) rfl (fun c_61 => ?_) (fun c_61 => ?_) (by omega)
        · have hz2 : hdI cs2.tail = 93 ∧ h' = va_up h3 rd (some (RO sb rs ((ct : Int) - cs2.tail.tail.length) nd 0)) := by
            rcases hz2 with ⟨a1, a2, a3⟩ | ⟨a1, a2, a3⟩
            · exact ⟨a2, a3⟩
            · omega
          obtain ⟨z93, rfl⟩ := hz2
          have htl3 := tl_len (cs := cs2.tail) (by omega)
          have hR4 : RW g (va_up h3 rd (some (RO sb rs ((ct : Int) - cs2.tail.tail.length) nd 0))) sz rd sb vb rs cap ml ct f cs2.tail.tail nd 0 := hR3.put (tl_suf _) hnd
          have hE4 : EX rd h (va_up h3 rd (some (RO sb rs ((ct : Int) - cs2.tail.tail.length) nd 0))) := hE3.tr EX.put
          have hp3 := hR3.prev (by omega)
          have g4 := hR4.1
          have hl4 := hR4.len
          have hcap := hR4.2.2.2.2.2.1
          have d97 := k97 _ cs2.tail.tail oth (zor acc (zshl 1 (hdI cs2 - 97))) ho hR4 hE4 ((tl_suf _).trans ((tl_suf _).trans hs2)) (by omega) (by rw [he, ltX_in hS z93]; rfl)
          refine r_aload_n (n := 75) C dX2_set_74 rfl rfl rfl ?_
          refine r_get (n := 78) (ci := 2) (k := 0) C in_X2 rfl (by decide) q159 rfl dX2_set_75 rfl (by assumption) rfl ?_
          refine r_aload_n (n := 79) C dX2_set_78 rfl rfl rfl ?_
          refine r_get (n := 82) (ci := 2) (k := 1) C in_X2 rfl (by decide) q161 rfl dX2_set_79 rfl (by assumption) rfl ?_
          refine r_iconst (n := 83) C dX2_set_82 rfl ?_
          refine r_isub (n := 84) C dX2_set_83 rfl ?_
          refine r_callV (n := 87) (n0 := 1) (ci := 10) C (ct_sbAt (xL x) g _ sz sb vb cap f ml ct ((ct : Int) - cs2.tail.tail.length - 1) hR4.2.1 hR4.2.2.1 (by omega) (by omega)) (lw_V q405 q406 q407 q39 q408) ⟨by decide, by decide, by decide +kernel⟩ rfl hR4.2.1 rfl dX2_set_84 rfl rfl ?_
          rintro v h' sz' ⟨rfl, rfl, rfl⟩ - -
          dsimp only [stk]
          rw [hp3.1, z93]
          refine r_bipush (n := 89) C dX2_set_87 (by decide) rfl ?_
          refine r_icmp_eq (t := 97) (n := 92) C dX2_set_89 (by decide) rfl (fun c_89 => ?_) (fun c_89 => ?_)
          · exact V.ls d97 ⟨rfl, rfl, rfl, trivial⟩
          · exact absurd rfl c_89
        · have hz2 : hdI cs2.tail ≠ 93 ∧ h3 = h' := by
            rcases hz2 with ⟨a1, a2, a3⟩ | ⟨a1, a2, a3⟩
            · omega
            · exact ⟨a2, a3.symm⟩
          obtain ⟨z93, rfl⟩ := hz2
          refine r_aload_n (n := 65) C dX2_set_64 rfl rfl rfl ?_
          refine r_callV (n := 68) (n0 := 0) (ci := 2) C (ct_rnext (xL x) hR3) (lw_V q400 q402 qs0 q37 q403) ⟨by decide, by decide, by decide +kernel⟩ rfl (by assumption) rfl dX2_set_65 rfl rfl ?_
          rintro v h' sz' ⟨rfl, rfl, rfl⟩ - -
          dsimp only [stk]
          refine r_callS (n := 71) (n0 := 1) C (ct_rsmall (xL x) g h3 sz (hdI cs2.tail) (by omega)) (lw_S q433 q434 q37 q435) ⟨by decide, by decide, by decide +kernel⟩ rfl dX2_set_68 rfl rfl ?_
          rintro v h' sz' ⟨rfl, rfl, z, rfl, hz⟩ - -
          dsimp only [stk]
          refine r_if_ne (t := 19) (n := 74) C dX2_set_71 (by decide) rfl (fun c_71 => ?_) (fun c_71 => ?_)
          · exact V.ls (ih h3 cs2.tail oth _ (by omega) ho hR3 hE3 ((tl_suf _).trans hs2) (by omega) (by rw [he, ltX_go hS z93])) ⟨rfl, rfl, rfl, trivial⟩
          · have hns : ¬ isS (hdI cs2.tail) := by omega
            have hcap := hR3.2.2.2.2.2.1
            have hlc := hR2.len
            refine r_aload_n (n := 75) C dX2_set_74 rfl rfl rfl ?_
            refine r_get (n := 78) (ci := 2) (k := 0) C in_X2 rfl (by decide) q159 rfl dX2_set_75 rfl (by assumption) rfl ?_
            refine r_aload_n (n := 79) C dX2_set_78 rfl rfl rfl ?_
            refine r_get (n := 82) (ci := 2) (k := 1) C in_X2 rfl (by decide) q161 rfl dX2_set_79 rfl (by assumption) rfl ?_
            refine r_iconst (n := 83) C dX2_set_82 rfl ?_
            refine r_isub (n := 84) C dX2_set_83 rfl ?_
            refine r_callV (n := 87) (n0 := 1) (ci := 10) C (ct_sbAt (xL x) g _ sz sb vb cap f ml ct ((ct : Int) - cs2.tail.length - 1) hR3.2.1 hR3.2.2.1 (by omega) (by omega)) (lw_V q405 q406 q407 q39 q408) ⟨by decide, by decide, by decide +kernel⟩ rfl hR3.2.1 rfl dX2_set_84 rfl rfl ?_
            rintro v h' sz' ⟨rfl, rfl, rfl⟩ - -
            dsimp only [stk]
            rw [hp2.1]
            refine r_bipush (n := 89) C dX2_set_87 (by decide) rfl ?_
            refine r_icmp_eq (t := 97) (n := 92) C dX2_set_89 (by decide) rfl (fun c_89 => ?_) (fun c_89 => ?_)
            · exfalso; unfold isS at hS; omega
            · refine r_aload_n (n := 93) C dX2_set_92 rfl rfl rfl ?_
              refine r_callV (n := 96) (n0 := 0) (ci := 2) C (ct_rfail (xL x) hR3) (lw_V q417 q419 qs1 q37 q420) ⟨by decide, by decide, by decide +kernel⟩ rfl (by assumption) rfl dX2_set_93 rfl rfl ?_
              rintro v h' sz' ⟨rfl, rfl, rfl⟩ - -
              dsimp only [stk]
              refine r_areturn C hQ (Or.inl ⟨_, rfl⟩) (Or.inl rfl) dX2_set_96 ?_
              exact fl9 h3 cs2.tail 0 [] hR3 hE3 ((tl_suf _).trans hs2) (by rw [he, ltX_go hS z93, ltX_no hns]; rfl)
      · refine r_aload_n (n := 32) C dX2_set_31 rfl rfl rfl ?_
        refine r_callV (n := 35) (n0 := 0) (ci := 2) C (ct_rfail (xL x) hR2) (lw_V q417 q419 qs1 q37 q420) ⟨by decide, by decide, by decide +kernel⟩ rfl (by assumption) rfl dX2_set_32 rfl rfl ?_
        rintro v h' sz' ⟨rfl, rfl, rfl⟩ - -
        dsimp only [stk]
        refine r_areturn C hQ (Or.inl ⟨_, rfl⟩) (Or.inl rfl) dX2_set_35 ?_
        have hns : ¬ isS (hdI cs2) := by omega
        exact fl9 h2 cs2 0 [] hR2 hE2 hs2 (by rw [he, ltX_no hns]; rfl)
  have g1 := hR1.1
  generalize hh1 : va_up h rd (some (RO sb rs ((ct : Int) - cs.tail.length) nd 0)) = h9 at hR1 hE1 g1
  refine r_aload_n (n := 1) C dX2_set_0 rfl rfl rfl ?_
  refine r_dup (n := 2) C dX2_set_1 rfl rfl ?_
  refine r_get (n := 5) (ci := 2) (k := 1) C in_X2 rfl (by decide) q161 rfl dX2_set_2 rfl (by assumption) rfl ?_
  refine r_iconst (n := 6) C dX2_set_5 rfl ?_
  refine r_iadd (n := 7) C dX2_set_6 rfl ?_
  refine r_put (n := 10) (ty := .int) (ci := 2) (k := 1) C in_X2 tyX2 tyX2_ok nmX2 rfl (by decide) q161 rfl rfl (by decide +kernel) rfl rfl dX2_set_7 rfl (by assumption) (Nat.le_of_ble_eq_true rfl) ?_
  rw [show va_up h rd (some (oC 2 ([Value.ref sb, vI ((ct : Int) - cs.length), vI nd, vI 0, Value.ref rs].set 1 (vI ((ct : Int) - cs.length + 1))))) = h9 by rw [← hh1, show (ct : Int) - cs.tail.length = (ct : Int) - cs.length + 1 by omega]; rfl]
  refine r_aload_n (n := 11) C dX2_set_10 rfl rfl rfl ?_
  refine r_bipush (n := 13) C dX2_set_11 (by decide) rfl ?_
  refine r_callV (n := 16) (n0 := 1) (ci := 2) C (ct_raccept (xL x) 94 (by omega) hR1) (lw_V q425 q427 qs3 q37 q428) ⟨by decide, by decide, by decide +kernel⟩ rfl g1 rfl dX2_set_13 rfl rfl ?_
  rintro v h' sz' ⟨rfl, z, rfl, hz⟩ - -
  dsimp only [stk]
  refine r_istore_n (n := 17) C dX2_set_16 rfl rfl ?_
  refine r_iconst (n := 18) C dX2_set_17 rfl ?_
  refine r_istore_n (n := 19) C dX2_set_18 rfl rfl ?_
  rcases hz with ⟨rfl, hz, rfl⟩ | ⟨rfl, hz, rfl⟩
  · have htl2 := tl_len (cs := cs.tail) (by omega)
    refine V.ls (L 100 _ cs.tail.tail 1 0 (by omega) (by omega) (hR1.put (tl_suf _) hnd) (hE1.tr EX.put) ((tl_suf _).trans (tl_suf _)) (by omega) ?_) ⟨rfl, rfl, rfl, trivial⟩
    unfold stX
    rw [if_pos hz]
    rfl
  · refine V.ls (L 100 _ cs.tail 0 0 (by omega) (by omega) hR1 hE1 (tl_suf _) (by omega) ?_) ⟨rfl, rfl, rfl, trivial⟩
    unfold stX
    rw [if_neg hz]
    rfl
end RF
