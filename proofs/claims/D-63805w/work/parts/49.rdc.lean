/-! THE READER: limit, set -/
section RE
variable (l : Launch) {g : GG} {h : HM} {sz rd sb vb rs cap : Nat} {ml : Int} {ct : Nat} {f : Nat → Int} {cs cs' : List Int} {nd nd' : Nat} {br br' : Int}
theorem hd2 {cs : List Int} (h : 2 ≤ cs.length) : 0 < cs.tail.length := by
  cases cs with
  | nil => simp at h
  | cons c r => simp at h ⊢; omega
theorem ct_rfull0 {p : Int} (hn : nd ≤ 1000) (h1 : h rd = some (RO sb rs p nd br)) : RT l yX2_full cX2_full 1 (some .boolean) 0 [.ref rd] g h sz (fun v => ∃ z : Int, v = some (vI z) ∧ ((z = 1 ∧ 24 < nd) ∨ (z = 0 ∧ nd ≤ 24))) := by
  refine CT.of (lo := [some (.ref rd)]) (by decide) (by simp [Value.category]) (Nat.le_of_ble_eq_true rfl) rfl ?_
  intro x h0 Q C hQ hl hni
  refine r_aload_n (n := 1) C dX2_full_0 rfl rfl rfl ?_
  refine r_get (n := 4) (ci := 2) (k := 2) C in_X2 rfl (by decide) q163 rfl dX2_full_1 rfl (by assumption) rfl ?_
  refine r_bipush (n := 6) C dX2_full_4 (by decide) rfl ?_
  refine r_icmp_le (t := 13) (n := 9) C dX2_full_6 (by decide) rfl (fun c_6 => ?_) (fun c_6 => ?_)
  · refine r_iconst (n := 14) C dX2_full_13 rfl ?_
    refine r_zreturn C hQ rfl dX2_full_14 ?_
    exact ⟨rfl, rfl, _, rfl, by omega⟩
  · refine r_iconst (n := 10) C dX2_full_9 rfl ?_
    refine r_goto (n := 14) C dX2_full_10 (by decide) ?_
    refine r_zreturn C hQ rfl dX2_full_14 ?_
    exact ⟨rfl, rfl, _, rfl, by omega⟩
theorem ct_rlimit (p : Nat) (hR : RW g h sz rd sb vb rs cap ml ct f cs nd br) (hc : hdI cs = 60) : CT l yX2_limit cX2_limit 4 (some (.object "FuzzyFinder$Node")) 5 1 2 [.ref rd, .ref p] g h sz (fun v h' sz' => match (lmX cs.tail).2 with
    | none => v = some .null ∧ sz = sz' ∧ h' = va_up h rd (some (RO sb rs ((ct : Int) - (lmX cs.tail).1.length) nd 1))
    | some m => (24 < nd ∧ v = some (.ref p) ∧ sz = sz' ∧ h' = va_up h rd (some (RO sb rs ((ct : Int) - (lmX cs.tail).1.length - 1) nd br))) ∨ (nd ≤ 24 ∧ v = some (.ref sz) ∧ sz' = sz + 1 ∧ h' = va_up (va_up h rd (some (RO sb rs ((ct : Int) - (lmX cs.tail).1.length - 1) nd br))) sz (some (oC 7 [.ref p, vI m])))) := by
  have hlen := hR.len
  have hnd := hR.2.2.2.2.2.2.2.2
  have htl := tl_len (cs := cs) (by omega)
  have hR1 : RW g (va_up h rd (some (RO sb rs ((ct : Int) - cs.tail.length) nd br))) sz rd sb vb rs cap ml ct f cs.tail nd br := hR.put (tl_suf cs) hnd
  have hrg := hR1.rg
  have hln1 := hR1.len
  have h1 := hR.1
  obtain ⟨b1, b2, b3, b4, b5, b6, b7, b8, b9⟩ := hR1
  refine CT.of (lo := [some (.ref rd), some (.ref p), none, none]) (by decide) (by simp [Value.category]) (Nat.le_of_ble_eq_true rfl) rfl ?_
  intro x h0 Q C hQ hl hni
  have k97 : ∀ (r : List Int) (m : Nat), lmX cs.tail = (r, some m) → r <:+ cs.tail → V x g h0 Q (va_up h rd (some (RO sb rs ((ct : Int) - r.length - 1) nd br))) sz 0 0 97 [some (.ref rd), some (.ref p), some (vI m), none] [] := by
    intro r m he hs
    have hsl := hs.length_le
    have hRr := ct_rfull0 (xL x) (g := g) (sz := sz) b9 (va_up_self h rd (some (RO sb rs ((ct : Int) - r.length - 1) nd br)))
    rw [he] at hQ
    dsimp only at hQ
    have hself := va_up_self h rd (some (RO sb rs ((ct : Int) - r.length - 1) nd br))
    refine r_aload_n (n := 98) C dX2_limit_97 rfl rfl rfl ?_
    refine r_callV (n := 101) (n0 := 0) (ci := 2) C (hRr) (lw_V q436 q438 qs5 q37 q439) ⟨by decide, by decide, by decide +kernel⟩ rfl (by assumption) rfl dX2_limit_98 rfl rfl ?_
    rintro v h' sz' ⟨rfl, rfl, z, rfl, hz⟩ - -
    dsimp only [stk]
    refine r_if_eq (t := 108) (n := 104) C dX2_limit_101 (by decide) rfl (fun c_101 => ?_) (fun c_101 => ?_)
    · refine r_new (n := 111) (ci := 7) (fs := [.null, vI 0]) C in_X7 tyX7 tyX7_ok q467 q468 q58 rfl (by decide +kernel) dX2_limit_108 rfl ?_
      refine r_dup (n := 112) C dX2_limit_111 rfl rfl ?_
      refine r_aload_n (n := 113) C dX2_limit_112 rfl rfl rfl ?_
      refine r_iload_n (n := 114) C dX2_limit_113 rfl rfl rfl ?_
      refine r_callIN (n := 117) (n0 := 2) C (ct_n7 (xL x) g (va_up (va_up h rd (some (RO sb rs ((ct : Int) - r.length - 1) nd br))) sz (some (oC 7 [.null, vI 0]))) (sz + 1) sz p m (va_up_self _ _ _)) q471 q58 q469 q470 rfl ⟨by decide, by decide, by decide +kernel⟩ rfl dX2_limit_114 rfl rfl ?_
      rintro v h' sz' ⟨rfl, rfl, rfl⟩ - -
      dsimp only [stk]
      refine r_areturn C hQ (Or.inl ⟨_, rfl⟩) (Or.inr ⟨_, rfl⟩) dX2_limit_117 ?_
      first
        | exact Or.inl ⟨by omega, rfl, rfl, rfl⟩
        | exact Or.inr ⟨by omega, rfl, rfl, by rw [bx_uu]⟩
    · refine r_aload_n (n := 105) C dX2_limit_104 rfl rfl rfl ?_
      refine r_goto (n := 117) C dX2_limit_105 (by decide) ?_
      refine r_areturn C hQ (Or.inl ⟨_, rfl⟩) (Or.inr ⟨_, rfl⟩) dX2_limit_117 ?_
      first
        | exact Or.inl ⟨by omega, rfl, rfl, rfl⟩
        | exact Or.inr ⟨by omega, rfl, rfl, by rw [bx_uu]⟩
  have hdig : 48 ≤ hdI cs.tail ∧ hdI cs.tail ≤ 57 → 0 < cs.tail.length := fun h => hrg.2.2.1 (by omega)
  have k69 : ∀ mo : Int, (48 ≤ hdI cs.tail ∧ hdI cs.tail ≤ 57) → ((mo = hdI cs.tail.tail - 48 ∧ hdI cs.tail.tail ≠ 0) ∨ (mo = -1 ∧ hdI cs.tail.tail = 0)) → (0 ≤ hdI cs.tail.tail ∧ hdI cs.tail.tail ≤ 126) → V x g h0 Q (va_up h rd (some (RO sb rs ((ct : Int) - cs.tail.length) nd br))) sz 0 0 69 [some (.ref rd), some (.ref p), some (vI (hdI cs.tail - 48)), none] [vI mo] := by
    intro mo hd hmo hr2
    have htl2 := tl_len (cs := cs.tail) (by omega)
    refine r_istore_n (n := 70) C dX2_limit_69 rfl rfl ?_
    refine r_iload_n (n := 71) C dX2_limit_70 rfl rfl rfl ?_
    refine r_if_lt (t := 97) (n := 74) C dX2_limit_71 (by decide) rfl (fun c_71 => ?_) (fun c_71 => ?_)
    · have key : (48 ≤ hdI cs.tail.tail ∧ hdI cs.tail.tail ≤ 57) ∨ ¬ (48 ≤ hdI cs.tail.tail ∧ hdI cs.tail.tail ≤ 57) := Decidable.em _
      rcases key with hk | hk
      · first
          | (exfalso; omega)
          | (have htl3 := tl_len (cs := cs.tail.tail) (by omega)
             have := k97 cs.tail.tail.tail (10 * (hdI cs.tail - 48) + (hdI cs.tail.tail - 48)).toNat (by unfold lmX; rw [if_pos hd, if_pos hk]) ((tl_suf _).trans (tl_suf _))
             rw [bx_uu]
             rw [show (ct : Int) - cs.tail.tail.tail.length - 1 = (ct : Int) - cs.tail.length + 1 by omega] at this
             exact V.ls this ⟨rfl, rfl, congrArg (fun z => some (vI z)) (by omega), trivial⟩)
      · first
          | (exfalso; omega)
          | (have := k97 cs.tail.tail (hdI cs.tail - 48).toNat (by unfold lmX; rw [if_pos hd, if_neg hk]) (tl_suf _)
             rw [show (ct : Int) - cs.tail.tail.length - 1 = (ct : Int) - cs.tail.length by omega] at this
             exact V.ls this ⟨rfl, rfl, congrArg (fun z => some (vI z)) (by omega), trivial⟩)
    · refine r_iload_n (n := 75) C dX2_limit_74 rfl rfl rfl ?_
      refine r_bipush (n := 77) C dX2_limit_75 (by decide) rfl ?_
      refine r_icmp_gt (t := 97) (n := 80) C dX2_limit_77 (by decide) rfl (fun c_77 => ?_) (fun c_77 => ?_)
      · have key : (48 ≤ hdI cs.tail.tail ∧ hdI cs.tail.tail ≤ 57) ∨ ¬ (48 ≤ hdI cs.tail.tail ∧ hdI cs.tail.tail ≤ 57) := Decidable.em _
        rcases key with hk | hk
        · first
            | (exfalso; omega)
            | (have htl3 := tl_len (cs := cs.tail.tail) (by omega)
               have := k97 cs.tail.tail.tail (10 * (hdI cs.tail - 48) + (hdI cs.tail.tail - 48)).toNat (by unfold lmX; rw [if_pos hd, if_pos hk]) ((tl_suf _).trans (tl_suf _))
               rw [bx_uu]
               rw [show (ct : Int) - cs.tail.tail.tail.length - 1 = (ct : Int) - cs.tail.length + 1 by omega] at this
               exact V.ls this ⟨rfl, rfl, congrArg (fun z => some (vI z)) (by omega), trivial⟩)
        · first
            | (exfalso; omega)
            | (have := k97 cs.tail.tail (hdI cs.tail - 48).toNat (by unfold lmX; rw [if_pos hd, if_neg hk]) (tl_suf _)
               rw [show (ct : Int) - cs.tail.tail.length - 1 = (ct : Int) - cs.tail.length by omega] at this
               exact V.ls this ⟨rfl, rfl, congrArg (fun z => some (vI z)) (by omega), trivial⟩)
      · refine r_aload_n (n := 81) C dX2_limit_80 rfl rfl rfl ?_
        refine r_dup (n := 82) C dX2_limit_81 rfl rfl ?_
        refine r_get (n := 85) (ci := 2) (k := 1) C in_X2 rfl (by decide) q161 rfl dX2_limit_82 rfl (by assumption) rfl ?_
        refine r_iconst (n := 86) C dX2_limit_85 rfl ?_
        refine r_iadd (n := 87) C dX2_limit_86 rfl ?_
        refine r_put (n := 90) (ty := .int) (ci := 2) (k := 1) C in_X2 tyX2 tyX2_ok nmX2 rfl (by decide) q161 rfl rfl (by decide +kernel) rfl rfl dX2_limit_87 rfl (by assumption) (Nat.le_of_ble_eq_true rfl) ?_
        refine r_bipush (n := 92) C dX2_limit_90 (by decide) rfl ?_
        refine r_iload_n (n := 93) C dX2_limit_92 rfl rfl rfl ?_
        refine r_imul (n := 94) C dX2_limit_93 rfl ?_
        refine r_iload_n (n := 95) C dX2_limit_94 rfl rfl rfl ?_
        refine r_iadd (n := 96) C dX2_limit_95 rfl ?_
        refine r_istore_n (n := 97) C dX2_limit_96 rfl rfl ?_
        have key : (48 ≤ hdI cs.tail.tail ∧ hdI cs.tail.tail ≤ 57) ∨ ¬ (48 ≤ hdI cs.tail.tail ∧ hdI cs.tail.tail ≤ 57) := Decidable.em _
        rcases key with hk | hk
        · first
            | (exfalso; omega)
            | (have htl3 := tl_len (cs := cs.tail.tail) (by omega)
               have := k97 cs.tail.tail.tail (10 * (hdI cs.tail - 48) + (hdI cs.tail.tail - 48)).toNat (by unfold lmX; rw [if_pos hd, if_pos hk]) ((tl_suf _).trans (tl_suf _))
               rw [bx_uu]
               rw [show (ct : Int) - cs.tail.tail.tail.length - 1 = (ct : Int) - cs.tail.length + 1 by omega] at this
               exact V.ls this ⟨rfl, rfl, congrArg (fun z => some (vI z)) (by omega), trivial⟩)
        · first
            | (exfalso; omega)
            | (have := k97 cs.tail.tail (hdI cs.tail - 48).toNat (by unfold lmX; rw [if_pos hd, if_neg hk]) (tl_suf _)
               rw [show (ct : Int) - cs.tail.tail.length - 1 = (ct : Int) - cs.tail.length by omega] at this
               exact V.ls this ⟨rfl, rfl, congrArg (fun z => some (vI z)) (by omega), trivial⟩)
  have hR2 : RW g (va_up h rd (some (RO sb rs ((ct : Int) - cs.tail.length) nd br))) sz rd sb vb rs cap ml ct f cs.tail nd br := hR.put (tl_suf cs) hnd
  have ha2 : (2 ≤ cs.tail.length → f (((ct : Int) - cs.tail.length + 1).toNat) = hdI cs.tail.tail ∧ 33 ≤ hdI cs.tail.tail ∧ hdI cs.tail.tail ≤ 126) ∧ (cs.tail.length ≤ 1 → hdI cs.tail.tail = 0) := by
    refine ⟨fun h2 => ?_, fun h2 => ?_⟩
    · have hR3 : RW g _ sz rd sb vb rs cap ml ct f cs.tail.tail nd br := hR.put ((tl_suf _).trans (tl_suf cs)) hnd
      have := hR3.at (hd2 h2)
      have e := List.length_tail (l := cs.tail)
      rw [show ((ct : Int) - cs.tail.length + 1).toNat = ct - cs.tail.tail.length by omega]
      exact this
    · have : cs.tail.tail = [] := List.eq_nil_of_length_eq_zero (by rw [List.length_tail]; omega)
      rw [this]
      rfl
  refine r_aload_n (n := 1) C dX2_limit_0 rfl rfl rfl ?_
  refine r_dup (n := 2) C dX2_limit_1 rfl rfl ?_
  refine r_get (n := 5) (ci := 2) (k := 1) C in_X2 rfl (by decide) q161 rfl dX2_limit_2 rfl (by assumption) rfl ?_
  refine r_iconst (n := 6) C dX2_limit_5 rfl ?_
  refine r_iadd (n := 7) C dX2_limit_6 rfl ?_
  refine r_put (n := 10) (ty := .int) (ci := 2) (k := 1) C in_X2 tyX2 tyX2_ok nmX2 rfl (by decide) q161 rfl rfl (by decide +kernel) rfl rfl dX2_limit_7 rfl (by assumption) (Nat.le_of_ble_eq_true rfl) ?_
  rw [show [Value.ref sb, vI ((ct : Int) - cs.length), vI nd, vI br, Value.ref rs].set 1 (vI ((ct : Int) - cs.length + 1)) = [Value.ref sb, vI ((ct : Int) - cs.tail.length), vI nd, vI br, Value.ref rs] by rw [show (ct : Int) - cs.tail.length = (ct : Int) - cs.length + 1 by omega]; rfl]
  refine r_aload_n (n := 11) C dX2_limit_10 rfl rfl rfl ?_
  refine r_callV (n := 14) (n0 := 0) (ci := 2) C (ct_rnext (xL x) hR2) (lw_V q400 q402 qs0 q37 q403) ⟨by decide, by decide, by decide +kernel⟩ rfl b1 rfl dX2_limit_11 rfl rfl ?_
  rintro v h' sz' ⟨rfl, rfl, rfl⟩ - -
  dsimp only [stk]
  refine r_bipush (n := 16) C dX2_limit_14 (by decide) rfl ?_
  refine r_isub (n := 17) C dX2_limit_16 rfl ?_
  refine r_istore_n (n := 18) C dX2_limit_17 rfl rfl ?_
  refine r_iload_n (n := 19) C dX2_limit_18 rfl rfl rfl ?_
  refine r_if_lt (t := 28) (n := 22) C dX2_limit_19 (by decide) rfl (fun c_19 => ?_) (fun c_19 => ?_)
  · have he : lmX cs.tail = (cs.tail, none) := by unfold lmX; rw [if_neg (by omega)]
    rw [he] at hQ
    dsimp only at hQ
    refine r_aload_n (n := 29) C dX2_limit_28 rfl rfl rfl ?_
    refine r_callV (n := 32) (n0 := 0) (ci := 2) C (ct_rfail (xL x) hR2) (lw_V q417 q419 qs1 q37 q420) ⟨by decide, by decide, by decide +kernel⟩ rfl (by assumption) rfl dX2_limit_29 rfl rfl ?_
    rintro v h' sz' ⟨rfl, rfl, rfl⟩ - -
    dsimp only [stk]
    refine r_areturn C hQ (Or.inl ⟨_, rfl⟩) (Or.inl rfl) dX2_limit_32 ?_
    exact ⟨rfl, rfl, by rw [bx_uu]⟩
  · refine r_iload_n (n := 23) C dX2_limit_22 rfl rfl rfl ?_
    refine r_bipush (n := 25) C dX2_limit_23 (by decide) rfl ?_
    refine r_icmp_le (t := 33) (n := 28) C dX2_limit_25 (by decide) rfl (fun c_25 => ?_) (fun c_25 => ?_)
    · refine r_aload_n (n := 34) C dX2_limit_33 rfl rfl rfl ?_
      refine r_get (n := 37) (ci := 2) (k := 1) C in_X2 rfl (by decide) q161 rfl dX2_limit_34 rfl (by assumption) rfl ?_
      refine r_iconst (n := 38) C dX2_limit_37 rfl ?_
      refine r_iadd (n := 39) C dX2_limit_38 rfl ?_
      refine r_aload_n (n := 40) C dX2_limit_39 rfl rfl rfl ?_
      refine r_get (n := 43) (ci := 2) (k := 0) C in_X2 rfl (by decide) q159 rfl dX2_limit_40 rfl (by assumption) rfl ?_
      refine r_callV (n := 46) (n0 := 0) (ci := 10) C (ct_sbLen (xL x) g _ sz sb vb ml ct b2) (lw_V q404 q279 q280 q39 q281) ⟨by decide, by decide, by decide +kernel⟩ rfl (by assumption) rfl dX2_limit_43 rfl rfl ?_
      rintro v h' sz' ⟨rfl, rfl, rfl⟩ - -
      dsimp only [stk]
      refine r_icmp_ge (t := 68) (n := 49) C dX2_limit_46 (by decide) rfl (fun c_46 => ?_) (fun c_46 => ?_)
      · refine r_iconst (n := 69) C dX2_limit_68 rfl ?_
        first
          | (have hx := ha2.1 (by omega); exact k69 _ (by omega) (Or.inl ⟨rfl, by omega⟩) (by omega))
          | (have hx := ha2.2 (by omega); exact k69 _ (by omega) (Or.inr ⟨rfl, hx⟩) (by omega))
      · refine r_aload_n (n := 50) C dX2_limit_49 rfl rfl rfl ?_
        refine r_get (n := 53) (ci := 2) (k := 0) C in_X2 rfl (by decide) q159 rfl dX2_limit_50 rfl (by assumption) rfl ?_
        refine r_aload_n (n := 54) C dX2_limit_53 rfl rfl rfl ?_
        refine r_get (n := 57) (ci := 2) (k := 1) C in_X2 rfl (by decide) q161 rfl dX2_limit_54 rfl (by assumption) rfl ?_
        refine r_iconst (n := 58) C dX2_limit_57 rfl ?_
        refine r_iadd (n := 59) C dX2_limit_58 rfl ?_
        refine r_callV (n := 62) (n0 := 1) (ci := 10) C (ct_sbAt (xL x) g _ sz sb vb cap f ml ct ((ct : Int) - cs.tail.length + 1) b2 b3 (by omega) (by have := ha2.1 (by omega); omega)) (lw_V q405 q406 q407 q39 q408) ⟨by decide, by decide, by decide +kernel⟩ rfl (by assumption) rfl dX2_limit_59 rfl rfl ?_
        rintro v h' sz' ⟨rfl, rfl, rfl⟩ - -
        dsimp only [stk]
        rw [(ha2.1 (by omega)).1]
        refine r_bipush (n := 64) C dX2_limit_62 (by decide) rfl ?_
        refine r_isub (n := 65) C dX2_limit_64 rfl ?_
        refine r_goto (n := 69) C dX2_limit_65 (by decide) ?_
        first
          | (have hx := ha2.1 (by omega); exact k69 _ (by omega) (Or.inl ⟨rfl, by omega⟩) (by omega))
          | (have hx := ha2.2 (by omega); exact k69 _ (by omega) (Or.inr ⟨rfl, hx⟩) (by omega))
    · have he : lmX cs.tail = (cs.tail, none) := by unfold lmX; rw [if_neg (by omega)]
      rw [he] at hQ
      dsimp only at hQ
      refine r_aload_n (n := 29) C dX2_limit_28 rfl rfl rfl ?_
      refine r_callV (n := 32) (n0 := 0) (ci := 2) C (ct_rfail (xL x) hR2) (lw_V q417 q419 qs1 q37 q420) ⟨by decide, by decide, by decide +kernel⟩ rfl (by assumption) rfl dX2_limit_29 rfl rfl ?_
      rintro v h' sz' ⟨rfl, rfl, rfl⟩ - -
      dsimp only [stk]
      refine r_areturn C hQ (Or.inl ⟨_, rfl⟩) (Or.inl rfl) dX2_limit_32 ?_
      exact ⟨rfl, rfl, by rw [bx_uu]⟩
end RE
