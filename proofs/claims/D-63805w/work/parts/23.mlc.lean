/-! the model reads a pattern: item, set -/
theorem ct_item (l : Launch) (g : GG) (o : Nat) (F : Nat → Int) (A : Nat → Nat → Int) (r : HM) (sz : Nat) (b : Bool) (bz : Int) (hbz : bz = if b then 1 else 0) {ou : List T3} {ws wh : List Int} (hR : RS F A ou ws wh) (hb : ∀ w ∈ ws, w = 1 ∨ w = 2 ∨ w = 7) (h1 : ou.length + ws.length ≤ 79) (h2 : b = true → wh.length = nb ws + 1) (h3 : wh.length ≤ 80) : MT l yX5_item cX5_item 2 none 2 [.ref o, vI bz] g o F A r sz (fun v F' A' => v = none ∧ RS F' A' (itm b ou ws wh).1 (itm b ou ws wh).2.1 (itm b ou ws wh).2.2 ∧ FM F A F' A') := by
  refine CT.of (lo := [some (.ref o), some (vI bz)]) (by decide) (by simp [Value.category]) (Nat.le_of_ble_eq_true rfl) rfl ?_
  intro x h0 Q C hQ hl hni
  cases b with
  | false =>
    simp only [Bool.false_eq_true, if_false] at hbz
    subst hbz
    refine r_iload_n (n := 1) C dX5_item_0 rfl rfl rfl ?_
    refine r_if_eq (t := 14) (n := 4) C dX5_item_1 (by decide) rfl (fun c_1 => ?_) (fun c_1 => ?_)
    · refine r_return C hQ dX5_item_14 ?_
      exact ⟨_, _, rfl, rfl, rfl, hR, FM.rf⟩
    · exfalso; omega
  | true =>
    simp only [if_true] at hbz
    subst hbz
    have hs := jn_sum 1 ws ou wh
    refine r_iload_n (n := 1) C dX5_item_0 rfl rfl rfl ?_
    refine r_if_eq (t := 14) (n := 4) C dX5_item_1 (by decide) rfl (fun c_1 => ?_) (fun c_1 => ?_)
    · exfalso; omega
    · refine r_aload_n (n := 5) C dX5_item_4 rfl rfl rfl ?_
      refine r_iconst (n := 6) C dX5_item_5 rfl ?_
      refine r_callV (n := 9) (n0 := 1) (ci := 5) C (ct_join (xL x) g o F A r sz 1 (Or.inl rfl) hR hb (by omega) (h2 rfl) h3) (lw_V q894 q896 qs17 q48 q897) ⟨by decide, by decide, by decide +kernel⟩ rfl MH_o rfl dX5_item_6 rfl rfl ?_
      rintro v h' sz' ⟨F', A', rfl, rfl, rfl, hR2, hF2, h14⟩ - -
      dsimp only [stk]
      refine r_aload_n (n := 10) C dX5_item_9 rfl rfl rfl ?_
      refine r_iconst (n := 11) C dX5_item_10 rfl ?_
      refine r_callV (n := 14) (n0 := 1) (ci := 5) C (ct_hold (xL x) g o F' A' r sz 1 hR2 (by omega)) (lw_V q902 q904 qs19 q48 q905) ⟨by decide, by decide, by decide +kernel⟩ rfl MH_o rfl dX5_item_11 rfl rfl ?_
      rintro v h' sz' ⟨F2, A2, rfl, rfl, rfl, hR3, hF3, h143⟩ - -
      dsimp only [stk]
      refine r_return C hQ dX5_item_14 ?_
      exact ⟨_, _, rfl, rfl, rfl, hR3, hF2.tr hF3⟩
theorem fl_nil {s d : Int} (h : fl [] s d = none) : d = 0 ∧ (s = 1 ∨ s = 6) := by
  unfold fl at h
  split at h
  · assumption
  · cases h
theorem fl_cons {c : Int} {cs : List Int} {s d : Int} (h : fl (c :: cs) s d = none) : 0 ≤ nxS s c d ∧ fl cs (nxS s c d) (dpS s c d) = none := by
  unfold fl at h
  split at h
  · cases h
  · exact ⟨by omega, h⟩
theorem fl_set {c : Int} {cs : List Int} {s d : Int} (hs : s = 2 ∨ s = 3 ∨ s = 4) (h : fl (c :: cs) s d = none) : (97 ≤ c ∧ c ≤ 122 ∧ fl cs 4 d = none) ∨ (s = 2 ∧ c = 94 ∧ fl cs 3 d = none) ∨ (s = 4 ∧ c = 93 ∧ fl cs 1 d = none) := by
  obtain ⟨h1, h2⟩ := fl_cons h
  have hd : dpS s c d = d := by
    unfold dpS
    rw [if_neg (by omega), if_neg (by omega)]
  rw [hd] at h2
  unfold nxS at h1 h2
  rw [if_pos hs] at h1 h2
  by_cases a1 : 97 ≤ c ∧ c ≤ 122
  · rw [if_pos a1] at h2
    exact Or.inl ⟨a1.1, a1.2, h2⟩
  · rw [if_neg a1] at h1 h2
    by_cases a2 : s = 2 ∧ c = 94
    · rw [if_pos a2] at h2
      exact Or.inr (Or.inl ⟨a2.1, a2.2, h2⟩)
    · rw [if_neg a2] at h1 h2
      by_cases a3 : s = 4 ∧ c = 93
      · rw [if_pos a3] at h2
        exact Or.inr (Or.inr ⟨a3.1, a3.2, h2⟩)
      · rw [if_neg a3] at h1
        omega
theorem sl_c {T : Nat → Int} {k n : Int} (h0 : 0 ≤ k) (h : k < n) : sl T k.toNat (n - k).toNat = T k.toNat :: sl T (k + 1).toNat (n - (k + 1)).toNat := by
  rw [show (n - k).toNat = (n - (k + 1)).toNat + 1 by omega, sl, show k.toNat + 1 = (k + 1).toNat by omega]
theorem sl_0 {T : Nat → Int} {k n : Int} (h : n ≤ k) : sl T k.toNat (n - k).toNat = [] := by
  rw [show (n - k).toNat = 0 by omega, sl]
theorem setS_t {c : Int} {cs : List Int} (h : c = 94) : setS (c :: cs) = (zand 67108863 (zxor (ltS cs 0).1 (-1)), (ltS cs 0).2) := by
  unfold setS
  exact if_pos h
theorem setS_f {c : Int} {cs : List Int} (h : ¬ c = 94) : setS (c :: cs) = ltS (c :: cs) 0 := by
  unfold setS
  exact if_neg h
/-- set(k), behind its bracket at k: cs is what comes behind the bracket -/
theorem ct_set (l : Launch) (g : GG) (o : Nat) (F : Nat → Int) (A : Nat → Nat → Int) (r : HM) (sz : Nat) (k d : Int) (hk : 0 ≤ k ∧ k < F 0) (hn : F 0 ≤ 40) (hc : ∀ j : Nat, (j : Int) < F 0 → 0 ≤ A 0 j ∧ A 0 j < 65536) (hfl : fl (sl (A 0) (k + 1).toNat (F 0 - (k + 1)).toNat) 2 d = none) : MT l yX5_set cX5_set 4 (some .int) 0 [.ref o, vI k] g o F A r sz (fun v F' A' => ∃ (p' lt : Int), v = some (vI p') ∧ k < p' ∧ p' ≤ F 0 ∧ setS (sl (A 0) (k + 1).toNat (F 0 - (k + 1)).toNat) = (lt, sl (A 0) p'.toNat (F 0 - p').toNat) ∧ fl (sl (A 0) p'.toNat (F 0 - p').toNat) 1 d = none ∧ F' = va_up F 14 lt ∧ A' = A) := by
  have hlt : k + 1 < F 0 := by
    by_cases h9 : k + 1 < F 0
    · exact h9
    · rw [sl_0 (by omega)] at hfl
      have := fl_nil hfl
      omega
  have hck := hc (k + 1).toNat (by omega)
  rw [sl_c (by omega) hlt] at hfl ⊢
  refine CT.of (lo := [some (.ref o), some (vI k), none, none]) (by decide) (by simp [Value.category]) (Nat.le_of_ble_eq_true rfl) rfl ?_
  intro x h0 Q C hQ hl hni
  -- the loop
  have key : ∀ (ot : Int) (cs0 : List Int) (res : Int × List Int), (ot = 0 ∨ ot = 1) → (∀ (lt p' : Int), ltS cs0 0 = (lt, sl (A 0) p'.toNat (F 0 - p').toNat) → setS (A 0 (k + 1).toNat :: sl (A 0) (k + 1 + 1).toNat (F 0 - (k + 1 + 1)).toNat) = (if ot = 1 then zand 67108863 (zxor lt (-1)) else lt, sl (A 0) p'.toNat (F 0 - p').toNat)) → ∀ (p acc s : Int), (k < p ∧ p ≤ F 0 ∧ (s = 2 ∨ s = 3 ∨ s = 4) ∧ (s = 2 → A 0 p.toNat ≠ 94) ∧ fl (sl (A 0) p.toNat (F 0 - p).toNat) s d = none ∧ ltS cs0 0 = ltS (sl (A 0) p.toNat (F 0 - p).toNat) acc) → V x g h0 Q (MH g o (va_up F 14 acc) A r) sz 0 0 38 [some (.ref o), some (vI k), some (vI p), some (vI ot)] [] := by
    intro ot cs0 res hot hres
    refine lpv3 (fun p acc s => V x g h0 Q (MH g o (va_up F 14 acc) A r) sz 0 0 38 [some (.ref o), some (vI k), some (vI p), some (vI ot)] []) _ (fun p acc s => (F 0 - p).toNat) ?_
    rintro p acc s ⟨hkp, hp, hs, hs2, hf, hl2⟩ ih
    have hpl : p < F 0 := by
      by_cases h9 : p < F 0
      · exact h9
      · rw [sl_0 (by omega)] at hf
        have := fl_nil hf
        omega
    have hcp := hc p.toNat (by omega)
    rw [sl_c (by omega) hpl] at hf hl2
    have hfs := fl_set hs hf
    refine r_aload_n (n := 39) C dX5_set_38 rfl rfl rfl ?_
    refine r_get (n := 42) (ci := 5) (k := 1) C in_X5 rfl (by decide) q785 rfl dX5_set_39 rfl MH_o rfl ?_
    refine r_iload_n (n := 43) C dX5_set_42 rfl rfl rfl ?_
    refine r_iaload (n := 44) (N := 40) C dX5_set_43 rfl (MH_a 0 (by decide)) ?_
    refine r_bipush (n := 46) C dX5_set_44 (by decide) rfl ?_
    refine r_icmp_eq (t := 75) (n := 49) C dX5_set_46 (by decide) rfl (fun c_46 => ?_) (fun c_46 => ?_)
    · have hfs2 : fl (sl (A 0) (p + 1).toNat (F 0 - (p + 1)).toNat) 1 d = none := by
        rcases hfs with ⟨a1, a2, a3⟩ | ⟨a1, a2, a3⟩ | ⟨a1, a2, a3⟩
        · omega
        · omega
        · exact a3
      rw [ltS, if_pos (by omega)] at hl2
      have hr := hres acc (p + 1) hl2
      have e14 : va_up F 14 acc 14 = acc := by simp [va_up]
      have k96 : ∀ lt : Int, lt = (if ot = 1 then zand 67108863 (zxor acc (-1)) else acc) → V x g h0 Q (MH g o (va_up F 14 acc) A r) sz 0 0 96 [some (.ref o), some (vI k), some (vI p), some (vI ot)] [vI lt, .ref o] := by
        intro lt elt
        rw [← elt] at hr
        refine r_mput (n := 99) (ty := .int) (k := 14) C (by decide) q798 rfl rfl (by decide +kernel) rfl rfl dX5_set_96 rfl rfl ?_
        refine r_iload_n (n := 100) C dX5_set_99 rfl rfl rfl ?_
        refine r_iconst (n := 101) C dX5_set_100 rfl ?_
        refine r_iadd (n := 102) C dX5_set_101 rfl ?_
        refine r_ireturn C hQ dX5_set_102 ?_
        refine ⟨_, _, rfl, rfl, p + 1, lt, rfl, by omega, by omega, hr, hfs2, ?_, rfl⟩
        funext q
        unfold va_up
        split <;> rfl
      refine r_aload_n (n := 76) C dX5_set_75 rfl rfl rfl ?_
      refine r_iload_n (n := 77) C dX5_set_76 rfl rfl rfl ?_
      refine r_if_eq (t := 92) (n := 80) C dX5_set_77 (by decide) rfl (fun c_77 => ?_) (fun c_77 => ?_)
      · refine r_aload_n (n := 93) C dX5_set_92 rfl rfl rfl ?_
        refine r_get (n := 96) (ci := 5) (k := 14) C in_X5 rfl (by decide) q798 rfl dX5_set_93 rfl MH_o rfl ?_
        first | (exfalso; omega) | skip
        refine k96 _ ?_
        first | rw [if_pos (by omega)] | rw [if_neg (by omega), e14]
      · refine r_ldc (n := 82) (z := 67108863) C q914 (by decide) dX5_set_80 rfl ?_
        refine r_aload_n (n := 83) C dX5_set_82 rfl rfl rfl ?_
        refine r_get (n := 86) (ci := 5) (k := 14) C in_X5 rfl (by decide) q798 rfl dX5_set_83 rfl MH_o rfl ?_
        rw [e14]
        refine r_iconst (n := 87) C dX5_set_86 rfl ?_
        refine r_ixor (n := 88) C dX5_set_87 rfl ?_
        refine r_iand (n := 89) C dX5_set_88 rfl ?_
        refine r_goto (n := 96) C dX5_set_89 (by decide) ?_
        first | (exfalso; omega) | skip
        refine k96 _ ?_
        first | rw [if_pos (by omega)] | rw [if_neg (by omega), e14]
    · have hfs2 : 97 ≤ A 0 p.toNat ∧ A 0 p.toNat ≤ 122 ∧ fl (sl (A 0) (p + 1).toNat (F 0 - (p + 1)).toNat) 4 d = none := by
        rcases hfs with ⟨a1, a2, a3⟩ | ⟨a1, a2, a3⟩ | ⟨a1, a2, a3⟩
        · exact ⟨a1, a2, a3⟩
        · exact absurd a2 (hs2 a1)
        · omega
      rw [ltS, if_neg (by omega)] at hl2
      have e14 : va_up F 14 acc 14 = acc := by simp [va_up]
      have euu : ∀ z : Int, va_up (va_up F 14 acc) 14 z = va_up F 14 z := fun z => by
        funext q
        unfold va_up
        split <;> rfl
      refine r_aload_n (n := 50) C dX5_set_49 rfl rfl rfl ?_
      refine r_dup (n := 51) C dX5_set_50 rfl rfl ?_
      refine r_get (n := 54) (ci := 5) (k := 14) C in_X5 rfl (by decide) q798 rfl dX5_set_51 rfl MH_o rfl ?_
      refine r_iconst (n := 55) C dX5_set_54 rfl ?_
      refine r_aload_n (n := 56) C dX5_set_55 rfl rfl rfl ?_
      refine r_get (n := 59) (ci := 5) (k := 1) C in_X5 rfl (by decide) q785 rfl dX5_set_56 rfl MH_o rfl ?_
      refine r_iload_n (n := 60) C dX5_set_59 rfl rfl rfl ?_
      refine r_iaload (n := 61) (N := 40) C dX5_set_60 rfl (MH_a 0 (by decide)) ?_
      refine r_bipush (n := 63) C dX5_set_61 (by decide) rfl ?_
      refine r_isub (n := 64) C dX5_set_63 rfl ?_
      refine r_ishl (n := 65) C dX5_set_64 rfl ?_
      rw [e14]
      refine r_ior (n := 66) C dX5_set_65 rfl ?_
      refine r_mput (n := 69) (ty := .int) (k := 14) C (by decide) q798 rfl rfl (by decide +kernel) rfl rfl dX5_set_66 rfl rfl ?_
      rw [euu]
      refine r_iinc (n := 72) C dX5_set_69 rfl rfl ?_
      refine r_goto (n := 38) C dX5_set_72 (by decide) ?_
      exact ih (p + 1) _ 4 ⟨by omega, by omega, by omega, by omega, hfs2.2.2, hl2⟩ (by omega)
  have hfs := fl_set (Or.inl rfl) hfl
  refine r_iload_n (n := 1) C dX5_set_0 rfl rfl rfl ?_
  refine r_iconst (n := 2) C dX5_set_1 rfl ?_
  refine r_iadd (n := 3) C dX5_set_2 rfl ?_
  refine r_istore_n (n := 4) C dX5_set_3 rfl rfl ?_
  refine r_aload_n (n := 5) C dX5_set_4 rfl rfl rfl ?_
  refine r_get (n := 8) (ci := 5) (k := 1) C in_X5 rfl (by decide) q785 rfl dX5_set_5 rfl MH_o rfl ?_
  refine r_iload_n (n := 9) C dX5_set_8 rfl rfl rfl ?_
  refine r_iaload (n := 10) (N := 40) C dX5_set_9 rfl (MH_a 0 (by decide)) ?_
  refine r_bipush (n := 12) C dX5_set_10 (by decide) rfl ?_
  refine r_icmp_ne (t := 19) (n := 15) C dX5_set_12 (by decide) rfl (fun c_12 => ?_) (fun c_12 => ?_)
  · refine r_iconst (n := 20) C dX5_set_19 rfl ?_
    refine r_istore_n (n := 21) C dX5_set_20 rfl rfl ?_
    refine r_iload_n (n := 22) C dX5_set_21 rfl rfl rfl ?_
    refine r_if_eq (t := 31) (n := 25) C dX5_set_22 (by decide) rfl (fun c_22 => ?_) (fun c_22 => ?_)
    · refine r_iload_n (n := 32) C dX5_set_31 rfl rfl rfl ?_
      refine r_istore_n (n := 33) C dX5_set_32 rfl rfl ?_
      refine r_aload_n (n := 34) C dX5_set_33 rfl rfl rfl ?_
      refine r_iconst (n := 35) C dX5_set_34 rfl ?_
      refine r_mput (n := 38) (ty := .int) (k := 14) C (by decide) q798 rfl rfl (by decide +kernel) rfl rfl dX5_set_35 rfl rfl ?_
      first
        | (exfalso; omega)
        | (refine key 1 (sl (A 0) (k + 1 + 1).toNat (F 0 - (k + 1 + 1)).toNat) (0, []) (by omega) ?_ (k + 1 + 1) 0 3 ⟨by omega, by omega, by omega, by omega, ?_, rfl⟩
           · intro lt p' e
             rw [setS_t (by omega), if_pos rfl, e]
           · rcases hfs with ⟨a1, a2, a3⟩ | ⟨a1, a2, a3⟩ | ⟨a1, a2, a3⟩
             · omega
             · exact a3
             · omega)
        | (refine key 0 (A 0 (k + 1).toNat :: sl (A 0) (k + 1 + 1).toNat (F 0 - (k + 1 + 1)).toNat) (0, []) (by omega) ?_ (k + 1) 0 2 ⟨by omega, by omega, by omega, fun _ => by omega, ?_, ?_⟩
           · intro lt p' e
             rw [setS_f (by omega), if_neg (by omega), e]
           · rw [sl_c (by omega) hlt]
             exact hfl
           · rw [sl_c (by omega) hlt])
    · refine r_iload_n (n := 26) C dX5_set_25 rfl rfl rfl ?_
      refine r_iconst (n := 27) C dX5_set_26 rfl ?_
      refine r_iadd (n := 28) C dX5_set_27 rfl ?_
      refine r_goto (n := 32) C dX5_set_28 (by decide) ?_
      refine r_istore_n (n := 33) C dX5_set_32 rfl rfl ?_
      refine r_aload_n (n := 34) C dX5_set_33 rfl rfl rfl ?_
      refine r_iconst (n := 35) C dX5_set_34 rfl ?_
      refine r_mput (n := 38) (ty := .int) (k := 14) C (by decide) q798 rfl rfl (by decide +kernel) rfl rfl dX5_set_35 rfl rfl ?_
      first
        | (exfalso; omega)
        | (refine key 1 (sl (A 0) (k + 1 + 1).toNat (F 0 - (k + 1 + 1)).toNat) (0, []) (by omega) ?_ (k + 1 + 1) 0 3 ⟨by omega, by omega, by omega, by omega, ?_, rfl⟩
           · intro lt p' e
             rw [setS_t (by omega), if_pos rfl, e]
           · rcases hfs with ⟨a1, a2, a3⟩ | ⟨a1, a2, a3⟩ | ⟨a1, a2, a3⟩
             · omega
             · exact a3
             · omega)
        | (refine key 0 (A 0 (k + 1).toNat :: sl (A 0) (k + 1 + 1).toNat (F 0 - (k + 1 + 1)).toNat) (0, []) (by omega) ?_ (k + 1) 0 2 ⟨by omega, by omega, by omega, fun _ => by omega, ?_, ?_⟩
           · intro lt p' e
             rw [setS_f (by omega), if_neg (by omega), e]
           · rw [sl_c (by omega) hlt]
             exact hfl
           · rw [sl_c (by omega) hlt])
  · refine r_iconst (n := 16) C dX5_set_15 rfl ?_
    refine r_goto (n := 20) C dX5_set_16 (by decide) ?_
    refine r_istore_n (n := 21) C dX5_set_20 rfl rfl ?_
    refine r_iload_n (n := 22) C dX5_set_21 rfl rfl rfl ?_
    refine r_if_eq (t := 31) (n := 25) C dX5_set_22 (by decide) rfl (fun c_22 => ?_) (fun c_22 => ?_)
    · refine r_iload_n (n := 32) C dX5_set_31 rfl rfl rfl ?_
      refine r_istore_n (n := 33) C dX5_set_32 rfl rfl ?_
      refine r_aload_n (n := 34) C dX5_set_33 rfl rfl rfl ?_
      refine r_iconst (n := 35) C dX5_set_34 rfl ?_
      refine r_mput (n := 38) (ty := .int) (k := 14) C (by decide) q798 rfl rfl (by decide +kernel) rfl rfl dX5_set_35 rfl rfl ?_
      first
        | (exfalso; omega)
        | (refine key 1 (sl (A 0) (k + 1 + 1).toNat (F 0 - (k + 1 + 1)).toNat) (0, []) (by omega) ?_ (k + 1 + 1) 0 3 ⟨by omega, by omega, by omega, by omega, ?_, rfl⟩
           · intro lt p' e
             rw [setS_t (by omega), if_pos rfl, e]
           · rcases hfs with ⟨a1, a2, a3⟩ | ⟨a1, a2, a3⟩ | ⟨a1, a2, a3⟩
             · omega
             · exact a3
             · omega)
        | (refine key 0 (A 0 (k + 1).toNat :: sl (A 0) (k + 1 + 1).toNat (F 0 - (k + 1 + 1)).toNat) (0, []) (by omega) ?_ (k + 1) 0 2 ⟨by omega, by omega, by omega, fun _ => by omega, ?_, ?_⟩
           · intro lt p' e
             rw [setS_f (by omega), if_neg (by omega), e]
           · rw [sl_c (by omega) hlt]
             exact hfl
           · rw [sl_c (by omega) hlt])
    · refine r_iload_n (n := 26) C dX5_set_25 rfl rfl rfl ?_
      refine r_iconst (n := 27) C dX5_set_26 rfl ?_
      refine r_iadd (n := 28) C dX5_set_27 rfl ?_
      refine r_goto (n := 32) C dX5_set_28 (by decide) ?_
      refine r_istore_n (n := 33) C dX5_set_32 rfl rfl ?_
      refine r_aload_n (n := 34) C dX5_set_33 rfl rfl rfl ?_
      refine r_iconst (n := 35) C dX5_set_34 rfl ?_
      refine r_mput (n := 38) (ty := .int) (k := 14) C (by decide) q798 rfl rfl (by decide +kernel) rfl rfl dX5_set_35 rfl rfl ?_
      first
        | (exfalso; omega)
        | (refine key 1 (sl (A 0) (k + 1 + 1).toNat (F 0 - (k + 1 + 1)).toNat) (0, []) (by omega) ?_ (k + 1 + 1) 0 3 ⟨by omega, by omega, by omega, by omega, ?_, rfl⟩
           · intro lt p' e
             rw [setS_t (by omega), if_pos rfl, e]
           · rcases hfs with ⟨a1, a2, a3⟩ | ⟨a1, a2, a3⟩ | ⟨a1, a2, a3⟩
             · omega
             · exact a3
             · omega)
        | (refine key 0 (A 0 (k + 1).toNat :: sl (A 0) (k + 1 + 1).toNat (F 0 - (k + 1 + 1)).toNat) (0, []) (by omega) ?_ (k + 1) 0 2 ⟨by omega, by omega, by omega, fun _ => by omega, ?_, ?_⟩
           · intro lt p' e
             rw [setS_f (by omega), if_neg (by omega), e]
           · rw [sl_c (by omega) hlt]
             exact hfl
           · rw [sl_c (by omega) hlt])
