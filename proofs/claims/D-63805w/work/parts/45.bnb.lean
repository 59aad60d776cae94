/-! THE BENCH: leave, close, letter -/
theorem ct_leave (l : Launch) (g : GG) (h : HM) (sz bn lv : Nat) (len ad mi wr : Int) (tf : Nat → Int) (T : Nat → Nat → Int) (hB : BN g h bn len ad mi wr tf T) (hlv : lv < 16) (hT : GT (T lv)) : CT l yX1_leave cX1_leave 5 none 1 0 0 [.ref bn, vI lv] g h sz (BP g h sz bn lv (fun f' => ∀ i j : Nat, i ≤ j → (j : Int) ≤ len → tb f' i j = min (tb (T lv) i j) (((j : Int) - i) * ad))) := by
  obtain ⟨b1, b2, b3, b4, bl, ba, bm, bw, bt⟩ := hB
  obtain ⟨len, rfl⟩ : ∃ n : Nat, len = (n : Int) := ⟨len.toNat, by omega⟩
  have bA := b4 lv (by omega)
  refine CT.of (lo := [some (.ref bn), some (vI lv), none, none, none]) (by decide) (by simp [Value.category]) (Nat.le_of_ble_eq_true rfl) rfl ?_
  intro x h0 Q C hQ hl hni
  have L : ∀ (n : Nat) (p q : Nat) (f1 : Nat → Int), 100 * (len + 1 - p) + (len + 1 - q) < n → p ≤ q → q ≤ len + 1 → p ≤ len → GT f1 → (∀ i j : Nat, i ≤ j → j ≤ len → tb f1 i j = if i < p ∨ (i = p ∧ j < q) then min (tb (T lv) i j) (((j : Int) - i) * ad) else tb (T lv) i j) → V x g h0 Q (va_up h (bn + 3 + lv) (some (eI g 625 f1))) sz 0 0 20 [some (.ref bn), some (vI lv), some (.ref (bn + 3 + lv)), some (vI p), some (vI q)] [] := by
    intro n
    induction n with
    | zero => intro p q f1 hn; omega
    | succ n ih =>
      intro p q f1 hn hpq hql hpl hG hf
      refine r_iload (n := 22) C dX1_leave_20 rfl rfl ?_
      refine r_aload_n (n := 23) C dX1_leave_22 rfl rfl rfl ?_
      refine r_get (n := 26) (ci := 1) (k := 1) C in_X1 rfl (by decide) q83 rfl dX1_leave_23 rfl ((va_up_ne _ _ (by omega)).trans b1) rfl ?_
      refine r_icmp_gt (t := 65) (n := 29) C dX1_leave_26 (by decide) rfl (fun c_26 => ?_) (fun c_26 => ?_)
      · have hql : q = len + 1 := by omega
        subst hql
        refine r_iinc (n := 68) C dX1_leave_65 rfl rfl ?_
        refine r_goto (n := 9) C dX1_leave_68 (by decide) ?_
        refine r_iload_n (n := 10) C dX1_leave_9 rfl rfl rfl ?_
        refine r_aload_n (n := 11) C dX1_leave_10 rfl rfl rfl ?_
        refine r_get (n := 14) (ci := 1) (k := 1) C in_X1 rfl (by decide) q83 rfl dX1_leave_11 rfl ((va_up_ne _ _ (by omega)).trans b1) rfl ?_
        refine r_icmp_gt (t := 71) (n := 17) C dX1_leave_14 (by decide) rfl (fun c_14 => ?_) (fun c_14 => ?_)
        · refine r_return C hQ dX1_leave_71 ?_
          refine ⟨rfl, rfl, f1, rfl, hG, fun i j h1 h2 => ?_⟩
          rw [hf i j h1 (by omega), if_pos (by omega)]
        · refine r_iload_n (n := 18) C dX1_leave_17 rfl rfl rfl ?_
          refine r_istore (n := 20) C dX1_leave_18 rfl ?_
          refine V.ls (ih (p + 1) (p + 1) f1 (by omega) (by omega) (by omega) (by omega) hG ?_) ⟨rfl, rfl, rfl, congrArg (fun z => some (vI z)) (by omega), congrArg (fun z => some (vI z)) (by omega), trivial⟩
          intro i j h1 h2
          rw [hf i j h1 h2]
          by_cases c : i < p + 1
          · rw [if_pos (by omega), if_pos (by omega)]
          · rw [if_neg (by omega), if_neg (by omega)]
      · have hq : q ≤ len := by omega
        have hm : 0 ≤ ((q : Int) - p) * ad ∧ ((q : Int) - p) * ad ≤ 216 := jmul ba hpq (by omega)
        have r1 : 0 ≤ tb (T lv) p q ∧ tb (T lv) p q ≤ 16777216 := hT (25 * p + q) (by omega)
        have et : (25 * (p : Int) + q).toNat = 25 * p + q := by omega
        have ea : f1 (25 * (p : Int) + q).toNat = tb (T lv) p q := by
          rw [et]
          have := hf p q (by omega) (by omega)
          rw [if_neg (by omega)] at this
          exact this
        refine r_aload_n (n := 30) C dX1_leave_29 rfl rfl rfl ?_
        refine r_bipush (n := 32) C dX1_leave_30 (by decide) rfl ?_
        refine r_iload_n (n := 33) C dX1_leave_32 rfl rfl rfl ?_
        refine r_imul (n := 34) C dX1_leave_33 rfl ?_
        refine r_iload (n := 36) C dX1_leave_34 rfl rfl ?_
        refine r_iadd (n := 37) C dX1_leave_36 rfl ?_
        refine r_aload_n (n := 38) C dX1_leave_37 rfl rfl rfl ?_
        refine r_bipush (n := 40) C dX1_leave_38 (by decide) rfl ?_
        refine r_iload_n (n := 41) C dX1_leave_40 rfl rfl rfl ?_
        refine r_imul (n := 42) C dX1_leave_41 rfl ?_
        refine r_iload (n := 44) C dX1_leave_42 rfl rfl ?_
        refine r_iadd (n := 45) C dX1_leave_44 rfl ?_
        refine r_iaload (n := 46) C dX1_leave_45 rfl (va_up_self _ _ _) ?_
        rw [ea]
        refine r_iload (n := 48) C dX1_leave_46 rfl rfl ?_
        refine r_iload_n (n := 49) C dX1_leave_48 rfl rfl rfl ?_
        refine r_isub (n := 50) C dX1_leave_49 rfl ?_
        refine r_aload_n (n := 51) C dX1_leave_50 rfl rfl rfl ?_
        refine r_get (n := 54) (ci := 1) (k := 2) C in_X1 rfl (by decide) q85 rfl dX1_leave_51 rfl ((va_up_ne _ _ (by omega)).trans b1) rfl ?_
        refine r_imul (n := 55) C dX1_leave_54 rfl ?_
        refine r_mmin (n := 58) C q587 q322 q50 q323 dX1_leave_55 rfl ?_
        refine r_iastore (n := 59) C dX1_leave_58 rfl (va_up_self _ _ _) ?_
        rw [bx_uu, et]
        refine r_iinc (n := 62) C dX1_leave_59 rfl rfl ?_
        refine r_goto (n := 20) C dX1_leave_62 (by decide) ?_
        refine V.ls (ih p (q + 1) _ (by omega) (by omega) (by omega) (by omega) (hG.up (by omega)) ?_) ⟨rfl, rfl, rfl, rfl, congrArg (fun z => some (vI z)) (by omega), trivial⟩
        intro i j h1 h2
        rw [tb_up (by omega) (by omega), hf i j h1 h2]
        by_cases c : i = p ∧ j = q
        · obtain ⟨rfl, rfl⟩ := c
          rw [if_pos ⟨rfl, rfl⟩, if_pos (by omega)]
        · rw [if_neg c]
          by_cases c2 : i < p ∨ (i = p ∧ j < q)
          · rw [if_pos c2, if_pos (by omega)]
          · rw [if_neg c2, if_neg (by omega)]
  refine r_aload_n (n := 1) C dX1_leave_0 rfl rfl rfl ?_
  refine r_get (n := 4) (ci := 1) (k := 5) C in_X1 rfl (by decide) q91 rfl dX1_leave_1 rfl (by assumption) rfl ?_
  refine r_iload_n (n := 5) C dX1_leave_4 rfl rfl rfl ?_
  refine r_aaload2 (n := 6) C dX1_leave_5 rfl (by assumption) (r := some (bn + 3 + lv)) rfl ?_
  refine r_astore_n (n := 7) C dX1_leave_6 rfl rfl ?_
  refine r_iconst (n := 8) C dX1_leave_7 rfl ?_
  refine r_istore_n (n := 9) C dX1_leave_8 rfl rfl ?_
  refine r_iload_n (n := 10) C dX1_leave_9 rfl rfl rfl ?_
  refine r_aload_n (n := 11) C dX1_leave_10 rfl rfl rfl ?_
  refine r_get (n := 14) (ci := 1) (k := 1) C in_X1 rfl (by decide) q83 rfl dX1_leave_11 rfl (by assumption) rfl ?_
  refine r_icmp_gt (t := 71) (n := 17) C dX1_leave_14 (by decide) rfl (fun c_14 => ?_) (fun c_14 => ?_)
  · omega
  · refine r_iload_n (n := 18) C dX1_leave_17 rfl rfl rfl ?_
    refine r_istore (n := 20) C dX1_leave_18 rfl ?_
    have := L (100 * (len + 1) + len + 2) 0 0 (T lv) (by omega) (by omega) (by omega) (by omega) hT (fun i j h1 h2 => by rw [if_neg (by omega)])
    rw [up_id bA] at this
    exact V.ls this ⟨rfl, rfl, rfl, rfl, rfl, trivial⟩
theorem clX_rg {t f : Nat → Nat → Int} {i j : Nat} (ht : ∀ k, i < k → k < j → 0 ≤ t i k) (hf : ∀ k, i ≤ k → k ≤ j → 0 ≤ f k j) (hf2 : f i j ≤ 16777216) (hij : i ≤ j) : ∀ m : Nat, i + 1 + m ≤ j ∨ m = 0 → 0 ≤ clX t f i j m ∧ clX t f i j m ≤ 16777216
  | 0, _ => by
    rw [clX]
    exact ⟨hf i (Nat.le_refl _) hij, hf2⟩
  | m + 1, hm => by
    have ih := clX_rg ht hf hf2 hij m (by omega)
    have h1 := ht (i + 1 + m) (by omega) (by omega)
    have h2 := hf (i + 1 + m) (by omega) (by omega)
    rw [clX]
    omega
theorem clX_ext {t t' f : Nat → Nat → Int} {i j : Nat} : ∀ m : Nat, (∀ k, i < k → k ≤ i + m → t' i k = t i k) → clX t' f i j m = clX t f i j m
  | 0, _ => rfl
  | m + 1, ht => by
    rw [clX, clX, clX_ext m (fun k a b => ht k a (by omega)), ht (i + 1 + m) (by omega) (by omega)]
theorem ct_close (l : Launch) (g : GG) (h : HM) (sz bn lv : Nat) (len ad mi wr : Int) (tf : Nat → Int) (T : Nat → Nat → Int) (hB : BN g h bn len ad mi wr tf T) (hlv : lv < 16) (hT : GT (T lv)) : CT l yX1_close cX1_close 7 none 1 0 0 [.ref bn, vI lv] g h sz (BP g h sz bn lv (fun f' => ∀ i j : Nat, i ≤ j → (j : Int) ≤ len → tb f' i j = clX (tb f') (tb (T lv)) i j (j - i - 1))) := by
  obtain ⟨b1, b2, b3, b4, bl, ba, bm, bw, bt⟩ := hB
  obtain ⟨len, rfl⟩ : ∃ n : Nat, len = (n : Int) := ⟨len.toNat, by omega⟩
  have bA := b4 lv (by omega)
  refine CT.of (lo := [some (.ref bn), some (vI lv), none, none, none, none, none]) (by decide) (by simp [Value.category]) (Nat.le_of_ble_eq_true rfl) rfl ?_
  intro x h0 Q C hQ hl hni
  have L : ∀ (n : Nat) (p q : Nat) (f1 : Nat → Int), 100 * (len + 1 - p) + (len + 1 - q) < n → p ≤ q → q ≤ len + 1 → p ≤ len → GT f1 → (∀ i j : Nat, i ≤ j → j ≤ len → tb f1 i j = if i < p ∨ (i = p ∧ j < q) then clX (tb f1) (tb (T lv)) i j (j - i - 1) else tb (T lv) i j) → V x g h0 Q (va_up h (bn + 3 + lv) (some (eI g 625 f1))) sz 0 0 20 [some (.ref bn), some (vI lv), some (.ref (bn + 3 + lv)), some (vI p), some (vI q), none, none] [] := by
    intro n
    induction n with
    | zero => intro p q f1 hn; omega
    | succ n ih =>
      intro p q f1 hn hpq hql hpl hG hf
      refine r_iload (n := 22) C dX1_close_20 rfl rfl ?_
      refine r_aload_n (n := 23) C dX1_close_22 rfl rfl rfl ?_
      refine r_get (n := 26) (ci := 1) (k := 1) C in_X1 rfl (by decide) q83 rfl dX1_close_23 rfl ((va_up_ne _ _ (by omega)).trans b1) rfl ?_
      refine r_icmp_gt (t := 102) (n := 29) C dX1_close_26 (by decide) rfl (fun c_26 => ?_) (fun c_26 => ?_)
      · have hql : q = len + 1 := by omega
        subst hql
        refine r_iinc (n := 105) C dX1_close_102 rfl rfl ?_
        refine r_goto (n := 9) C dX1_close_105 (by decide) ?_
        refine r_iload_n (n := 10) C dX1_close_9 rfl rfl rfl ?_
        refine r_aload_n (n := 11) C dX1_close_10 rfl rfl rfl ?_
        refine r_get (n := 14) (ci := 1) (k := 1) C in_X1 rfl (by decide) q83 rfl dX1_close_11 rfl ((va_up_ne _ _ (by omega)).trans b1) rfl ?_
        refine r_icmp_gt (t := 108) (n := 17) C dX1_close_14 (by decide) rfl (fun c_14 => ?_) (fun c_14 => ?_)
        · refine r_return C hQ dX1_close_108 ?_
          refine ⟨rfl, rfl, f1, rfl, hG, fun i j h1 h2 => ?_⟩
          have := hf i j h1 (by omega)
          rw [if_pos (by omega)] at this
          exact this
        · refine r_iload_n (n := 18) C dX1_close_17 rfl rfl rfl ?_
          refine r_istore (n := 20) C dX1_close_18 rfl ?_
          refine V.ls (ih (p + 1) (p + 1) f1 (by omega) (by omega) (by omega) (by omega) hG ?_) ⟨rfl, rfl, rfl, congrArg (fun z => some (vI z)) (by omega), congrArg (fun z => some (vI z)) (by omega), trivial⟩
          intro i j h1 h2
          rw [hf i j h1 h2]
          by_cases c : i < p + 1
          · rw [if_pos (by omega), if_pos (by omega)]
          · rw [if_neg (by omega), if_neg (by omega)]
      · have hq : q ≤ len := by omega
        have et : (25 * (p : Int) + q).toNat = 25 * p + q := by omega
        have ea : f1 (25 * (p : Int) + q).toNat = tb (T lv) p q := by
          rw [et]
          have := hf p q (by omega) (by omega)
          rw [if_neg (by omega)] at this
          exact this
        have hr := clX_rg (t := tb f1) (f := tb (T lv)) (i := p) (j := q) (fun k k1 k2 => (hG _ (by omega)).1) (fun k k1 k2 => (hT _ (by omega)).1) (hT _ (by omega)).2 hpq
        have L3 : ∀ (m k : Nat), q + 1 - k < m → p + 1 ≤ k → (k ≤ q ∨ k = p + 1) → V x g h0 Q (va_up h (bn + 3 + lv) (some (eI g 625 f1))) sz 0 0 45 [some (.ref bn), some (vI lv), some (.ref (bn + 3 + lv)), some (vI p), some (vI q), some (vI (clX (tb f1) (tb (T lv)) p q (k - p - 1))), some (vI k)] [] := by
          intro m
          induction m with
          | zero => intro k hm; omega
          | succ m ih3 =>
            intro k hm hk1 hk2
            have hrk := hr (k - p - 1) (by omega)
            refine r_iload (n := 47) C dX1_close_45 rfl rfl ?_
            refine r_iload (n := 49) C dX1_close_47 rfl rfl ?_
            refine r_icmp_ge (t := 85) (n := 52) C dX1_close_49 (by decide) rfl (fun c_49 => ?_) (fun c_49 => ?_)
            · have e : k - p - 1 = q - p - 1 := by omega
              rw [e] at hrk ⊢
              refine r_aload_n (n := 86) C dX1_close_85 rfl rfl rfl ?_
              refine r_bipush (n := 88) C dX1_close_86 (by decide) rfl ?_
              refine r_iload_n (n := 89) C dX1_close_88 rfl rfl rfl ?_
              refine r_imul (n := 90) C dX1_close_89 rfl ?_
              refine r_iload (n := 92) C dX1_close_90 rfl rfl ?_
              refine r_iadd (n := 93) C dX1_close_92 rfl ?_
              refine r_iload (n := 95) C dX1_close_93 rfl rfl ?_
              refine r_iastore (n := 96) C dX1_close_95 rfl (va_up_self _ _ _) ?_
              rw [bx_uu, et]
              refine r_iinc (n := 99) C dX1_close_96 rfl rfl ?_
              refine r_goto (n := 20) C dX1_close_99 (by decide) ?_
              refine V.ls (ih p (q + 1) _ (by omega) (by omega) (by omega) (by omega) (hG.up hrk) ?_) ⟨rfl, rfl, rfl, rfl, congrArg (fun z => some (vI z)) (by omega), trivial⟩
              intro i j h1 h2
              have hx : (i < p ∨ (i = p ∧ j ≤ q)) → clX (tb (va_up f1 (25 * p + q) (clX (tb f1) (tb (T lv)) p q (q - p - 1)))) (tb (T lv)) i j (j - i - 1) = clX (tb f1) (tb (T lv)) i j (j - i - 1) := fun hc => clX_ext _ (fun k k1 k2 => by rw [tb_up (by omega) (by omega), if_neg (by omega)])
              rw [tb_up (by omega) (by omega), hf i j h1 h2]
              by_cases c : i = p ∧ j = q
              · obtain ⟨rfl, rfl⟩ := c
                rw [if_pos ⟨rfl, rfl⟩, if_pos (by omega), hx (by omega)]
              · rw [if_neg c]
                by_cases c2 : i < p ∨ (i = p ∧ j < q)
                · rw [if_pos c2, if_pos (by omega), hx (by omega)]
                · rw [if_neg c2, if_neg (by omega)]
            · have hkq : k < q := by omega
              have ea2 : f1 (25 * (p : Int) + k).toNat = tb f1 p k := by
                rw [show (25 * (p : Int) + k).toNat = 25 * p + k by omega]
              have eb : f1 (25 * (k : Int) + q).toNat = tb (T lv) k q := by
                rw [show (25 * (k : Int) + q).toNat = 25 * k + q by omega]
                have := hf k q (by omega) (by omega)
                rw [if_neg (by omega)] at this
                exact this
              have r1 : 0 ≤ tb f1 p k ∧ tb f1 p k ≤ 16777216 := hG (25 * p + k) (by omega)
              have r2 : 0 ≤ tb (T lv) k q ∧ tb (T lv) k q ≤ 16777216 := hT (25 * k + q) (by omega)
              refine r_iload (n := 54) C dX1_close_52 rfl rfl ?_
              refine r_aload_n (n := 55) C dX1_close_54 rfl rfl rfl ?_
              refine r_bipush (n := 57) C dX1_close_55 (by decide) rfl ?_
              refine r_iload_n (n := 58) C dX1_close_57 rfl rfl rfl ?_
              refine r_imul (n := 59) C dX1_close_58 rfl ?_
              refine r_iload (n := 61) C dX1_close_59 rfl rfl ?_
              refine r_iadd (n := 62) C dX1_close_61 rfl ?_
              refine r_iaload (n := 63) C dX1_close_62 rfl (va_up_self _ _ _) ?_
              rw [ea2]
              refine r_aload_n (n := 64) C dX1_close_63 rfl rfl rfl ?_
              refine r_bipush (n := 66) C dX1_close_64 (by decide) rfl ?_
              refine r_iload (n := 68) C dX1_close_66 rfl rfl ?_
              refine r_imul (n := 69) C dX1_close_68 rfl ?_
              refine r_iload (n := 71) C dX1_close_69 rfl rfl ?_
              refine r_iadd (n := 72) C dX1_close_71 rfl ?_
              refine r_iaload (n := 73) C dX1_close_72 rfl (va_up_self _ _ _) ?_
              rw [eb]
              refine r_iadd (n := 74) C dX1_close_73 rfl ?_
              refine r_mmin (n := 77) C q587 q322 q50 q323 dX1_close_74 rfl ?_
              refine r_istore (n := 79) C dX1_close_77 rfl ?_
              refine r_iinc (n := 82) C dX1_close_79 rfl rfl ?_
              refine r_goto (n := 45) C dX1_close_82 (by decide) ?_
              refine V.ls (ih3 (k + 1) (by omega) (by omega) (by omega)) ⟨rfl, rfl, rfl, rfl, rfl, congrArg (fun z => some (vI z)) ?_, congrArg (fun z => some (vI z)) (by omega), trivial⟩
              rw [show k + 1 - p - 1 = (k - p - 1) + 1 by omega, clX, show p + 1 + (k - p - 1) = k by omega]
        refine r_aload_n (n := 30) C dX1_close_29 rfl rfl rfl ?_
        refine r_bipush (n := 32) C dX1_close_30 (by decide) rfl ?_
        refine r_iload_n (n := 33) C dX1_close_32 rfl rfl rfl ?_
        refine r_imul (n := 34) C dX1_close_33 rfl ?_
        refine r_iload (n := 36) C dX1_close_34 rfl rfl ?_
        refine r_iadd (n := 37) C dX1_close_36 rfl ?_
        refine r_iaload (n := 38) C dX1_close_37 rfl (va_up_self _ _ _) ?_
        rw [ea]
        refine r_istore (n := 40) C dX1_close_38 rfl ?_
        refine r_iload_n (n := 41) C dX1_close_40 rfl rfl rfl ?_
        refine r_iconst (n := 42) C dX1_close_41 rfl ?_
        refine r_iadd (n := 43) C dX1_close_42 rfl ?_
        refine r_istore (n := 45) C dX1_close_43 rfl ?_
        refine V.ls (L3 (q + 2) (p + 1) (by omega) (by omega) (by omega)) ⟨rfl, rfl, rfl, rfl, rfl, congrArg (fun z => some (vI z)) ?_, congrArg (fun z => some (vI z)) (by omega), trivial⟩
        rw [show p + 1 - p - 1 = 0 by omega, clX]
  refine r_aload_n (n := 1) C dX1_close_0 rfl rfl rfl ?_
  refine r_get (n := 4) (ci := 1) (k := 5) C in_X1 rfl (by decide) q91 rfl dX1_close_1 rfl (by assumption) rfl ?_
  refine r_iload_n (n := 5) C dX1_close_4 rfl rfl rfl ?_
  refine r_aaload2 (n := 6) C dX1_close_5 rfl (by assumption) (r := some (bn + 3 + lv)) rfl ?_
  refine r_astore_n (n := 7) C dX1_close_6 rfl rfl ?_
  refine r_iconst (n := 8) C dX1_close_7 rfl ?_
  refine r_istore_n (n := 9) C dX1_close_8 rfl rfl ?_
  refine r_iload_n (n := 10) C dX1_close_9 rfl rfl rfl ?_
  refine r_aload_n (n := 11) C dX1_close_10 rfl rfl rfl ?_
  refine r_get (n := 14) (ci := 1) (k := 1) C in_X1 rfl (by decide) q83 rfl dX1_close_11 rfl (by assumption) rfl ?_
  refine r_icmp_gt (t := 108) (n := 17) C dX1_close_14 (by decide) rfl (fun c_14 => ?_) (fun c_14 => ?_)
  · omega
  · refine r_iload_n (n := 18) C dX1_close_17 rfl rfl rfl ?_
    refine r_istore (n := 20) C dX1_close_18 rfl ?_
    have := L (100 * (len + 1) + len + 2) 0 0 (T lv) (by omega) (by omega) (by omega) (by omega) hT (fun i j h1 h2 => by rw [if_neg (by omega)])
    rw [up_id bA] at this
    exact V.ls this ⟨rfl, rfl, rfl, rfl, rfl, trivial⟩
def chp (set wr : Int) (tx : Nat → Int) (p m : Nat) : Int := if m = 0 then 16777216 else if fitB set tx p m then 0 else wr
theorem chp_s {set wr : Int} {tx : Nat → Int} {p m : Nat} {z : Int} (hw : 0 ≤ wr ∧ wr ≤ 9) (hz : (zand (zshr set (tx (p + m))) 1 = 1 ∧ z = 0) ∨ (¬ zand (zshr set (tx (p + m))) 1 = 1 ∧ z = wr)) : min (chp set wr tx p m) z = chp set wr tx p (m + 1) := by
  unfold chp
  rw [if_neg (show ¬ m + 1 = 0 by omega), fitB]
  by_cases hm : m = 0
  · subst hm
    rw [if_pos rfl, fitB, Bool.false_or]
    rcases hz with ⟨h1, h2⟩ | ⟨h1, h2⟩
    · rw [decide_eq_true h1, if_pos rfl, h2]
      omega
    · rw [decide_eq_false h1, if_neg (by decide), h2]
      omega
  · rw [if_neg hm]
    rcases hz with ⟨h1, h2⟩ | ⟨h1, h2⟩
    · simp only [h1, h2, decide_true, Bool.or_true, if_true]
      split <;> omega
    · simp only [h1, h2, decide_false, Bool.or_false]
      split <;> omega
theorem chp_rg {set wr : Int} {tx : Nat → Int} {p m : Nat} (hw : 0 ≤ wr ∧ wr ≤ 9) : 0 ≤ chp set wr tx p m ∧ chp set wr tx p m ≤ 16777216 := by
  unfold chp
  split
  · omega
  · split <;> omega
theorem ct_letter (l : Launch) (g : GG) (h : HM) (sz bn lv : Nat) (len ad mi wr s : Int) (tf : Nat → Int) (T : Nat → Nat → Int) (hB : BN g h bn len ad mi wr tf T) (hlv : lv < 16) (hT : GT (T lv)) (hs : -2147483648 ≤ s ∧ s < 2147483648) : CT l yX1_letter cX1_letter 7 none 1 0 0 [.ref bn, vI lv, vI s] g h sz (BP g h sz bn lv (fun f' => ∀ i j : Nat, i ≤ j → (j : Int) ≤ len → tb f' i j = oSet ad mi wr s tf i j)) := by
  obtain ⟨b1, b2, b3, b4, bl, ba, bm, bw, bt⟩ := hB
  obtain ⟨len, rfl⟩ : ∃ n : Nat, len = (n : Int) := ⟨len.toNat, by omega⟩
  have bA := b4 lv (by omega)
  refine CT.of (lo := [some (.ref bn), some (vI lv), some (vI s), none, none, none, none]) (by decide) (by simp [Value.category]) (Nat.le_of_ble_eq_true rfl) rfl ?_
  intro x h0 Q C hQ hl hni
  have nb : ∀ f1 : Nat → Int, va_up h (bn + 3 + lv) (some (eI g 625 f1)) bn = h bn := fun f1 => va_up_ne _ _ (by omega)
  have L0 : ∀ (n : Nat), (∀ (p q : Nat) (f1 : Nat → Int), 100 * (len + 1 - p) + (len + 1 - q) < n → p < q → q ≤ len + 1 → p ≤ len → GT f1 → (∀ i j : Nat, i ≤ j → j ≤ len → (i < p ∨ (i = p ∧ j < q)) → tb f1 i j = oSet ad mi wr s tf i j) → V x g h0 Q (va_up h (bn + 3 + lv) (some (eI g 625 f1))) sz 0 0 43 [some (.ref bn), some (vI lv), some (vI s), some (.ref (bn + 3 + lv)), some (vI p), some (vI (chp s wr tf p (q - p - 1))), some (vI q)] []) → ∀ (p : Nat) (f1 : Nat → Int), 100 * (len + 1 - p) + (len - p) < n ∨ len < p → p ≤ len + 1 → GT f1 → (∀ i j : Nat, i ≤ j → j ≤ len → i < p → tb f1 i j = oSet ad mi wr s tf i j) → V x g h0 Q (va_up h (bn + 3 + lv) (some (eI g 625 f1))) sz 0 0 10 [some (.ref bn), some (vI lv), some (vI s), some (.ref (bn + 3 + lv)), some (vI p), none, none] [] := by
    intro n ih p f1 hn hp hG hf
    refine r_iload (n := 12) C dX1_letter_10 rfl rfl ?_
    refine r_aload_n (n := 13) C dX1_letter_12 rfl rfl rfl ?_
    refine r_get (n := 16) (ci := 1) (k := 1) C in_X1 rfl (by decide) q83 rfl dX1_letter_13 rfl ((nb _).trans b1) rfl ?_
    refine r_icmp_gt (t := 139) (n := 19) C dX1_letter_16 (by decide) rfl (fun c_16 => ?_) (fun c_16 => ?_)
    · refine r_return C hQ dX1_letter_139 ?_
      exact ⟨rfl, rfl, f1, rfl, hG, fun i j h1 h2 => hf i j h1 (by omega) (by omega)⟩
    · refine r_aload_n (n := 20) C dX1_letter_19 rfl rfl rfl ?_
      refine r_bipush (n := 22) C dX1_letter_20 (by decide) rfl ?_
      refine r_iload (n := 24) C dX1_letter_22 rfl rfl ?_
      refine r_imul (n := 25) C dX1_letter_24 rfl ?_
      refine r_iload (n := 27) C dX1_letter_25 rfl rfl ?_
      refine r_iadd (n := 28) C dX1_letter_27 rfl ?_
      refine r_aload_n (n := 29) C dX1_letter_28 rfl rfl rfl ?_
      refine r_get (n := 32) (ci := 1) (k := 3) C in_X1 rfl (by decide) q87 rfl dX1_letter_29 rfl ((nb _).trans b1) rfl ?_
      refine r_iastore (n := 33) C dX1_letter_32 rfl (va_up_self _ _ _) ?_
      rw [bx_uu, show (25 * (p : Int) + p).toNat = 25 * p + p by omega]
      refine r_ldc (n := 35) (z := 16777216) C q586 (by decide) dX1_letter_33 rfl ?_
      refine r_istore (n := 37) C dX1_letter_35 rfl ?_
      refine r_iload (n := 39) C dX1_letter_37 rfl rfl ?_
      refine r_iconst (n := 40) C dX1_letter_39 rfl ?_
      refine r_iadd (n := 41) C dX1_letter_40 rfl ?_
      refine r_istore (n := 43) C dX1_letter_41 rfl ?_
      refine V.ls (ih p (p + 1) _ (by omega) (by omega) (by omega) (by omega) (hG.up (by omega)) ?_) ⟨rfl, rfl, rfl, rfl, rfl, congrArg (fun z => some (vI z)) (by rw [show p + 1 - p - 1 = 0 by omega]; rfl), congrArg (fun z => some (vI z)) (by omega), trivial⟩
      intro i j h1 h2 h3
      rw [tb_up (by omega) (by omega)]
      by_cases c : i = p ∧ j = p
      · obtain ⟨rfl, rfl⟩ := c
        rw [if_pos ⟨rfl, rfl⟩, oSet, if_pos rfl, Int.sub_self, Int.zero_mul, Int.add_zero]
      · rw [if_neg c]
        exact hf i j h1 h2 (by omega)
  have L : ∀ (n : Nat) (p q : Nat) (f1 : Nat → Int), 100 * (len + 1 - p) + (len + 1 - q) < n → p < q → q ≤ len + 1 → p ≤ len → GT f1 → (∀ i j : Nat, i ≤ j → j ≤ len → (i < p ∨ (i = p ∧ j < q)) → tb f1 i j = oSet ad mi wr s tf i j) → V x g h0 Q (va_up h (bn + 3 + lv) (some (eI g 625 f1))) sz 0 0 43 [some (.ref bn), some (vI lv), some (vI s), some (.ref (bn + 3 + lv)), some (vI p), some (vI (chp s wr tf p (q - p - 1))), some (vI q)] [] := by
    intro n
    induction n with
    | zero => intro p q f1 hn; omega
    | succ n ih =>
      intro p q f1 hn hpq hql hpl hG hf
      have hch := chp_rg (set := s) (tx := tf) (p := p) (m := q - p - 1) bw
      refine r_iload (n := 45) C dX1_letter_43 rfl rfl ?_
      refine r_aload_n (n := 46) C dX1_letter_45 rfl rfl rfl ?_
      refine r_get (n := 49) (ci := 1) (k := 1) C in_X1 rfl (by decide) q83 rfl dX1_letter_46 rfl ((nb _).trans b1) rfl ?_
      refine r_icmp_gt (t := 133) (n := 52) C dX1_letter_49 (by decide) rfl (fun c_49 => ?_) (fun c_49 => ?_)
      · have hql : q = len + 1 := by omega
        refine r_iinc (n := 136) C dX1_letter_133 rfl rfl ?_
        refine r_goto (n := 10) C dX1_letter_136 (by decide) ?_
        refine V.ls (L0 n ih (p + 1) f1 (by omega) (by omega) hG (fun i j h1 h2 h3 => hf i j h1 h2 (by omega))) ⟨rfl, rfl, rfl, rfl, congrArg (fun z => some (vI z)) (by omega), trivial⟩
      · have hq : q ≤ len := by omega
        obtain ⟨m, rfl⟩ : ∃ m, q = p + m + 1 := ⟨q - p - 1, by omega⟩
        have hm : 0 ≤ (((p + m + 1 : Nat) : Int) - p) * ad ∧ (((p + m + 1 : Nat) : Int) - p) * ad ≤ 216 := jmul ba (by omega) (by omega)
        have hm2 : 0 ≤ (((p + m + 1 : Nat) : Int) - p - 1) * ad ∧ (((p + m + 1 : Nat) : Int) - p - 1) * ad ≤ 216 := by
          have := jmul (i := p) (j := p + m) ba (by omega) (by omega)
          rw [show ((p + m + 1 : Nat) : Int) - p - 1 = ((p + m : Nat) : Int) - p by omega]
          exact this
        have et : (((p + m + 1 : Nat) : Int) - 1).toNat = p + m := by omega
        have em : p + m + 1 - p - 1 = m := by omega
        rw [em] at hch ⊢
        have htx := bt (p + m) (by omega)
        have k79 : ∀ z : Int, ((zand (zshr s (tf (p + m))) 1 = 1 ∧ z = 0) ∨ (¬ zand (zshr s (tf (p + m))) 1 = 1 ∧ z = wr)) → V x g h0 Q (va_up h (bn + 3 + lv) (some (eI g 625 f1))) sz 0 0 79 [some (.ref bn), some (vI lv), some (vI s), some (.ref (bn + 3 + lv)), some (vI p), some (vI (chp s wr tf p m)), some (vI ((p + m + 1 : Nat) : Int))] [vI z, vI (chp s wr tf p m)] := by
          intro z hz
          have e9 := chp_s bw hz
          have hc9 := chp_rg (set := s) (tx := tf) (p := p) (m := m + 1) bw
          have hz9 : 0 ≤ z ∧ z ≤ 9 := by omega
          have hle : chp s wr tf p (m + 1) ≤ 9 := by rw [← e9]; omega
          refine r_mmin (n := 82) C q587 q322 q50 q323 dX1_letter_79 rfl ?_
          rw [e9]
          refine r_istore (n := 84) C dX1_letter_82 rfl ?_
          refine r_aload_n (n := 85) C dX1_letter_84 rfl rfl rfl ?_
          refine r_bipush (n := 87) C dX1_letter_85 (by decide) rfl ?_
          refine r_iload (n := 89) C dX1_letter_87 rfl rfl ?_
          refine r_imul (n := 90) C dX1_letter_89 rfl ?_
          refine r_iload (n := 92) C dX1_letter_90 rfl rfl ?_
          refine r_iadd (n := 93) C dX1_letter_92 rfl ?_
          refine r_iload (n := 95) C dX1_letter_93 rfl rfl ?_
          refine r_iload (n := 97) C dX1_letter_95 rfl rfl ?_
          refine r_isub (n := 98) C dX1_letter_97 rfl ?_
          refine r_aload_n (n := 99) C dX1_letter_98 rfl rfl rfl ?_
          refine r_get (n := 102) (ci := 1) (k := 2) C in_X1 rfl (by decide) q85 rfl dX1_letter_99 rfl ((nb _).trans b1) rfl ?_
          refine r_imul (n := 103) C dX1_letter_102 rfl ?_
          refine r_aload_n (n := 104) C dX1_letter_103 rfl rfl rfl ?_
          refine r_get (n := 107) (ci := 1) (k := 3) C in_X1 rfl (by decide) q87 rfl dX1_letter_104 rfl ((nb _).trans b1) rfl ?_
          refine r_iadd (n := 108) C dX1_letter_107 rfl ?_
          refine r_iload (n := 110) C dX1_letter_108 rfl rfl ?_
          refine r_iload (n := 112) C dX1_letter_110 rfl rfl ?_
          refine r_isub (n := 113) C dX1_letter_112 rfl ?_
          refine r_iconst (n := 114) C dX1_letter_113 rfl ?_
          refine r_isub (n := 115) C dX1_letter_114 rfl ?_
          refine r_aload_n (n := 116) C dX1_letter_115 rfl rfl rfl ?_
          refine r_get (n := 119) (ci := 1) (k := 2) C in_X1 rfl (by decide) q85 rfl dX1_letter_116 rfl ((nb _).trans b1) rfl ?_
          refine r_imul (n := 120) C dX1_letter_119 rfl ?_
          refine r_iload (n := 122) C dX1_letter_120 rfl rfl ?_
          refine r_iadd (n := 123) C dX1_letter_122 rfl ?_
          refine r_mmin (n := 126) C q587 q322 q50 q323 dX1_letter_123 rfl ?_
          refine r_iastore (n := 127) C dX1_letter_126 rfl (va_up_self _ _ _) ?_
          rw [bx_uu, show (25 * (p : Int) + ((p + m + 1 : Nat) : Int)).toNat = 25 * p + (p + m + 1) by omega]
          refine r_iinc (n := 130) C dX1_letter_127 rfl rfl ?_
          refine r_goto (n := 43) C dX1_letter_130 (by decide) ?_
          refine V.ls (ih p (p + m + 2) _ (by omega) (by omega) (by omega) (by omega) (hG.up (by omega)) ?_) ⟨rfl, rfl, rfl, rfl, rfl, congrArg (fun z => some (vI z)) (by rw [show p + m + 2 - p - 1 = m + 1 by omega]), congrArg (fun z => some (vI z)) (by omega), trivial⟩
          intro i j h1 h2 h3
          rw [tb_up (by omega) (by omega)]
          by_cases c : i = p ∧ j = p + m + 1
          · obtain ⟨rfl, rfl⟩ := c
            rw [if_pos ⟨rfl, rfl⟩, oSet, if_neg (by omega)]
            unfold chp
            rw [if_neg (by omega), show i + m + 1 - i = m + 1 by omega]
            split <;> omega
          · rw [if_neg c]
            exact hf i j h1 h2 (by omega)
        have hza := z_rg (iI (zshr s (tf (p + m))) &&& iI 1)
        have hza2 : zand (zshr s (tf (p + m))) 1 = (iI (zshr s (tf (p + m))) &&& iI 1).toInt := rfl
        refine r_iload (n := 54) C dX1_letter_52 rfl rfl ?_
        refine r_iload_n (n := 55) C dX1_letter_54 rfl rfl rfl ?_
        refine r_aload_n (n := 56) C dX1_letter_55 rfl rfl rfl ?_
        refine r_get (n := 59) (ci := 1) (k := 0) C in_X1 rfl (by decide) q81 rfl dX1_letter_56 rfl ((nb _).trans b1) rfl ?_
        refine r_iload (n := 61) C dX1_letter_59 rfl rfl ?_
        refine r_iconst (n := 62) C dX1_letter_61 rfl ?_
        refine r_isub (n := 63) C dX1_letter_62 rfl ?_
        refine r_iaload (n := 64) C dX1_letter_63 rfl ((va_up_ne _ _ (by omega)).trans b2) ?_
        rw [et]
        refine r_ishr (n := 65) C dX1_letter_64 rfl ?_
        refine r_iconst (n := 66) C dX1_letter_65 rfl ?_
        refine r_iand (n := 67) C dX1_letter_66 rfl ?_
        refine r_iconst (n := 68) C dX1_letter_67 rfl ?_
        refine r_icmp_ne (t := 75) (n := 71) C dX1_letter_68 (by decide) rfl (fun c_68 => ?_) (fun c_68 => ?_)
        · refine r_aload_n (n := 76) C dX1_letter_75 rfl rfl rfl ?_
          refine r_get (n := 79) (ci := 1) (k := 4) C in_X1 rfl (by decide) q89 rfl dX1_letter_76 rfl ((nb _).trans b1) rfl ?_
          exact k79 _ (by omega)
        · refine r_iconst (n := 72) C dX1_letter_71 rfl ?_
          refine r_goto (n := 79) C dX1_letter_72 (by decide) ?_
          exact k79 _ (by omega)
  refine r_aload_n (n := 1) C dX1_letter_0 rfl rfl rfl ?_
  refine r_get (n := 4) (ci := 1) (k := 5) C in_X1 rfl (by decide) q91 rfl dX1_letter_1 rfl (by assumption) rfl ?_
  refine r_iload_n (n := 5) C dX1_letter_4 rfl rfl rfl ?_
  refine r_aaload2 (n := 6) C dX1_letter_5 rfl (by assumption) (r := some (bn + 3 + lv)) rfl ?_
  refine r_astore_n (n := 7) C dX1_letter_6 rfl rfl ?_
  refine r_iconst (n := 8) C dX1_letter_7 rfl ?_
  refine r_istore (n := 10) C dX1_letter_8 rfl ?_
  have := L0 (100 * (len + 1) + len + 2) (L _) 0 (T lv) (by omega) (by omega) hT (fun i j h1 h2 h3 => by omega)
  rw [up_id bA] at this
  exact V.ls this ⟨rfl, rfl, rfl, rfl, rfl, trivial⟩
