/-! THE BENCH: its tables; a node's table at a level -/
def GT (f : Nat → Int) : Prop := ∀ k, k < 625 → 0 ≤ f k ∧ f k ≤ 16777216
theorem GT.up {f : Nat → Int} (h : GT f) {k : Nat} {z : Int} (hz : 0 ≤ z ∧ z ≤ 16777216) : GT (va_up f k z) := by
  intro j hj
  by_cases e : j = k
  · rw [e, va_up_self]
    exact hz
  · rw [va_up_ne _ _ e]
    exact h j hj
def BN (g : GG) (h : HM) (bn : Nat) (len ad mi wr : Int) (tf : Nat → Int) (T : Nat → Nat → Int) : Prop := h bn = some (oC 1 [.ref (bn + 1), vI len, vI ad, vI mi, vI wr, .ref (bn + 2)]) ∧ h (bn + 1) = some (eI g 24 tf) ∧ h (bn + 2) = some (eG g 16 (fun j => some (bn + 3 + j))) ∧ (∀ j, j < 16 → h (bn + 3 + j) = some (eI g 625 (T j))) ∧ (0 ≤ len ∧ len ≤ 24) ∧ (0 ≤ ad ∧ ad ≤ 9) ∧ (0 ≤ mi ∧ mi ≤ 9) ∧ (0 ≤ wr ∧ wr ≤ 9) ∧ (∀ p : Nat, (p : Int) < len → 0 ≤ tf p ∧ tf p ≤ 25)
/-- behind a method of the bench: the table at lv is f' -/
def BP (g : GG) (h : HM) (sz bn lv : Nat) (P : (Nat → Int) → Prop) : Option Value → HM → Nat → Prop := fun v h' sz' => v = none ∧ sz = sz' ∧ ∃ f', h' = va_up h (bn + 3 + lv) (some (eI g 625 f')) ∧ GT f' ∧ P f'
abbrev tb (f : Nat → Int) (i j : Nat) : Int := f (25 * i + j)
theorem tb_up {f : Nat → Int} {i j i' j' : Nat} {z : Int} (h1 : j ≤ 24) (h2 : j' ≤ 24) : tb (va_up f (25 * i + j) z) i' j' = if i' = i ∧ j' = j then z else tb f i' j' := by
  unfold tb
  by_cases e : i' = i ∧ j' = j
  · rw [if_pos e, e.1, e.2, va_up_self]
  · rw [if_neg e, va_up_ne _ _ (by omega)]
def rowX (f h : Nat → Nat → Int) (i j : Nat) : Nat → Int
  | 0 => 16777216
  | m + 1 => min (rowX f h i j m) (f i (i + m) + h (i + m) j)
def clX (t f : Nat → Nat → Int) (i j : Nat) : Nat → Int
  | 0 => f i j
  | m + 1 => min (clX t f i j m) (t i (i + 1 + m) + f (i + 1 + m) j)
theorem rowX_rg {f h : Nat → Nat → Int} {i j : Nat} (hf : ∀ k, i ≤ k → k ≤ j → 0 ≤ f i k) (hh : ∀ k, i ≤ k → k ≤ j → 0 ≤ h k j) : ∀ m : Nat, i + m ≤ j + 1 → 0 ≤ rowX f h i j m ∧ rowX f h i j m ≤ 16777216
  | 0, _ => by simp [rowX]
  | m + 1, hm => by
    have ih := rowX_rg hf hh m (by omega)
    have h1 := hf (i + m) (by omega) (by omega)
    have h2 := hh (i + m) (by omega) (by omega)
    rw [rowX]
    omega
theorem up_id {h : HM} {a : Nat} {e : va_E} (ha : h a = some e) : va_up h a (some e) = h := by
  funext q
  by_cases hq : q = a
  · subst hq
    rw [va_up_self, ha]
  · rw [va_up_ne _ _ hq]
theorem ct_chain (l : Launch) (g : GG) (h : HM) (sz bn lv : Nat) (len ad mi wr : Int) (tf : Nat → Int) (T : Nat → Nat → Int) (hB : BN g h bn len ad mi wr tf T) (hlv : lv < 15) (hT : GT (T lv) ∧ GT (T (lv + 1))) : CT l yX1_chain cX1_chain 8 none 1 0 0 [.ref bn, vI lv] g h sz (BP g h sz bn lv (fun f' => ∀ i j : Nat, i ≤ j → (j : Int) ≤ len → tb f' i j = rowX (tb (T lv)) (tb (T (lv + 1))) i j (j - i + 1))) := by
  obtain ⟨b1, b2, b3, b4, bl, ba, bm, bw, bt⟩ := hB
  obtain ⟨len, rfl⟩ : ∃ n : Nat, len = (n : Int) := ⟨len.toNat, by omega⟩
  have bA := b4 lv (by omega)
  have bB := b4 (lv + 1) (by omega)
  refine CT.of (lo := [some (.ref bn), some (vI lv), none, none, none, none, none, none]) (by decide) (by simp [Value.category]) (Nat.le_of_ble_eq_true rfl) rfl ?_
  intro x h0 Q C hQ hl hni
  have L2 : ∀ (n : Nat) (p q : Nat) (f1 : Nat → Int), 100 * (len + 1 - p) + (q + 1) < n → p ≤ q → q ≤ len + 1 → p ≤ len → GT f1 → (∀ i j : Nat, i ≤ j → j ≤ len → tb f1 i j = if i < p ∨ (i = p ∧ q ≤ j) then rowX (tb (T lv)) (tb (T (lv + 1))) i j (j - i + 1) else tb (T lv) i j) → V x g h0 Q (va_up h (bn + 3 + lv) (some (eI g 625 f1))) sz 0 0 34 [some (.ref bn), some (vI lv), some (.ref (bn + 3 + lv)), some (.ref (bn + 3 + (lv + 1))), some (vI p), some (vI ((q : Int) - 1)), none, none] [] := by
    intro n
    induction n with
    | zero => intro p q f1 hn; omega
    | succ n ih =>
      intro p q f1 hn hpq hql hpl hG hf
      have nx : ∀ (p2 q2 : Nat) (f2 : Nat → Int) (lo : List (Option Value)), 100 * (len + 1 - p2) + (q2 + 1) < n → p2 ≤ q2 → q2 ≤ len + 1 → p2 ≤ len → GT f2 → (∀ i j : Nat, i ≤ j → j ≤ len → tb f2 i j = if i < p2 ∨ (i = p2 ∧ q2 ≤ j) then rowX (tb (T lv)) (tb (T (lv + 1))) i j (j - i + 1) else tb (T lv) i j) → LSub [some (.ref bn), some (vI lv), some (.ref (bn + 3 + lv)), some (.ref (bn + 3 + (lv + 1))), some (vI p2), some (vI ((q2 : Int) - 1)), none, none] lo → V x g h0 Q (va_up h (bn + 3 + lv) (some (eI g 625 f2))) sz 0 0 34 lo [] := fun p2 q2 f2 lo a1 a2 a3 a4 a5 a6 a7 => V.ls (ih p2 q2 f2 a1 a2 a3 a4 a5 a6) a7
      refine r_iload (n := 36) C dX1_chain_34 rfl rfl ?_
      refine r_iload (n := 38) C dX1_chain_36 rfl rfl ?_
      refine r_icmp_lt (t := 108) (n := 41) C dX1_chain_38 (by decide) rfl (fun c_38 => ?_) (fun c_38 => ?_)
      · have hqp : q = p := by omega
        subst hqp
        refine r_iinc (n := 111) C dX1_chain_108 rfl rfl ?_
        refine r_goto (n := 19) C dX1_chain_111 (by decide) ?_
        refine r_iload (n := 21) C dX1_chain_19 rfl rfl ?_
        refine r_aload_n (n := 22) C dX1_chain_21 rfl rfl rfl ?_
        refine r_get (n := 25) (ci := 1) (k := 1) C in_X1 rfl (by decide) q83 rfl dX1_chain_22 rfl ((va_up_ne _ _ (by omega)).trans b1) rfl ?_
        refine r_icmp_gt (t := 114) (n := 28) C dX1_chain_25 (by decide) rfl (fun c_25 => ?_) (fun c_25 => ?_)
        · refine r_return C hQ dX1_chain_114 ?_
          refine ⟨rfl, rfl, f1, rfl, hG, fun i j h1 h2 => ?_⟩
          rw [hf i j h1 (by omega), if_pos (by omega)]
        · refine r_aload_n (n := 29) C dX1_chain_28 rfl rfl rfl ?_
          refine r_get (n := 32) (ci := 1) (k := 1) C in_X1 rfl (by decide) q83 rfl dX1_chain_29 rfl ((va_up_ne _ _ (by omega)).trans b1) rfl ?_
          refine r_istore (n := 34) C dX1_chain_32 rfl ?_
          refine nx (q + 1) (len + 1) f1 _ (by omega) (by omega) (by omega) (by omega) hG ?_ ⟨rfl, rfl, rfl, rfl, congrArg (fun z => some (vI z)) (by omega), congrArg (fun z => some (vI z)) (by omega), trivial⟩
          intro i j h1 h2
          rw [hf i j h1 h2]
          by_cases c : i < q + 1
          · rw [if_pos (by omega), if_pos (by omega)]
          · rw [if_neg (by omega), if_neg (by omega)]
      · obtain ⟨qq, rfl⟩ : ∃ qq, q = qq + 1 := ⟨q - 1, by omega⟩
        have hr := rowX_rg (f := tb (T lv)) (h := tb (T (lv + 1))) (i := p) (j := qq) (fun k k1 k2 => (hT.1 _ (by omega)).1) (fun k k1 k2 => (hT.2 _ (by omega)).1)
        have L3 : ∀ (m k : Nat), qq + 1 - k < m → p ≤ k → k ≤ qq + 1 → V x g h0 Q (va_up h (bn + 3 + lv) (some (eI g 625 f1))) sz 0 0 49 [some (.ref bn), some (vI lv), some (.ref (bn + 3 + lv)), some (.ref (bn + 3 + (lv + 1))), some (vI p), some (vI (((qq + 1 : Nat) : Int) - 1)), some (vI (rowX (tb (T lv)) (tb (T (lv + 1))) p qq (k - p))), some (vI k)] [] := by
          intro m
          induction m with
          | zero => intro k hm; omega
          | succ m ih3 =>
            intro k hm hk1 hk2
            have hrk := hr (k - p) (by omega)
            refine r_iload (n := 51) C dX1_chain_49 rfl rfl ?_
            refine r_iload (n := 53) C dX1_chain_51 rfl rfl ?_
            refine r_icmp_gt (t := 90) (n := 56) C dX1_chain_53 (by decide) rfl (fun c_53 => ?_) (fun c_53 => ?_)
            · have e : k = qq + 1 := by omega
              subst e
              refine r_aload_n (n := 91) C dX1_chain_90 rfl rfl rfl ?_
              refine r_bipush (n := 93) C dX1_chain_91 (by decide) rfl ?_
              refine r_iload (n := 95) C dX1_chain_93 rfl rfl ?_
              refine r_imul (n := 96) C dX1_chain_95 rfl ?_
              refine r_iload (n := 98) C dX1_chain_96 rfl rfl ?_
              refine r_iadd (n := 99) C dX1_chain_98 rfl ?_
              refine r_iload (n := 101) C dX1_chain_99 rfl rfl ?_
              refine r_iastore (n := 102) C dX1_chain_101 rfl (va_up_self _ _ _) ?_
              rw [bx_uu, show (25 * (p : Int) + (((qq + 1 : Nat) : Int) - 1)).toNat = 25 * p + qq by omega]
              refine r_iinc (n := 105) C dX1_chain_102 rfl rfl ?_
              refine r_goto (n := 34) C dX1_chain_105 (by decide) ?_
              refine nx p qq _ _ (by omega) (by omega) (by omega) (by omega) (hG.up hrk) ?_ ⟨rfl, rfl, rfl, rfl, rfl, congrArg (fun z => some (vI z)) (by omega), trivial⟩
              intro i j h1 h2
              rw [tb_up (by omega) (by omega), hf i j h1 h2]
              by_cases c : i = p ∧ j = qq
              · obtain ⟨rfl, rfl⟩ := c
                rw [if_pos ⟨rfl, rfl⟩, if_pos (by omega), show j + 1 - i = j - i + 1 by omega]
              · rw [if_neg c]
                by_cases c2 : i < p ∨ (i = p ∧ qq + 1 ≤ j)
                · rw [if_pos c2, if_pos (by omega)]
                · rw [if_neg c2, if_neg (by omega)]
            · have hkq : k ≤ qq := by omega
              have ea : f1 (25 * (p : Int) + k).toNat = tb (T lv) p k := by
                rw [show (25 * (p : Int) + k).toNat = 25 * p + k by omega]
                have := hf p k (by omega) (by omega)
                rw [if_neg (by omega)] at this
                exact this
              have eb : (T (lv + 1)) (25 * (k : Int) + (((qq + 1 : Nat) : Int) - 1)).toNat = tb (T (lv + 1)) k qq := by
                rw [show (25 * (k : Int) + (((qq + 1 : Nat) : Int) - 1)).toNat = 25 * k + qq by omega]
              have r1 : 0 ≤ tb (T lv) p k ∧ tb (T lv) p k ≤ 16777216 := hT.1 (25 * p + k) (by omega)
              have r2 : 0 ≤ tb (T (lv + 1)) k qq ∧ tb (T (lv + 1)) k qq ≤ 16777216 := hT.2 (25 * k + qq) (by omega)
              refine r_iload (n := 58) C dX1_chain_56 rfl rfl ?_
              refine r_aload_n (n := 59) C dX1_chain_58 rfl rfl rfl ?_
              refine r_bipush (n := 61) C dX1_chain_59 (by decide) rfl ?_
              refine r_iload (n := 63) C dX1_chain_61 rfl rfl ?_
              refine r_imul (n := 64) C dX1_chain_63 rfl ?_
              refine r_iload (n := 66) C dX1_chain_64 rfl rfl ?_
              refine r_iadd (n := 67) C dX1_chain_66 rfl ?_
              refine r_iaload (n := 68) C dX1_chain_67 rfl (va_up_self _ _ _) ?_
              rw [ea]
              refine r_aload_n (n := 69) C dX1_chain_68 rfl rfl rfl ?_
              refine r_bipush (n := 71) C dX1_chain_69 (by decide) rfl ?_
              refine r_iload (n := 73) C dX1_chain_71 rfl rfl ?_
              refine r_imul (n := 74) C dX1_chain_73 rfl ?_
              refine r_iload (n := 76) C dX1_chain_74 rfl rfl ?_
              refine r_iadd (n := 77) C dX1_chain_76 rfl ?_
              refine r_iaload (n := 78) C dX1_chain_77 rfl ((va_up_ne _ _ (by omega)).trans bB) ?_
              rw [eb]
              refine r_iadd (n := 79) C dX1_chain_78 rfl ?_
              refine r_mmin (n := 82) C q587 q322 q50 q323 dX1_chain_79 rfl ?_
              refine r_istore (n := 84) C dX1_chain_82 rfl ?_
              refine r_iinc (n := 87) C dX1_chain_84 rfl rfl ?_
              refine r_goto (n := 49) C dX1_chain_87 (by decide) ?_
              refine V.ls (ih3 (k + 1) (by omega) (by omega) (by omega)) ⟨rfl, rfl, rfl, rfl, rfl, rfl, congrArg (fun z => some (vI z)) ?_, congrArg (fun z => some (vI z)) (by omega), trivial⟩
              rw [show k + 1 - p = (k - p) + 1 by omega, rowX, show p + (k - p) = k by omega]
        refine r_ldc (n := 43) (z := 16777216) C q586 (by decide) dX1_chain_41 rfl ?_
        refine r_istore (n := 45) C dX1_chain_43 rfl ?_
        refine r_iload (n := 47) C dX1_chain_45 rfl rfl ?_
        refine r_istore (n := 49) C dX1_chain_47 rfl ?_
        refine V.ls (L3 (qq + 2) p (by omega) (by omega) (by omega)) ⟨rfl, rfl, rfl, rfl, rfl, rfl, congrArg (fun z => some (vI z)) ?_, rfl, trivial⟩
        rw [Nat.sub_self, rowX]
  refine r_aload_n (n := 1) C dX1_chain_0 rfl rfl rfl ?_
  refine r_get (n := 4) (ci := 1) (k := 5) C in_X1 rfl (by decide) q91 rfl dX1_chain_1 rfl (by assumption) rfl ?_
  refine r_iload_n (n := 5) C dX1_chain_4 rfl rfl rfl ?_
  refine r_aaload2 (n := 6) C dX1_chain_5 rfl (by assumption) (r := some (bn + 3 + lv)) rfl ?_
  refine r_astore_n (n := 7) C dX1_chain_6 rfl rfl ?_
  refine r_aload_n (n := 8) C dX1_chain_7 rfl rfl rfl ?_
  refine r_get (n := 11) (ci := 1) (k := 5) C in_X1 rfl (by decide) q91 rfl dX1_chain_8 rfl (by assumption) rfl ?_
  refine r_iload_n (n := 12) C dX1_chain_11 rfl rfl rfl ?_
  refine r_iconst (n := 13) C dX1_chain_12 rfl ?_
  refine r_iadd (n := 14) C dX1_chain_13 rfl ?_
  refine r_aaload2 (n := 15) C dX1_chain_14 rfl (by assumption) (r := some (bn + 3 + (lv + 1))) rfl ?_
  refine r_astore_n (n := 16) C dX1_chain_15 rfl rfl ?_
  refine r_iconst (n := 17) C dX1_chain_16 rfl ?_
  refine r_istore (n := 19) C dX1_chain_17 rfl ?_
  refine r_iload (n := 21) C dX1_chain_19 rfl rfl ?_
  refine r_aload_n (n := 22) C dX1_chain_21 rfl rfl rfl ?_
  refine r_get (n := 25) (ci := 1) (k := 1) C in_X1 rfl (by decide) q83 rfl dX1_chain_22 rfl (by assumption) rfl ?_
  refine r_icmp_gt (t := 114) (n := 28) C dX1_chain_25 (by decide) rfl (fun c_25 => ?_) (fun c_25 => ?_)
  · omega
  · refine r_aload_n (n := 29) C dX1_chain_28 rfl rfl rfl ?_
    refine r_get (n := 32) (ci := 1) (k := 1) C in_X1 rfl (by decide) q83 rfl dX1_chain_29 rfl (by assumption) rfl ?_
    refine r_istore (n := 34) C dX1_chain_32 rfl ?_
    have := L2 (100 * (len + 1) + len + 3) 0 (len + 1) (T lv) (by omega) (by omega) (by omega) (by omega) hT.1 (fun i j h1 h2 => by rw [if_neg (by omega)])
    rw [up_id bA] at this
    exact V.ls this ⟨rfl, rfl, rfl, rfl, rfl, congrArg (fun z => some (vI z)) (by omega), trivial⟩
theorem ct_lower (l : Launch) (g : GG) (h : HM) (sz bn lv : Nat) (len ad mi wr : Int) (tf : Nat → Int) (T : Nat → Nat → Int) (hB : BN g h bn len ad mi wr tf T) (hlv : lv < 15) (hT : GT (T lv) ∧ GT (T (lv + 1))) : CT l yX1_lower cX1_lower 5 none 1 0 0 [.ref bn, vI lv] g h sz (BP g h sz bn lv (fun f' => ∀ i j : Nat, i ≤ j → (j : Int) ≤ len → tb f' i j = min (tb (T lv) i j) (tb (T (lv + 1)) i j))) := by
  obtain ⟨b1, b2, b3, b4, bl, ba, bm, bw, bt⟩ := hB
  have bA := b4 lv (by omega)
  have bB := b4 (lv + 1) (by omega)
  refine CT.of (lo := [some (.ref bn), some (vI lv), none, none, none]) (by decide) (by simp [Value.category]) (Nat.le_of_ble_eq_true rfl) rfl ?_
  intro x h0 Q C hQ hl hni
  have L : ∀ (n k : Nat) (f1 : Nat → Int), 625 - k < n → k ≤ 625 → GT f1 → (∀ j : Nat, j < 625 → f1 j = if j < k then min (T lv j) (T (lv + 1) j) else T lv j) → V x g h0 Q (va_up h (bn + 3 + lv) (some (eI g 625 f1))) sz 0 0 19 [some (.ref bn), some (vI lv), some (.ref (bn + 3 + lv)), some (.ref (bn + 3 + (lv + 1))), some (vI k)] [] := by
    intro n
    induction n with
    | zero => intro k f1 hn; omega
    | succ n ih =>
      intro k f1 hn hk hG hf
      refine r_iload (n := 21) C dX1_lower_19 rfl rfl ?_
      refine r_aload_n (n := 22) C dX1_lower_21 rfl rfl rfl ?_
      refine r_alenI (n := 23) C dX1_lower_22 rfl (va_up_self _ _ _) ?_
      refine r_icmp_ge (t := 47) (n := 26) C dX1_lower_23 (by decide) rfl (fun c_23 => ?_) (fun c_23 => ?_)
      · refine r_return C hQ dX1_lower_47 ?_
        refine ⟨rfl, rfl, f1, rfl, hG, fun i j h1 h2 => ?_⟩
        unfold tb
        rw [hf _ (by omega), if_pos (by omega)]
      · have hk9 : k < 625 := by omega
        have r1 := hT.1 k hk9
        have r2 := hT.2 k hk9
        have ek : f1 ((k : Int)).toNat = T lv k := by
          rw [Int.toNat_natCast, hf k hk9, if_neg (by omega)]
        refine r_aload_n (n := 27) C dX1_lower_26 rfl rfl rfl ?_
        refine r_iload (n := 29) C dX1_lower_27 rfl rfl ?_
        refine r_aload_n (n := 30) C dX1_lower_29 rfl rfl rfl ?_
        refine r_iload (n := 32) C dX1_lower_30 rfl rfl ?_
        refine r_iaload (n := 33) C dX1_lower_32 rfl (va_up_self _ _ _) ?_
        rw [ek]
        refine r_aload_n (n := 34) C dX1_lower_33 rfl rfl rfl ?_
        refine r_iload (n := 36) C dX1_lower_34 rfl rfl ?_
        refine r_iaload (n := 37) C dX1_lower_36 rfl ((va_up_ne _ _ (by omega)).trans bB) ?_
        rw [Int.toNat_natCast]
        refine r_mmin (n := 40) C q587 q322 q50 q323 dX1_lower_37 rfl ?_
        refine r_iastore (n := 41) C dX1_lower_40 rfl (va_up_self _ _ _) ?_
        rw [bx_uu, Int.toNat_natCast]
        refine r_iinc (n := 44) C dX1_lower_41 rfl rfl ?_
        refine r_goto (n := 19) C dX1_lower_44 (by decide) ?_
        refine V.ls (ih (k + 1) _ (by omega) (by omega) (hG.up (by omega)) ?_) ⟨rfl, rfl, rfl, rfl, congrArg (fun z => some (vI z)) (by omega), trivial⟩
        intro j hj
        by_cases e : j = k
        · subst e
          rw [va_up_self, if_pos (by omega)]
        · rw [va_up_ne _ _ e, hf j hj]
          by_cases c : j < k
          · rw [if_pos c, if_pos (by omega)]
          · rw [if_neg c, if_neg (by omega)]
  refine r_aload_n (n := 1) C dX1_lower_0 rfl rfl rfl ?_
  refine r_get (n := 4) (ci := 1) (k := 5) C in_X1 rfl (by decide) q91 rfl dX1_lower_1 rfl (by assumption) rfl ?_
  refine r_iload_n (n := 5) C dX1_lower_4 rfl rfl rfl ?_
  refine r_aaload2 (n := 6) C dX1_lower_5 rfl (by assumption) (r := some (bn + 3 + lv)) rfl ?_
  refine r_astore_n (n := 7) C dX1_lower_6 rfl rfl ?_
  refine r_aload_n (n := 8) C dX1_lower_7 rfl rfl rfl ?_
  refine r_get (n := 11) (ci := 1) (k := 5) C in_X1 rfl (by decide) q91 rfl dX1_lower_8 rfl (by assumption) rfl ?_
  refine r_iload_n (n := 12) C dX1_lower_11 rfl rfl rfl ?_
  refine r_iconst (n := 13) C dX1_lower_12 rfl ?_
  refine r_iadd (n := 14) C dX1_lower_13 rfl ?_
  refine r_aaload2 (n := 15) C dX1_lower_14 rfl (by assumption) (r := some (bn + 3 + (lv + 1))) rfl ?_
  refine r_astore_n (n := 16) C dX1_lower_15 rfl rfl ?_
  refine r_iconst (n := 17) C dX1_lower_16 rfl ?_
  refine r_istore (n := 19) C dX1_lower_17 rfl ?_
  have := L 626 0 (T lv) (by omega) (by omega) hT.1 (fun j hj => by rw [if_neg (by omega)])
  rw [up_id bA] at this
  exact V.ls this ⟨rfl, rfl, rfl, rfl, rfl, trivial⟩
theorem ct_limit (l : Launch) (g : GG) (h : HM) (sz bn lv : Nat) (len ad mi wr mo : Int) (tf : Nat → Int) (T : Nat → Nat → Int) (hB : BN g h bn len ad mi wr tf T) (hlv : lv < 16) (hT : GT (T lv)) (hmo : 0 ≤ mo ∧ mo ≤ 1000) : CT l yX1_limit cX1_limit 5 none 0 0 0 [.ref bn, vI lv, vI mo] g h sz (BP g h sz bn lv (fun f' => ∀ i j : Nat, i ≤ j → (j : Int) ≤ len → tb f' i j = if tb (T lv) i j ≤ mo then tb (T lv) i j else 16777216)) := by
  obtain ⟨b1, b2, b3, b4, bl, ba, bm, bw, bt⟩ := hB
  have bA := b4 lv (by omega)
  refine CT.of (lo := [some (.ref bn), some (vI lv), some (vI mo), none, none]) (by decide) (by simp [Value.category]) (Nat.le_of_ble_eq_true rfl) rfl ?_
  intro x h0 Q C hQ hl hni
  have L : ∀ (n k : Nat) (f1 : Nat → Int), 625 - k < n → k ≤ 625 → GT f1 → (∀ j : Nat, j < 625 → f1 j = if j < k then (if T lv j ≤ mo then T lv j else 16777216) else T lv j) → V x g h0 Q (va_up h (bn + 3 + lv) (some (eI g 625 f1))) sz 0 0 10 [some (.ref bn), some (vI lv), some (vI mo), some (.ref (bn + 3 + lv)), some (vI k)] [] := by
    intro n
    induction n with
    | zero => intro k f1 hn; omega
    | succ n ih =>
      intro k f1 hn hk hG hf
      refine r_iload (n := 12) C dX1_limit_10 rfl rfl ?_
      refine r_aload_n (n := 13) C dX1_limit_12 rfl rfl rfl ?_
      refine r_alenI (n := 14) C dX1_limit_13 rfl (va_up_self _ _ _) ?_
      refine r_icmp_ge (t := 44) (n := 17) C dX1_limit_14 (by decide) rfl (fun c_14 => ?_) (fun c_14 => ?_)
      · refine r_return C hQ dX1_limit_44 ?_
        refine ⟨rfl, rfl, f1, rfl, hG, fun i j h1 h2 => ?_⟩
        unfold tb
        rw [hf _ (by omega), if_pos (by omega)]
      · have hk9 : k < 625 := by omega
        have r1 := hT k hk9
        have ek : f1 ((k : Int)).toNat = T lv k := by
          rw [Int.toNat_natCast, hf k hk9, if_neg (by omega)]
        have k37 : ∀ z : Int, z = (if T lv k ≤ mo then T lv k else 16777216) → V x g h0 Q (va_up h (bn + 3 + lv) (some (eI g 625 f1))) sz 0 0 37 [some (.ref bn), some (vI lv), some (vI mo), some (.ref (bn + 3 + lv)), some (vI k)] [vI z, vI k, .ref (bn + 3 + lv)] := by
          intro z hz
          have hz2 : 0 ≤ z ∧ z ≤ 16777216 := by
            rw [hz]
            split <;> omega
          refine r_iastore (n := 38) C dX1_limit_37 rfl (va_up_self _ _ _) ?_
          rw [bx_uu, Int.toNat_natCast]
          refine r_iinc (n := 41) C dX1_limit_38 rfl rfl ?_
          refine r_goto (n := 10) C dX1_limit_41 (by decide) ?_
          refine V.ls (ih (k + 1) _ (by omega) (by omega) (hG.up (by omega)) ?_) ⟨rfl, rfl, rfl, rfl, congrArg (fun z => some (vI z)) (by omega), trivial⟩
          intro j hj
          by_cases e : j = k
          · subst e
            rw [va_up_self, if_pos (by omega), hz]
          · rw [va_up_ne _ _ e, hf j hj]
            by_cases c : j < k
            · rw [if_pos c, if_pos (show j < k + 1 by omega)]
            · rw [if_neg c, if_neg (by omega)]
        refine r_aload_n (n := 18) C dX1_limit_17 rfl rfl rfl ?_
        refine r_iload (n := 20) C dX1_limit_18 rfl rfl ?_
        refine r_aload_n (n := 21) C dX1_limit_20 rfl rfl rfl ?_
        refine r_iload (n := 23) C dX1_limit_21 rfl rfl ?_
        refine r_iaload (n := 24) C dX1_limit_23 rfl (va_up_self _ _ _) ?_
        rw [ek]
        refine r_iload_n (n := 25) C dX1_limit_24 rfl rfl rfl ?_
        refine r_icmp_gt (t := 35) (n := 28) C dX1_limit_25 (by decide) rfl (fun c_25 => ?_) (fun c_25 => ?_)
        · refine r_ldc (n := 37) (z := 16777216) C q586 (by decide) dX1_limit_35 rfl ?_
          first | exact k37 _ (by rw [if_pos (by omega)]) | exact k37 _ (by rw [if_neg (by omega)])
        · refine r_aload_n (n := 29) C dX1_limit_28 rfl rfl rfl ?_
          refine r_iload (n := 31) C dX1_limit_29 rfl rfl ?_
          refine r_iaload (n := 32) C dX1_limit_31 rfl (va_up_self _ _ _) ?_
          rw [ek]
          refine r_goto (n := 37) C dX1_limit_32 (by decide) ?_
          first | exact k37 _ (by rw [if_pos (by omega)]) | exact k37 _ (by rw [if_neg (by omega)])
  refine r_aload_n (n := 1) C dX1_limit_0 rfl rfl rfl ?_
  refine r_get (n := 4) (ci := 1) (k := 5) C in_X1 rfl (by decide) q91 rfl dX1_limit_1 rfl (by assumption) rfl ?_
  refine r_iload_n (n := 5) C dX1_limit_4 rfl rfl rfl ?_
  refine r_aaload2 (n := 6) C dX1_limit_5 rfl (by assumption) (r := some (bn + 3 + lv)) rfl ?_
  refine r_astore_n (n := 7) C dX1_limit_6 rfl rfl ?_
  refine r_iconst (n := 8) C dX1_limit_7 rfl ?_
  refine r_istore (n := 10) C dX1_limit_8 rfl ?_
  have := L 626 0 (T lv) (by omega) (by omega) hT (fun j hj => by rw [if_neg (by omega)])
  rw [up_id bA] at this
  exact V.ls this ⟨rfl, rfl, rfl, rfl, rfl, trivial⟩
