/-! THE READER: item -/
theorem suX_no {n : Nat} {cs : List Int} {t : PT} (h : hdI cs ≠ 42 ∧ hdI cs ≠ 43 ∧ hdI cs ≠ 63 ∧ hdI cs ≠ 60) : suX n cs t = (cs, some t) := by
  cases n with
  | zero => rfl
  | succ n => rw [suX, if_neg h.1, if_neg h.2.1, if_neg h.2.2.1, if_neg h.2.2.2]
theorem suX_le (n : Nat) (cs : List Int) (t : PT) (ht : pOk t) : (suX n cs t).1.length ≤ cs.length := (suX_ok (b := pNl t) n cs t ht (Nat.le_refl _)).1.length_le
set_option maxHeartbeats 4000000 in
theorem ct_ritem (l : Launch) (d : Int) (L : Nat) (hL : 8 ≤ L) (pa : List Int → Res) (b : Nat) (hok : Rok b pa) (hp : RdC l yX2_atom cX2_atom 3 (L - 1) d pa) : RdC l yX2_item cX2_item 3 L d (itX pa) := by
  intro g h sz rd sb vb rs cap ml ct f cs nd hR hb
  have hpok := hok cs
  have hpl := hpok.1.length_le
  have g0 := hR.1
  refine CT.of (lo := [some (.ref rd), some (vI d), none]) (by decide) (by simp [Value.category]) (Nat.le_of_ble_eq_true rfl) rfl ?_
  intro x h0 Q C hQ hl hni
  subst hl
  obtain ⟨⟨tz1, tz2, tz3⟩, -⟩ := C.kg.time
  have lp : ∀ (n : Nat) (h2 : HM) (sz2 nd2 a2 c9 s9 : Nat) (cs2 : List Int) (t : PT), cs2.length ≤ n → RW g h2 sz2 rd sb vb rs cap ml ct f cs2 nd2 0 → EX rd h h2 → nd2 = nd + pSz t → (nd2 ≤ 24 → NT g h2 t a2) → pOk t → pSz t + 1 + 2 * cs2.length ≤ 2 * cs.length → itX pa cs = suX n cs2 t → c9 + 1 + 2 * cs2.length ≤ 2 * cs.length → s9 ≤ 2 * c9 → V x g h0 Q h2 sz2 c9 s9 6 [some (.ref rd), some (vI d), some (.ref a2)] [] := by
    intro n
    induction n with
    | zero =>
      intro h2 sz2 nd2 a2 c9 s9 cs2 t hn hR2 hE2 hnd hN hok2 hsz he hc9 hs9
      have e0 : cs2 = [] := List.eq_nil_of_length_eq_zero (by omega)
      subst e0
      have g2 := hR2.1
      have hbe : bgt (itX pa) cs = 2 * cs.length - 1 := by unfold bgt; rw [he]; rfl
      rw [he] at hQ
      refine r_aload_n (n := 7) C dX2_item_6 rfl rfl rfl ?_
      refine r_get (n := 10) (ci := 2) (k := 3) C in_X2 rfl (by decide) q165 rfl dX2_item_7 rfl (by assumption) rfl ?_
      refine r_if_ne (t := 136) (n := 13) C dX2_item_10 (by decide) rfl (fun c_10 => ?_) (fun c_10 => ?_)
      · exact absurd rfl c_10
      · refine r_aload_n (n := 14) C dX2_item_13 rfl rfl rfl ?_
        refine r_callV (n := 17) (n0 := 0) (ci := 2) C (ct_rnext (xL x) hR2) (lw_V q400 q402 qs0 q37 q403) ⟨by decide, by decide, by decide +kernel⟩ rfl (by assumption) rfl dX2_item_14 rfl rfl ?_
        rintro v h' sz' ⟨rfl, rfl, rfl⟩ - -
        dsimp only [stk]
        refine r_lookup (t := 111) C dX2_item_17 (by decide) (by decide +kernel) rfl (by decide) ?_
        refine r_aload_n (n := 112) C dX2_item_111 rfl rfl rfl ?_
        refine r_areturn C hQ (Or.inl ⟨_, rfl⟩) (Or.inr ⟨_, rfl⟩) dX2_item_112 ?_
        refine ⟨nd2, hR2, hE2, by simp [suX]; omega, fun u hu => ?_, some a2, rfl⟩
        have hu := Option.some.inj hu
        subst hu
        exact ⟨hnd, a2, rfl, hN⟩
    | succ n ih =>
      intro h2 sz2 nd2 a2 c9 s9 cs2 t hn hR2 hE2 hnd hN hok2 hsz he hc9 hs9
      have g2 := hR2.1
      have hrg := hR2.rg
      have hz2 := hR2.2.2.2.2.1 sz2 (Nat.le_refl _)
      have hnr : rd ≠ sz2 := fun e => by rw [e, hz2] at g2; cases g2
      /- behind a suffix -/
      have k113 : ∀ (h3 : HM) (sz3 a3 c3 s3 kk : Nat) (cs3 : List Int), h3 rd = some (RO sb rs ((ct : Int) - cs3.length - 1) nd2 0) → RW g (va_up h3 rd (some (RO sb rs ((ct : Int) - cs3.length) ((nd2 + 1 : Nat) : Int) 0))) sz3 rd sb vb rs cap ml ct f cs3 (nd2 + 1) 0 → EX rd h2 h3 → (nd2 ≤ 24 → NT g h3 (.pow t kk) a3) → kk < 103 → cs3.length + 1 ≤ cs2.length → itX pa cs = suX n cs3 (.pow t kk) → c3 = c9 + 1 → s3 ≤ s9 + 2 → V x g h0 Q h3 sz3 c3 s3 113 [some (.ref rd), some (vI d), some (.ref a3)] [] := by
        intro h3 sz3 a3 c3 s3 kk cs3 q1 q2 q3 q4 q5 q6 q7 q8 q9
        have go := ih _ sz3 (nd2 + 1) a3 c3 s3 cs3 (.pow t kk) (by omega) q2 (hE2.tr (q3.tr EX.put)) (by simp only [pSz]; omega) (fun h24 => (q4 (by omega)).ex EX.put q1) ⟨q5, hok2⟩ (by simp only [pSz]; omega) q7 (by omega) (by omega)
        refine r_aload_n (n := 114) C dX2_item_113 rfl rfl rfl ?_
        refine r_dup (n := 115) C dX2_item_114 rfl rfl ?_
        refine r_get (n := 118) (ci := 2) (k := 2) C in_X2 rfl (by decide) q163 rfl dX2_item_115 rfl (by assumption) rfl ?_
        refine r_iconst (n := 119) C dX2_item_118 rfl ?_
        refine r_iadd (n := 120) C dX2_item_119 rfl ?_
        refine r_put (n := 123) (ty := .int) (ci := 2) (k := 2) C in_X2 tyX2 tyX2_ok nmX2 rfl (by decide) q163 rfl rfl (by decide +kernel) rfl rfl dX2_item_120 rfl (by assumption) (Nat.le_of_ble_eq_true rfl) ?_
        refine r_aload_n (n := 124) C dX2_item_123 rfl rfl rfl ?_
        refine r_dup (n := 125) C dX2_item_124 rfl rfl ?_
        refine r_get (n := 128) (ci := 2) (k := 1) C in_X2 rfl (by decide) q161 rfl dX2_item_125 rfl (va_up_self _ _ _) rfl ?_
        refine r_iconst (n := 129) C dX2_item_128 rfl ?_
        refine r_iadd (n := 130) C dX2_item_129 rfl ?_
        refine r_put (n := 133) (ty := .int) (ci := 2) (k := 1) C in_X2 tyX2 tyX2_ok nmX2 rfl (by decide) q161 rfl rfl (by decide +kernel) rfl rfl dX2_item_130 rfl (va_up_self _ _ _) (Nat.le_of_ble_eq_true rfl) ?_
        refine r_goto (n := 6) C dX2_item_133 (by decide) ?_
        rw [bx_uu]
        rw [show (ct : Int) - cs3.length = (ct : Int) - cs3.length - 1 + 1 by omega] at go
        exact go
      have rep : ∀ (kk : Nat), kk < 3 → hdI cs2 ≠ 0 → itX pa cs = suX n cs2.tail (.pow t kk) → ∀ (pcc : Nat), (∀ (v : Option Value) (h' : HM) (sz' : Nat), ((24 < nd2 ∧ v = some (.ref a2) ∧ sz2 = sz' ∧ h2 = h') ∨ (nd2 ≤ 24 ∧ v = some (.ref sz2) ∧ sz' = sz2 + 1 ∧ h' = va_up h2 sz2 (some (oC 6 [.ref a2, .ref (kc g (2 + kk))])))) → ∃ a3, v = some (.ref a3) ∧ V x g h0 Q h' sz' (c9 + 1) (s9 + 2) 113 [some (.ref rd), some (vI d), some (.ref a3)] []) := by
        intro kk hk3 hne he2 pcc v h' sz' hv
        have htl := tl_len hne
        rcases hv with ⟨v1, rfl, rfl, rfl⟩ | ⟨v1, rfl, rfl, rfl⟩
        · refine ⟨a2, rfl, k113 h2 sz2 a2 (c9 + 1) (s9 + 2) kk cs2.tail ?_ (hR2.put (tl_suf _) (by omega)) EX.rf (fun h24 => by omega) (by omega) (by omega) he2 rfl (by omega)⟩
          rw [g2, show (ct : Int) - cs2.tail.length - 1 = (ct : Int) - cs2.length by omega]
        · refine ⟨sz2, rfl, k113 _ (sz2 + 1) sz2 (c9 + 1) (s9 + 2) kk cs2.tail ?_ (hR2.new.put (tl_suf _) (by omega)) (EX.new hz2) (fun h24 => ⟨a2, ?_, (hN h24).ex (EX.new hz2) g2⟩) (by omega) (by omega) he2 rfl (by omega)⟩
          · rw [va_up_ne _ _ hnr, g2, show (ct : Int) - cs2.tail.length - 1 = (ct : Int) - cs2.length by omega]
          · rw [va_up_self, if_pos hk3]
      have bnd : ∀ (r : List Int) (u : PT), pOk u → r.length + 1 ≤ cs2.length → itX pa cs = suX n r u → c9 + 1 ≤ bgt (itX pa) cs := by
        intro r u hu hr he2
        have := suX_le n r u hu
        unfold bgt
        rw [he2]
        omega
      have sfx : ∀ r : List Int, (itX pa cs).1 = r → r.length ≤ cs2.length → c9 ≤ bgt (itX pa) cs := by
        intro r e hr
        unfold bgt
        rw [e]
        omega
      by_cases w1 : hdI cs2 = 42
      · have he2 : itX pa cs = suX n cs2.tail (.pow t 1) := by rw [he, suX, if_pos w1]
        have htl := tl_len (cs := cs2) (by omega)
        have hbn := bnd cs2.tail (.pow t 1) ⟨by omega, hok2⟩ (by omega) he2
        refine r_aload_n (n := 7) C dX2_item_6 rfl rfl rfl ?_
        refine r_get (n := 10) (ci := 2) (k := 3) C in_X2 rfl (by decide) q165 rfl dX2_item_7 rfl (by assumption) rfl ?_
        refine r_if_ne (t := 136) (n := 13) C dX2_item_10 (by decide) rfl (fun c_10 => ?_) (fun c_10 => ?_)
        · exact absurd rfl c_10
        · refine r_aload_n (n := 14) C dX2_item_13 rfl rfl rfl ?_
          refine r_callV (n := 17) (n0 := 0) (ci := 2) C (ct_rnext (xL x) hR2) (lw_V q400 q402 qs0 q37 q403) ⟨by decide, by decide, by decide +kernel⟩ rfl (by assumption) rfl dX2_item_14 rfl rfl ?_
          rintro v h' sz' ⟨rfl, rfl, rfl⟩ - -
          dsimp only [stk]
          rw [w1]
          refine r_lookup (t := 60) C dX2_item_17 (by decide) (by decide +kernel) rfl (by decide) ?_
          refine r_aload_n (n := 61) C dX2_item_60 rfl rfl rfl ?_
          refine r_aload_n (n := 62) C dX2_item_61 rfl rfl rfl ?_
          refine r_gets (n := 65) C tz2 q440 dX2_item_62 rfl ?_
          refine r_callV (n := 68) (n0 := 2) (ci := 2) C (ct_rrepeat (xL x) a2 (kc g 3) hR2) (lw_V q442 q444 qs6 q37 q445) ⟨by decide, by decide, by decide +kernel⟩ rfl (by assumption) rfl dX2_item_65 rfl rfl ?_
          rintro v h' sz' hv - -
          obtain ⟨a3, rfl, k3⟩ := rep 1 (by omega) (by omega) he2 0 v h' sz' hv
          dsimp only [stk]
          refine r_astore_n (n := 69) C dX2_item_68 rfl rfl ?_
          refine r_goto (n := 113) C dX2_item_69 (by decide) ?_
          exact k3
      by_cases w2 : hdI cs2 = 43
      · have he2 : itX pa cs = suX n cs2.tail (.pow t 2) := by rw [he, suX, if_neg w1, if_pos w2]
        have htl := tl_len (cs := cs2) (by omega)
        have hbn := bnd cs2.tail (.pow t 2) ⟨by omega, hok2⟩ (by omega) he2
        refine r_aload_n (n := 7) C dX2_item_6 rfl rfl rfl ?_
        refine r_get (n := 10) (ci := 2) (k := 3) C in_X2 rfl (by decide) q165 rfl dX2_item_7 rfl (by assumption) rfl ?_
        refine r_if_ne (t := 136) (n := 13) C dX2_item_10 (by decide) rfl (fun c_10 => ?_) (fun c_10 => ?_)
        · exact absurd rfl c_10
        · refine r_aload_n (n := 14) C dX2_item_13 rfl rfl rfl ?_
          refine r_callV (n := 17) (n0 := 0) (ci := 2) C (ct_rnext (xL x) hR2) (lw_V q400 q402 qs0 q37 q403) ⟨by decide, by decide, by decide +kernel⟩ rfl (by assumption) rfl dX2_item_14 rfl rfl ?_
          rintro v h' sz' ⟨rfl, rfl, rfl⟩ - -
          dsimp only [stk]
          rw [w2]
          refine r_lookup (t := 72) C dX2_item_17 (by decide) (by decide +kernel) rfl (by decide) ?_
          refine r_aload_n (n := 73) C dX2_item_72 rfl rfl rfl ?_
          refine r_aload_n (n := 74) C dX2_item_73 rfl rfl rfl ?_
          refine r_gets (n := 77) C tz3 q459 dX2_item_74 rfl ?_
          refine r_callV (n := 80) (n0 := 2) (ci := 2) C (ct_rrepeat (xL x) a2 (kc g 4) hR2) (lw_V q442 q444 qs6 q37 q445) ⟨by decide, by decide, by decide +kernel⟩ rfl (by assumption) rfl dX2_item_77 rfl rfl ?_
          rintro v h' sz' hv - -
          obtain ⟨a3, rfl, k3⟩ := rep 2 (by omega) (by omega) he2 0 v h' sz' hv
          dsimp only [stk]
          refine r_astore_n (n := 81) C dX2_item_80 rfl rfl ?_
          refine r_goto (n := 113) C dX2_item_81 (by decide) ?_
          exact k3
      by_cases w3 : hdI cs2 = 63
      · have he2 : itX pa cs = suX n cs2.tail (.pow t 0) := by rw [he, suX, if_neg w1, if_neg w2, if_pos w3]
        have htl := tl_len (cs := cs2) (by omega)
        have hbn := bnd cs2.tail (.pow t 0) ⟨by omega, hok2⟩ (by omega) he2
        refine r_aload_n (n := 7) C dX2_item_6 rfl rfl rfl ?_
        refine r_get (n := 10) (ci := 2) (k := 3) C in_X2 rfl (by decide) q165 rfl dX2_item_7 rfl (by assumption) rfl ?_
        refine r_if_ne (t := 136) (n := 13) C dX2_item_10 (by decide) rfl (fun c_10 => ?_) (fun c_10 => ?_)
        · exact absurd rfl c_10
        · refine r_aload_n (n := 14) C dX2_item_13 rfl rfl rfl ?_
          refine r_callV (n := 17) (n0 := 0) (ci := 2) C (ct_rnext (xL x) hR2) (lw_V q400 q402 qs0 q37 q403) ⟨by decide, by decide, by decide +kernel⟩ rfl (by assumption) rfl dX2_item_14 rfl rfl ?_
          rintro v h' sz' ⟨rfl, rfl, rfl⟩ - -
          dsimp only [stk]
          rw [w3]
          refine r_lookup (t := 84) C dX2_item_17 (by decide) (by decide +kernel) rfl (by decide) ?_
          refine r_aload_n (n := 85) C dX2_item_84 rfl rfl rfl ?_
          refine r_aload_n (n := 86) C dX2_item_85 rfl rfl rfl ?_
          refine r_gets (n := 89) C tz1 q461 dX2_item_86 rfl ?_
          refine r_callV (n := 92) (n0 := 2) (ci := 2) C (ct_rrepeat (xL x) a2 (kc g 2) hR2) (lw_V q442 q444 qs6 q37 q445) ⟨by decide, by decide, by decide +kernel⟩ rfl (by assumption) rfl dX2_item_89 rfl rfl ?_
          rintro v h' sz' hv - -
          obtain ⟨a3, rfl, k3⟩ := rep 0 (by omega) (by omega) he2 0 v h' sz' hv
          dsimp only [stk]
          refine r_astore_n (n := 93) C dX2_item_92 rfl rfl ?_
          refine r_goto (n := 113) C dX2_item_93 (by decide) ?_
          exact k3
      by_cases w4 : hdI cs2 = 60
      · have htl := tl_len (cs := cs2) (by omega)
        have hlm := lmX_ok cs2.tail
        have hlml := hlm.1.length_le
        have he2 : itX pa cs = (match (lmX cs2.tail).2 with
          | none => ((lmX cs2.tail).1, none)
          | some v => suX n (lmX cs2.tail).1 (.pow t (v + 3))) := by rw [he, suX, if_neg w1, if_neg w2, if_neg w3, if_pos w4]; cases (lmX cs2.tail).2 <;> rfl
        have hbn : c9 + 1 ≤ bgt (itX pa) cs := by
          cases hr : (lmX cs2.tail).2 with
          | none =>
            unfold bgt
            rw [he2, hr]
            dsimp only
            omega
          | some m =>
            rw [hr] at he2
            have := hlm.2 m hr
            exact bnd (lmX cs2.tail).1 (.pow t (m + 3)) ⟨by omega, hok2⟩ (by omega) he2
        refine r_aload_n (n := 7) C dX2_item_6 rfl rfl rfl ?_
        refine r_get (n := 10) (ci := 2) (k := 3) C in_X2 rfl (by decide) q165 rfl dX2_item_7 rfl (by assumption) rfl ?_
        refine r_if_ne (t := 136) (n := 13) C dX2_item_10 (by decide) rfl (fun c_10 => ?_) (fun c_10 => ?_)
        · exact absurd rfl c_10
        · refine r_aload_n (n := 14) C dX2_item_13 rfl rfl rfl ?_
          refine r_callV (n := 17) (n0 := 0) (ci := 2) C (ct_rnext (xL x) hR2) (lw_V q400 q402 qs0 q37 q403) ⟨by decide, by decide, by decide +kernel⟩ rfl (by assumption) rfl dX2_item_14 rfl rfl ?_
          rintro v h' sz' ⟨rfl, rfl, rfl⟩ - -
          dsimp only [stk]
          rw [w4]
          refine r_lookup (t := 96) C dX2_item_17 (by decide) (by decide +kernel) rfl (by decide) ?_
          refine r_aload_n (n := 97) C dX2_item_96 rfl rfl rfl ?_
          refine r_aload_n (n := 98) C dX2_item_97 rfl rfl rfl ?_
          refine r_callV (n := 101) (n0 := 1) (ci := 2) C (ct_rlimit (xL x) a2 hR2 w4) (lw_V q463 q465 qs7 q37 q466) ⟨by decide, by decide, by decide +kernel⟩ rfl (by assumption) rfl dX2_item_98 rfl rfl ?_
          rintro v h' sz' hv - -
          cases hr : (lmX cs2.tail).2 with
          | none =>
            rw [hr] at hv he2
            obtain ⟨rfl, rfl, rfl⟩ := hv
            dsimp only [stk]
            rw [he2] at hQ
            refine r_astore_nN (n := 102) C dX2_item_101 rfl rfl ?_
            refine r_aload_n (n := 103) C dX2_item_102 rfl rfl rfl ?_
            refine r_get (n := 106) (ci := 2) (k := 3) C in_X2 rfl (by decide) q165 rfl dX2_item_103 rfl (va_up_self _ _ _) rfl ?_
            refine r_if_eq (t := 113) (n := 109) C dX2_item_106 (by decide) rfl (fun c_106 => ?_) (fun c_106 => ?_)
            · omega
            · refine r_aconst_null (n := 110) C dX2_item_109 rfl ?_
              refine r_areturn C hQ (Or.inl ⟨_, rfl⟩) (Or.inl rfl) dX2_item_110 ?_
              exact RP_brk (hR2.put (hlm.1.trans (tl_suf _)) (by omega)) (hE2.tr EX.put) (by omega) none
          | some m =>
            rw [hr] at hv he2
            have hlm2 := hlm.2 m hr
            dsimp only at hv he2
            have key : ∃ a3, v = some (.ref a3) ∧ h' rd = some (RO sb rs ((ct : Int) - (lmX cs2.tail).1.length - 1) nd2 0) ∧ V x g h0 Q h' sz' (c9 + 1) (s9 + 2) 113 [some (.ref rd), some (vI d), some (.ref a3)] [] := by
              rcases hv with ⟨v1, rfl, rfl, rfl⟩ | ⟨v1, rfl, rfl, rfl⟩
              · refine ⟨a2, rfl, va_up_self _ _ _, k113 _ sz2 a2 (c9 + 1) (s9 + 2) (m + 3) (lmX cs2.tail).1 (va_up_self _ _ _) ?_ EX.put (fun h24 => by omega) (by omega) (by omega) he2 rfl (by omega)⟩
                rw [bx_uu]
                exact hR2.put (hlm.1.trans (tl_suf _)) (by omega)
              · refine ⟨sz2, rfl, ?_, k113 _ (sz2 + 1) sz2 (c9 + 1) (s9 + 2) (m + 3) (lmX cs2.tail).1 ?_ ?_ (EX.put.tr (EX.new ?_)) (fun h24 => ⟨a2, ?_, ((hN h24).ex EX.put g2).ex (EX.new ?_) (va_up_self _ _ _)⟩) (by omega) (by omega) he2 rfl (by omega)⟩
                · rw [va_up_ne _ _ hnr, va_up_self]
                · rw [va_up_ne _ _ hnr, va_up_self]
                · have h9 := (hR2.put (cs' := (lmX cs2.tail).1) (nd' := nd2 + 1) (br' := 0) (hlm.1.trans (tl_suf _)) (by omega)).new (e := some (oC 7 [.ref a2, vI m]))
                  have hq : va_up (va_up (va_up h2 rd (some (RO sb rs ((ct : Int) - (lmX cs2.tail).1.length - 1) nd2 0))) sz2 (some (oC 7 [.ref a2, vI m]))) rd (some (RO sb rs ((ct : Int) - (lmX cs2.tail).1.length) ((nd2 + 1 : Nat) : Int) 0)) = va_up (va_up h2 rd (some (RO sb rs ((ct : Int) - (lmX cs2.tail).1.length) ((nd2 + 1 : Nat) : Int) 0))) sz2 (some (oC 7 [.ref a2, vI m])) := by
                    funext q
                    by_cases q1 : q = rd
                    · subst q1
                      rw [va_up_self, va_up_ne _ _ hnr, va_up_self]
                    · rw [va_up_ne _ _ q1]
                      by_cases q2 : q = sz2
                      · subst q2
                        rw [va_up_self, va_up_self]
                      · rw [va_up_ne _ _ q2, va_up_ne _ _ q2, va_up_ne _ _ q1, va_up_ne _ _ q1]
                  rw [hq]
                  exact h9
                · rw [va_up_ne _ _ (Ne.symm hnr)]
                  exact hz2
                · rw [va_up_self, if_neg (by omega), show ((m + 3 : Nat) : Int) - 3 = (m : Int) by omega]
                · rw [va_up_ne _ _ (Ne.symm hnr)]
                  exact hz2
            obtain ⟨a3, rfl, g3, k3⟩ := key
            dsimp only [stk]
            refine r_astore_n (n := 102) C dX2_item_101 rfl rfl ?_
            refine r_aload_n (n := 103) C dX2_item_102 rfl rfl rfl ?_
            refine r_get (n := 106) (ci := 2) (k := 3) C in_X2 rfl (by decide) q165 rfl dX2_item_103 rfl g3 rfl ?_
            refine r_if_eq (t := 113) (n := 109) C dX2_item_106 (by decide) rfl (fun c_106 => ?_) (fun c_106 => ?_)
            · exact k3
            · omega
      have he2 : itX pa cs = (cs2, some t) := by rw [he]; exact suX_no ⟨w1, w2, w3, w4⟩
      have hb9 := sfx cs2 (by rw [he2]) (Nat.le_refl _)
      have hlo : Op.lookupswitch.offset (#[(42, 43), (43, 55), (60, 79), (63, 67)] : Array (Int × Int)).toList 94 (hdI cs2) = 94 := by
        simp [Op.lookupswitch.offset, w1, w2, w3, w4, Ne.symm w1, Ne.symm w2, Ne.symm w3, Ne.symm w4]
      rw [he2] at hQ
      refine r_aload_n (n := 7) C dX2_item_6 rfl rfl rfl ?_
      refine r_get (n := 10) (ci := 2) (k := 3) C in_X2 rfl (by decide) q165 rfl dX2_item_7 rfl (by assumption) rfl ?_
      refine r_if_ne (t := 136) (n := 13) C dX2_item_10 (by decide) rfl (fun c_10 => ?_) (fun c_10 => ?_)
      · exact absurd rfl c_10
      · refine r_aload_n (n := 14) C dX2_item_13 rfl rfl rfl ?_
        refine r_callV (n := 17) (n0 := 0) (ci := 2) C (ct_rnext (xL x) hR2) (lw_V q400 q402 qs0 q37 q403) ⟨by decide, by decide, by decide +kernel⟩ rfl (by assumption) rfl dX2_item_14 rfl rfl ?_
        rintro v h' sz' ⟨rfl, rfl, rfl⟩ - -
        dsimp only [stk]
        refine r_lookup (t := 111) C dX2_item_17 (by omega) (by decide +kernel) hlo (by decide) ?_
        refine r_aload_n (n := 112) C dX2_item_111 rfl rfl rfl ?_
        refine r_areturn C hQ (Or.inl ⟨_, rfl⟩) (Or.inr ⟨_, rfl⟩) dX2_item_112 ?_
        refine ⟨nd2, hR2, hE2, by dsimp only; omega, fun u hu => ?_, some a2, rfl⟩
        have hu := Option.some.inj hu
        subst hu
        exact ⟨hnd, a2, rfl, hN⟩
  have hbb : bgt pa cs ≤ bgt (itX pa) cs := by
    unfold bgt itX
    cases hr : (pa cs).2 with
    | none => exact Nat.le_refl _
    | some t =>
      have := suX_le (pa cs).1.length (pa cs).1 t (hpok.2 t hr).2.1
      dsimp only
      omega
  refine r_aload_n (n := 1) C dX2_item_0 rfl rfl rfl ?_
  refine r_iload_n (n := 2) C dX2_item_1 rfl rfl rfl ?_
  refine r_callS (n := 5) (n0 := 2) C (hp cs nd hR hb) (lw_S q397 q398 q37 q399) ⟨by decide, by decide, by decide +kernel⟩ rfl dX2_item_2 rfl rfl ?_
  rintro v h' sz' ⟨nd', hR2, hE2, hn2, ht2, q, rfl⟩ - -
  have g2 := hR2.1
  dsimp only [stk]
  refine r_astore_nq (n := 6) C dX2_item_5 rfl rfl ?_
  skip
  cases hr : (pa cs).2 with
  | none =>
    have hbx : itX pa cs = ((pa cs).1, none) := by unfold itX; rw [hr]
    rw [hbx] at hQ
    rw [hr] at hR2 g2
    refine r_aload_n (n := 7) C dX2_item_6 rfl rfl rfl ?_
    refine r_get (n := 10) (ci := 2) (k := 3) C in_X2 rfl (by decide) q165 rfl dX2_item_7 rfl g2 rfl ?_
    refine r_if_ne (t := 136) (n := 13) C dX2_item_10 (by decide) rfl (fun c_10 => ?_) (fun c_10 => ?_)
    · refine r_aconst_null (n := 137) C dX2_item_136 rfl ?_
      refine r_areturn C hQ (Or.inl ⟨_, rfl⟩) (Or.inl rfl) dX2_item_137 ?_
      exact RP_brk hR2 hE2 hn2 none
    · simp at c_10
  | some t =>
    rw [hr] at hR2 g2
    obtain ⟨e1, a, e2, e3⟩ := ht2 t hr
    have e4 : q = some a := by cases q with
      | none => simp [va_rf] at e2
      | some a' => simp [va_rf] at e2; rw [e2]
    subst e4
    have hpk := hpok.2 t hr
    refine lp (pa cs).1.length h' sz' nd' a _ _ (pa cs).1 t (Nat.le_refl _) hR2 hE2 e1 e3 hpk.2.1 (by omega) (by unfold itX; rw [hr]) ?_ (by omega)
    unfold bgt
    omega
