/-! THE READER: expression -/
set_option maxHeartbeats 4000000 in
theorem ct_rexpr (l : Launch) (d : Int) (L : Nat) (hL : 10 ≤ L) (pi : List Int → Res) (b : Nat) (hok : Rok b pi) (hp : RdC l yX2_row cX2_row 4 (L - 1) d pi) : RdC l yX2_expression cX2_expression 4 L d (exX pi) := by
  intro g h sz rd sb vb rs cap ml ct f cs nd hR hb
  have hpok := hok cs
  have hpl := hpok.1.length_le
  have g0 := hR.1
  refine CT.of (lo := [some (.ref rd), some (vI d), none, none]) (by decide) (by simp [Value.category]) (Nat.le_of_ble_eq_true rfl) rfl ?_
  intro x h0 Q C hQ hl hni
  subst hl
  have lp : ∀ (n : Nat) (h2 : HM) (sz2 nd2 a2 c9 s9 : Nat) (cs2 : List Int) (t : PT), cs2.length ≤ n → RW g h2 sz2 rd sb vb rs cap ml ct f cs2 nd2 0 → EX rd h h2 → nd2 = nd + pSz t → (nd2 ≤ 24 → NT g h2 t a2) → pSz t + 1 + 2 * cs2.length ≤ 2 * cs.length → exX pi cs = exL pi n cs2 t → c9 + 1 + 2 * cs2.length ≤ 2 * cs.length → s9 ≤ 2 * c9 → V x g h0 Q h2 sz2 c9 s9 6 [some (.ref rd), some (vI d), some (.ref a2), none] [] := by
    intro n
    induction n with
    | zero =>
      intro h2 sz2 nd2 a2 c9 s9 cs2 t hn hR2 hE2 hnd hN hsz he hc9 hs9
      have e0 : cs2 = [] := List.eq_nil_of_length_eq_zero (by omega)
      subst e0
      have g2 := hR2.1
      have hbe : bgt (exX pi) cs = 2 * cs.length - 1 := by unfold bgt; rw [he]; rfl
      rw [he] at hQ
      refine r_aload_n (n := 7) C dX2_expression_6 rfl rfl rfl ?_
      refine r_get (n := 10) (ci := 2) (k := 3) C in_X2 rfl (by decide) q165 rfl dX2_expression_7 rfl (by assumption) rfl ?_
      refine r_if_ne (t := 69) (n := 13) C dX2_expression_10 (by decide) rfl (fun c_10 => ?_) (fun c_10 => ?_)
      · exact absurd rfl c_10
      · refine r_aload_n (n := 14) C dX2_expression_13 rfl rfl rfl ?_
        refine r_bipush (n := 16) C dX2_expression_14 (by decide) rfl ?_
        refine r_callV (n := 19) (n0 := 1) (ci := 2) C (ct_raccept (xL x) 124 (by omega) hR2) (lw_V q425 q427 qs3 q37 q428) ⟨by decide, by decide, by decide +kernel⟩ rfl (by assumption) rfl dX2_expression_16 rfl rfl ?_
        rintro v h' sz' ⟨rfl, z, rfl, hz⟩ - -
        have hz : z = 0 ∧ h2 = h' := by
          rcases hz with ⟨-, hz, -⟩ | ⟨hz, -, h9⟩
          · exact absurd hz (by decide)
          · exact ⟨hz, h9.symm⟩
        obtain ⟨hz0, rfl⟩ := hz
        dsimp only [stk]
        refine r_if_eq (t := 69) (n := 22) C dX2_expression_19 (by decide) rfl (fun c_19 => ?_) (fun c_19 => ?_)
        · refine r_aload_n (n := 70) C dX2_expression_69 rfl rfl rfl ?_
          refine r_areturn C hQ (Or.inl ⟨_, rfl⟩) (Or.inr ⟨_, rfl⟩) dX2_expression_70 ?_
          refine ⟨nd2, hR2, hE2, by simp [exL]; omega, fun u hu => ?_, some a2, rfl⟩
          have hu := Option.some.inj hu
          subst hu
          exact ⟨hnd, a2, rfl, hN⟩
        · exact absurd hz0 c_19
    | succ n ih =>
      intro h2 sz2 nd2 a2 c9 s9 cs2 t hn hR2 hE2 hnd hN hsz he hc9 hs9
      have g2 := hR2.1
      have hrg := hR2.rg
      by_cases w1 : hdI cs2 = 124
      · have hne : hdI cs2 ≠ 0 := by omega
        have htl := tl_len hne
        have hR3 : RW g (va_up h2 rd (some (RO sb rs ((ct : Int) - cs2.tail.length) ((nd2 + 1 : Nat) : Int) 0))) sz2 rd sb vb rs cap ml ct f cs2.tail (nd2 + 1) 0 := hR2.put (tl_suf _) (by omega)
        have hE3 : EX rd h2 (va_up h2 rd (some (RO sb rs ((ct : Int) - cs2.tail.length) ((nd2 + 1 : Nat) : Int) 0))) := EX.put
        have g3 := hR3.1
        generalize hh3 : va_up h2 rd (some (RO sb rs ((ct : Int) - cs2.tail.length) ((nd2 + 1 : Nat) : Int) 0)) = h3 at hR3 hE3 g3
        have hip := hok cs2.tail
        have hipl := hip.1.length_le
        have he2 : exX pi cs = (match (pi cs2.tail).2 with
          | none => ((pi cs2.tail).1, none)
          | some u => exL pi n (pi cs2.tail).1 (.sub t u)) := by rw [he, exL, if_pos w1]; cases (pi cs2.tail).2 <;> rfl
        have hbn : c9 + bgt pi cs2.tail ≤ bgt (exX pi) cs ∧ ∀ u, (pi cs2.tail).2 = some u → c9 + bgt pi cs2.tail + 1 ≤ bgt (exX pi) cs := by
          unfold bgt
          rw [he2]
          cases hr : (pi cs2.tail).2 with
          | none => exact ⟨by dsimp only; omega, fun u hu => by simp at hu⟩
          | some u =>
            have h5 := exL_le hok n (pi cs2.tail).1 (.sub t u)
            have h6 := (hip.2 u hr).1
            exact ⟨by dsimp only; omega, fun _ _ => by dsimp only; omega⟩
        refine r_aload_n (n := 7) C dX2_expression_6 rfl rfl rfl ?_
        refine r_get (n := 10) (ci := 2) (k := 3) C in_X2 rfl (by decide) q165 rfl dX2_expression_7 rfl (by assumption) rfl ?_
        refine r_if_ne (t := 69) (n := 13) C dX2_expression_10 (by decide) rfl (fun c_10 => ?_) (fun c_10 => ?_)
        · exact absurd rfl c_10
        · refine r_aload_n (n := 14) C dX2_expression_13 rfl rfl rfl ?_
          refine r_bipush (n := 16) C dX2_expression_14 (by decide) rfl ?_
          refine r_callV (n := 19) (n0 := 1) (ci := 2) C (ct_raccept (xL x) 124 (by omega) hR2) (lw_V q425 q427 qs3 q37 q428) ⟨by decide, by decide, by decide +kernel⟩ rfl (by assumption) rfl dX2_expression_16 rfl rfl ?_
          rintro v h' sz' ⟨rfl, z, rfl, hz⟩ - -
          have hz : z = 1 ∧ h' = va_up h2 rd (some (RO sb rs ((ct : Int) - cs2.tail.length) nd2 0)) := by
            rcases hz with ⟨hz, -, h9⟩ | ⟨-, hz, -⟩
            · exact ⟨hz, h9⟩
            · exact absurd w1 hz
          obtain ⟨hz0, rfl⟩ := hz
          dsimp only [stk]
          refine r_if_eq (t := 69) (n := 22) C dX2_expression_19 (by decide) rfl (fun c_19 => ?_) (fun c_19 => ?_)
          · omega
          · refine r_aload_n (n := 23) C dX2_expression_22 rfl rfl rfl ?_
            refine r_dup (n := 24) C dX2_expression_23 rfl rfl ?_
            refine r_get (n := 27) (ci := 2) (k := 2) C in_X2 rfl (by decide) q163 rfl dX2_expression_24 rfl (va_up_self _ _ _) rfl ?_
            refine r_iconst (n := 28) C dX2_expression_27 rfl ?_
            refine r_iadd (n := 29) C dX2_expression_28 rfl ?_
            refine r_put (n := 32) (ty := .int) (ci := 2) (k := 2) C in_X2 tyX2 tyX2_ok nmX2 rfl (by decide) q163 rfl rfl (by decide +kernel) rfl rfl dX2_expression_29 rfl (va_up_self _ _ _) (Nat.le_of_ble_eq_true rfl) ?_
            rw [bx_uu, show va_up h2 rd (some (oC 2 ([Value.ref sb, vI ((ct : Int) - cs2.tail.length), vI nd2, vI 0, Value.ref rs].set 2 (vI ((nd2 : Int) + 1))))) = h3 from hh3]
            refine r_aload_n (n := 33) C dX2_expression_32 rfl rfl rfl ?_
            refine r_iload_n (n := 34) C dX2_expression_33 rfl rfl rfl ?_
            refine r_callS (n := 37) (n0 := 2) C (hp cs2.tail (nd2 + 1) hR3 (by omega)) (lw_S q391 q392 q37 q393) ⟨by decide, by decide, by decide +kernel⟩ rfl dX2_expression_34 rfl rfl ?_
            rintro v h' sz' ⟨nd', hR4, hE4, hn4, ht4, q, rfl⟩ - -
            have g4 := hR4.1
            dsimp only [stk]
            refine r_astore_nq (n := 38) C dX2_expression_37 rfl rfl ?_
            skip
            cases hr : (pi cs2.tail).2 with
            | none =>
              rw [hr] at he2 hR4 g4
              rw [he2] at hQ
              refine r_aload_n (n := 39) C dX2_expression_38 rfl rfl rfl ?_
              refine r_get (n := 42) (ci := 2) (k := 3) C in_X2 rfl (by decide) q165 rfl dX2_expression_39 rfl g4 rfl ?_
              refine r_if_ne (t := 52) (n := 45) C dX2_expression_42 (by decide) rfl (fun c_42 => ?_) (fun c_42 => ?_)
              · refine r_aload_n (n := 53) C dX2_expression_52 rfl rfl rfl ?_
                refine r_goto (n := 65) C dX2_expression_53 (by decide) ?_
                refine r_astore_n (n := 66) C dX2_expression_65 rfl rfl ?_
                refine r_goto (n := 6) C dX2_expression_66 (by decide) ?_
                refine r_aload_n (n := 7) C dX2_expression_6 rfl rfl rfl ?_
                refine r_get (n := 10) (ci := 2) (k := 3) C in_X2 rfl (by decide) q165 rfl dX2_expression_7 rfl g4 rfl ?_
                refine r_if_ne (t := 69) (n := 13) C dX2_expression_10 (by decide) rfl (fun c_10 => ?_) (fun c_10 => ?_)
                · refine r_aload_n (n := 70) C dX2_expression_69 rfl rfl rfl ?_
                  refine r_areturn C hQ (Or.inl ⟨_, rfl⟩) (Or.inr ⟨_, rfl⟩) dX2_expression_70 ?_
                  exact RP_brk hR4 (hE2.tr (hE3.tr hE4)) (by omega) (some a2)
                · simp at c_10
              · simp at c_42
            | some u =>
              rw [hr] at he2 hR4 g4
              obtain ⟨e1, a, e2, e3⟩ := ht4 u hr
              have e4 : q = some a := by cases q with
                | none => simp [va_rf] at e2
                | some a' => simp [va_rf] at e2; rw [e2]
              subst e4
              have hpk := hip.2 u hr
              have hb2 := hbn.2 u hr
              have hz4 := hR4.2.2.2.2.1 sz' (Nat.le_refl _)
              have hcc : c9 + bgt pi cs2.tail + 2 + 2 * (pi cs2.tail).1.length ≤ 2 * cs.length := by
                unfold bgt
                omega
              have fin : ∀ (h5 : HM) (sz5 a5 c5 s5 : Nat), RW g h5 sz5 rd sb vb rs cap ml ct f (pi cs2.tail).1 nd' 0 → EX rd h' h5 → (nd' ≤ 24 → NT g h5 (.sub t u) a5) → c5 ≤ c9 + bgt pi cs2.tail + 1 → s5 ≤ 2 * c5 → V x g h0 Q h5 sz5 c5 s5 6 [some (.ref rd), some (vI d), some (.ref a5), some (.ref a)] [] := fun h5 sz5 a5 c5 s5 q1 q2 q3 q4 q5 => V.ls (ih h5 sz5 nd' a5 c5 s5 (pi cs2.tail).1 (.sub t u) (by omega) q1 (hE2.tr (hE3.tr (hE4.tr q2))) (by simp only [pSz]; omega) q3 (by simp only [pSz]; omega) he2 (by omega) q5) ⟨rfl, rfl, rfl, trivial⟩
              refine r_aload_n (n := 39) C dX2_expression_38 rfl rfl rfl ?_
              refine r_get (n := 42) (ci := 2) (k := 3) C in_X2 rfl (by decide) q165 rfl dX2_expression_39 rfl g4 rfl ?_
              refine r_if_ne (t := 52) (n := 45) C dX2_expression_42 (by decide) rfl (fun c_42 => ?_) (fun c_42 => ?_)
              · exact absurd rfl c_42
              · refine r_aload_n (n := 46) C dX2_expression_45 rfl rfl rfl ?_
                refine r_callV (n := 49) (n0 := 0) (ci := 2) C (ct_rfull (xL x) hR4) (lw_V q436 q438 qs5 q37 q439) ⟨by decide, by decide, by decide +kernel⟩ rfl g4 rfl dX2_expression_46 rfl rfl ?_
                rintro v h'' sz'' ⟨rfl, rfl, z9, rfl, hz9⟩ - -
                dsimp only [stk]
                refine r_if_eq (t := 56) (n := 52) C dX2_expression_49 (by decide) rfl (fun c_49 => ?_) (fun c_49 => ?_)
                · refine r_new (n := 59) (ci := 9) (fs := [.null, .null]) C in_X9 tyX9 tyX9_ok q496 q497 q60 rfl (by decide +kernel) dX2_expression_56 rfl ?_
                  refine r_dup (n := 60) C dX2_expression_59 rfl rfl ?_
                  refine r_aload_n (n := 61) C dX2_expression_60 rfl rfl rfl ?_
                  refine r_aload_n (n := 62) C dX2_expression_61 rfl rfl rfl ?_
                  refine r_callIN (n := 65) (n0 := 2) C (ct_n9 (xL x) g (va_up h' sz' (some (oC 9 [.null, .null]))) (sz' + 1) sz' a2 a (va_up_self _ _ _)) q500 q60 q498 q499 rfl ⟨by decide, by decide, by decide +kernel⟩ rfl dX2_expression_62 rfl rfl ?_
                  rintro v h'' sz'' ⟨rfl, rfl, rfl⟩ - -
                  dsimp only [stk]
                  refine r_astore_n (n := 66) C dX2_expression_65 rfl rfl ?_
                  refine r_goto (n := 6) C dX2_expression_66 (by decide) ?_
                  rw [bx_uu]
                  refine fin _ (sz' + 1) sz' _ _ hR4.new (EX.new hz4) (fun h24 => ⟨a2, a, va_up_self _ _ _, ?_, ?_⟩) (by omega) (by omega)
                  · exact ((((hN (by omega)).ex hE3 g2).ex hE4 g3).ex (EX.new hz4) g4)
                  · exact (e3 h24).ex (EX.new hz4) g4
                · skip
                  refine r_aload_n (n := 53) C dX2_expression_52 rfl rfl rfl ?_
                  refine r_goto (n := 65) C dX2_expression_53 (by decide) ?_
                  refine r_astore_n (n := 66) C dX2_expression_65 rfl rfl ?_
                  refine r_goto (n := 6) C dX2_expression_66 (by decide) ?_
                  refine fin h' sz' a2 _ _ hR4 EX.rf (fun h24 => by omega) (by omega) (by omega)
      · have he2 : exX pi cs = (cs2, some t) := by rw [he]; exact exL_no w1
        have hb9 : c9 ≤ bgt (exX pi) cs := by
          unfold bgt
          rw [he2]
          dsimp only
          omega
        rw [he2] at hQ
        refine r_aload_n (n := 7) C dX2_expression_6 rfl rfl rfl ?_
        refine r_get (n := 10) (ci := 2) (k := 3) C in_X2 rfl (by decide) q165 rfl dX2_expression_7 rfl (by assumption) rfl ?_
        refine r_if_ne (t := 69) (n := 13) C dX2_expression_10 (by decide) rfl (fun c_10 => ?_) (fun c_10 => ?_)
        · exact absurd rfl c_10
        · refine r_aload_n (n := 14) C dX2_expression_13 rfl rfl rfl ?_
          refine r_bipush (n := 16) C dX2_expression_14 (by decide) rfl ?_
          refine r_callV (n := 19) (n0 := 1) (ci := 2) C (ct_raccept (xL x) 124 (by omega) hR2) (lw_V q425 q427 qs3 q37 q428) ⟨by decide, by decide, by decide +kernel⟩ rfl (by assumption) rfl dX2_expression_16 rfl rfl ?_
          rintro v h' sz' ⟨rfl, z, rfl, hz⟩ - -
          have hz : z = 0 ∧ h2 = h' := by
            rcases hz with ⟨-, hz, -⟩ | ⟨hz, -, h9⟩
            · exact absurd hz w1
            · exact ⟨hz, h9.symm⟩
          obtain ⟨hz0, rfl⟩ := hz
          dsimp only [stk]
          refine r_if_eq (t := 69) (n := 22) C dX2_expression_19 (by decide) rfl (fun c_19 => ?_) (fun c_19 => ?_)
          · refine r_aload_n (n := 70) C dX2_expression_69 rfl rfl rfl ?_
            refine r_areturn C hQ (Or.inl ⟨_, rfl⟩) (Or.inr ⟨_, rfl⟩) dX2_expression_70 ?_
            refine ⟨nd2, hR2, hE2, by dsimp only; omega, fun u hu => ?_, some a2, rfl⟩
            have hu := Option.some.inj hu
            subst hu
            exact ⟨hnd, a2, rfl, hN⟩
          · exact absurd hz0 c_19
  have hbb : bgt pi cs ≤ bgt (exX pi) cs := by
    unfold bgt exX
    cases hr : (pi cs).2 with
    | none => exact Nat.le_refl _
    | some t =>
      have := exL_le hok (pi cs).1.length (pi cs).1 t
      dsimp only
      omega
  refine r_aload_n (n := 1) C dX2_expression_0 rfl rfl rfl ?_
  refine r_iload_n (n := 2) C dX2_expression_1 rfl rfl rfl ?_
  refine r_callS (n := 5) (n0 := 2) C (hp cs nd hR hb) (lw_S q391 q392 q37 q393) ⟨by decide, by decide, by decide +kernel⟩ rfl dX2_expression_2 rfl rfl ?_
  rintro v h' sz' ⟨nd', hR2, hE2, hn2, ht2, q, rfl⟩ - -
  have g2 := hR2.1
  dsimp only [stk]
  refine r_astore_nq (n := 6) C dX2_expression_5 rfl rfl ?_
  skip
  cases hr : (pi cs).2 with
  | none =>
    have hbx : exX pi cs = ((pi cs).1, none) := by unfold exX; rw [hr]
    rw [hbx] at hQ
    rw [hr] at hR2 g2
    refine r_aload_n (n := 7) C dX2_expression_6 rfl rfl rfl ?_
    refine r_get (n := 10) (ci := 2) (k := 3) C in_X2 rfl (by decide) q165 rfl dX2_expression_7 rfl g2 rfl ?_
    refine r_if_ne (t := 69) (n := 13) C dX2_expression_10 (by decide) rfl (fun c_10 => ?_) (fun c_10 => ?_)
    · refine r_aload_nq (n := 70) C dX2_expression_69 rfl rfl rfl ?_
      refine r_areturn C hQ (Or.inl ⟨_, rfl⟩) (by cases q <;> simp [va_rf]) dX2_expression_70 ?_
      exact RP_brk hR2 hE2 hn2 q
    · simp at c_10
  | some t =>
    rw [hr] at hR2 g2
    obtain ⟨e1, a, e2, e3⟩ := ht2 t hr
    have e4 : q = some a := by cases q with
      | none => simp [va_rf] at e2
      | some a' => simp [va_rf] at e2; rw [e2]
    subst e4
    have hpk := hpok.2 t hr
    refine lp (pi cs).1.length h' sz' nd' a _ _ (pi cs).1 t (Nat.le_refl _) hR2 hE2 e1 e3 (by omega) (by unfold exX; rw [hr]) ?_ (by omega)
    unfold bgt
    omega
theorem ct_rE (l : Launch) : ∀ k : Nat, k ≤ 6 → RdC l yX2_expression cX2_expression 4 (10 + 5 * k) (6 - (k : Int)) (pE k)
  | 0, _ => by
    have o1 : Rok 0 (atX 0 (fun cs => (cs, none))) := atX_ok (k := 0) (Rok_none 0)
    have h1 : RdC l yX2_atom cX2_atom 3 7 (6 - ((0 : Nat) : Int)) (atX 0 (fun cs => (cs, none))) := ct_ratom l 0 (by omega) 7 (by omega) (fun cs => (cs, none)) 0 (Rok_none 0) (fun h => absurd rfl h)
    have h2 : RdC l yX2_item cX2_item 3 8 (6 - ((0 : Nat) : Int)) (itX (atX 0 (fun cs => (cs, none)))) := ct_ritem l _ 8 (by omega) _ _ o1 h1
    have h3 : RdC l yX2_row cX2_row 4 9 (6 - ((0 : Nat) : Int)) (roX (itX (atX 0 (fun cs => (cs, none))))) := ct_rrow l _ 9 (by omega) _ _ (itX_ok o1) h2
    exact ct_rexpr l _ 10 (by omega) _ _ (roX_ok (itX_ok o1)) h3
  | k + 1, hk => by
    have h0 : RdC l yX2_expression cX2_expression 4 (10 + 5 * k) (6 - (k : Int)) (pE k) := ct_rE l k (by omega)
    have e0 : (6 - ((k + 1 : Nat) : Int) + 1) = 6 - (k : Int) := by omega
    have o1 := atX_ok (k := k + 1) (pE_ok k)
    have h1 : RdC l yX2_atom cX2_atom 3 (7 + 5 * (k + 1)) (6 - ((k + 1 : Nat) : Int)) (atX (k + 1) (pE k)) := ct_ratom l (k + 1) hk (7 + 5 * (k + 1)) (by omega) (pE k) _ (pE_ok k) (fun _ => by rw [e0, show 7 + 5 * (k + 1) - 2 = 10 + 5 * k by omega]; exact h0)
    have h2 : RdC l yX2_item cX2_item 3 (8 + 5 * (k + 1)) (6 - ((k + 1 : Nat) : Int)) (itX (atX (k + 1) (pE k))) := ct_ritem l _ (8 + 5 * (k + 1)) (by omega) _ _ o1 (by rw [show 8 + 5 * (k + 1) - 1 = 7 + 5 * (k + 1) by omega]; exact h1)
    have h3 : RdC l yX2_row cX2_row 4 (9 + 5 * (k + 1)) (6 - ((k + 1 : Nat) : Int)) (roX (itX (atX (k + 1) (pE k)))) := ct_rrow l _ (9 + 5 * (k + 1)) (by omega) _ _ (itX_ok o1) (by rw [show 9 + 5 * (k + 1) - 1 = 8 + 5 * (k + 1) by omega]; exact h2)
    exact ct_rexpr l _ (10 + 5 * (k + 1)) (by omega) _ _ (roX_ok (itX_ok o1)) (by rw [show 10 + 5 * (k + 1) - 1 = 9 + 5 * (k + 1) by omega]; exact h3)
/-- a whole pattern: all must be read -/
def rdX (cs : List Int) : Res := match (pE 6 cs).2 with
  | none => ((pE 6 cs).1, none)
  | some t => if (pE 6 cs).1 = [] then ([], some t) else ((pE 6 cs).1, none)
theorem ct_rread (l : Launch) {g : GG} {h : HM} {sz rd sb vb rs cap : Nat} {ml : Int} {ct : Nat} {f : Nat → Int} {cs0 : List Int} {nd : Nat} {br : Int} (hR : RW g h sz rd sb vb rs cap ml ct f cs0 nd br) : CT l yX2_read cX2_read 2 (some (.object "FuzzyFinder$Node")) 41 80 160 [.ref rd] g h sz (fun v h' sz' => ∃ (nd' : Nat) (br' : Int), RW g h' sz' rd sb vb rs cap ml ct f (rdX (sl f 0 ct)).1 nd' br' ∧ EX rd h h' ∧ (∀ t, (rdX (sl f 0 ct)).2 = some t → nd' = pSz t ∧ ∃ a, v = some (.ref a) ∧ (nd' ≤ 24 → NT g h' t a)) ∧ ((rdX (sl f 0 ct)).2 = none → v = some .null)) := by
  have g0 := hR.1
  have hct := hR.2.2.2.2.2.1
  have hsl := sl_len f ct 0
  have hR1 : RW g (va_up h rd (some (RO sb rs ((ct : Int) - (sl f 0 ct).length) ((0 : Nat) : Int) 0))) sz rd sb vb rs cap ml ct f (sl f 0 ct) 0 0 := by
    have h1 := hR.put (cs' := cs0) (nd' := 0) (br' := 0) (List.suffix_refl _) (by omega)
    obtain ⟨a1, a2, a3, a4, a5, a6, a7, a8, a9⟩ := h1
    obtain ⟨n1, n2, n3⟩ := hR.ne
    rw [va_up_ne _ _ n1] at a2
    rw [va_up_ne _ _ n2] at a3
    rw [va_up_ne _ _ n3] at a4
    refine ⟨va_up_self _ _ _, (va_up_ne _ _ n1).trans a2, (va_up_ne _ _ n2).trans a3, (va_up_ne _ _ n3).trans a4, fun q hq => ?_, a6, a7, List.suffix_refl _, by omega⟩
    have := a5 q hq
    by_cases e : q = rd
    · rw [e, va_up_self] at this
      cases this
    · rw [va_up_ne _ _ e] at this ⊢
      exact this
  have hE1 : EX rd h (va_up h rd (some (RO sb rs ((ct : Int) - (sl f 0 ct).length) ((0 : Nat) : Int) 0))) := EX.put
  have g1 := hR1.1
  generalize hh1 : va_up h rd (some (RO sb rs ((ct : Int) - (sl f 0 ct).length) ((0 : Nat) : Int) 0)) = h9 at hR1 hE1 g1
  generalize hcs : sl f 0 ct = cs at hR1 hsl hh1 g1 hE1
  have hb : bgt (pE 6) cs ≤ 79 := by
    unfold bgt
    omega
  refine CT.of (lo := [some (.ref rd), none]) (by decide) (by simp [Value.category]) (Nat.le_of_ble_eq_true rfl) rfl ?_
  intro x h0 Q C hQ hl hni
  subst hl
  refine r_aload_n (n := 1) C dX2_read_0 rfl rfl rfl ?_
  refine r_iconst (n := 2) C dX2_read_1 rfl ?_
  refine r_put (n := 5) (ty := .int) (ci := 2) (k := 1) C in_X2 tyX2 tyX2_ok nmX2 rfl (by decide) q161 rfl rfl (by decide +kernel) rfl rfl dX2_read_2 rfl (by assumption) (Nat.le_of_ble_eq_true rfl) ?_
  refine r_aload_n (n := 6) C dX2_read_5 rfl rfl rfl ?_
  refine r_iconst (n := 7) C dX2_read_6 rfl ?_
  refine r_put (n := 10) (ty := .int) (ci := 2) (k := 2) C in_X2 tyX2 tyX2_ok nmX2 rfl (by decide) q163 rfl rfl (by decide +kernel) rfl rfl dX2_read_7 rfl (va_up_self _ _ _) (Nat.le_of_ble_eq_true rfl) ?_
  refine r_aload_n (n := 11) C dX2_read_10 rfl rfl rfl ?_
  refine r_iconst (n := 12) C dX2_read_11 rfl ?_
  refine r_put (n := 15) (ty := .boolean) (ci := 2) (k := 3) C in_X2 tyX2 tyX2_ok nmX2 rfl (by decide) q165 rfl rfl (by decide +kernel) rfl rfl dX2_read_12 rfl (va_up_self _ _ _) (Nat.le_of_ble_eq_true rfl) ?_
  rw [bx_uu, bx_uu, show va_up h rd (some (oC 2 ((([Value.ref sb, vI ((ct : Int) - cs0.length), vI nd, vI br, Value.ref rs].set 1 (vI 0)).set 2 (vI 0)).set 3 (vI 0)))) = h9 by rw [← hh1, hsl, Int.sub_self]; rfl]
  refine r_aload_n (n := 16) C dX2_read_15 rfl rfl rfl ?_
  refine r_iconst (n := 17) C dX2_read_16 rfl ?_
  refine r_callS (n := 20) (n0 := 2) C (ct_rE (xL x) 6 (by omega) cs 0 hR1 (by omega)) (lw_S q388 q389 q37 q390) ⟨by decide, by decide, by decide +kernel⟩ rfl dX2_read_17 rfl rfl ?_
  rintro v h' sz' ⟨nd', hR2, hE2, hn2, ht2, q, rfl⟩ - -
  have g2 := hR2.1
  dsimp only [stk]
  refine r_astore_nq (n := 21) C dX2_read_20 rfl rfl ?_
  skip
  cases hr : (pE 6 cs).2 with
  | none =>
    have hbx : rdX cs = ((pE 6 cs).1, none) := by unfold rdX; rw [hr]
    rw [hbx] at hQ
    rw [hr] at hR2 g2
    refine r_aload_n (n := 22) C dX2_read_21 rfl rfl rfl ?_
    refine r_get (n := 25) (ci := 2) (k := 3) C in_X2 rfl (by decide) q165 rfl dX2_read_22 rfl g2 rfl ?_
    refine r_if_ne (t := 42) (n := 28) C dX2_read_25 (by decide) rfl (fun c_25 => ?_) (fun c_25 => ?_)
    · refine r_aconst_null (n := 43) C dX2_read_42 rfl ?_
      refine r_goto (n := 47) C dX2_read_43 (by decide) ?_
      refine r_areturn C hQ (Or.inl ⟨_, rfl⟩) (Or.inl rfl) dX2_read_47 ?_
      exact ⟨nd', 1, hR2, hE1.tr hE2, fun t ht => by simp at ht, fun _ => rfl⟩
    · simp at c_25
  | some t =>
    rw [hr] at hR2 g2
    obtain ⟨e1, a, e2, e3⟩ := ht2 t hr
    have e4 : q = some a := by cases q with
      | none => simp [va_rf] at e2
      | some a' => simp [va_rf] at e2; rw [e2]
    subst e4
    have hl2 := hR2.len
    refine r_aload_n (n := 22) C dX2_read_21 rfl rfl rfl ?_
    refine r_get (n := 25) (ci := 2) (k := 3) C in_X2 rfl (by decide) q165 rfl dX2_read_22 rfl g2 rfl ?_
    refine r_if_ne (t := 42) (n := 28) C dX2_read_25 (by decide) rfl (fun c_25 => ?_) (fun c_25 => ?_)
    · exact absurd rfl c_25
    · refine r_aload_n (n := 29) C dX2_read_28 rfl rfl rfl ?_
      refine r_get (n := 32) (ci := 2) (k := 1) C in_X2 rfl (by decide) q161 rfl dX2_read_29 rfl g2 rfl ?_
      refine r_aload_n (n := 33) C dX2_read_32 rfl rfl rfl ?_
      refine r_get (n := 36) (ci := 2) (k := 0) C in_X2 rfl (by decide) q159 rfl dX2_read_33 rfl g2 rfl ?_
      refine r_callV (n := 39) (n0 := 0) (ci := 10) C (ct_sbLen (xL x) g h' sz' sb vb ml ct hR2.2.1) (lw_V q404 q279 q280 q39 q281) ⟨by decide, by decide, by decide +kernel⟩ rfl hR2.2.1 rfl dX2_read_36 rfl rfl ?_
      rintro v h'' sz'' ⟨rfl, rfl, rfl⟩ - -
      dsimp only [stk]
      refine r_icmp_ge (t := 46) (n := 42) C dX2_read_39 (by decide) rfl (fun c_39 => ?_) (fun c_39 => ?_)
      · have hne : (pE 6 cs).1 = [] := List.eq_nil_of_length_eq_zero (by omega)
        have hbx : rdX cs = ([], some t) := by unfold rdX; rw [hr]; dsimp only; rw [if_pos hne]
        rw [hbx] at hQ
        rw [hne] at hR2
        refine r_aload_n (n := 47) C dX2_read_46 rfl rfl rfl ?_
        refine r_areturn C hQ (Or.inl ⟨_, rfl⟩) (Or.inr ⟨_, rfl⟩) dX2_read_47 ?_
        refine ⟨nd', 0, hR2, hE1.tr hE2, fun u hu => ?_, fun hu => by simp at hu⟩
        have hu := Option.some.inj hu
        subst hu
        exact ⟨by omega, a, rfl, e3⟩
      · have hne : (pE 6 cs).1 ≠ [] := fun e => by rw [e] at c_39; simp at c_39
        have hbx : rdX cs = ((pE 6 cs).1, none) := by unfold rdX; rw [hr]; dsimp only; rw [if_neg hne]
        rw [hbx] at hQ
        refine r_aconst_null (n := 43) C dX2_read_42 rfl ?_
        refine r_goto (n := 47) C dX2_read_43 (by decide) ?_
        refine r_areturn C hQ (Or.inl ⟨_, rfl⟩) (Or.inl rfl) dX2_read_47 ?_
        exact ⟨nd', 0, hR2, hE1.tr hE2, fun t ht => by simp at ht, fun _ => rfl⟩
