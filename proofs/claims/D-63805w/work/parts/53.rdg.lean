/-! THE READER: row, expression, read -/
theorem roL_no {pi : List Int → Res} {n : Nat} {cs : List Int} {t : PT} (h : ¬ isB (hdI cs)) : roL pi n cs t = (cs, some t) := by
  cases n with
  | zero => rfl
  | succ n => rw [roL, if_neg h]
theorem exL_no {pi : List Int → Res} {n : Nat} {cs : List Int} {t : PT} (h : ¬ hdI cs = 124) : exL pi n cs t = (cs, some t) := by
  cases n with
  | zero => rfl
  | succ n => rw [exL, if_neg h]
theorem roL_le {pi : List Int → Res} {b : Nat} (hp : Rok b pi) (n : Nat) (cs : List Int) (t : PT) : (roL pi n cs t).1.length ≤ cs.length := by
  induction n generalizing cs t with
  | zero => exact Nat.le_refl _
  | succ n ih =>
    rw [roL]
    have h1 := (hp cs).1.length_le
    split
    · cases hr : (pi cs).2 with
      | none => exact h1
      | some u =>
        have := ih (pi cs).1 (.add t u)
        dsimp only
        omega
    · exact Nat.le_refl _
theorem exL_le {pi : List Int → Res} {b : Nat} (hp : Rok b pi) (n : Nat) (cs : List Int) (t : PT) : (exL pi n cs t).1.length ≤ cs.length := by
  induction n generalizing cs t with
  | zero => exact Nat.le_refl _
  | succ n ih =>
    rw [exL]
    have h1 := (hp cs.tail).1.length_le
    have h2 := (tl_suf cs).length_le
    split
    · cases hr : (pi cs.tail).2 with
      | none =>
        dsimp only
        omega
      | some u =>
        have := ih (pi cs.tail).1 (.sub t u)
        dsimp only
        omega
    · exact Nat.le_refl _
set_option maxHeartbeats 4000000 in
theorem ct_rrow (l : Launch) (d : Int) (L : Nat) (hL : 9 ≤ L) (pi : List Int → Res) (b : Nat) (hok : Rok b pi) (hp : RdC l yX2_item cX2_item 3 (L - 1) d pi) : RdC l yX2_row cX2_row 4 L d (roX pi) := by
  intro g h sz rd sb vb rs cap ml ct f cs nd hR hb
  have hpok := hok cs
  have hpl := hpok.1.length_le
  have g0 := hR.1
  refine CT.of (lo := [some (.ref rd), some (vI d), none, none]) (by decide) (by simp [Value.category]) (Nat.le_of_ble_eq_true rfl) rfl ?_
  intro x h0 Q C hQ hl hni
  subst hl
  have lp : ∀ (n : Nat) (h2 : HM) (sz2 nd2 a2 c9 s9 : Nat) (cs2 : List Int) (t : PT), cs2.length ≤ n → RW g h2 sz2 rd sb vb rs cap ml ct f cs2 nd2 0 → EX rd h h2 → nd2 = nd + pSz t → (nd2 ≤ 24 → NT g h2 t a2) → pSz t + 1 + 2 * cs2.length ≤ 2 * cs.length → roX pi cs = roL pi n cs2 t → c9 + 1 + 2 * cs2.length ≤ 2 * cs.length → s9 ≤ 2 * c9 → V x g h0 Q h2 sz2 c9 s9 6 [some (.ref rd), some (vI d), some (.ref a2), none] [] := by
    intro n
    induction n with
    | zero =>
      intro h2 sz2 nd2 a2 c9 s9 cs2 t hn hR2 hE2 hnd hN hsz he hc9 hs9
      have e0 : cs2 = [] := List.eq_nil_of_length_eq_zero (by omega)
      subst e0
      have g2 := hR2.1
      have hbe : bgt (roX pi) cs = 2 * cs.length - 1 := by unfold bgt; rw [he]; rfl
      rw [he] at hQ
      refine r_aload_n (n := 7) C dX2_row_6 rfl rfl rfl ?_
      refine r_get (n := 10) (ci := 2) (k := 3) C in_X2 rfl (by decide) q165 rfl dX2_row_7 rfl (by assumption) rfl ?_
      refine r_if_ne (t := 70) (n := 13) C dX2_row_10 (by decide) rfl (fun c_10 => ?_) (fun c_10 => ?_)
      · exact absurd rfl c_10
      · refine r_aload_n (n := 14) C dX2_row_13 rfl rfl rfl ?_
        refine r_callV (n := 17) (n0 := 0) (ci := 2) C (ct_rnext (xL x) hR2) (lw_V q400 q402 qs0 q37 q403) ⟨by decide, by decide, by decide +kernel⟩ rfl (by assumption) rfl dX2_row_14 rfl rfl ?_
        rintro v h' sz' ⟨rfl, rfl, rfl⟩ - -
        dsimp only [stk]
        refine r_callS (n := 20) (n0 := 1) C (ct_rbegins (xL x) g h2 sz2 (hdI []) (by decide)) (lw_S q480 q481 q37 q482) ⟨by decide, by decide, by decide +kernel⟩ rfl dX2_row_17 rfl rfl ?_
        rintro v h' sz' ⟨rfl, rfl, z, rfl, hz⟩ - -
        have hz : z = 0 := by
          rcases hz with ⟨-, hz⟩ | ⟨hz, -⟩
          · exact absurd hz (by decide)
          · exact hz
        dsimp only [stk]
        refine r_if_eq (t := 70) (n := 23) C dX2_row_20 (by decide) rfl (fun c_20 => ?_) (fun c_20 => ?_)
        · refine r_aload_n (n := 71) C dX2_row_70 rfl rfl rfl ?_
          refine r_areturn C hQ (Or.inl ⟨_, rfl⟩) (Or.inr ⟨_, rfl⟩) dX2_row_71 ?_
          refine ⟨nd2, hR2, hE2, by simp [roL]; omega, fun u hu => ?_, some a2, rfl⟩
          have hu := Option.some.inj hu
          subst hu
          exact ⟨hnd, a2, rfl, hN⟩
        · exact absurd hz c_20
    | succ n ih =>
      intro h2 sz2 nd2 a2 c9 s9 cs2 t hn hR2 hE2 hnd hN hsz he hc9 hs9
      have g2 := hR2.1
      have hrg := hR2.rg
      by_cases w1 : isB (hdI cs2)
      · have hne : hdI cs2 ≠ 0 := by omega
        have htl := tl_len hne
        have hR3 : RW g (va_up h2 rd (some (RO sb rs ((ct : Int) - cs2.length) ((nd2 + 1 : Nat) : Int) 0))) sz2 rd sb vb rs cap ml ct f cs2 (nd2 + 1) 0 := hR2.put (List.suffix_refl _) (by omega)
        have hE3 : EX rd h2 (va_up h2 rd (some (RO sb rs ((ct : Int) - cs2.length) ((nd2 + 1 : Nat) : Int) 0))) := EX.put
        have g3 := hR3.1
        generalize hh3 : va_up h2 rd (some (RO sb rs ((ct : Int) - cs2.length) ((nd2 + 1 : Nat) : Int) 0)) = h3 at hR3 hE3 g3
        have hip := hok cs2
        have hipl := hip.1.length_le
        have he2 : roX pi cs = (match (pi cs2).2 with
          | none => ((pi cs2).1, none)
          | some u => roL pi n (pi cs2).1 (.add t u)) := by rw [he, roL, if_pos w1]; cases (pi cs2).2 <;> rfl
        have hbn : c9 + bgt pi cs2 ≤ bgt (roX pi) cs ∧ ∀ u, (pi cs2).2 = some u → c9 + bgt pi cs2 + 1 ≤ bgt (roX pi) cs := by
          unfold bgt
          rw [he2]
          cases hr : (pi cs2).2 with
          | none => exact ⟨by dsimp only; omega, fun u hu => by simp at hu⟩
          | some u =>
            have h5 := roL_le hok n (pi cs2).1 (.add t u)
            have h6 := (hip.2 u hr).1
            exact ⟨by dsimp only; omega, fun _ _ => by dsimp only; omega⟩
        refine r_aload_n (n := 7) C dX2_row_6 rfl rfl rfl ?_
        refine r_get (n := 10) (ci := 2) (k := 3) C in_X2 rfl (by decide) q165 rfl dX2_row_7 rfl (by assumption) rfl ?_
        refine r_if_ne (t := 70) (n := 13) C dX2_row_10 (by decide) rfl (fun c_10 => ?_) (fun c_10 => ?_)
        · exact absurd rfl c_10
        · refine r_aload_n (n := 14) C dX2_row_13 rfl rfl rfl ?_
          refine r_callV (n := 17) (n0 := 0) (ci := 2) C (ct_rnext (xL x) hR2) (lw_V q400 q402 qs0 q37 q403) ⟨by decide, by decide, by decide +kernel⟩ rfl (by assumption) rfl dX2_row_14 rfl rfl ?_
          rintro v h' sz' ⟨rfl, rfl, rfl⟩ - -
          dsimp only [stk]
          refine r_callS (n := 20) (n0 := 1) C (ct_rbegins (xL x) g h2 sz2 (hdI cs2) (by omega)) (lw_S q480 q481 q37 q482) ⟨by decide, by decide, by decide +kernel⟩ rfl dX2_row_17 rfl rfl ?_
          rintro v h' sz' ⟨rfl, rfl, z, rfl, hz⟩ - -
          have hz : z = 1 := by
            rcases hz with ⟨hz, -⟩ | ⟨-, hz⟩
            · exact hz
            · exact absurd w1 hz
          dsimp only [stk]
          refine r_if_eq (t := 70) (n := 23) C dX2_row_20 (by decide) rfl (fun c_20 => ?_) (fun c_20 => ?_)
          · omega
          · refine r_aload_n (n := 24) C dX2_row_23 rfl rfl rfl ?_
            refine r_dup (n := 25) C dX2_row_24 rfl rfl ?_
            refine r_get (n := 28) (ci := 2) (k := 2) C in_X2 rfl (by decide) q163 rfl dX2_row_25 rfl (by assumption) rfl ?_
            refine r_iconst (n := 29) C dX2_row_28 rfl ?_
            refine r_iadd (n := 30) C dX2_row_29 rfl ?_
            refine r_put (n := 33) (ty := .int) (ci := 2) (k := 2) C in_X2 tyX2 tyX2_ok nmX2 rfl (by decide) q163 rfl rfl (by decide +kernel) rfl rfl dX2_row_30 rfl (by assumption) (Nat.le_of_ble_eq_true rfl) ?_
            rw [show va_up h2 rd (some (oC 2 ([Value.ref sb, vI ((ct : Int) - cs2.length), vI nd2, vI 0, Value.ref rs].set 2 (vI ((nd2 : Int) + 1))))) = h3 from hh3]
            refine r_aload_n (n := 34) C dX2_row_33 rfl rfl rfl ?_
            refine r_iload_n (n := 35) C dX2_row_34 rfl rfl rfl ?_
            refine r_callS (n := 38) (n0 := 2) C (hp cs2 (nd2 + 1) hR3 (by omega)) (lw_S q394 q395 q37 q396) ⟨by decide, by decide, by decide +kernel⟩ rfl dX2_row_35 rfl rfl ?_
            rintro v h' sz' ⟨nd', hR4, hE4, hn4, ht4, q, rfl⟩ - -
            have g4 := hR4.1
            dsimp only [stk]
            refine r_astore_nq (n := 39) C dX2_row_38 rfl rfl ?_
            skip
            cases hr : (pi cs2).2 with
            | none =>
              rw [hr] at he2 hR4 g4
              rw [he2] at hQ
              refine r_aload_n (n := 40) C dX2_row_39 rfl rfl rfl ?_
              refine r_get (n := 43) (ci := 2) (k := 3) C in_X2 rfl (by decide) q165 rfl dX2_row_40 rfl g4 rfl ?_
              refine r_if_ne (t := 53) (n := 46) C dX2_row_43 (by decide) rfl (fun c_43 => ?_) (fun c_43 => ?_)
              · refine r_aload_n (n := 54) C dX2_row_53 rfl rfl rfl ?_
                refine r_goto (n := 66) C dX2_row_54 (by decide) ?_
                refine r_astore_n (n := 67) C dX2_row_66 rfl rfl ?_
                refine r_goto (n := 6) C dX2_row_67 (by decide) ?_
                refine r_aload_n (n := 7) C dX2_row_6 rfl rfl rfl ?_
                refine r_get (n := 10) (ci := 2) (k := 3) C in_X2 rfl (by decide) q165 rfl dX2_row_7 rfl g4 rfl ?_
                refine r_if_ne (t := 70) (n := 13) C dX2_row_10 (by decide) rfl (fun c_10 => ?_) (fun c_10 => ?_)
                · refine r_aload_n (n := 71) C dX2_row_70 rfl rfl rfl ?_
                  refine r_areturn C hQ (Or.inl ⟨_, rfl⟩) (Or.inr ⟨_, rfl⟩) dX2_row_71 ?_
                  exact RP_brk hR4 (hE2.tr (hE3.tr hE4)) (by omega) (some a2)
                · simp at c_10
              · simp at c_43
            | some u =>
              rw [hr] at he2 hR4 g4
              obtain ⟨e1, a, e2, e3⟩ := ht4 u hr
              have e4 : q = some a := by cases q with
                | none => simp [va_rf] at e2
                | some a' => simp [va_rf] at e2; rw [e2]
              subst e4
              have hpk := hip.2 u hr
              have hb2 := hbn.2 u hr
              have hz4 := hR4.2.2.2.2.1 sz' (Nat.le_refl _)
              have hcc : c9 + bgt pi cs2 + 2 + 2 * (pi cs2).1.length ≤ 2 * cs.length := by
                unfold bgt
                omega
              have fin : ∀ (h5 : HM) (sz5 a5 c5 s5 : Nat), RW g h5 sz5 rd sb vb rs cap ml ct f (pi cs2).1 nd' 0 → EX rd h' h5 → (nd' ≤ 24 → NT g h5 (.add t u) a5) → c5 ≤ c9 + bgt pi cs2 + 1 → s5 ≤ 2 * c5 → V x g h0 Q h5 sz5 c5 s5 6 [some (.ref rd), some (vI d), some (.ref a5), some (.ref a)] [] := fun h5 sz5 a5 c5 s5 q1 q2 q3 q4 q5 => V.ls (ih h5 sz5 nd' a5 c5 s5 (pi cs2).1 (.add t u) (by omega) q1 (hE2.tr (hE3.tr (hE4.tr q2))) (by simp only [pSz]; omega) q3 (by simp only [pSz]; omega) he2 (by omega) q5) ⟨rfl, rfl, rfl, trivial⟩
              refine r_aload_n (n := 40) C dX2_row_39 rfl rfl rfl ?_
              refine r_get (n := 43) (ci := 2) (k := 3) C in_X2 rfl (by decide) q165 rfl dX2_row_40 rfl g4 rfl ?_
              refine r_if_ne (t := 53) (n := 46) C dX2_row_43 (by decide) rfl (fun c_43 => ?_) (fun c_43 => ?_)
              · exact absurd rfl c_43
              · refine r_aload_n (n := 47) C dX2_row_46 rfl rfl rfl ?_
                refine r_callV (n := 50) (n0 := 0) (ci := 2) C (ct_rfull (xL x) hR4) (lw_V q436 q438 qs5 q37 q439) ⟨by decide, by decide, by decide +kernel⟩ rfl g4 rfl dX2_row_47 rfl rfl ?_
                rintro v h'' sz'' ⟨rfl, rfl, z9, rfl, hz9⟩ - -
                dsimp only [stk]
                refine r_if_eq (t := 57) (n := 53) C dX2_row_50 (by decide) rfl (fun c_50 => ?_) (fun c_50 => ?_)
                · refine r_new (n := 60) (ci := 8) (fs := [.null, .null]) C in_X8 tyX8 tyX8_ok q483 q484 q59 rfl (by decide +kernel) dX2_row_57 rfl ?_
                  refine r_dup (n := 61) C dX2_row_60 rfl rfl ?_
                  refine r_aload_n (n := 62) C dX2_row_61 rfl rfl rfl ?_
                  refine r_aload_n (n := 63) C dX2_row_62 rfl rfl rfl ?_
                  refine r_callIN (n := 66) (n0 := 2) C (ct_n8 (xL x) g (va_up h' sz' (some (oC 8 [.null, .null]))) (sz' + 1) sz' a2 a (va_up_self _ _ _)) q487 q59 q485 q486 rfl ⟨by decide, by decide, by decide +kernel⟩ rfl dX2_row_63 rfl rfl ?_
                  rintro v h'' sz'' ⟨rfl, rfl, rfl⟩ - -
                  dsimp only [stk]
                  refine r_astore_n (n := 67) C dX2_row_66 rfl rfl ?_
                  refine r_goto (n := 6) C dX2_row_67 (by decide) ?_
                  rw [bx_uu]
                  refine fin _ (sz' + 1) sz' _ _ hR4.new (EX.new hz4) (fun h24 => ⟨a2, a, va_up_self _ _ _, ?_, ?_⟩) (by omega) (by omega)
                  · exact ((((hN (by omega)).ex hE3 g2).ex hE4 g3).ex (EX.new hz4) g4)
                  · exact (e3 h24).ex (EX.new hz4) g4
                · skip
                  refine r_aload_n (n := 54) C dX2_row_53 rfl rfl rfl ?_
                  refine r_goto (n := 66) C dX2_row_54 (by decide) ?_
                  refine r_astore_n (n := 67) C dX2_row_66 rfl rfl ?_
                  refine r_goto (n := 6) C dX2_row_67 (by decide) ?_
                  refine fin h' sz' a2 _ _ hR4 EX.rf (fun h24 => by omega) (by omega) (by omega)
      · have he2 : roX pi cs = (cs2, some t) := by rw [he]; exact roL_no w1
        have hb9 : c9 ≤ bgt (roX pi) cs := by
          unfold bgt
          rw [he2]
          dsimp only
          omega
        rw [he2] at hQ
        refine r_aload_n (n := 7) C dX2_row_6 rfl rfl rfl ?_
        refine r_get (n := 10) (ci := 2) (k := 3) C in_X2 rfl (by decide) q165 rfl dX2_row_7 rfl (by assumption) rfl ?_
        refine r_if_ne (t := 70) (n := 13) C dX2_row_10 (by decide) rfl (fun c_10 => ?_) (fun c_10 => ?_)
        · exact absurd rfl c_10
        · refine r_aload_n (n := 14) C dX2_row_13 rfl rfl rfl ?_
          refine r_callV (n := 17) (n0 := 0) (ci := 2) C (ct_rnext (xL x) hR2) (lw_V q400 q402 qs0 q37 q403) ⟨by decide, by decide, by decide +kernel⟩ rfl (by assumption) rfl dX2_row_14 rfl rfl ?_
          rintro v h' sz' ⟨rfl, rfl, rfl⟩ - -
          dsimp only [stk]
          refine r_callS (n := 20) (n0 := 1) C (ct_rbegins (xL x) g h2 sz2 (hdI cs2) (by omega)) (lw_S q480 q481 q37 q482) ⟨by decide, by decide, by decide +kernel⟩ rfl dX2_row_17 rfl rfl ?_
          rintro v h' sz' ⟨rfl, rfl, z, rfl, hz⟩ - -
          have hz : z = 0 := by
            rcases hz with ⟨-, hz⟩ | ⟨hz, -⟩
            · exact absurd hz w1
            · exact hz
          dsimp only [stk]
          refine r_if_eq (t := 70) (n := 23) C dX2_row_20 (by decide) rfl (fun c_20 => ?_) (fun c_20 => ?_)
          · refine r_aload_n (n := 71) C dX2_row_70 rfl rfl rfl ?_
            refine r_areturn C hQ (Or.inl ⟨_, rfl⟩) (Or.inr ⟨_, rfl⟩) dX2_row_71 ?_
            refine ⟨nd2, hR2, hE2, by dsimp only; omega, fun u hu => ?_, some a2, rfl⟩
            have hu := Option.some.inj hu
            subst hu
            exact ⟨hnd, a2, rfl, hN⟩
          · exact absurd hz c_20
  have hbb : bgt pi cs ≤ bgt (roX pi) cs := by
    unfold bgt roX
    cases hr : (pi cs).2 with
    | none => exact Nat.le_refl _
    | some t =>
      have := roL_le hok (pi cs).1.length (pi cs).1 t
      dsimp only
      omega
  refine r_aload_n (n := 1) C dX2_row_0 rfl rfl rfl ?_
  refine r_iload_n (n := 2) C dX2_row_1 rfl rfl rfl ?_
  refine r_callS (n := 5) (n0 := 2) C (hp cs nd hR hb) (lw_S q394 q395 q37 q396) ⟨by decide, by decide, by decide +kernel⟩ rfl dX2_row_2 rfl rfl ?_
  rintro v h' sz' ⟨nd', hR2, hE2, hn2, ht2, q, rfl⟩ - -
  have g2 := hR2.1
  dsimp only [stk]
  refine r_astore_nq (n := 6) C dX2_row_5 rfl rfl ?_
  skip
  cases hr : (pi cs).2 with
  | none =>
    have hbx : roX pi cs = ((pi cs).1, none) := by unfold roX; rw [hr]
    rw [hbx] at hQ
    rw [hr] at hR2 g2
    refine r_aload_n (n := 7) C dX2_row_6 rfl rfl rfl ?_
    refine r_get (n := 10) (ci := 2) (k := 3) C in_X2 rfl (by decide) q165 rfl dX2_row_7 rfl g2 rfl ?_
    refine r_if_ne (t := 70) (n := 13) C dX2_row_10 (by decide) rfl (fun c_10 => ?_) (fun c_10 => ?_)
    · refine r_aload_nq (n := 71) C dX2_row_70 rfl rfl rfl ?_
      refine r_areturn C hQ (Or.inl ⟨_, rfl⟩) (by cases q <;> simp [va_rf]) dX2_row_71 ?_
      exact RP_brk hR2 hE2 hn2 q
    · simp at c_10
  | some t =>
    rw [hr] at hR2 g2
    obtain ⟨e1, a, e2, e3⟩ := ht2 t hr
    have e4 : q = some a := by cases q with
      | none => simp [va_rf] at e2
      | some a' => simp [va_rf] at e2; rw [e2]
    subst e4
    have hpk := hpok.2 t hr
    refine lp (pi cs).1.length h' sz' nd' a _ _ (pi cs).1 t (Nat.le_refl _) hR2 hE2 e1 e3 (by omega) (by unfold roX; rw [hr]) ?_ (by omega)
    unfold bgt
    omega
