/-! THE DICTIONARY: a new branch -/
theorem TRE_ins {h h' : HM} {nd : List Nat → Option Nat} {wd : List Nat → Int} {p : List Nat} {c x sz : Nat} (hT : TRE h nd wd) (hp : nd p = some x) (hn : nd (c :: p) = none) (hc : c < 26) (hz : h sz = none)
    (h1 : h' sz = some (BRo c (-1) none (fsC nd p (25 - c) (c + 1))))
    (h2 : ((∀ d, d < c → nd (d :: p) = none) ∧ h' x = some (BRo (ltP p) (wd p) (some sz) (nxP nd p)) ∧ ∀ q, q ≠ sz → q ≠ x → h' q = h q) ∨ ∃ b a, b < c ∧ nd (b :: p) = some a ∧ (∀ d, b < d → d < c → nd (d :: p) = none) ∧ h' a = some (BRo b (wd (b :: p)) (fsC nd (b :: p) 26 0) (some sz)) ∧ ∀ q, q ≠ sz → q ≠ a → h' q = h q) :
    TRE h' (fun q => if q = c :: p then some sz else nd q) (fun q => if q = c :: p then -1 else wd q) := by
  obtain ⟨t1, t2, t3, t4⟩ := hT
  have hold : ∀ q b, nd q = some b → b ≠ sz := fun q b hq e => by
    have := t1 q b hq
    rw [e, hz] at this
    cases this
  have hcn : ∀ d q, q ≠ p → (fun q => if q = c :: p then some sz else nd q) (d :: q) = nd (d :: q) := fun d q hq => by
    dsimp only
    rw [if_neg (fun e => hq (by injection e))]
  have hcd : ∀ d, d ≠ c → (fun q => if q = c :: p then some sz else nd q) (d :: p) = nd (d :: p) := fun d hd => by
    dsimp only
    rw [if_neg (fun e => hd (by injection e))]
  have hcc : (fun q => if q = c :: p then some sz else nd q) (c :: p) = some sz := if_pos rfl
  refine ⟨fun q b hq => ?_, fun q q' b hq hq' => ?_, fun d q b hq => ?_, fun q => ?_⟩
  · by_cases e : q = c :: p
    · subst e
      rw [hcc] at hq
      have hq := Option.some.inj hq
      subst hq
      dsimp only
      rw [h1, if_pos rfl]
      have e1 : fsC (fun q => if q = c :: p then some sz else nd q) (c :: p) 26 0 = none := fsC_nil 26 0 (fun d _ _ => by
        refine (hcn d (c :: p) (fun e => by have := congrArg List.length e; simp at this)).trans ?_
        cases hd : nd (d :: c :: p) with
        | none => rfl
        | some b' =>
          obtain ⟨-, b2, hb2⟩ := t3 d (c :: p) b' hd
          rw [hn] at hb2
          cases hb2)
      have e2 : nxP (fun q => if q = c :: p then some sz else nd q) (c :: p) = fsC nd p (25 - c) (c + 1) := fsC_ext _ _ (fun d hd1 hd2 => hcd d (by omega))
      rw [e1, e2]
      rfl
    · dsimp only at hq
      rw [if_neg e] at hq
      have hb := t1 q b hq
      have hbs := hold q b hq
      dsimp only
      rw [if_neg e]
      have ch : q ≠ p → fsC (fun q => if q = c :: p then some sz else nd q) q 26 0 = fsC nd q 26 0 := fun hqp => fsC_ext _ _ (fun d _ _ => hcn d q hqp)
      have nx : (∀ d, q = d :: p → c < d) → nxP (fun q => if q = c :: p then some sz else nd q) q = nxP nd q := fun hqd => by
        cases q with
        | nil => rfl
        | cons d q =>
          by_cases hqp : q = p
          · subst hqp
            have := hqd d rfl
            exact fsC_ext _ _ (fun d' h3 h4 => hcd d' (by omega))
          · exact fsC_ext _ _ (fun d' h3 h4 => hcn d' q hqp)
      rcases h2 with ⟨f1, f2, f3⟩ | ⟨b9, a9, g1, g2, g3, g4, g5⟩
      · have nx' := nx (fun d hd => by
          subst hd
          by_cases hdc : d < c
          · rw [f1 d hdc] at hq
            cases hq
          · have : d ≠ c := fun e9 => e (by rw [e9])
            omega)
        by_cases hqp : q = p
        · subst hqp
          have hbx : b = x := Option.some.inj (hq.symm.trans hp)
          subst hbx
          have e1 : fsC (fun q' => if q' = c :: q then some sz else nd q') q 26 0 = some sz := fsC_eq 26 0 hcc (by omega) (by omega) (fun d _ hd => (hcd d (by omega)).trans (f1 d hd))
          rw [f2, e1, nx']
        · have hbx : b ≠ x := fun e9 => hqp (t2 q p b hq (by rw [hp, e9]))
          rw [f3 b hbs hbx, hb, ch hqp, nx']
      · by_cases hqb : q = b9 :: p
        · subst hqb
          have hba : b = a9 := Option.some.inj (hq.symm.trans g2)
          subst hba
          have e2 : nxP (fun q => if q = c :: p then some sz else nd q) (b9 :: p) = some sz := fsC_eq _ _ hcc (by omega) (by omega) (fun d h3 h4 => (hcd d (by omega)).trans (g3 d (by omega) h4))
          rw [g4, ch (fun e9 => by have := congrArg List.length e9; simp at this), e2]
          rfl
        · have hba : b ≠ a9 := fun e9 => hqb (t2 q _ b hq (by rw [g2, e9]))
          rw [g5 b hbs hba, hb]
          have e1 : fsC (fun q => if q = c :: p then some sz else nd q) q 26 0 = fsC nd q 26 0 := by
            by_cases hqp : q = p
            · subst hqp
              cases hf : fsC nd q 26 0 with
              | none =>
                have := fsC_none 26 0 hf b9 (by omega) (by omega)
                rw [g2] at this
                cases this
              | some b0 =>
                obtain ⟨c0, c1, c2, c3, c4⟩ := fsC_some 26 0 hf
                have hle : c0 ≤ b9 := Nat.not_lt.mp fun hlt => by
                  have := c4 b9 (by omega) hlt
                  rw [g2] at this
                  cases this
                exact fsC_eq 26 0 ((hcd c0 (by omega)).trans (c3)) (by omega) c2 (fun d h3 h4 => (hcd d (by omega)).trans (c4 d h3 h4))
            · exact ch hqp
          have e2 : nxP (fun q => if q = c :: p then some sz else nd q) q = nxP nd q := by
            cases q with
            | nil => rfl
            | cons d q =>
              by_cases hqp : q = p
              · subst hqp
                have hdc : d ≠ c := fun e9 => e (by rw [e9])
                have hdb : d ≠ b9 := fun e9 => hqb (by rw [e9])
                by_cases hlt : c < d
                · exact nx (fun d' hd' => by injection hd' with e8; omega)
                · have hdlt : d < b9 := by
                    have : ¬ (b9 < d) := fun h9 => by
                      rw [g3 d h9 (by omega)] at hq
                      cases hq
                    omega
                  show fsC _ q (25 - d) (d + 1) = fsC nd q (25 - d) (d + 1)
                  cases hf : fsC nd q (25 - d) (d + 1) with
                  | none =>
                    have := fsC_none _ _ hf b9 (by omega) (by omega)
                    rw [g2] at this
                    cases this
                  | some b0 =>
                    obtain ⟨c0, c1, c2, c3, c4⟩ := fsC_some _ _ hf
                    have hle : c0 ≤ b9 := Nat.not_lt.mp fun hlt => by
                      have := c4 b9 (by omega) hlt
                      rw [g2] at this
                      cases this
                    exact fsC_eq _ _ ((hcd c0 (by omega)).trans (c3)) c1 c2 (fun d' h3 h4 => (hcd d' (by omega)).trans (c4 d' h3 h4))
              · exact nx (fun d' hd' => absurd (by injection hd') hqp)
          rw [e1, e2]
  · dsimp only at hq hq'
    by_cases e : q = c :: p
    · by_cases e' : q' = c :: p
      · rw [e, e']
      · rw [if_pos e] at hq
        rw [if_neg e'] at hq'
        exact absurd (Option.some.inj hq).symm (hold q' b hq')
    · by_cases e' : q' = c :: p
      · rw [if_neg e] at hq
        rw [if_pos e'] at hq'
        exact absurd (Option.some.inj hq').symm (hold q b hq)
      · rw [if_neg e] at hq
        rw [if_neg e'] at hq'
        exact t2 q q' b hq hq'
  · have key : d < 26 ∧ ∃ b', nd q = some b' := by
      by_cases e : d :: q = c :: p
      · injection e with e1 e2
        subst e1
        subst e2
        exact ⟨hc, x, hp⟩
      · dsimp only at hq
        rw [if_neg e] at hq
        exact t3 d q b hq
    refine ⟨key.1, ?_⟩
    obtain ⟨b', hb'⟩ := key.2
    dsimp only
    by_cases e : q = c :: p
    · rw [if_pos e]
      exact ⟨sz, rfl⟩
    · rw [if_neg e]
      exact ⟨b', hb'⟩
  · dsimp only
    split
    · omega
    · exact t4 q
theorem ct_grow (l : Launch) (g : GG) (h : HM) (sz x0 c : Nat) (nd : List Nat → Option Nat) (wd : List Nat → Int) (p : List Nat) (hT : TRE h nd wd) (hp : nd p = some x0) (hc : c < 26) (hz : ∀ q, sz ≤ q → h q = none) : CT l yX4_grow cX4_grow 5 (some (.object "FuzzyFinder$Branch")) 2 1 4 [.ref x0, vI c] g h sz (GRo h sz nd wd p c) := by
  have hcell := hT.1
  have hx0 := hcell p x0 hp
  have hzz := hz sz (Nat.le_refl _)
  have nesz : ∀ q e, h q = some e → q ≠ sz := fun q e hq e9 => by rw [e9, hzz] at hq; cases hq
  refine CT.of (lo := [some (.ref x0), some (vI c), none, none, none]) (by decide) (by simp [Value.category]) (Nat.le_of_ble_eq_true rfl) rfl ?_
  intro x h0 Q C hQ hl hni
  have k43 : ∀ (bf : Option Nat) (bA xA : Option Nat), nd (c :: p) = none → xA = fsC nd p (25 - c) (c + 1) → ((bf = none ∧ bA = none ∧ ∀ d, d < c → nd (d :: p) = none) ∨ ∃ b a, bf = some b ∧ bA = some a ∧ b < c ∧ nd (b :: p) = some a ∧ ∀ d, b < d → d < c → nd (d :: p) = none) → V x g h0 Q h sz 0 0 43 [some (.ref x0), some (vI c), some (va_rf bA), some (va_rf xA), none] [] := by
    intro bf bA xA hn hx hb
    have h2z : va_up (va_up h sz (some (oC 4 [vI 0, vI 0, .null, .null]))) sz (some (BRo c (-1) none none)) = va_up h sz (some (BRo c (-1) none none)) := bx_uu _ _ _ _
    have e3 : va_up (va_up h sz (some (BRo c (-1) none none))) sz (some (BRo c (-1) none xA)) = va_up h sz (some (BRo c (-1) none xA)) := bx_uu _ _ _ _
    have hend : ∀ (h' : HM), (∀ q, q ≠ sz → (∀ fs, h q ≠ some (oC 4 fs)) → h' q = h q) → h' sz = some (BRo c (-1) none (fsC nd p (25 - c) (c + 1))) → (((∀ d, d < c → nd (d :: p) = none) ∧ h' x0 = some (BRo (ltP p) (wd p) (some sz) (nxP nd p)) ∧ ∀ q, q ≠ sz → q ≠ x0 → h' q = h q) ∨ ∃ b a, b < c ∧ nd (b :: p) = some a ∧ (∀ d, b < d → d < c → nd (d :: p) = none) ∧ h' a = some (BRo b (wd (b :: p)) (fsC nd (b :: p) 26 0) (some sz)) ∧ ∀ q, q ≠ sz → q ≠ a → h' q = h q) → GRo h sz nd wd p c (some (.ref sz)) h' (sz + 1) := by
      intro h' f0 f1 f2
      refine ⟨_, _, sz, rfl, ?_, TRE_ins hT hp hn hc hzz f1 f2, fun q e hq he => ?_, Or.inr ⟨rfl, rfl, hn, rfl, rfl⟩, fun q hq => ?_⟩
      · exact if_pos rfl
      · rw [f0 q (nesz q e hq) (fun fs hfs => he fs (Option.some.inj (hq.symm.trans hfs)))]
        exact hq
      · have hq0 := hz q (by omega)
        rw [f0 q (by omega) (fun fs hfs => by rw [hq0] at hfs; cases hfs)]
        exact hq0
    refine r_new (n := 46) (ci := 4) (fs := [vI 0, vI 0, .null, .null]) C in_X4 tyX4 tyX4_ok q657 q179 q44 rfl (by decide +kernel) dX4_grow_43 rfl ?_
    refine r_dup (n := 47) C dX4_grow_46 rfl rfl ?_
    refine r_iload_n (n := 48) C dX4_grow_47 rfl rfl rfl ?_
    refine r_callI (n := 51) (n0 := 1) C (ct_brInit (xL x) g (va_up h sz (some (oC 4 [vI 0, vI 0, .null, .null]))) (sz + 1) sz c (va_up_self _ _ _)) q182 q44 q658 q181 rfl ⟨by decide, by decide, by decide +kernel⟩ rfl dX4_grow_48 rfl rfl ?_
    rintro v h' sz' ⟨rfl, rfl, rfl⟩ - -
    rw [h2z]
    dsimp only [stk]
    refine r_astore (n := 53) C dX4_grow_51 rfl ?_
    refine r_aload (n := 55) C dX4_grow_53 rfl rfl ?_
    refine r_aload_nq (n := 56) C dX4_grow_55 rfl rfl rfl ?_
    refine r_put (n := 59) (ty := (.object "FuzzyFinder$Branch")) (ci := 4) (k := 3) C in_X4 tyX4 tyX4_ok nmX4 rfl (by decide) q190 rfl rfl (by decide +kernel) (by cases xA <;> rfl) (by cases xA <;> rfl) dX4_grow_56 rfl (va_up_self _ _ _) (Nat.le_of_ble_eq_true rfl) ?_
    rw [show va_up (va_up h sz (some (BRo c (-1) none none))) sz (some (oC 4 ([vI c, vI (-1), va_rf none, va_rf none].set 3 (va_rf xA)))) = va_up h sz (some (BRo c (-1) none xA)) from e3, hx]
    rcases hb with ⟨-, rfl, hb⟩ | ⟨b, a, -, rfl, hb1, hb2, hb3⟩
    · skip
      refine r_aload_nN (n := 60) C dX4_grow_59 rfl rfl rfl ?_
      refine r_ifnonnullN (n := 63) (t := 72) C dX4_grow_60 rfl ?_
      refine r_aload_n (n := 64) C dX4_grow_63 rfl rfl rfl ?_
      refine r_aload (n := 66) C dX4_grow_64 rfl rfl ?_
      refine r_put (n := 69) (ty := (.object "FuzzyFinder$Branch")) (ci := 4) (k := 2) C in_X4 tyX4 tyX4_ok nmX4 rfl (by decide) q188 rfl rfl (by decide +kernel) rfl rfl dX4_grow_66 rfl ((va_up_ne _ _ (nesz _ _ hx0)).trans hx0) (Nat.le_of_ble_eq_true rfl) ?_
      refine r_goto (n := 78) C dX4_grow_69 (by decide) ?_
      refine r_aload (n := 80) C dX4_grow_78 rfl rfl ?_
      refine r_areturn C hQ (Or.inl ⟨_, rfl⟩) (Or.inr ⟨_, rfl⟩) dX4_grow_80 ?_
      refine hend _ (fun q h1 h2 => ?_) ?_ (Or.inl ⟨hb, va_up_self _ _ _, fun q h1 h2 => ?_⟩)
      · rw [va_up_ne _ _ (fun e => h2 _ (by rw [e]; exact hx0)), va_up_ne _ _ h1]
      · rw [va_up_ne _ _ (Ne.symm (nesz _ _ hx0)), va_up_self]
      · rw [va_up_ne _ _ h2, va_up_ne _ _ h1]
    · have ha := hcell _ a hb2
      refine r_aload_n (n := 60) C dX4_grow_59 rfl rfl rfl ?_
      refine r_ifnonnull (t := 72) C dX4_grow_60 (by decide) ?_
      refine r_aload_n (n := 73) C dX4_grow_72 rfl rfl rfl ?_
      refine r_aload (n := 75) C dX4_grow_73 rfl rfl ?_
      refine r_put (n := 78) (ty := (.object "FuzzyFinder$Branch")) (ci := 4) (k := 3) C in_X4 tyX4 tyX4_ok nmX4 rfl (by decide) q190 rfl rfl (by decide +kernel) rfl rfl dX4_grow_75 rfl ((va_up_ne _ _ (nesz _ _ ha)).trans ha) (Nat.le_of_ble_eq_true rfl) ?_
      refine r_aload (n := 80) C dX4_grow_78 rfl rfl ?_
      refine r_areturn C hQ (Or.inl ⟨_, rfl⟩) (Or.inr ⟨_, rfl⟩) dX4_grow_80 ?_
      refine hend _ (fun q h1 h2 => ?_) ?_ (Or.inr ⟨b, a, hb1, hb2, hb3, va_up_self _ _ _, fun q h1 h2 => ?_⟩)
      · rw [va_up_ne _ _ (fun e => h2 _ (by rw [e]; exact ha)), va_up_ne _ _ h1]
      · rw [va_up_ne _ _ (Ne.symm (nesz _ _ ha)), va_up_self]
      · rw [va_up_ne _ _ h2, va_up_ne _ _ h1]
  have L : ∀ (n k : Nat) (bf bA : Option Nat), 26 - k < n → k ≤ 26 → k ≤ c + 1 → k ≤ c → ((bf = none ∧ bA = none ∧ ∀ d, d < k → nd (d :: p) = none) ∨ ∃ b a, bf = some b ∧ bA = some a ∧ b < k ∧ nd (b :: p) = some a ∧ ∀ d, b < d → d < k → nd (d :: p) = none) → V x g h0 Q h sz 0 0 7 [some (.ref x0), some (vI c), some (va_rf bA), some (va_rf (fsC nd p (26 - k) k)), none] [] := by
    intro n
    induction n with
    | zero => intro k bf bA hn; omega
    | succ n ih =>
      intro k bf bA hn hk26 hkc hkc2 hb
      cases hx : fsC nd p (26 - k) k with
      | none =>
        have hno := fsC_none _ _ hx
        have go := k43 bf bA none (hno c hkc2 (by omega)) (fsC_nil _ _ (fun d h1 h2 => hno d (by omega) (by omega))).symm (hb.imp (fun e => ⟨e.1, e.2.1, fun d hd => by
            by_cases hdk : d < k
            · exact e.2.2 d hdk
            · exact hno d (by omega) (by omega)⟩) (fun ⟨b, a, e1, e2, e3, e4, e5⟩ => ⟨b, a, e1, e2, by omega, e4, fun d h1 h2 => by
            by_cases hdk : d < k
            · exact e5 d h1 hdk
            · exact hno d (by omega) (by omega)⟩))
        refine r_aload_nN (n := 8) C dX4_grow_7 rfl rfl rfl ?_
        refine r_ifnullN (t := 29) C dX4_grow_8 (by decide) ?_
        refine r_aload_nN (n := 30) C dX4_grow_29 rfl rfl rfl ?_
        refine r_ifnullN (t := 43) C dX4_grow_30 (by decide) ?_
        exact go
      | some b0 =>
        obtain ⟨k0, q1, q2, q3, q4⟩ := fsC_some _ _ hx
        have hb0 : h b0 = some (BRo (k0 : Int) (wd (k0 :: p)) (fsC nd (k0 :: p) 26 0) (fsC nd p (25 - k0) (k0 + 1))) := hcell _ b0 q3
        have hk26' := (hT.2.2.1 k0 p b0 q3).1
        by_cases hlt : k0 < c
        · have go := ih (k0 + 1) (some k0) (some b0) (by omega) (by omega) (by omega) (by omega) (Or.inr ⟨k0, b0, rfl, rfl, by omega, q3, fun d h1 h2 => by omega⟩)
          rw [show 26 - (k0 + 1) = 25 - k0 by omega] at go
          refine r_aload_n (n := 8) C dX4_grow_7 rfl rfl rfl ?_
          refine r_ifnull (n := 11) (t := 29) C dX4_grow_8 rfl ?_
          refine r_aload_n (n := 12) C dX4_grow_11 rfl rfl rfl ?_
          refine r_get (n := 15) (ci := 4) (k := 0) C in_X4 rfl (by decide) q184 rfl dX4_grow_12 rfl hb0 rfl ?_
          refine r_iload_n (n := 16) C dX4_grow_15 rfl rfl rfl ?_
          refine r_icmp_ge (t := 29) (n := 19) C dX4_grow_16 (by decide) rfl (fun c_16 => ?_) (fun c_16 => ?_)
          · omega
          · refine r_aload_n (n := 20) C dX4_grow_19 rfl rfl rfl ?_
            refine r_astore_n (n := 21) C dX4_grow_20 rfl rfl ?_
            refine r_aload_n (n := 22) C dX4_grow_21 rfl rfl rfl ?_
            refine r_get (n := 25) (ci := 4) (k := 3) C in_X4 rfl (by decide) q190 rfl dX4_grow_22 rfl hb0 rfl ?_
            refine r_astore_nq (n := 26) C dX4_grow_25 rfl rfl ?_
            refine r_goto (n := 7) C dX4_grow_26 (by decide) ?_
            exact go
        · have heq : k0 = c → V x g h0 Q h sz 0 0 41 [some (.ref x0), some (vI c), some (va_rf bA), some (va_rf (some b0)), none] [] := by
            intro e
            subst e
            refine r_aload_n (n := 42) C dX4_grow_41 rfl rfl rfl ?_
            refine r_areturn C hQ (Or.inl ⟨_, rfl⟩) (Or.inr ⟨_, rfl⟩) dX4_grow_42 ?_
            exact ⟨nd, wd, b0, rfl, q3, hT, fun _ _ h1 _ => h1, Or.inl ⟨rfl, rfl, rfl, rfl⟩, hz⟩
          have hne : k0 ≠ c → V x g h0 Q h sz 0 0 43 [some (.ref x0), some (vI c), some (va_rf bA), some (va_rf (some b0)), none] [] := by
            intro e
            refine k43 bf bA (some b0) (q4 c hkc2 (by omega)) (fsC_eq _ _ q3 (by omega) (by omega) (fun d h1 h2 => q4 d (by omega) h2)).symm (hb.imp (fun e => ⟨e.1, e.2.1, fun d hd => by
              by_cases hdk : d < k
              · exact e.2.2 d hdk
              · exact q4 d (by omega) (by omega)⟩) (fun ⟨b, a, e1, e2, e3, e4, e5⟩ => ⟨b, a, e1, e2, by omega, e4, fun d h1 h2 => by
              by_cases hdk : d < k
              · exact e5 d h1 hdk
              · exact q4 d (by omega) (by omega)⟩))
          refine r_aload_n (n := 8) C dX4_grow_7 rfl rfl rfl ?_
          refine r_ifnull (n := 11) (t := 29) C dX4_grow_8 rfl ?_
          refine r_aload_n (n := 12) C dX4_grow_11 rfl rfl rfl ?_
          refine r_get (n := 15) (ci := 4) (k := 0) C in_X4 rfl (by decide) q184 rfl dX4_grow_12 rfl hb0 rfl ?_
          refine r_iload_n (n := 16) C dX4_grow_15 rfl rfl rfl ?_
          refine r_icmp_ge (t := 29) (n := 19) C dX4_grow_16 (by decide) rfl (fun c_16 => ?_) (fun c_16 => ?_)
          · refine r_aload_n (n := 30) C dX4_grow_29 rfl rfl rfl ?_
            refine r_ifnull (n := 33) (t := 43) C dX4_grow_30 rfl ?_
            refine r_aload_n (n := 34) C dX4_grow_33 rfl rfl rfl ?_
            refine r_get (n := 37) (ci := 4) (k := 0) C in_X4 rfl (by decide) q184 rfl dX4_grow_34 rfl hb0 rfl ?_
            refine r_iload_n (n := 38) C dX4_grow_37 rfl rfl rfl ?_
            refine r_icmp_ne (t := 43) (n := 41) C dX4_grow_38 (by decide) rfl (fun c_38 => ?_) (fun c_38 => ?_)
            · exact hne (by omega)
            · exact heq (by omega)
          · omega
  refine r_aconst_null (n := 1) C dX4_grow_0 rfl ?_
  refine r_astore_nN (n := 2) C dX4_grow_1 rfl rfl ?_
  refine r_aload_n (n := 3) C dX4_grow_2 rfl rfl rfl ?_
  refine r_get (n := 6) (ci := 4) (k := 2) C in_X4 rfl (by decide) q188 rfl dX4_grow_3 rfl (by assumption) rfl ?_
  refine r_astore_nq (n := 7) C dX4_grow_6 rfl rfl ?_
  exact V.ls (L 27 0 none none (by omega) (by omega) (by omega) (by omega) (Or.inl ⟨rfl, rfl, fun d hd => by omega⟩)) ⟨rfl, rfl, rfl, rfl, trivial⟩
