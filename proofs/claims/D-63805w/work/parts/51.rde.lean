/-! THE READER: atom, bracket, item, row, expression -/
abbrev bgt (p : List Int → Res) (cs : List Int) : Nat := 2 * (cs.length - (p cs).1.length) - 1
def RdC (l : Launch) (y : MethodName) (c : ByteArray) (nL L : Nat) (d : Int) (p : List Int → Res) : Prop := ∀ {g : GG} {h : HM} {sz rd sb vb rs cap : Nat} {ml : Int} {ct : Nat} {f : Nat → Int} (cs : List Int) (nd : Nat), RW g h sz rd sb vb rs cap ml ct f cs nd 0 → nd + 2 * cs.length ≤ 200 → CT l y c nL (some (.object "FuzzyFinder$Node")) L (bgt p cs) (2 * bgt p cs) [.ref rd, vI d] g h sz (RP g h sz rd sb vb rs cap ml ct f cs nd (p cs))
def brX (pe : List Int → Res) (cs : List Int) : Res := match (pe cs.tail).2 with
    | none => ((pe cs.tail).1, none)
    | some t => if hdI (pe cs.tail).1 = 41 then ((pe cs.tail).1.tail, some t) else ((pe cs.tail).1, none)
theorem CT.wid {l : Launch} {y : MethodName} {cc : ByteArray} {nL : Nat} {ret : Option FieldType} {L mc ms : Nat} {as : List Value} {g : GG} {h : HM} {sz : Nat} {Post : Option Value → HM → Nat → Prop} {Post' : Option Value → HM → Nat → Prop} (hM : CT l y cc nL ret L mc ms as g h sz Post) (e : Post = Post') : CT l y cc nL ret L mc ms as g h sz Post' := by
  subst e
  exact hM
/-- a reading that broke at what is left r -/
theorem RP_brk {g : GG} {h h2 : HM} {sz sz2 rd sb vb rs cap : Nat} {ml : Int} {ct : Nat} {f : Nat → Int} {cs r : List Int} {nd nd2 : Nat} (hR : RW g h2 sz2 rd sb vb rs cap ml ct f r nd2 1) (hE : EX rd h h2) (hn : nd2 + 2 * r.length ≤ nd + 2 * cs.length) (q : Option Nat) : RP g h sz rd sb vb rs cap ml ct f cs nd (r, none) (some (va_rf q)) h2 sz2 :=
  ⟨nd2, hR, hE, hn, fun t ht => by simp at ht, q, rfl⟩
theorem ct_rbracket (l : Launch) (d : Int) (hd : 0 ≤ d ∧ d ≤ 6) (L : Nat) (hL : 6 ≤ L) (pe : List Int → Res) (b : Nat) (hok : Rok b pe) (hp : RdC l yX2_expression cX2_expression 4 (L - 1) (d + 1) pe) {g : GG} {h : HM} {sz rd sb vb rs cap : Nat} {ml : Int} {ct : Nat} {f : Nat → Int} (cs : List Int) (nd : Nat) (hR : RW g h sz rd sb vb rs cap ml ct f cs nd 0) (hb : nd + 2 * cs.length ≤ 200) (hc : hdI cs = 40) : CT l yX2_bracket cX2_bracket 3 (some (.object "FuzzyFinder$Node")) L (bgt (brX pe) cs) (2 * bgt (brX pe) cs) [.ref rd, vI d] g h sz (RP g h sz rd sb vb rs cap ml ct f cs nd (brX pe cs)) := by
  have hnd := hR.2.2.2.2.2.2.2.2
  have htl := tl_len (cs := cs) (by omega)
  have g0 := hR.1
  have hpok := hok cs.tail
  have hpl := hpok.1.length_le
  have hR1 : RW g (va_up h rd (some (RO sb rs ((ct : Int) - cs.tail.length) nd 0))) sz rd sb vb rs cap ml ct f cs.tail nd 0 := hR.put (tl_suf cs) hnd
  have hE1 : EX rd h (va_up h rd (some (RO sb rs ((ct : Int) - cs.tail.length) nd 0))) := EX.put
  have g1 := hR1.1
  generalize hh1 : va_up h rd (some (RO sb rs ((ct : Int) - cs.tail.length) nd 0)) = h9 at hR1 hE1 g1
  have bb : bgt pe cs.tail ≤ bgt (brX pe) cs ∧ (∀ t, (pe cs.tail).2 = some t → bgt pe cs.tail + 1 ≤ bgt (brX pe) cs) := by
    unfold bgt brX
    cases hr : (pe cs.tail).2 with
    | none => exact ⟨by dsimp only; omega, fun t ht => by simp at ht⟩
    | some t =>
      have := hpok.2 t hr
      dsimp only
      by_cases h3 : hdI (pe cs.tail).1 = 41
      · rw [if_pos h3]
        have := tl_len (cs := (pe cs.tail).1) (by omega)
        exact ⟨by dsimp only; omega, fun _ _ => by dsimp only; omega⟩
      · rw [if_neg h3]
        exact ⟨by dsimp only; omega, fun _ _ => by dsimp only; omega⟩
  refine CT.of (lo := [some (.ref rd), some (vI d), none]) (by decide) (by simp [Value.category]) (Nat.le_of_ble_eq_true rfl) rfl ?_
  intro x h0 Q C hQ hl hni
  subst hl
  refine r_aload_n (n := 1) C dX2_bracket_0 rfl rfl rfl ?_
  refine r_dup (n := 2) C dX2_bracket_1 rfl rfl ?_
  refine r_get (n := 5) (ci := 2) (k := 1) C in_X2 rfl (by decide) q161 rfl dX2_bracket_2 rfl (by assumption) rfl ?_
  refine r_iconst (n := 6) C dX2_bracket_5 rfl ?_
  refine r_iadd (n := 7) C dX2_bracket_6 rfl ?_
  refine r_put (n := 10) (ty := .int) (ci := 2) (k := 1) C in_X2 tyX2 tyX2_ok nmX2 rfl (by decide) q161 rfl rfl (by decide +kernel) rfl rfl dX2_bracket_7 rfl (by assumption) (Nat.le_of_ble_eq_true rfl) ?_
  rw [show va_up h rd (some (oC 2 ([Value.ref sb, vI ((ct : Int) - cs.length), vI nd, vI 0, Value.ref rs].set 1 (vI ((ct : Int) - cs.length + 1))))) = h9 by rw [← hh1, show (ct : Int) - cs.tail.length = (ct : Int) - cs.length + 1 by omega]; rfl]
  refine r_aload_n (n := 11) C dX2_bracket_10 rfl rfl rfl ?_
  refine r_iload_n (n := 12) C dX2_bracket_11 rfl rfl rfl ?_
  refine r_iconst (n := 13) C dX2_bracket_12 rfl ?_
  refine r_iadd (n := 14) C dX2_bracket_13 rfl ?_
  refine r_callS (n := 17) (n0 := 2) C (hp cs.tail nd hR1 (by omega)) (lw_S q388 q389 q37 q390) ⟨by decide, by decide, by decide +kernel⟩ rfl dX2_bracket_14 rfl rfl ?_
  rintro v h' sz' ⟨nd', hR2, hE2, hn2, ht2, q, rfl⟩ - -
  have g2 := hR2.1
  dsimp only [stk]
  refine r_astore_nq (n := 18) C dX2_bracket_17 rfl rfl ?_
  skip
  cases hr : (pe cs.tail).2 with
  | none =>
    have hbx : brX pe cs = ((pe cs.tail).1, none) := by unfold brX; rw [hr]
    rw [hbx] at hQ
    rw [hr] at hR2 g2
    have hR3 : RW g (va_up h' rd (some (RO sb rs ((ct : Int) - (pe cs.tail).1.length) nd' 1))) sz' rd sb vb rs cap ml ct f (pe cs.tail).1 nd' 1 := hR2.put (List.suffix_refl _) hR2.2.2.2.2.2.2.2.2
    refine r_aload_n (n := 19) C dX2_bracket_18 rfl rfl rfl ?_
    refine r_get (n := 22) (ci := 2) (k := 3) C in_X2 rfl (by decide) q165 rfl dX2_bracket_19 rfl g2 rfl ?_
    refine r_if_ne (t := 34) (n := 25) C dX2_bracket_22 (by decide) rfl (fun c_22 => ?_) (fun c_22 => ?_)
    · refine r_aload_n (n := 35) C dX2_bracket_34 rfl rfl rfl ?_
      refine r_callV (n := 38) (n0 := 0) (ci := 2) C (ct_rfail (xL x) hR2) (lw_V q417 q419 qs1 q37 q420) ⟨by decide, by decide, by decide +kernel⟩ rfl g2 rfl dX2_bracket_35 rfl rfl ?_
      rintro v h' sz' ⟨rfl, rfl, rfl⟩ - -
      dsimp only [stk]
      refine r_goto (n := 42) C dX2_bracket_38 (by decide) ?_
      refine r_areturn C hQ (Or.inl ⟨_, rfl⟩) (Or.inl rfl) dX2_bracket_42 ?_
      exact RP_brk hR3 (hE1.tr (hE2.tr EX.put)) (by omega) none
    · simp at c_22
  | some t =>
    rw [hr] at hR2 g2
    obtain ⟨e1, a, e2, e3⟩ := ht2 t hr
    have e4 : q = some a := by cases q with
      | none => simp [va_rf] at e2
      | some a' => simp [va_rf] at e2; rw [e2]
    subst e4
    have hbb := bb.2 t hr
    have hpk := hpok.2 t hr
    refine r_aload_n (n := 19) C dX2_bracket_18 rfl rfl rfl ?_
    refine r_get (n := 22) (ci := 2) (k := 3) C in_X2 rfl (by decide) q165 rfl dX2_bracket_19 rfl g2 rfl ?_
    refine r_if_ne (t := 34) (n := 25) C dX2_bracket_22 (by decide) rfl (fun c_22 => ?_) (fun c_22 => ?_)
    · exact absurd rfl c_22
    · refine r_aload_n (n := 26) C dX2_bracket_25 rfl rfl rfl ?_
      refine r_bipush (n := 28) C dX2_bracket_26 (by decide) rfl ?_
      refine r_callV (n := 31) (n0 := 1) (ci := 2) C (ct_raccept (xL x) 41 (by omega) hR2) (lw_V q425 q427 qs3 q37 q428) ⟨by decide, by decide, by decide +kernel⟩ rfl g2 rfl dX2_bracket_28 rfl rfl ?_
      rintro v h'' sz'' ⟨rfl, z, rfl, hz⟩ - -
      dsimp only [stk]
      refine r_if_ne (t := 41) (n := 34) C dX2_bracket_31 (by decide) rfl (fun c_31 => ?_) (fun c_31 => ?_)
      · have hz : hdI (pe cs.tail).1 = 41 ∧ h'' = va_up h' rd (some (RO sb rs ((ct : Int) - (pe cs.tail).1.tail.length) nd' 0)) := by
          rcases hz with ⟨a1, a2, a3⟩ | ⟨a1, a2, a3⟩
          · exact ⟨a2, a3⟩
          · omega
        obtain ⟨z41, rfl⟩ := hz
        have hbx : brX pe cs = ((pe cs.tail).1.tail, some t) := by unfold brX; rw [hr]; dsimp only; rw [if_pos z41]
        rw [hbx] at hQ
        have htl4 := tl_len (cs := (pe cs.tail).1) (by omega)
        have hR3 : RW g (va_up h' rd (some (RO sb rs ((ct : Int) - (pe cs.tail).1.tail.length) nd' 0))) sz' rd sb vb rs cap ml ct f (pe cs.tail).1.tail nd' 0 := hR2.put (tl_suf _) hR2.2.2.2.2.2.2.2.2
        refine r_aload_n (n := 42) C dX2_bracket_41 rfl rfl rfl ?_
        refine r_areturn C hQ (Or.inl ⟨_, rfl⟩) (Or.inr ⟨_, rfl⟩) dX2_bracket_42 ?_
        refine ⟨nd', hR3, hE1.tr (hE2.tr EX.put), by dsimp only; omega, fun u hu => ?_, some a, rfl⟩
        have hu := Option.some.inj hu
        subst hu
        exact ⟨e1, a, rfl, fun h24 => (e3 h24).ex EX.put g2⟩
      · have hz : hdI (pe cs.tail).1 ≠ 41 ∧ h' = h'' := by
          rcases hz with ⟨a1, a2, a3⟩ | ⟨a1, a2, a3⟩
          · omega
          · exact ⟨a2, a3.symm⟩
        obtain ⟨z41, rfl⟩ := hz
        have hbx : brX pe cs = ((pe cs.tail).1, none) := by unfold brX; rw [hr]; dsimp only; rw [if_neg z41]
        rw [hbx] at hQ
        have hR3 : RW g (va_up h' rd (some (RO sb rs ((ct : Int) - (pe cs.tail).1.length) nd' 1))) sz' rd sb vb rs cap ml ct f (pe cs.tail).1 nd' 1 := hR2.put (List.suffix_refl _) hR2.2.2.2.2.2.2.2.2
        refine r_aload_n (n := 35) C dX2_bracket_34 rfl rfl rfl ?_
        refine r_callV (n := 38) (n0 := 0) (ci := 2) C (ct_rfail (xL x) hR2) (lw_V q417 q419 qs1 q37 q420) ⟨by decide, by decide, by decide +kernel⟩ rfl g2 rfl dX2_bracket_35 rfl rfl ?_
        rintro v h' sz' ⟨rfl, rfl, rfl⟩ - -
        dsimp only [stk]
        refine r_goto (n := 42) C dX2_bracket_38 (by decide) ?_
        refine r_areturn C hQ (Or.inl ⟨_, rfl⟩) (Or.inl rfl) dX2_bracket_42 ?_
        exact RP_brk hR3 (hE1.tr (hE2.tr EX.put)) (by omega) none
set_option maxHeartbeats 4000000 in
theorem ct_ratom (l : Launch) (k : Nat) (hk : k ≤ 6) (L : Nat) (hL : 7 ≤ L) (pe : List Int → Res) (b : Nat) (hok : Rok b pe) (hp : k ≠ 0 → RdC l yX2_expression cX2_expression 4 (L - 2) (6 - (k : Int) + 1) pe) : RdC l yX2_atom cX2_atom 3 L (6 - (k : Int)) (atX k pe) := by
  intro g h sz rd sb vb rs cap ml ct f cs nd hR hb
  have hrg := hR.rg
  have hnd := hR.2.2.2.2.2.2.2.2
  have g0 := hR.1
  refine CT.of (lo := [some (.ref rd), some (vI (6 - (k : Int))), none]) (by decide) (by simp [Value.category]) (Nat.le_of_ble_eq_true rfl) rfl ?_
  intro x h0 Q C hQ hl hni
  subst hl
  have brk : atX k pe cs = (cs, none) → RP g h sz rd sb vb rs cap ml ct f cs nd (atX k pe cs) (some .null) (va_up h rd (some (RO sb rs ((ct : Int) - cs.length) nd 1))) sz := by
    intro he
    rw [he]
    exact RP_brk (hR.put (List.suffix_refl _) hnd) EX.put (Nat.le_refl _) none
  refine r_aload_n (n := 1) C dX2_atom_0 rfl rfl rfl ?_
  refine r_callV (n := 4) (n0 := 0) (ci := 2) C (ct_rnext (xL x) hR) (lw_V q400 q402 qs0 q37 q403) ⟨by decide, by decide, by decide +kernel⟩ rfl (by assumption) rfl dX2_atom_1 rfl rfl ?_
  rintro v h' sz' ⟨rfl, rfl, rfl⟩ - -
  dsimp only [stk]
  refine r_istore_n (n := 5) C dX2_atom_4 rfl rfl ?_
  refine r_iload_n (n := 6) C dX2_atom_5 rfl rfl rfl ?_
  refine r_bipush (n := 8) C dX2_atom_6 (by decide) rfl ?_
  refine r_icmp_ne (t := 30) (n := 11) C dX2_atom_8 (by decide) rfl (fun c_8 => ?_) (fun c_8 => ?_)
  · refine r_iload_n (n := 31) C dX2_atom_30 rfl rfl rfl ?_
    refine r_bipush (n := 33) C dX2_atom_31 (by decide) rfl ?_
    refine r_icmp_ne (t := 41) (n := 36) C dX2_atom_33 (by decide) rfl (fun c_33 => ?_) (fun c_33 => ?_)
    · refine r_iload_n (n := 42) C dX2_atom_41 rfl rfl rfl ?_
      refine r_callS (n := 45) (n0 := 1) C (ct_rsmall (xL x) g h sz (hdI cs) (by omega)) (lw_S q433 q434 q37 q435) ⟨by decide, by decide, by decide +kernel⟩ rfl dX2_atom_42 rfl rfl ?_
      rintro v h' sz' ⟨rfl, rfl, z, rfl, hz⟩ - -
      dsimp only [stk]
      refine r_if_ne (t := 59) (n := 48) C dX2_atom_45 (by decide) rfl (fun c_45 => ?_) (fun c_45 => ?_)
      · have hcc : isS (hdI cs) ∨ hdI cs = 46 := by omega
        have he : atX k pe cs = (cs.tail, some (.num (if hdI cs = 46 then 67108863 else zshl 1 (hdI cs - 97)))) := by unfold atX; rw [if_neg (by omega), if_neg (by omega), if_pos hcc]
        have htl := tl_len (cs := cs) (by omega)
        have hbe : bgt (atX k pe) cs = 1 := by
          unfold bgt
          rw [he]
          dsimp only
          omega
        rw [he] at hQ
        have hR1 : RW g (va_up h rd (some (RO sb rs ((ct : Int) - cs.tail.length) ((nd + 1 : Nat) : Int) 0))) sz rd sb vb rs cap ml ct f cs.tail (nd + 1) 0 := hR.put (tl_suf cs) (by omega)
        have hE1 : EX rd h (va_up h rd (some (RO sb rs ((ct : Int) - cs.tail.length) ((nd + 1 : Nat) : Int) 0))) := EX.put
        have g1 := hR1.1
        have hz1 := hR1.2.2.2.2.1 sz (Nat.le_refl _)
        have hrs := hR1.2.2.2.1
        generalize hh1 : va_up h rd (some (RO sb rs ((ct : Int) - cs.tail.length) ((nd + 1 : Nat) : Int) 0)) = h9 at hR1 hE1 g1 hz1 hrs
        have k114 : ∀ z : Int, z = (if hdI cs = 46 then 67108863 else zshl 1 (hdI cs - 97)) → V x g h0 Q (va_up h9 sz (some (oC 3 [vI 0]))) (sz + 1) 1 1 114 [some (.ref rd), some (vI (6 - (k : Int))), some (vI (hdI cs))] [vI z, .ref sz, .ref sz] := by
          intro z hz2
          refine r_callIN (n := 117) (n0 := 1) C (ct_n3 (xL x) g (va_up h9 sz (some (oC 3 [vI 0]))) (sz + 1) sz z (va_up_self _ _ _)) q150 q43 q148 q149 rfl ⟨by decide, by decide, by decide +kernel⟩ rfl dX2_atom_114 rfl rfl ?_
          rintro v h' sz' ⟨rfl, rfl, rfl⟩ - -
          dsimp only [stk]
          refine r_areturn C hQ (Or.inl ⟨_, rfl⟩) (Or.inr ⟨_, rfl⟩) dX2_atom_117 ?_
          rw [bx_uu]
          refine ⟨nd + 1, hR1.new, hE1.tr (EX.new hz1), by dsimp only; omega, fun t ht => ?_, some sz, rfl⟩
          have ht := Option.some.inj ht
          subst ht
          exact ⟨rfl, sz, rfl, fun _ => by rw [← hz2]; exact va_up_self _ _ _⟩
        refine r_aload_n (n := 60) C dX2_atom_59 rfl rfl rfl ?_
        refine r_dup (n := 61) C dX2_atom_60 rfl rfl ?_
        refine r_get (n := 64) (ci := 2) (k := 1) C in_X2 rfl (by decide) q161 rfl dX2_atom_61 rfl (by assumption) rfl ?_
        refine r_iconst (n := 65) C dX2_atom_64 rfl ?_
        refine r_iadd (n := 66) C dX2_atom_65 rfl ?_
        refine r_put (n := 69) (ty := .int) (ci := 2) (k := 1) C in_X2 tyX2 tyX2_ok nmX2 rfl (by decide) q161 rfl rfl (by decide +kernel) rfl rfl dX2_atom_66 rfl (by assumption) (Nat.le_of_ble_eq_true rfl) ?_
        refine r_aload_n (n := 70) C dX2_atom_69 rfl rfl rfl ?_
        refine r_dup (n := 71) C dX2_atom_70 rfl rfl ?_
        refine r_get (n := 74) (ci := 2) (k := 2) C in_X2 rfl (by decide) q163 rfl dX2_atom_71 rfl (va_up_self _ _ _) rfl ?_
        refine r_iconst (n := 75) C dX2_atom_74 rfl ?_
        refine r_iadd (n := 76) C dX2_atom_75 rfl ?_
        refine r_put (n := 79) (ty := .int) (ci := 2) (k := 2) C in_X2 tyX2 tyX2_ok nmX2 rfl (by decide) q163 rfl rfl (by decide +kernel) rfl rfl dX2_atom_76 rfl (va_up_self _ _ _) (Nat.le_of_ble_eq_true rfl) ?_
        rw [bx_uu, show va_up h rd (some (oC 2 (([Value.ref sb, vI ((ct : Int) - cs.length), vI nd, vI 0, Value.ref rs].set 1 (vI ((ct : Int) - cs.length + 1))).set 2 (vI ((nd : Int) + 1))))) = h9 by rw [← hh1, show (ct : Int) - cs.tail.length = (ct : Int) - cs.length + 1 by omega]; rfl]
        refine r_aload_n (n := 80) C dX2_atom_79 rfl rfl rfl ?_
        refine r_callV (n := 83) (n0 := 0) (ci := 2) C (ct_rfull (xL x) hR1) (lw_V q436 q438 qs5 q37 q439) ⟨by decide, by decide, by decide +kernel⟩ rfl (by assumption) rfl dX2_atom_80 rfl rfl ?_
        rintro v h' sz' ⟨rfl, rfl, z, rfl, hz9⟩ - -
        dsimp only [stk]
        refine r_if_eq (t := 93) (n := 86) C dX2_atom_83 (by decide) rfl (fun c_83 => ?_) (fun c_83 => ?_)
        · refine r_new (n := 96) (ci := 3) (fs := [vI 0]) C in_X3 tyX3 tyX3_ok q145 q146 q43 rfl (by decide +kernel) dX2_atom_93 rfl ?_
          refine r_dup (n := 97) C dX2_atom_96 rfl rfl ?_
          refine r_iload_n (n := 98) C dX2_atom_97 rfl rfl rfl ?_
          refine r_bipush (n := 100) C dX2_atom_98 (by decide) rfl ?_
          refine r_icmp_ne (t := 108) (n := 103) C dX2_atom_100 (by decide) rfl (fun c_100 => ?_) (fun c_100 => ?_)
          · refine r_iconst (n := 109) C dX2_atom_108 rfl ?_
            refine r_iload_n (n := 110) C dX2_atom_109 rfl rfl rfl ?_
            refine r_bipush (n := 112) C dX2_atom_110 (by decide) rfl ?_
            refine r_isub (n := 113) C dX2_atom_112 rfl ?_
            refine r_ishl (n := 114) C dX2_atom_113 rfl ?_
            first
              | exact k114 _ ((if_pos c_100).symm)
              | exact k114 _ ((if_neg c_100).symm)
          · refine r_ldc (n := 105) (z := 67108863) C q147 (by decide) dX2_atom_103 rfl ?_
            refine r_goto (n := 114) C dX2_atom_105 (by decide) ?_
            first
              | exact k114 _ ((if_pos c_100).symm)
              | exact k114 _ ((if_neg c_100).symm)
        · skip
          refine r_aload_n (n := 87) C dX2_atom_86 rfl rfl rfl ?_
          refine r_get (n := 90) (ci := 2) (k := 4) C in_X2 rfl (by decide) q166 rfl dX2_atom_87 rfl (by assumption) rfl ?_
          refine r_goto (n := 117) C dX2_atom_90 (by decide) ?_
          refine r_areturn C hQ (Or.inl ⟨_, rfl⟩) (Or.inr ⟨_, rfl⟩) dX2_atom_117 ?_
          refine ⟨nd + 1, hR1, hE1, by dsimp only; omega, fun t ht => ?_, some rs, rfl⟩
          have ht := Option.some.inj ht
          subst ht
          exact ⟨rfl, rs, rfl, fun _ => by omega⟩
      · refine r_iload_n (n := 49) C dX2_atom_48 rfl rfl rfl ?_
        refine r_bipush (n := 51) C dX2_atom_49 (by decide) rfl ?_
        refine r_icmp_eq (t := 59) (n := 54) C dX2_atom_51 (by decide) rfl (fun c_51 => ?_) (fun c_51 => ?_)
        · have hcc : isS (hdI cs) ∨ hdI cs = 46 := by omega
          have he : atX k pe cs = (cs.tail, some (.num (if hdI cs = 46 then 67108863 else zshl 1 (hdI cs - 97)))) := by unfold atX; rw [if_neg (by omega), if_neg (by omega), if_pos hcc]
          have htl := tl_len (cs := cs) (by omega)
          have hbe : bgt (atX k pe) cs = 1 := by
            unfold bgt
            rw [he]
            dsimp only
            omega
          rw [he] at hQ
          have hR1 : RW g (va_up h rd (some (RO sb rs ((ct : Int) - cs.tail.length) ((nd + 1 : Nat) : Int) 0))) sz rd sb vb rs cap ml ct f cs.tail (nd + 1) 0 := hR.put (tl_suf cs) (by omega)
          have hE1 : EX rd h (va_up h rd (some (RO sb rs ((ct : Int) - cs.tail.length) ((nd + 1 : Nat) : Int) 0))) := EX.put
          have g1 := hR1.1
          have hz1 := hR1.2.2.2.2.1 sz (Nat.le_refl _)
          have hrs := hR1.2.2.2.1
          generalize hh1 : va_up h rd (some (RO sb rs ((ct : Int) - cs.tail.length) ((nd + 1 : Nat) : Int) 0)) = h9 at hR1 hE1 g1 hz1 hrs
          have k114 : ∀ z : Int, z = (if hdI cs = 46 then 67108863 else zshl 1 (hdI cs - 97)) → V x g h0 Q (va_up h9 sz (some (oC 3 [vI 0]))) (sz + 1) 1 1 114 [some (.ref rd), some (vI (6 - (k : Int))), some (vI (hdI cs))] [vI z, .ref sz, .ref sz] := by
            intro z hz2
            refine r_callIN (n := 117) (n0 := 1) C (ct_n3 (xL x) g (va_up h9 sz (some (oC 3 [vI 0]))) (sz + 1) sz z (va_up_self _ _ _)) q150 q43 q148 q149 rfl ⟨by decide, by decide, by decide +kernel⟩ rfl dX2_atom_114 rfl rfl ?_
            rintro v h' sz' ⟨rfl, rfl, rfl⟩ - -
            dsimp only [stk]
            refine r_areturn C hQ (Or.inl ⟨_, rfl⟩) (Or.inr ⟨_, rfl⟩) dX2_atom_117 ?_
            rw [bx_uu]
            refine ⟨nd + 1, hR1.new, hE1.tr (EX.new hz1), by dsimp only; omega, fun t ht => ?_, some sz, rfl⟩
            have ht := Option.some.inj ht
            subst ht
            exact ⟨rfl, sz, rfl, fun _ => by rw [← hz2]; exact va_up_self _ _ _⟩
          refine r_aload_n (n := 60) C dX2_atom_59 rfl rfl rfl ?_
          refine r_dup (n := 61) C dX2_atom_60 rfl rfl ?_
          refine r_get (n := 64) (ci := 2) (k := 1) C in_X2 rfl (by decide) q161 rfl dX2_atom_61 rfl (by assumption) rfl ?_
          refine r_iconst (n := 65) C dX2_atom_64 rfl ?_
          refine r_iadd (n := 66) C dX2_atom_65 rfl ?_
          refine r_put (n := 69) (ty := .int) (ci := 2) (k := 1) C in_X2 tyX2 tyX2_ok nmX2 rfl (by decide) q161 rfl rfl (by decide +kernel) rfl rfl dX2_atom_66 rfl (by assumption) (Nat.le_of_ble_eq_true rfl) ?_
          refine r_aload_n (n := 70) C dX2_atom_69 rfl rfl rfl ?_
          refine r_dup (n := 71) C dX2_atom_70 rfl rfl ?_
          refine r_get (n := 74) (ci := 2) (k := 2) C in_X2 rfl (by decide) q163 rfl dX2_atom_71 rfl (va_up_self _ _ _) rfl ?_
          refine r_iconst (n := 75) C dX2_atom_74 rfl ?_
          refine r_iadd (n := 76) C dX2_atom_75 rfl ?_
          refine r_put (n := 79) (ty := .int) (ci := 2) (k := 2) C in_X2 tyX2 tyX2_ok nmX2 rfl (by decide) q163 rfl rfl (by decide +kernel) rfl rfl dX2_atom_76 rfl (va_up_self _ _ _) (Nat.le_of_ble_eq_true rfl) ?_
          rw [bx_uu, show va_up h rd (some (oC 2 (([Value.ref sb, vI ((ct : Int) - cs.length), vI nd, vI 0, Value.ref rs].set 1 (vI ((ct : Int) - cs.length + 1))).set 2 (vI ((nd : Int) + 1))))) = h9 by rw [← hh1, show (ct : Int) - cs.tail.length = (ct : Int) - cs.length + 1 by omega]; rfl]
          refine r_aload_n (n := 80) C dX2_atom_79 rfl rfl rfl ?_
          refine r_callV (n := 83) (n0 := 0) (ci := 2) C (ct_rfull (xL x) hR1) (lw_V q436 q438 qs5 q37 q439) ⟨by decide, by decide, by decide +kernel⟩ rfl (by assumption) rfl dX2_atom_80 rfl rfl ?_
          rintro v h' sz' ⟨rfl, rfl, z, rfl, hz9⟩ - -
          dsimp only [stk]
          refine r_if_eq (t := 93) (n := 86) C dX2_atom_83 (by decide) rfl (fun c_83 => ?_) (fun c_83 => ?_)
          · refine r_new (n := 96) (ci := 3) (fs := [vI 0]) C in_X3 tyX3 tyX3_ok q145 q146 q43 rfl (by decide +kernel) dX2_atom_93 rfl ?_
            refine r_dup (n := 97) C dX2_atom_96 rfl rfl ?_
            refine r_iload_n (n := 98) C dX2_atom_97 rfl rfl rfl ?_
            refine r_bipush (n := 100) C dX2_atom_98 (by decide) rfl ?_
            refine r_icmp_ne (t := 108) (n := 103) C dX2_atom_100 (by decide) rfl (fun c_100 => ?_) (fun c_100 => ?_)
            · refine r_iconst (n := 109) C dX2_atom_108 rfl ?_
              refine r_iload_n (n := 110) C dX2_atom_109 rfl rfl rfl ?_
              refine r_bipush (n := 112) C dX2_atom_110 (by decide) rfl ?_
              refine r_isub (n := 113) C dX2_atom_112 rfl ?_
              refine r_ishl (n := 114) C dX2_atom_113 rfl ?_
              first
                | exact k114 _ ((if_pos c_100).symm)
                | exact k114 _ ((if_neg c_100).symm)
            · refine r_ldc (n := 105) (z := 67108863) C q147 (by decide) dX2_atom_103 rfl ?_
              refine r_goto (n := 114) C dX2_atom_105 (by decide) ?_
              first
                | exact k114 _ ((if_pos c_100).symm)
                | exact k114 _ ((if_neg c_100).symm)
          · skip
            refine r_aload_n (n := 87) C dX2_atom_86 rfl rfl rfl ?_
            refine r_get (n := 90) (ci := 2) (k := 4) C in_X2 rfl (by decide) q166 rfl dX2_atom_87 rfl (by assumption) rfl ?_
            refine r_goto (n := 117) C dX2_atom_90 (by decide) ?_
            refine r_areturn C hQ (Or.inl ⟨_, rfl⟩) (Or.inr ⟨_, rfl⟩) dX2_atom_117 ?_
            refine ⟨nd + 1, hR1, hE1, by dsimp only; omega, fun t ht => ?_, some rs, rfl⟩
            have ht := Option.some.inj ht
            subst ht
            exact ⟨rfl, rs, rfl, fun _ => by omega⟩
        · refine r_aload_n (n := 55) C dX2_atom_54 rfl rfl rfl ?_
          refine r_callV (n := 58) (n0 := 0) (ci := 2) C (ct_rfail (xL x) hR) (lw_V q417 q419 qs1 q37 q420) ⟨by decide, by decide, by decide +kernel⟩ rfl (by assumption) rfl dX2_atom_55 rfl rfl ?_
          rintro v h' sz' ⟨rfl, rfl, rfl⟩ - -
          dsimp only [stk]
          refine r_areturn C hQ (Or.inl ⟨_, rfl⟩) (Or.inl rfl) dX2_atom_58 ?_
          exact brk (by unfold atX; first | rw [if_pos (by omega), if_pos (by omega)] | rw [if_neg (by omega), if_neg (by omega), if_neg (by omega)])
    · have he : atX k pe cs = stX cs.tail := by unfold atX; rw [if_neg (by omega), if_pos (by omega)]
      have htl := tl_len (cs := cs) (by omega)
      have hbe : 1 ≤ bgt (atX k pe) cs := by
        unfold bgt
        rw [he]
        have := (stX_ok cs.tail).1.length_le
        omega
      rw [he] at hQ
      refine r_aload_n (n := 37) C dX2_atom_36 rfl rfl rfl ?_
      refine r_callV (n := 40) (n0 := 0) (ci := 2) C (ct_rset (xL x) hR (by omega) hb) (lw_V q429 q431 qs4 q37 q432) ⟨by decide, by decide, by decide +kernel⟩ rfl (by assumption) rfl dX2_atom_37 rfl rfl ?_
      rintro v h' sz' hP - -
      obtain ⟨nd', hR2, hE2, hn2, ht2, q, rfl⟩ := hP
      dsimp only [stk]
      refine r_areturn C hQ (Or.inl ⟨_, rfl⟩) (by cases q <;> simp [va_rf]) dX2_atom_40 ?_
      exact ⟨nd', hR2, hE2, hn2, ht2, q, rfl⟩
  · refine r_iload_n (n := 12) C dX2_atom_11 rfl rfl rfl ?_
    refine r_bipush (n := 14) C dX2_atom_12 (by decide) rfl ?_
    refine r_icmp_ne (t := 24) (n := 17) C dX2_atom_14 (by decide) rfl (fun c_14 => ?_) (fun c_14 => ?_)
    · have he : atX k pe cs = brX pe cs := by unfold atX brX; rw [if_pos (by omega), if_neg (by omega)]; cases (pe cs.tail).2 <;> rfl
      have hbe : bgt (atX k pe) cs = bgt (brX pe) cs := by unfold bgt; rw [he]
      rw [he] at hQ
      rw [hbe] at hQ C
      refine r_aload_n (n := 25) C dX2_atom_24 rfl rfl rfl ?_
      refine r_iload_n (n := 26) C dX2_atom_25 rfl rfl rfl ?_
      refine r_callV (n := 29) (n0 := 1) (ci := 2) C (ct_rbracket (xL x) (6 - (k : Int)) (by omega) (L - 1) (by omega) pe b hok (by rw [show L - 1 - 1 = L - 2 by omega]; exact hp (by omega)) cs nd hR hb (by omega)) (lw_V q421 q423 qs2 q37 q424) ⟨by decide, by decide, by decide +kernel⟩ rfl (by assumption) rfl dX2_atom_26 rfl rfl ?_
      rintro v h' sz' hP - -
      obtain ⟨nd', hR2, hE2, hn2, ht2, q, rfl⟩ := hP
      dsimp only [stk]
      refine r_areturn C hQ (Or.inl ⟨_, rfl⟩) (by cases q <;> simp [va_rf]) dX2_atom_29 ?_
      exact ⟨nd', hR2, hE2, hn2, ht2, q, rfl⟩
    · refine r_aload_n (n := 18) C dX2_atom_17 rfl rfl rfl ?_
      refine r_callV (n := 21) (n0 := 0) (ci := 2) C (ct_rfail (xL x) hR) (lw_V q417 q419 qs1 q37 q420) ⟨by decide, by decide, by decide +kernel⟩ rfl (by assumption) rfl dX2_atom_18 rfl rfl ?_
      rintro v h' sz' ⟨rfl, rfl, rfl⟩ - -
      dsimp only [stk]
      refine r_goto (n := 29) C dX2_atom_21 (by decide) ?_
      refine r_areturn C hQ (Or.inl ⟨_, rfl⟩) (Or.inl rfl) dX2_atom_29 ?_
      exact brk (by unfold atX; first | rw [if_pos (by omega), if_pos (by omega)] | rw [if_neg (by omega), if_neg (by omega), if_neg (by omega)])
