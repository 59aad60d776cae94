/-! PATTERNS as trees: their nodes on the heap, their tables; fill -/
/-- num s: a set; add: a row; sub: either; pow a k: k = 0 not or once, 1 any, 2 some, k + 3 at most k -/
abbrev PT : Type := Lean.Grind.CommRing.Expr
def pOk : PT → Prop
  | .num s => -2147483648 ≤ s ∧ s < 2147483648
  | .add a b => pOk a ∧ pOk b
  | .sub a b => pOk a ∧ pOk b
  | .pow a k => k < 103 ∧ pOk a
  | _ => False
/-- levels of tables above its own -/
def pNl : PT → Nat
  | .add a b => max (pNl a) (pNl b + 1)
  | .sub a b => max (pNl a) (pNl b + 1)
  | .pow a _ => pNl a
  | _ => 0
def pHg : PT → Nat
  | .add a b => max (pHg a) (pHg b) + 1
  | .sub a b => max (pHg a) (pHg b) + 1
  | .pow a _ => pHg a + 1
  | _ => 0
def NT (g : GG) (h : HM) : PT → Nat → Prop
  | .num s, q => h q = some (oC 3 [vI s])
  | .add a b, q => ∃ qa qb, h q = some (oC 8 [.ref qa, .ref qb]) ∧ NT g h a qa ∧ NT g h b qb
  | .sub a b, q => ∃ qa qb, h q = some (oC 9 [.ref qa, .ref qb]) ∧ NT g h a qa ∧ NT g h b qb
  | .pow a k, q => ∃ qa, h q = some (if k < 3 then oC 6 [.ref qa, .ref (kc g (2 + k))] else oC 7 [.ref qa, vI ((k : Int) - 3)]) ∧ NT g h a qa
  | _, _ => False
theorem NT.mono {g : GG} {h h' : HM} (hh : ∀ q ci fs, h q = some (oC ci fs) → 3 ≤ ci → ci ≤ 9 → ci ≠ 4 → ci ≠ 5 → h' q = some (oC ci fs)) : ∀ (t : PT) (q : Nat), NT g h t q → NT g h' t q
  | .num s, q, hn => hh q 3 _ hn (by omega) (by omega) (by omega) (by omega)
  | .add a b, q, ⟨qa, qb, h1, h2, h3⟩ => ⟨qa, qb, hh q 8 _ h1 (by omega) (by omega) (by omega) (by omega), NT.mono hh a qa h2, NT.mono hh b qb h3⟩
  | .sub a b, q, ⟨qa, qb, h1, h2, h3⟩ => ⟨qa, qb, hh q 9 _ h1 (by omega) (by omega) (by omega) (by omega), NT.mono hh a qa h2, NT.mono hh b qb h3⟩
  | .pow a k, q, ⟨qa, h1, h2⟩ => ⟨qa, by
      by_cases hk : k < 3
      · rw [if_pos hk] at h1 ⊢
        exact hh q 6 _ h1 (by omega) (by omega) (by omega) (by omega)
      · rw [if_neg hk] at h1 ⊢
        exact hh q 7 _ h1 (by omega) (by omega) (by omega) (by omega), NT.mono hh a qa h2⟩
  | .natCast _, _, hn => hn.elim
  | .intCast _, _, hn => hn.elim
  | .var _, _, hn => hn.elim
  | .neg _, _, hn => hn.elim
  | .mul _ _, _, hn => hn.elim
/-- f is t's table -/
def TX (len : Nat) (ad mi wr : Int) (tf : Nat → Int) : PT → (Nat → Nat → Int) → Prop
  | .num s, f => ∀ i j, i ≤ j → j ≤ len → f i j = oSet ad mi wr s tf i j
  | .add a b, f => ∃ fa fb, TX len ad mi wr tf a fa ∧ TX len ad mi wr tf b fb ∧ ∀ i j, i ≤ j → j ≤ len → f i j = rowX fa fb i j (j - i + 1)
  | .sub a b, f => ∃ fa fb, TX len ad mi wr tf a fa ∧ TX len ad mi wr tf b fb ∧ ∀ i j, i ≤ j → j ≤ len → f i j = min (fa i j) (fb i j)
  | .pow a k, f => ∃ fa u, TX len ad mi wr tf a fa ∧ (∀ i j, i ≤ j → j ≤ len → u i j = if k = 1 ∨ k = 2 then clX u fa i j (j - i - 1) else fa i j) ∧ ∀ i j, i ≤ j → j ≤ len → f i j = if k = 2 then u i j else if k < 2 then min (u i j) (((j : Int) - i) * ad) else if u i j ≤ (k : Int) - 3 then u i j else 16777216
  | _, _ => False
/-- the map with other tables -/
def TB (g : GG) (h : HM) (bn : Nat) (T : Nat → Nat → Int) : HM := fun q => if bn + 3 ≤ q ∧ q < bn + 19 then some (eI g 625 (T (q - (bn + 3)))) else h q
section TBS
variable {g : GG} {h : HM} {bn : Nat} {len ad mi wr : Int} {tf : Nat → Int} {T T' T2 : Nat → Nat → Int}
theorem TB_out {q : Nat} (hq : q < bn + 3 ∨ bn + 19 ≤ q) : TB g h bn T q = h q := by
  unfold TB
  rw [if_neg (by omega)]
theorem TB_in {j : Nat} (hj : j < 16) : TB g h bn T (bn + 3 + j) = some (eI g 625 (T j)) := by
  unfold TB
  rw [if_pos (by omega), show bn + 3 + j - (bn + 3) = j by omega]
theorem TB_TB : TB g (TB g h bn T) bn T2 = TB g h bn T2 := by
  funext q
  unfold TB
  split <;> rfl
theorem TB_self (hB : BN g h bn len ad mi wr tf T) : TB g h bn T = h := by
  funext q
  by_cases hq : bn + 3 ≤ q ∧ q < bn + 19
  · obtain ⟨j, hj, rfl⟩ : ∃ j, j < 16 ∧ q = bn + 3 + j := ⟨q - (bn + 3), by omega, by omega⟩
    rw [TB_in hj, hB.2.2.2.1 j hj]
  · rw [TB_out (by omega)]
theorem TB_up {lv : Nat} {f : Nat → Int} (hl : lv < 16) : va_up (TB g h bn T) (bn + 3 + lv) (some (eI g 625 f)) = TB g h bn (va_up T lv f) := by
  funext q
  by_cases e : q = bn + 3 + lv
  · subst e
    rw [va_up_self, TB_in hl, va_up_self]
  · rw [va_up_ne _ _ e]
    by_cases hq : bn + 3 ≤ q ∧ q < bn + 19
    · obtain ⟨j, hj, rfl⟩ : ∃ j, j < 16 ∧ q = bn + 3 + j := ⟨q - (bn + 3), by omega, by omega⟩
      rw [TB_in hj, TB_in hj, va_up_ne _ _ (by omega)]
    · rw [TB_out (by omega), TB_out (by omega)]
theorem BN.tb (hB : BN g h bn len ad mi wr tf T) : BN g (TB g h bn T2) bn len ad mi wr tf T2 := by
  obtain ⟨b1, b2, b3, b4, b5⟩ := hB
  exact ⟨(TB_out (by omega)).trans b1, (TB_out (by omega)).trans b2, (TB_out (by omega)).trans b3, fun j hj => TB_in hj, b5⟩
theorem NT_tb (hB : BN g h bn len ad mi wr tf T) {t : PT} {q : Nat} (hn : NT g h t q) : NT g (TB g h bn T2) t q := by
  refine NT.mono (fun q ci fs hq _ _ _ _ => ?_) t q hn
  by_cases hr : bn + 3 ≤ q ∧ q < bn + 19
  · obtain ⟨j, hj, rfl⟩ : ∃ j, j < 16 ∧ q = bn + 3 + j := ⟨q - (bn + 3), by omega, by omega⟩
    rw [hB.2.2.2.1 j hj] at hq
    cases hq
  · rw [TB_out (by omega)]
    exact hq
end TBS
def nfy : PT → MethodName
  | .add _ _ => yX8_fill
  | .sub _ _ => yX9_fill
  | .pow _ k => if k < 3 then yX6_fill else yX7_fill
  | _ => yX3_fill
def nfc : PT → ByteArray
  | .add _ _ => cX8_fill
  | .sub _ _ => cX9_fill
  | .pow _ k => if k < 3 then cX6_fill else cX7_fill
  | _ => cX3_fill
def FP (g : GG) (h : HM) (sz bn lv : Nat) (len ad mi wr : Int) (tf : Nat → Int) (T : Nat → Nat → Int) (t : PT) : Option Value → HM → Nat → Prop := fun v h' sz' => v = none ∧ sz = sz' ∧ ∃ T', h' = TB g h bn T' ∧ (∀ k, k < lv → T' k = T k) ∧ (∀ k, k < 16 → GT (T' k)) ∧ TX len.toNat ad mi wr tf t (tb (T' lv))
theorem lw_F {own : String} {idx : Nat} {Cn : String} {xx y : MethodName} {b : ByteArray} {L : Nat} {r : Option FieldType} (h1 : Cond.methodLink own idx xx ∈ lw_all) (h2 : Cond.selects Cn xx y ∈ lw_all) (h3 : Cond.instanceMethod y ∈ lw_all) (h4 : Cond.initialized y.cls ∈ lw_all) (h5 : Cond.code y b L r ∈ lw_all) : GoodIn lw_all (va_wsF own idx Cn xx y (ws_ y b L r)) := by
  refine lw_app ?_ (lw_meth h5)
  intro w hw
  simp only [List.mem_cons, List.not_mem_nil, or_false] at hw
  rcases hw with e | e | e | e
  · rw [e]; exact h1
  · rw [e]; exact h2
  · rw [e]; exact h3
  · rw [e]; exact h4
abbrev yNf : MethodName := ⟨"FuzzyFinder$Node", "fill", "(LFuzzyFinder$Bench;I)V"⟩
/-- node.fill(b, z) -/
theorem r_fill {x : XT} {g : GG} {h0 : HM} {Q : State → Prop} {h : HM} {sz cells slots pc n : Nat} {lo : List (Option Value)} {rest : List Value} {cc : ByteArray} {nL : Nat} {own : String} {ret : Option FieldType} {L mc ms : Nat} {Post : Option Value → HM → Nat → Prop} (C : CX x cc nL own ret g L mc ms) {t : PT} {i b bn count L' : Nat} {z : Int} (hM : CT (xL x) (nfy t) (nfc t) 3 none L' 0 0 [.ref b, .ref bn, vI z] g h sz Post) (hk : Cond.methodLink own i yNf ∈ lw_all) (hN : NT g h t b) (d : decode cc pc = .ok (.invokeinterface i count, 5)) (hn : pc + 5 = n)
    (kk : ∀ (v : Option Value) (h' : HM) (sz' : Nat), Post v h' sz' → sz ≤ sz' → DO h' h sz → V x g h0 Q h' sz' (cells + 0) (slots + 0) n lo (stk v rest)) (hLv : L' + 1 ≤ L := by omega) (h1 : cells + 0 ≤ mc := by omega) (h2 : slots + 0 ≤ ms := by omega) (hW : (rest.map fun v => v.category).sum ≤ 8 := by exact Nat.le_of_ble_eq_true rfl) : V x g h0 Q h sz cells slots pc lo (vI z :: .ref bn :: .ref b :: rest) := by
  cases t with
  | num s => exact r_callF (xx := yNf) (y := yX3_fill) (n0 := 2) (ci := 3) C hM (lw_F hk q577 q579 q43 q581) (C.kg.fw ⟨by decide, by decide⟩ q567 q566 q580 q578 q576) ⟨by decide, by decide, by decide +kernel⟩ rfl hN rfl d hn rfl kk hLv (by decide) h1 h2 hW
  | add a b' =>
    obtain ⟨qa, qb, e, -⟩ := hN
    exact r_callF (xx := yNf) (y := yX8_fill) (n0 := 2) (ci := 8) C hM (lw_F hk q605 q607 q59 q609) (C.kg.fw ⟨by decide, by decide⟩ q567 q566 q608 q606 q604) ⟨by decide, by decide, by decide +kernel⟩ rfl e rfl d hn rfl kk hLv (by decide) h1 h2 hW
  | sub a b' =>
    obtain ⟨qa, qb, e, -⟩ := hN
    exact r_callF (xx := yNf) (y := yX9_fill) (n0 := 2) (ci := 9) C hM (lw_F hk q569 q571 q60 q573) (C.kg.fw ⟨by decide, by decide⟩ q567 q566 q572 q570 q568) ⟨by decide, by decide, by decide +kernel⟩ rfl e rfl d hn rfl kk hLv (by decide) h1 h2 hW
  | pow a k =>
    obtain ⟨qa, e, -⟩ := hN
    unfold nfy nfc at hM
    dsimp only at hM
    by_cases hk3 : k < 3
    · rw [if_pos hk3] at e
      rw [if_pos hk3, if_pos hk3] at hM
      exact r_callF (xx := yNf) (y := yX6_fill) (n0 := 2) (ci := 6) C hM (lw_F hk q597 q599 q57 q601) (C.kg.fw ⟨by decide, by decide⟩ q567 q566 q600 q598 q596) ⟨by decide, by decide, by decide +kernel⟩ rfl e rfl d hn rfl kk hLv (by decide) h1 h2 hW
    · rw [if_neg hk3] at e
      rw [if_neg hk3, if_neg hk3] at hM
      exact r_callF (xx := yNf) (y := yX7_fill) (n0 := 2) (ci := 7) C hM (lw_F hk q589 q591 q58 q593) (C.kg.fw ⟨by decide, by decide⟩ q567 q566 q592 q590 q588) ⟨by decide, by decide, by decide +kernel⟩ rfl e rfl d hn rfl kk hLv (by decide) h1 h2 hW
  | natCast _ => exact hN.elim
  | intCast _ => exact hN.elim
  | var _ => exact hN.elim
  | neg _ => exact hN.elim
  | mul _ _ => exact hN.elim
/-- what fill promises of t at every level -/
def FCt (l : Launch) (g : GG) (bn : Nat) (len ad mi wr : Int) (tf : Nat → Int) (t : PT) : Prop := ∀ (h : HM) (sz a lv : Nat) (T : Nat → Nat → Int), BN g h bn len ad mi wr tf T → (∀ k, k < 16 → GT (T k)) → NT g h t a → lv + pNl t < 16 → CT l (nfy t) (nfc t) 3 none (pHg t + 2) 0 0 [.ref a, .ref bn, vI lv] g h sz (FP g h sz bn lv len ad mi wr tf T t)
theorem fill_end {g : GG} {h : HM} {sz bn lv : Nat} {len ad mi wr : Int} {tf : Nat → Int} {T T1 : Nat → Nat → Int} {f' : Nat → Int} {t : PT} (hB : BN g h bn len ad mi wr tf T) (hl : lv < 16) (hk : ∀ k, k < lv → T1 k = T k) (hG : ∀ k, k < 16 → GT (T1 k)) (hf : GT f') (hT : TX len.toNat ad mi wr tf t (tb f')) : FP g h sz bn lv len ad mi wr tf T t none (va_up (TB g h bn T1) (bn + 3 + lv) (some (eI g 625 f'))) sz := by
  refine ⟨rfl, rfl, va_up T1 lv f', TB_up hl, fun k h1 => ?_, fun k h1 => ?_, ?_⟩
  · rw [va_up_ne _ _ (by omega)]
    exact hk k h1
  · by_cases e : k = lv
    · rw [e, va_up_self]
      exact hf
    · rw [va_up_ne _ _ e]
      exact hG k h1
  · rw [va_up_self]
    exact hT
theorem ct_fillS (l : Launch) (g : GG) (bn : Nat) (len ad mi wr : Int) (tf : Nat → Int) (s : Int) (hs : -2147483648 ≤ s ∧ s < 2147483648) : FCt l g bn len ad mi wr tf (.num s) := by
  intro h sz a lv T hB hG hN hlv
  have hN : h a = some (oC 3 [vI s]) := hN
  have hlv : lv < 16 := by simpa [pNl] using hlv
  show CT l yX3_fill cX3_fill 3 none 2 0 0 _ g h sz _
  have b1 := hB.1
  have bl := hB.2.2.2.2.1
  refine CT.of (lo := [some (.ref a), some (.ref bn), some (vI lv)]) (by decide) (by simp [Value.category]) (Nat.le_of_ble_eq_true rfl) rfl ?_
  intro x h0 Q C hQ hl hni
  refine r_aload_n (n := 1) C dX3_fill_0 rfl rfl rfl ?_
  refine r_iload_n (n := 2) C dX3_fill_1 rfl rfl rfl ?_
  refine r_aload_n (n := 3) C dX3_fill_2 rfl rfl rfl ?_
  refine r_get (n := 6) (ci := 3) (k := 0) C in_X3 rfl (by decide) q155 rfl dX3_fill_3 rfl (by assumption) rfl ?_
  refine r_callV (n := 9) (n0 := 2) (ci := 1) C (ct_letter (xL x) g h sz bn lv len ad mi wr s tf T hB hlv (hG lv hlv) hs) (lw_V q582 q583 q584 q36 q585) ⟨by decide, by decide, by decide +kernel⟩ rfl (by assumption) rfl dX3_fill_6 rfl rfl ?_
  rintro v h' sz' ⟨rfl, rfl, f', rfl, hf, hP⟩ - -
  dsimp only [stk]
  refine r_return C hQ dX3_fill_9 ?_
  have := fill_end (T1 := T) (sz := sz) (t := .num s) hB hlv (fun _ _ => rfl) hG hf (fun i j h1 h2 => hP i j h1 (by omega))
  rw [TB_self hB] at this
  exact this
theorem ct_fillR (l : Launch) (g : GG) (bn : Nat) (len ad mi wr : Int) (tf : Nat → Int) (ta tc : PT) (ha : FCt l g bn len ad mi wr tf ta) (hc : FCt l g bn len ad mi wr tf tc) : FCt l g bn len ad mi wr tf (.add ta tc) := by
  intro h sz a lv T hB hG hN hl
  obtain ⟨qa, qb, e, n1, n2⟩ := hN
  have hl1 : lv + pNl ta < 16 ∧ lv + 1 + pNl tc < 16 := by
    simp [pNl] at hl
    omega
  have hL : pHg ta + 2 + 1 ≤ max (pHg ta) (pHg tc) + 1 + 2 ∧ pHg tc + 2 + 1 ≤ max (pHg ta) (pHg tc) + 1 + 2 := by omega
  have bl := hB.2.2.2.2.1
  show CT l yX8_fill cX8_fill 3 none (max (pHg ta) (pHg tc) + 1 + 2) 0 0 _ g h sz _
  refine CT.of (lo := [some (.ref a), some (.ref bn), some (vI lv)]) (by decide) (by simp [Value.category]) (Nat.le_of_ble_eq_true rfl) rfl ?_
  intro x h0 Q C hQ hl hni
  subst hl
  refine r_aload_n (n := 1) C dX8_fill_0 rfl rfl rfl ?_
  refine r_get (n := 4) (ci := 8) (k := 0) C in_X8 rfl (by decide) q489 rfl dX8_fill_1 rfl (by assumption) rfl ?_
  refine r_aload_n (n := 5) C dX8_fill_4 rfl rfl rfl ?_
  refine r_iload_n (n := 6) C dX8_fill_5 rfl rfl rfl ?_
  refine r_fill (n := 11) C (ha h sz qa lv T hB hG n1 hl1.1) q611 n1 dX8_fill_6 rfl ?_ hL.1
  rintro v h' sz' ⟨rfl, rfl, T1, rfl, t1, t2, t3⟩ - -
  dsimp only [stk]
  have hB1 := hB.tb (T2 := T1)
  have n2' := NT_tb (T2 := T1) hB n2
  have bn1 := hB1.1
  have e' : TB g h bn T1 a = some (oC 8 [.ref qa, .ref qb]) := by
    have := NT_tb (t := .add ta tc) (T2 := T1) hB ⟨qa, qb, e, n1, n2⟩
    obtain ⟨qa', qb', e9, -⟩ := this
    by_cases hr : bn + 3 ≤ a ∧ a < bn + 19
    · obtain ⟨j, hj, rfl⟩ : ∃ j, j < 16 ∧ a = bn + 3 + j := ⟨a - (bn + 3), by omega, by omega⟩
      rw [TB_in hj] at e9
      cases e9
    · rw [TB_out (by omega)]
      exact e
  refine r_aload_n (n := 12) C dX8_fill_11 rfl rfl rfl ?_
  refine r_get (n := 15) (ci := 8) (k := 1) C in_X8 rfl (by decide) q490 rfl dX8_fill_12 rfl e' rfl ?_
  refine r_aload_n (n := 16) C dX8_fill_15 rfl rfl rfl ?_
  refine r_iload_n (n := 17) C dX8_fill_16 rfl rfl rfl ?_
  refine r_iconst (n := 18) C dX8_fill_17 rfl ?_
  refine r_iadd (n := 19) C dX8_fill_18 rfl ?_
  rw [show (lv : Int) + 1 = ((lv + 1 : Nat) : Int) by omega]
  refine r_fill (n := 24) C (hc _ sz qb (lv + 1) T1 hB1 t2 n2' hl1.2) q611 n2' dX8_fill_19 rfl ?_ hL.2
  rintro v h' sz' ⟨rfl, rfl, T2, rfl, u1, u2, u3⟩ - -
  dsimp only [stk]
  rw [TB_TB]
  have hB2 := hB.tb (T2 := T2)
  have bn2 := hB2.1
  refine r_aload_n (n := 25) C dX8_fill_24 rfl rfl rfl ?_
  refine r_iload_n (n := 26) C dX8_fill_25 rfl rfl rfl ?_
  refine r_callV (n := 29) (n0 := 1) (ci := 1) C (ct_chain (xL x) g (TB g h bn T2) sz bn lv len ad mi wr tf T2 hB2 (by omega) ⟨u2 lv (by omega), u2 (lv + 1) (by omega)⟩) (lw_V q612 q613 q614 q36 q615) ⟨by decide, by decide, by decide +kernel⟩ rfl (by assumption) rfl dX8_fill_26 rfl rfl ?_
  rintro v h' sz' ⟨rfl, rfl, f', rfl, hf, hP⟩ - -
  dsimp only [stk]
  refine r_return C hQ dX8_fill_29 ?_
  exact fill_end (T1 := T2) (sz := sz) (t := .add ta tc) hB (by omega) (fun k hk => (u1 k (by omega)).trans (t1 k hk)) u2 hf ⟨tb (T1 lv), tb (T2 (lv + 1)), t3, u3, fun i j h1 h2 => by rw [hP i j h1 (by omega), u1 lv (by omega)]⟩
theorem ct_fillO (l : Launch) (g : GG) (bn : Nat) (len ad mi wr : Int) (tf : Nat → Int) (ta tc : PT) (ha : FCt l g bn len ad mi wr tf ta) (hc : FCt l g bn len ad mi wr tf tc) : FCt l g bn len ad mi wr tf (.sub ta tc) := by
  intro h sz a lv T hB hG hN hl
  obtain ⟨qa, qb, e, n1, n2⟩ := hN
  have hl1 : lv + pNl ta < 16 ∧ lv + 1 + pNl tc < 16 := by
    simp [pNl] at hl
    omega
  have hL : pHg ta + 2 + 1 ≤ max (pHg ta) (pHg tc) + 1 + 2 ∧ pHg tc + 2 + 1 ≤ max (pHg ta) (pHg tc) + 1 + 2 := by omega
  have bl := hB.2.2.2.2.1
  show CT l yX9_fill cX9_fill 3 none (max (pHg ta) (pHg tc) + 1 + 2) 0 0 _ g h sz _
  refine CT.of (lo := [some (.ref a), some (.ref bn), some (vI lv)]) (by decide) (by simp [Value.category]) (Nat.le_of_ble_eq_true rfl) rfl ?_
  intro x h0 Q C hQ hl hni
  subst hl
  refine r_aload_n (n := 1) C dX9_fill_0 rfl rfl rfl ?_
  refine r_get (n := 4) (ci := 9) (k := 0) C in_X9 rfl (by decide) q502 rfl dX9_fill_1 rfl (by assumption) rfl ?_
  refine r_aload_n (n := 5) C dX9_fill_4 rfl rfl rfl ?_
  refine r_iload_n (n := 6) C dX9_fill_5 rfl rfl rfl ?_
  refine r_fill (n := 11) C (ha h sz qa lv T hB hG n1 hl1.1) q575 n1 dX9_fill_6 rfl ?_ hL.1
  rintro v h' sz' ⟨rfl, rfl, T1, rfl, t1, t2, t3⟩ - -
  dsimp only [stk]
  have hB1 := hB.tb (T2 := T1)
  have n2' := NT_tb (T2 := T1) hB n2
  have bn1 := hB1.1
  have e' : TB g h bn T1 a = some (oC 9 [.ref qa, .ref qb]) := by
    have := NT_tb (t := .sub ta tc) (T2 := T1) hB ⟨qa, qb, e, n1, n2⟩
    obtain ⟨qa', qb', e9, -⟩ := this
    by_cases hr : bn + 3 ≤ a ∧ a < bn + 19
    · obtain ⟨j, hj, rfl⟩ : ∃ j, j < 16 ∧ a = bn + 3 + j := ⟨a - (bn + 3), by omega, by omega⟩
      rw [TB_in hj] at e9
      cases e9
    · rw [TB_out (by omega)]
      exact e
  refine r_aload_n (n := 12) C dX9_fill_11 rfl rfl rfl ?_
  refine r_get (n := 15) (ci := 9) (k := 1) C in_X9 rfl (by decide) q503 rfl dX9_fill_12 rfl e' rfl ?_
  refine r_aload_n (n := 16) C dX9_fill_15 rfl rfl rfl ?_
  refine r_iload_n (n := 17) C dX9_fill_16 rfl rfl rfl ?_
  refine r_iconst (n := 18) C dX9_fill_17 rfl ?_
  refine r_iadd (n := 19) C dX9_fill_18 rfl ?_
  rw [show (lv : Int) + 1 = ((lv + 1 : Nat) : Int) by omega]
  refine r_fill (n := 24) C (hc _ sz qb (lv + 1) T1 hB1 t2 n2' hl1.2) q575 n2' dX9_fill_19 rfl ?_ hL.2
  rintro v h' sz' ⟨rfl, rfl, T2, rfl, u1, u2, u3⟩ - -
  dsimp only [stk]
  rw [TB_TB]
  have hB2 := hB.tb (T2 := T2)
  have bn2 := hB2.1
  refine r_aload_n (n := 25) C dX9_fill_24 rfl rfl rfl ?_
  refine r_iload_n (n := 26) C dX9_fill_25 rfl rfl rfl ?_
  refine r_callV (n := 29) (n0 := 1) (ci := 1) C (ct_lower (xL x) g (TB g h bn T2) sz bn lv len ad mi wr tf T2 hB2 (by omega) ⟨u2 lv (by omega), u2 (lv + 1) (by omega)⟩) (lw_V q628 q629 q630 q36 q631) ⟨by decide, by decide, by decide +kernel⟩ rfl (by assumption) rfl dX9_fill_26 rfl rfl ?_
  rintro v h' sz' ⟨rfl, rfl, f', rfl, hf, hP⟩ - -
  dsimp only [stk]
  refine r_return C hQ dX9_fill_29 ?_
  exact fill_end (T1 := T2) (sz := sz) (t := .sub ta tc) hB (by omega) (fun k hk => (u1 k (by omega)).trans (t1 k hk)) u2 hf ⟨tb (T1 lv), tb (T2 (lv + 1)), t3, u3, fun i j h1 h2 => by rw [hP i j h1 (by omega), u1 lv (by omega)]⟩
theorem ct_fillL (l : Launch) (g : GG) (bn : Nat) (len ad mi wr : Int) (tf : Nat → Int) (ta : PT) (k : Nat) (hk : 3 ≤ k ∧ k < 103) (ha : FCt l g bn len ad mi wr tf ta) : FCt l g bn len ad mi wr tf (.pow ta k) := by
  intro h sz a lv T hB hG hN hl
  obtain ⟨qa, e, n1⟩ := hN
  rw [if_neg (by omega)] at e
  have hl1 : lv + pNl ta < 16 := by simpa [pNl] using hl
  have hL : pHg ta + 2 + 1 ≤ pHg ta + 1 + 2 := by omega
  have bl := hB.2.2.2.2.1
  rw [show nfy (.pow ta k) = yX7_fill by rw [nfy, if_neg (by omega)], show nfc (.pow ta k) = cX7_fill by rw [nfc, if_neg (by omega)]]
  show CT l yX7_fill cX7_fill 3 none (pHg ta + 1 + 2) 0 0 _ g h sz _
  refine CT.of (lo := [some (.ref a), some (.ref bn), some (vI lv)]) (by decide) (by simp [Value.category]) (Nat.le_of_ble_eq_true rfl) rfl ?_
  intro x h0 Q C hQ hl hni
  subst hl
  refine r_aload_n (n := 1) C dX7_fill_0 rfl rfl rfl ?_
  refine r_get (n := 4) (ci := 7) (k := 0) C in_X7 rfl (by decide) q473 rfl dX7_fill_1 rfl (by assumption) rfl ?_
  refine r_aload_n (n := 5) C dX7_fill_4 rfl rfl rfl ?_
  refine r_iload_n (n := 6) C dX7_fill_5 rfl rfl rfl ?_
  refine r_fill (n := 11) C (ha h sz qa lv T hB hG n1 hl1) q595 n1 dX7_fill_6 rfl ?_ hL
  rintro v h' sz' ⟨rfl, rfl, T1, rfl, t1, t2, t3⟩ - -
  dsimp only [stk]
  have hB1 := hB.tb (T2 := T1)
  have bn1 := hB1.1
  have e' : TB g h bn T1 a = some (oC 7 [.ref qa, vI ((k : Int) - 3)]) := by
    by_cases hr : bn + 3 ≤ a ∧ a < bn + 19
    · obtain ⟨j, hj, rfl⟩ : ∃ j, j < 16 ∧ a = bn + 3 + j := ⟨a - (bn + 3), by omega, by omega⟩
      rw [hB.2.2.2.1 j hj] at e
      cases e
    · rw [TB_out (by omega)]
      exact e
  refine r_aload_n (n := 12) C dX7_fill_11 rfl rfl rfl ?_
  refine r_iload_n (n := 13) C dX7_fill_12 rfl rfl rfl ?_
  refine r_aload_n (n := 14) C dX7_fill_13 rfl rfl rfl ?_
  refine r_get (n := 17) (ci := 7) (k := 1) C in_X7 rfl (by decide) q474 rfl dX7_fill_14 rfl e' rfl ?_
  refine r_callV (n := 20) (n0 := 2) (ci := 1) C (ct_limit (xL x) g (TB g h bn T1) sz bn lv len ad mi wr ((k : Int) - 3) tf T1 hB1 (by omega) (t2 lv (by omega)) (by omega)) (lw_V q624 q625 q626 q36 q627) ⟨by decide, by decide, by decide +kernel⟩ rfl (by assumption) rfl dX7_fill_17 rfl rfl ?_
  rintro v h' sz' ⟨rfl, rfl, f', rfl, hf, hP⟩ - -
  dsimp only [stk]
  refine r_return C hQ dX7_fill_20 ?_
  exact fill_end (T1 := T1) (sz := sz) (t := .pow ta k) hB (by omega) t1 t2 hf ⟨tb (T1 lv), tb (T1 lv), t3, fun i j h1 h2 => by rw [if_neg (by omega)], fun i j h1 h2 => by rw [hP i j h1 (by omega), if_neg (show ¬ k = 2 by omega), if_neg (show ¬ k < 2 by omega)]⟩
theorem ct_fillP (l : Launch) (g : GG) (bn : Nat) (len ad mi wr : Int) (tf : Nat → Int) (ta : PT) (k : Nat) (hk : k < 3) (ha : FCt l g bn len ad mi wr tf ta) : FCt l g bn len ad mi wr tf (.pow ta k) := by
  intro h sz a lv T hB hG hN hl
  obtain ⟨qa, e, n1⟩ := hN
  rw [if_pos hk] at e
  have hl1 : lv + pNl ta < 16 := by simpa [pNl] using hl
  have hL : pHg ta + 2 + 1 ≤ pHg ta + 1 + 2 := by omega
  have bl := hB.2.2.2.2.1
  rw [show nfy (.pow ta k) = yX6_fill by rw [nfy, if_pos hk], show nfc (.pow ta k) = cX6_fill by rw [nfc, if_pos hk]]
  show CT l yX6_fill cX6_fill 3 none (pHg ta + 1 + 2) 0 0 _ g h sz _
  refine CT.of (lo := [some (.ref a), some (.ref bn), some (vI lv)]) (by decide) (by simp [Value.category]) (Nat.le_of_ble_eq_true rfl) rfl ?_
  intro x h0 Q C hQ hl hni
  subst hl
  obtain ⟨f1, f2⟩ := C.kg.time.2 k hk
  have eT : ∀ T1, TB g h bn T1 a = some (oC 6 [.ref qa, .ref (kc g (2 + k))]) := by
    intro T1
    by_cases hr : bn + 3 ≤ a ∧ a < bn + 19
    · obtain ⟨j, hj, rfl⟩ : ∃ j, j < 16 ∧ a = bn + 3 + j := ⟨a - (bn + 3), by omega, by omega⟩
      rw [hB.2.2.2.1 j hj] at e
      cases e
    · rw [TB_out (by omega)]
      exact e
  have k26 : ∀ (T1 : Nat → Nat → Int) (fa : Nat → Nat → Int), (∀ k, k < lv → T1 k = T k) → (∀ k, k < 16 → GT (T1 k)) → TX len.toNat ad mi wr tf ta fa → (∀ i j : Nat, i ≤ j → (j : Int) ≤ len → tb (T1 lv) i j = if k = 1 ∨ k = 2 then clX (tb (T1 lv)) fa i j (j - i - 1) else fa i j) → V x g h0 Q (TB g h bn T1) sz 0 0 26 [some (.ref a), some (.ref bn), some (vI lv)] [] := by
    intro T1 fa t1 t2 t3 t4
    have e' := eT T1
    have hB1 := hB.tb (T2 := T1)
    have bn1 := hB1.1
    refine r_aload_n (n := 27) C dX6_fill_26 rfl rfl rfl ?_
    refine r_get (n := 30) (ci := 6) (k := 1) C in_X6 rfl (by decide) q453 rfl dX6_fill_27 rfl (by assumption) rfl ?_
    refine r_getKN (n := 33) C f2 q1059 dX6_fill_30 rfl ?_
    refine r_if_eq (t := 41) (n := 36) C dX6_fill_33 (by decide) rfl (fun c_33 => ?_) (fun c_33 => ?_) (by split <;> omega)
    · have hk2 : k = 2 := Decidable.byContradiction (fun q => by rw [if_neg q] at c_33; omega)
      refine r_return C hQ dX6_fill_41 ?_
      refine ⟨rfl, rfl, T1, rfl, t1, t2, fa, tb (T1 lv), t3, fun i j h1 h2 => t4 i j h1 (by omega), fun i j h1 h2 => by rw [if_pos hk2]⟩
    · have hk2 : k ≠ 2 := fun q => by rw [if_pos q] at c_33; omega
      refine r_aload_n (n := 37) C dX6_fill_36 rfl rfl rfl ?_
      refine r_iload_n (n := 38) C dX6_fill_37 rfl rfl rfl ?_
      refine r_callV (n := 41) (n0 := 1) (ci := 1) C (ct_leave (xL x) g (TB g h bn T1) sz bn lv len ad mi wr tf T1 hB1 (by omega) (t2 lv (by omega))) (lw_V q620 q621 q622 q36 q623) ⟨by decide, by decide, by decide +kernel⟩ rfl (by assumption) rfl dX6_fill_38 rfl rfl ?_
      rintro v h' sz' ⟨rfl, rfl, f', rfl, hf, hP⟩ - -
      dsimp only [stk]
      refine r_return C hQ dX6_fill_41 ?_
      exact fill_end (T1 := T1) (sz := sz) (t := .pow ta k) hB (by omega) t1 t2 hf ⟨fa, tb (T1 lv), t3, fun i j h1 h2 => t4 i j h1 (by omega), fun i j h1 h2 => by rw [hP i j h1 (by omega), if_neg hk2, if_pos (show k < 2 by omega)]⟩
  refine r_aload_n (n := 1) C dX6_fill_0 rfl rfl rfl ?_
  refine r_get (n := 4) (ci := 6) (k := 0) C in_X6 rfl (by decide) q452 rfl dX6_fill_1 rfl (by assumption) rfl ?_
  refine r_aload_n (n := 5) C dX6_fill_4 rfl rfl rfl ?_
  refine r_iload_n (n := 6) C dX6_fill_5 rfl rfl rfl ?_
  refine r_fill (n := 11) C (ha h sz qa lv T hB hG n1 hl1) q603 n1 dX6_fill_6 rfl ?_ hL
  rintro v h' sz' ⟨rfl, rfl, T1, rfl, t1, t2, t3⟩ - -
  dsimp only [stk]
  have hB1 := hB.tb (T2 := T1)
  have bn1 := hB1.1
  have e' := eT T1
  refine r_aload_n (n := 12) C dX6_fill_11 rfl rfl rfl ?_
  refine r_get (n := 15) (ci := 6) (k := 1) C in_X6 rfl (by decide) q453 rfl dX6_fill_12 rfl e' rfl ?_
  refine r_getKN (n := 18) C f1 q1058 dX6_fill_15 rfl ?_
  refine r_if_eq (t := 26) (n := 21) C dX6_fill_18 (by decide) rfl (fun c_18 => ?_) (fun c_18 => ?_) (by split <;> omega)
  · have hk0 : k = 0 := Decidable.byContradiction (fun q => by rw [if_neg q] at c_18; omega)
    exact k26 T1 (tb (T1 lv)) t1 t2 t3 (fun i j h1 h2 => by rw [if_neg (by omega)])
  · have hk0 : k ≠ 0 := fun q => by rw [if_pos q] at c_18; omega
    refine r_aload_n (n := 22) C dX6_fill_21 rfl rfl rfl ?_
    refine r_iload_n (n := 23) C dX6_fill_22 rfl rfl rfl ?_
    refine r_callV (n := 26) (n0 := 1) (ci := 1) C (ct_close (xL x) g (TB g h bn T1) sz bn lv len ad mi wr tf T1 hB1 (by omega) (t2 lv (by omega))) (lw_V q616 q617 q618 q36 q619) ⟨by decide, by decide, by decide +kernel⟩ rfl (by assumption) rfl dX6_fill_23 rfl rfl ?_
    rintro v h' sz' ⟨rfl, rfl, f', rfl, hf, hP⟩ - -
    dsimp only [stk]
    rw [TB_up (by omega)]
    refine k26 (va_up T1 lv f') (tb (T1 lv)) (fun q hq => (va_up_ne _ _ (by omega)).trans (t1 q hq)) (fun q hq => ?_) t3 (fun i j h1 h2 => ?_)
    · by_cases e9 : q = lv
      · rw [e9, va_up_self]
        exact hf
      · rw [va_up_ne _ _ e9]
        exact t2 q hq
    · rw [va_up_self, if_pos (by omega)]
      exact hP i j h1 h2
theorem ct_fill (l : Launch) (g : GG) (bn : Nat) (len ad mi wr : Int) (tf : Nat → Int) : ∀ t : PT, pOk t → FCt l g bn len ad mi wr tf t
  | .num s, h => ct_fillS l g bn len ad mi wr tf s h
  | .add a b, h => ct_fillR l g bn len ad mi wr tf a b (ct_fill l g bn len ad mi wr tf a h.1) (ct_fill l g bn len ad mi wr tf b h.2)
  | .sub a b, h => ct_fillO l g bn len ad mi wr tf a b (ct_fill l g bn len ad mi wr tf a h.1) (ct_fill l g bn len ad mi wr tf b h.2)
  | .pow a k, h => if hk : k < 3 then ct_fillP l g bn len ad mi wr tf a k hk (ct_fill l g bn len ad mi wr tf a h.2) else ct_fillL l g bn len ad mi wr tf a k ⟨by omega, h.1⟩ (ct_fill l g bn len ad mi wr tf a h.2)
  | .natCast _, h => h.elim
  | .intCast _, h => h.elim
  | .var _, h => h.elim
  | .neg _, h => h.elim
  | .mul _ _, h => h.elim
