/-! the model reads a pattern: read, compile -/
def bi (b : Bool) : Int := if b then 1 else 0
theorem bi_t : bi true = 1 := rfl
theorem bi_f : bi false = 0 := rfl
theorem ltS_len : ∀ (cs : List Int) (acc : Int), (ltS cs acc).2.length ≤ cs.length
  | [], acc => by simp [ltS]
  | c :: cs, acc => by
    unfold ltS
    split
    · simp
    · have := ltS_len cs (zor acc (zshl 1 (c - 97)))
      simp
      omega
theorem setS_len (cs : List Int) : (setS cs).2.length ≤ cs.length := by
  cases cs with
  | nil => simp [setS]
  | cons c cs =>
    by_cases h : c = 94
    · rw [setS_t h]
      have := ltS_len cs 0
      simp
      omega
    · rw [setS_f h]
      exact ltS_len _ 0
theorem limS_len (cs : List Int) : (limS cs).2.length ≤ cs.length := by
  unfold limS
  split
  · simp
  · simp
  · split <;> simp
    omega
theorem rd1_len (c : Int) (cs : List Int) (b : Bool) (o : List T3) (ws wh : List Int) : (rd1 c cs b o ws wh).1.length ≤ cs.length := by
  unfold rd1
  repeat' split
  all_goals first | exact Nat.le_refl _ | exact limS_len cs | exact setS_len cs
theorem rdS_fuel : ∀ (m : Nat) (cs : List Int) (b : Bool) (o : List T3) (ws wh : List Int), cs.length ≤ m → rdS m cs b o ws wh = rdS cs.length cs b o ws wh
  | 0, [], b, o, ws, wh, _ => rfl
  | 0, c :: cs, b, o, ws, wh, h => by simp at h
  | m + 1, [], b, o, ws, wh, _ => rfl
  | m + 1, c :: cs, b, o, ws, wh, h => by
    have hl := rd1_len c cs b o ws wh
    simp only [List.length_cons] at h ⊢
    rw [rdS, rdS]
    rw [rdS_fuel m _ _ _ _ _ (by omega), rdS_fuel cs.length _ _ _ _ _ hl]
theorem rdS_c (c : Int) (cs : List Int) (b : Bool) (o : List T3) (ws wh : List Int) : rdS (c :: cs).length (c :: cs) b o ws wh = rdS (rd1 c cs b o ws wh).1.length (rd1 c cs b o ws wh).1 (rd1 c cs b o ws wh).2.1 (rd1 c cs b o ws wh).2.2.1 (rd1 c cs b o ws wh).2.2.2.1 (rd1 c cs b o ws wh).2.2.2.2 := by
  rw [List.length_cons, rdS, rdS_fuel cs.length _ _ _ _ _ (rd1_len c cs b o ws wh)]
theorem fl_61 {cs : List Int} {d : Int} (h : ∀ c r, cs = c :: r → ¬ (48 ≤ c ∧ c ≤ 57)) : fl cs 6 d = fl cs 1 d := by
  cases cs with
  | nil => simp [fl]
  | cons c r =>
    have hc := h c r rfl
    have e1 : nxS 6 c d = nxS 1 c d := by
      unfold nxS
      rw [if_neg (show ¬ ((6 : Int) = 2 ∨ (6 : Int) = 3 ∨ (6 : Int) = 4) by omega), if_neg (show ¬ (6 : Int) = 5 by omega), if_neg (show ¬ ((6 : Int) = 6 ∧ 48 ≤ c ∧ c ≤ 57) by omega), if_neg (show ¬ ((1 : Int) = 2 ∨ (1 : Int) = 3 ∨ (1 : Int) = 4) by omega), if_neg (show ¬ (1 : Int) = 5 by omega), if_neg (show ¬ ((1 : Int) = 6 ∧ 48 ≤ c ∧ c ≤ 57) by omega)]
      simp
    have e2 : dpS 6 c d = dpS 1 c d := by
      unfold dpS
      simp
    rw [fl, fl, e1, e2]
theorem fl_tok {c : Int} {cs : List Int} {s d : Int} (hs : s = 0 ∨ s = 1) (h : fl (c :: cs) s d = none) : (c = 124 ∧ s = 1 ∧ fl cs 0 d = none) ∨ (c = 40 ∧ d < 6 ∧ fl cs 0 (d + 1) = none) ∨ (c = 41 ∧ s = 1 ∧ 0 < d ∧ fl cs 1 (d - 1) = none) ∨ ((c = 42 ∨ c = 43 ∨ c = 63) ∧ s = 1 ∧ fl cs 1 d = none) ∨ (c = 60 ∧ s = 1 ∧ fl cs 5 d = none) ∨ (c = 91 ∧ fl cs 2 d = none) ∨ ((c = 46 ∨ (97 ≤ c ∧ c ≤ 122)) ∧ fl cs 1 d = none) := by
  obtain ⟨h1, h2⟩ := fl_cons h
  unfold nxS at h1 h2
  rw [if_neg (by omega), if_neg (by omega), if_neg (by omega)] at h1 h2
  unfold dpS at h2
  by_cases a1 : (97 ≤ c ∧ c ≤ 122) ∨ c = 46
  · rw [if_pos a1, if_neg (by omega), if_neg (by omega)] at h2
    refine Or.inr (Or.inr (Or.inr (Or.inr (Or.inr (Or.inr ⟨by omega, h2⟩)))))
  rw [if_neg a1] at h1 h2
  by_cases a2 : c = 91
  · rw [if_pos a2, if_neg (by omega), if_neg (by omega)] at h2
    exact Or.inr (Or.inr (Or.inr (Or.inr (Or.inr (Or.inl ⟨a2, h2⟩)))))
  rw [if_neg a2] at h1 h2
  by_cases a3 : c = 40
  · rw [if_pos a3] at h1
    rw [if_pos a3] at h2
    by_cases a4 : d < 6
    · rw [if_pos a4, if_pos (by omega)] at h2
      exact Or.inr (Or.inl ⟨a3, a4, h2⟩)
    · rw [if_neg a4] at h1
      omega
  rw [if_neg a3] at h1 h2
  by_cases a5 : s = 0
  · rw [if_pos a5] at h1
    omega
  rw [if_neg a5] at h1 h2
  by_cases a6 : c = 42 ∨ c = 43 ∨ c = 63
  · rw [if_pos a6, if_neg (by omega), if_neg (by omega)] at h2
    exact Or.inr (Or.inr (Or.inr (Or.inl ⟨a6, by omega, h2⟩)))
  rw [if_neg a6] at h1 h2
  by_cases a7 : c = 60
  · rw [if_pos a7, if_neg (by omega), if_neg (by omega)] at h2
    exact Or.inr (Or.inr (Or.inr (Or.inr (Or.inl ⟨a7, by omega, h2⟩))))
  rw [if_neg a7] at h1 h2
  by_cases a8 : c = 124
  · rw [if_pos a8, if_neg (by omega), if_neg (by omega)] at h2
    exact Or.inl ⟨a8, by omega, h2⟩
  rw [if_neg a8] at h1 h2
  by_cases a9 : c = 41 ∧ 0 < d
  · rw [if_pos a9, if_neg (by omega), if_pos (by omega)] at h2
    exact Or.inr (Or.inr (Or.inl ⟨a9.1, by omega, a9.2, h2⟩))
  · rw [if_neg a9] at h1
    omega
theorem fl_5 {cs : List Int} {d : Int} (h : fl cs 5 d = none) : ∃ e r, cs = e :: r ∧ 48 ≤ e ∧ e ≤ 57 ∧ fl r 6 d = none := by
  cases cs with
  | nil => have := fl_nil h; omega
  | cons e r =>
    obtain ⟨h1, h2⟩ := fl_cons h
    unfold nxS at h1 h2
    rw [if_neg (by omega), if_pos rfl] at h1 h2
    unfold dpS at h2
    by_cases a : 48 ≤ e ∧ e ≤ 57
    · rw [if_pos a, if_neg (by omega), if_neg (by omega)] at h2
      exact ⟨e, r, rfl, a.1, a.2, h2⟩
    · rw [if_neg a] at h1
      omega
theorem fl_6d {e : Int} {r : List Int} {d : Int} (he : 48 ≤ e ∧ e ≤ 57) (h : fl (e :: r) 6 d = none) : fl r 1 d = none := by
  obtain ⟨h1, h2⟩ := fl_cons h
  unfold nxS at h1 h2
  rw [if_neg (by omega), if_neg (by omega), if_pos (by omega)] at h1 h2
  unfold dpS at h2
  rw [if_neg (by omega), if_neg (by omega)] at h2
  exact h2
def rdZ (cs : List Int) : List T3 × List Int × List Int := let q := rdS cs.length cs false [] [] []; jn 2 q.2.1 q.1 q.2.2
theorem rdA_Z (cs : List Int) : rdA cs = (rdZ cs).1 := rfl
/-- what holds at the head of read's loop -/
def RI (F : Nat → Int) (A : Nat → Nat → Int) (F1 : Nat → Int) (A1 : Nat → Nat → Int) (k d : Int) (b : Bool) (ou : List T3) (ws wh : List Int) : Prop :=
  RS F1 A1 ou ws wh ∧ FM F A F1 A1 ∧ (∀ w ∈ ws, w = 1 ∨ w = 2 ∨ w = 7) ∧ (0 ≤ k ∧ k ≤ F 0 ∧ ou.length + ws.length ≤ 2 * k ∧ wh.length ≤ k) ∧ wh.length = nb ws + (if b then 1 else 0) ∧ fl (sl (A 0) k.toNat (F 0 - k).toNat) (bi b) d = none ∧ d = nd7 ws ∧ rdS (sl (A 0) 0 (F 0).toNat).length (sl (A 0) 0 (F 0).toNat) false [] [] [] = rdS (sl (A 0) k.toNat (F 0 - k).toNat).length (sl (A 0) k.toNat (F 0 - k).toNat) b ou ws wh
theorem nb_le : ∀ (ws : List Int), nb ws ≤ ws.length
  | [] => Nat.le_refl _
  | w :: ws => by
    have := nb_le ws
    unfold nb
    split <;> simp <;> omega
theorem nd_nb : ∀ (ws : List Int), 0 ≤ nd7 ws ∧ nd7 ws + nb ws = ws.length
  | [] => by simp [nd7, nb]
  | w :: ws => by
    have := nd_nb ws
    unfold nd7 nb
    split <;> simp <;> omega
theorem jn_grow (least : Int) : ∀ (ws : List Int) (o : List T3) (wh : List Int), o.length ≤ (jn least ws o wh).1.length := by
  refine jn_ind least _ ?_ ?_ ?_
  · intro o wh e
    rw [e]
    exact Nat.le_refl _
  · intro w ws o b a t hw e ih
    rw [e]
    simp at ih
    omega
  · intro w ws o wh e
    rw [e]
    exact Nat.le_refl _
theorem jn_le (least : Int) : ∀ (ws : List Int) (o : List T3) (wh : List Int), (jn least ws o wh).2.2.length ≤ wh.length := by
  refine jn_ind least _ ?_ ?_ ?_
  · intro o wh e
    rw [e]
    exact Nat.le_refl _
  · intro w ws o b a t hw e ih
    rw [e]
    simp at ih ⊢
    omega
  · intro w ws o wh e
    rw [e]
    exact Nat.le_refl _
/-- what item does to the counts -/
theorem itm_all (b : Bool) (o : List T3) (ws wh : List Int) (h : wh.length = nb ws + (if b then 1 else 0)) : (itm b o ws wh).1.length + (itm b o ws wh).2.1.length = o.length + ws.length + (if b then 1 else 0) ∧ (itm b o ws wh).2.2.length = nb (itm b o ws wh).2.1 ∧ (itm b o ws wh).2.2.length ≤ wh.length ∧ nd7 (itm b o ws wh).2.1 = nd7 ws ∧ (∀ u, u ∈ (itm b o ws wh).2.1 → u = 1 ∨ u ∈ ws) := by
  cases b with
  | false => exact ⟨rfl, h, Nat.le_refl _, rfl, fun u hu => Or.inr hu⟩
  | true =>
    simp only [if_true] at h
    have h1 := jn_sum 1 ws o wh
    have h2 := jn_wh 1 1 ws o wh h
    have h3 := jn_le 1 ws o wh
    have h4 := jn_7 1 ws o wh
    simp only [itm, if_true]
    refine ⟨?_, ?_, h3, ?_, ?_⟩
    · simp
      omega
    · rw [nb, if_neg (by decide)]
      exact h2
    · rw [nd7, if_neg (by decide)]
      exact h4
    · intro u hu
      rcases List.mem_cons.mp hu with h9 | h9
      · exact Or.inl h9
      · exact Or.inr (jn_in 1 u _ _ _ h9)
theorem jn2_7 : ∀ (ws : List Int) (o : List T3) (wh : List Int), wh.length = nb ws + 1 → ∀ w r, (jn 2 ws o wh).2.1 = w :: r → w = 7 := by
  refine jn_ind 2 _ ?_ ?_ ?_
  · intro o wh e h w r h2
    rw [e] at h2
    simp at h2
  · intro w ws o b a t hw e ih h w' r h2
    rw [e] at h2
    refine ih ?_ w' r h2
    rw [nb, if_neg hw.1] at h
    simp at h ⊢
    omega
  · intro w ws o wh e h w' r h2
    by_cases hw : w = 7
    · rw [e] at h2
      simp at h2
      omega
    · rw [nb, if_neg hw] at h
      match wh, h, e with
      | b :: a :: t, h, e =>
        rw [jn_c ⟨hw, Or.inr rfl⟩] at e
        have h9 := jn_grow 2 ws ((w, a, b) :: o) ((o.length : Int) :: t)
        rw [e] at h9
        simp at h9
        omega

set_option maxHeartbeats 4000000 in
theorem ct_read (l : Launch) (g : GG) (o : Nat) (F : Nat → Int) (A : Nat → Nat → Int) (r : HM) (sz : Nat) (hn : 0 ≤ F 0 ∧ F 0 ≤ 40) (hc : ∀ j : Nat, (j : Int) < F 0 → 0 ≤ A 0 j ∧ A 0 j < 65536) (hgood : fl (sl (A 0) 0 (F 0).toNat) 0 0 = none) : MT l yX5_read cX5_read 5 none 3 [.ref o] g o F A r sz (fun v F' A' => v = none ∧ RS F' A' (rdZ (sl (A 0) 0 (F 0).toNat)).1 (rdZ (sl (A 0) 0 (F 0).toNat)).2.1 (rdZ (sl (A 0) 0 (F 0).toNat)).2.2 ∧ FM F A F' A' ∧ (rdA (sl (A 0) 0 (F 0).toNat)).length ≤ 80) := by
  refine CT.of (lo := [some (.ref o), none, none, none, none]) (by decide) (by simp [Value.category]) (Nat.le_of_ble_eq_true rfl) rfl ?_
  intro x h0 Q C hQ hl hni
  refine r_aload_n (n := 1) C dX5_read_0 rfl rfl rfl ?_
  refine r_iconst (n := 2) C dX5_read_1 rfl ?_
  refine r_mput (n := 5) (ty := .int) (k := 6) C (by decide) q790 rfl rfl (by decide +kernel) rfl rfl dX5_read_2 rfl rfl ?_
  refine r_aload_n (n := 6) C dX5_read_5 rfl rfl rfl ?_
  refine r_iconst (n := 7) C dX5_read_6 rfl ?_
  refine r_mput (n := 10) (ty := .int) (k := 10) C (by decide) q794 rfl rfl (by decide +kernel) rfl rfl dX5_read_7 rfl rfl ?_
  refine r_aload_n (n := 11) C dX5_read_10 rfl rfl rfl ?_
  refine r_iconst (n := 12) C dX5_read_11 rfl ?_
  refine r_mput (n := 15) (ty := .int) (k := 12) C (by decide) q796 rfl rfl (by decide +kernel) rfl rfl dX5_read_12 rfl rfl ?_
  refine r_iconst (n := 16) C dX5_read_15 rfl ?_
  refine r_istore_n (n := 17) C dX5_read_16 rfl rfl ?_
  refine r_iconst (n := 18) C dX5_read_17 rfl ?_
  refine r_istore_n (n := 19) C dX5_read_18 rfl rfl ?_
  refine V.ls (lo' := [some (.ref o), some (vI (bi false)), some (vI 0), none, none]) ?_ ⟨rfl, rfl, rfl, trivial⟩
  have hF0 : FM F A (va_up (va_up (va_up F 6 0) 10 0) 12 0) A := ⟨fun k k1 k2 k3 k4 => by simp [va_up, k1, k2, k3], fun _ _ => rfl⟩
  have key : ∀ (F1 : Nat → Int) (A1 : Nat → Nat → Int) (k d : Int) (b : Bool) (q : List T3 × List Int × List Int), RI F A F1 A1 k d b q.1 q.2.1 q.2.2 → V x g h0 Q (MH g o F1 A1 r) sz 0 0 19 [some (.ref o), some (vI (bi b)), some (vI k), none, none] [] := by
    refine lpv6 (fun F1 A1 k d b (q : List T3 × List Int × List Int) => V x g h0 Q (MH g o F1 A1 r) sz 0 0 19 [some (.ref o), some (vI (bi b)), some (vI k), none, none] []) _ (fun _ _ k _ _ _ => (F 0 - k).toNat) ?_
    rintro F1 A1 k d b ⟨ou, ws, wh⟩ ⟨hR, hFM, hb, ⟨hk0, hk, hk2, hk3⟩, hwh, hf, hd, hrd⟩ ih
    dsimp only at hR hFM hb hk0 hk hk2 hk3 hwh hf hd hrd ih ⊢
    have e0 : F1 0 = F 0 := hFM.1 0 (by decide) (by decide) (by decide) (by decide)
    have eA : A1 0 = A 0 := hFM.2 0 (by decide)
    have hbi : bi b = 0 ∨ bi b = 1 := by cases b <;> simp [bi]
    have hnb := nb_le ws
    have hwl : wh.length ≤ nb ws + 1 := by cases b <;> simp at hwh <;> omega
    by_cases hkn : k < F 0
    · have hck := hc k.toNat (by omega)
      rw [sl_c hk0 hkn] at hf hrd
      have htok := fl_tok hbi hf
      rw [rdS_c] at hrd
      -- the meeting point
      have k298 : ∀ (F2 : Nat → Int) (A2 : Nat → Nat → Int) (k2 d2 bz : Int) (b2 : Bool) (o2 : List T3) (ws2 wh2 : List Int), (bz = 0 ∨ bz = 1) → (b2 = true ↔ (bz = 1 ∨ A 0 k.toNat = 41)) → k < k2 → RI F A F2 A2 k2 d2 b2 o2 ws2 wh2 → V x g h0 Q (MH g o F2 A2 r) sz 0 0 298 [some (.ref o), some (vI bz), some (vI k2), some (vI (A 0 k.toNat)), none] [] := by
        intro F2 A2 k2 d2 bz b2 o2 ws2 wh2 hbz hb2 hkk hI
        have hI2 := hI.2.2.2.1
        have e1 : ∀ z : Int, (z = 1 ∧ (bz = 1 ∨ A 0 k.toNat = 41)) ∨ (z = 0 ∧ ¬ (bz = 1 ∨ A 0 k.toNat = 41)) → vI z = vI (bi b2) := by
          intro z hz
          cases b2 with
          | true =>
            have := hb2.mp rfl
            rw [bi_t, show z = 1 by omega]
          | false =>
            have : ¬ (bz = 1 ∨ A 0 k.toNat = 41) := fun c9 => by have := hb2.mpr c9; cases this
            rw [bi_f, show z = 0 by omega]
        refine r_iload_n (n := 299) C dX5_read_298 rfl rfl rfl ?_
        refine r_if_ne (t := 308) (n := 302) C dX5_read_299 (by decide) rfl (fun c_299 => ?_) (fun c_299 => ?_)
        · refine r_iconst (n := 309) C dX5_read_308 rfl ?_
          refine r_goto (n := 313) C dX5_read_309 (by decide) ?_
          refine r_istore_n (n := 314) C dX5_read_313 rfl rfl ?_
          refine r_goto (n := 19) C dX5_read_314 (by decide) ?_
          refine V.ls (ih F2 A2 k2 d2 b2 (o2, ws2, wh2) hI (by omega)) ⟨rfl, ?_, rfl, trivial⟩
          first | (exfalso; omega) | exact congrArg some (e1 _ (by omega))
        · refine r_iload_n (n := 303) C dX5_read_302 rfl rfl rfl ?_
          refine r_bipush (n := 305) C dX5_read_303 (by decide) rfl ?_
          refine r_icmp_ne (t := 312) (n := 308) C dX5_read_305 (by decide) rfl (fun c_305 => ?_) (fun c_305 => ?_)
          · refine r_iconst (n := 313) C dX5_read_312 rfl ?_
            refine r_istore_n (n := 314) C dX5_read_313 rfl rfl ?_
            refine r_goto (n := 19) C dX5_read_314 (by decide) ?_
            refine V.ls (ih F2 A2 k2 d2 b2 (o2, ws2, wh2) hI (by omega)) ⟨rfl, ?_, rfl, trivial⟩
            first | (exfalso; omega) | exact congrArg some (e1 _ (by omega))
          · refine r_iconst (n := 309) C dX5_read_308 rfl ?_
            refine r_goto (n := 313) C dX5_read_309 (by decide) ?_
            refine r_istore_n (n := 314) C dX5_read_313 rfl rfl ?_
            refine r_goto (n := 19) C dX5_read_314 (by decide) ?_
            refine V.ls (ih F2 A2 k2 d2 b2 (o2, ws2, wh2) hI (by omega)) ⟨rfl, ?_, rfl, trivial⟩
            first | (exfalso; omega) | exact congrArg some (e1 _ (by omega))
      refine r_iload_n (n := 20) C dX5_read_19 rfl rfl rfl ?_
      refine r_aload_n (n := 21) C dX5_read_20 rfl rfl rfl ?_
      refine r_get (n := 24) (ci := 5) (k := 0) C in_X5 rfl (by decide) q784 rfl dX5_read_21 rfl MH_o rfl ?_
      rw [e0]
      refine r_icmp_ge (t := 317) (n := 27) C dX5_read_24 (by decide) rfl (fun c_24 => ?_) (fun c_24 => ?_)
      · exfalso; omega
      · refine r_aload_n (n := 28) C dX5_read_27 rfl rfl rfl ?_
        refine r_get (n := 31) (ci := 5) (k := 1) C in_X5 rfl (by decide) q785 rfl dX5_read_28 rfl MH_o rfl ?_
        refine r_iload_n (n := 32) C dX5_read_31 rfl rfl rfl ?_
        refine r_iaload (n := 33) (N := 40) C dX5_read_32 rfl (MH_a 0 (by decide)) ?_
        rw [eA]
        refine r_istore_n (n := 34) C dX5_read_33 rfl rfl ?_
        refine r_iinc (n := 37) C dX5_read_34 rfl rfl ?_
        refine r_iload_n (n := 38) C dX5_read_37 rfl rfl rfl ?_
        refine r_bipush (n := 40) C dX5_read_38 (by decide) rfl ?_
        refine r_icmp_ne (t := 58) (n := 43) C dX5_read_40 (by decide) rfl (fun c_40 => ?_) (fun c_40 => ?_)
        · refine V.ls (lo' := [some (.ref o), some (vI (bi b)), some (vI (k + 1)), some (vI (A 0 k.toNat)), none]) ?_ ⟨rfl, rfl, rfl, rfl, trivial⟩
          have hn124 : ¬ A 0 k.toNat = 124 := by omega
          have hit := itm_all b ou ws wh hwh
          have hb1 : (if b = true then 1 else 0 : Nat) ≤ 1 := by split <;> omega
          have hib : ∀ u ∈ (itm b ou ws wh).2.1, u = 1 ∨ u = 2 ∨ u = 7 := by
            intro u hu
            rcases hit.2.2.2.2 u hu with h9 | h9
            · exact Or.inl h9
            · exact hb u h9
          have hwb : b = true → wh.length = nb ws + 1 := fun h9 => by rw [hwh, h9]; rfl
          -- a letter, a dot, a set: at their item
          have k232 : ¬ A 0 k.toNat = 40 → ¬ A 0 k.toNat = 41 → ¬ (A 0 k.toNat = 42 ∨ A 0 k.toNat = 43 ∨ A 0 k.toNat = 63) → ¬ A 0 k.toNat = 60 → V x g h0 Q (MH g o F1 A1 r) sz 0 0 232 [some (.ref o), some (vI (bi b)), some (vI (k + 1)), some (vI (A 0 k.toNat)), none] [] := by
            intro n1 n2 n3 n4
            have k286 : ∀ (F3 : Nat → Int) (A3 : Nat → Nat → Int) (k2 lt : Int) (rest : List Int), RS F3 A3 (itm b ou ws wh).1 (itm b ou ws wh).2.1 (itm b ou ws wh).2.2 → FM F A F3 A3 → F3 14 = lt → k < k2 → k2 ≤ F 0 → (if A 0 k.toNat = 46 then (67108863, sl (A 0) (k + 1).toNat (F 0 - (k + 1)).toNat) else if A 0 k.toNat = 91 then setS (sl (A 0) (k + 1).toNat (F 0 - (k + 1)).toNat) else (zshl 1 (A 0 k.toNat - 97), sl (A 0) (k + 1).toNat (F 0 - (k + 1)).toNat)) = (lt, sl (A 0) k2.toNat (F 0 - k2).toNat) → fl (sl (A 0) k2.toNat (F 0 - k2).toNat) 1 d = none → V x g h0 Q (MH g o F3 A3 r) sz 0 0 286 [some (.ref o), some (vI (bi b)), some (vI k2), some (vI (A 0 k.toNat)), none] [] := by
              intro F3 A3 k2 lt rest hR3 hF3 h14 hk2a hk2b hp hf2
              refine r_aload_n (n := 287) C dX5_read_286 rfl rfl rfl ?_
              refine r_iconst (n := 288) C dX5_read_287 rfl ?_
              refine r_aload_n (n := 289) C dX5_read_288 rfl rfl rfl ?_
              refine r_get (n := 292) (ci := 5) (k := 14) C in_X5 rfl (by decide) q798 rfl dX5_read_289 rfl MH_o rfl ?_
              rw [h14]
              refine r_iconst (n := 293) C dX5_read_292 rfl ?_
              refine r_callV (n := 296) (n0 := 3) (ci := 5) C (ct_make (xL x) g o F3 A3 r sz 0 lt 0 hR3 (by omega) (by omega)) (lw_V q898 q900 qs18 q48 q901) ⟨by decide, by decide, by decide +kernel⟩ rfl MH_o rfl dX5_read_293 rfl rfl ?_
              rintro v h' sz' ⟨F4, A4, rfl, rfl, rfl, hR4, hF4, h144⟩ - -
              dsimp only [stk]
              refine r_iconst (n := 297) C dX5_read_296 rfl ?_
              refine r_istore_n (n := 298) C dX5_read_297 rfl rfl ?_
              refine V.ls (k298 F4 A4 k2 d 1 true _ _ _ (Or.inr rfl) ⟨fun _ => Or.inl rfl, fun _ => rfl⟩ hk2a ⟨hR4, hF3.tr hF4, hib, ⟨by omega, by omega, by simp; omega, by simp; omega⟩, ?_, hf2, ?_, ?_⟩) ⟨rfl, rfl, rfl, rfl, trivial⟩
              · simp
                omega
              · rw [hit.2.2.2.1]
                exact hd
              · rw [hrd]
                unfold rd1
                rw [if_neg hn124, if_neg n1, if_neg n2, if_neg n3, if_neg n4]
                dsimp only
                rw [hp]
            have k268 : ∀ (F3 : Nat → Int) (A3 : Nat → Nat → Int), RS F3 A3 (itm b ou ws wh).1 (itm b ou ws wh).2.1 (itm b ou ws wh).2.2 → FM F A F3 A3 → (¬ A 0 k.toNat = 91 → F3 14 = if A 0 k.toNat = 46 then 67108863 else zshl 1 (A 0 k.toNat - 97)) → V x g h0 Q (MH g o F3 A3 r) sz 0 0 268 [some (.ref o), some (vI (bi b)), some (vI (k + 1)), some (vI (A 0 k.toNat)), none] [] := by
              intro F3 A3 hR3 hF3 h14
              have e03 : F3 0 = F 0 := hF3.1 0 (by decide) (by decide) (by decide) (by decide)
              have eA3 : A3 0 = A 0 := hF3.2 0 (by decide)
              have hset : A 0 k.toNat = 91 → fl (sl (A3 0) (k + 1 - 1 + 1).toNat (F3 0 - (k + 1 - 1 + 1)).toNat) 2 d = none := by
                intro h91
                rw [e03, eA3, show k + 1 - 1 + 1 = k + 1 by omega]
                rcases htok with t | t | t | t | t | t | t
                · omega
                · omega
                · omega
                · omega
                · omega
                · exact t.2
                · omega
              refine r_iload_n (n := 269) C dX5_read_268 rfl rfl rfl ?_
              refine r_bipush (n := 271) C dX5_read_269 (by decide) rfl ?_
              refine r_icmp_ne (t := 284) (n := 274) C dX5_read_271 (by decide) rfl (fun c_271 => ?_) (fun c_271 => ?_)
              · refine r_iload_n (n := 285) C dX5_read_284 rfl rfl rfl ?_
                refine r_istore_n (n := 286) C dX5_read_285 rfl rfl ?_
                first
                  | (exfalso; omega)
                  | (refine V.ls (k286 _ A3 p' lt [] ⟨?_, ?_, ?_, hR3.2.2.2⟩ ⟨?_, hF3.2⟩ ?_ ?_ ?_ ?_ ?_) ⟨rfl, rfl, rfl, rfl, trivial⟩
                     · simp [va_up, hR3.1]
                     · simp [va_up, hR3.2.1]
                     · simp [va_up, hR3.2.2.1]
                     · intro q q1 q2 q3 q4
                       rw [va_up_ne _ _ q4]
                       exact hF3.1 q q1 q2 q3 q4
                     · simp [va_up]
                     · omega
                     · omega
                     · rw [if_neg (by omega), if_pos (by omega)]
                       rw [e03, eA3, show k + 1 - 1 + 1 = k + 1 by omega] at hse
                       exact hse
                     · rw [e03, eA3] at hfp
                       exact hfp)
                  | (refine V.ls (k286 F3 A3 (k + 1) _ [] hR3 hF3 (h14 (by omega)) (by omega) (by omega) ?_ ?_) ⟨rfl, rfl, rfl, rfl, trivial⟩
                     · by_cases h46 : A 0 k.toNat = 46
                       · rw [if_pos h46, if_pos h46]
                       · rw [if_neg h46, if_neg h46, if_neg (by omega)]
                     · rcases htok with t | t | t | t | t | t | t
                       · omega
                       · omega
                       · omega
                       · omega
                       · omega
                       · omega
                       · exact t.2)
              · refine r_aload_n (n := 275) C dX5_read_274 rfl rfl rfl ?_
                refine r_iload_n (n := 276) C dX5_read_275 rfl rfl rfl ?_
                refine r_iconst (n := 277) C dX5_read_276 rfl ?_
                refine r_isub (n := 278) C dX5_read_277 rfl ?_
                refine r_callV (n := 281) (n0 := 1) (ci := 5) C (ct_set (xL x) g o F3 A3 r sz (k + 1 - 1) d (by omega) (by omega) (by rw [e03, eA3]; exact hc) (hset (by omega))) (lw_V q915 q917 qs22 q48 q918) ⟨by decide, by decide, by decide +kernel⟩ rfl MH_o rfl dX5_read_278 rfl rfl ?_
                rintro v h' sz' ⟨F4, A4, rfl, rfl, p', lt, rfl, hp1, hp2, hse, hfp, rfl, hA4⟩ - -
                have hA4 := hA4.symm
                subst hA4
                dsimp only [stk]
                refine r_goto (n := 285) C dX5_read_281 (by decide) ?_
                refine r_istore_n (n := 286) C dX5_read_285 rfl rfl ?_
                first
                  | (exfalso; omega)
                  | (refine V.ls (k286 _ A3 p' lt [] ⟨?_, ?_, ?_, hR3.2.2.2⟩ ⟨?_, hF3.2⟩ ?_ ?_ ?_ ?_ ?_) ⟨rfl, rfl, rfl, rfl, trivial⟩
                     · simp [va_up, hR3.1]
                     · simp [va_up, hR3.2.1]
                     · simp [va_up, hR3.2.2.1]
                     · intro q q1 q2 q3 q4
                       rw [va_up_ne _ _ q4]
                       exact hF3.1 q q1 q2 q3 q4
                     · simp [va_up]
                     · omega
                     · omega
                     · rw [if_neg (by omega), if_pos (by omega)]
                       rw [e03, eA3, show k + 1 - 1 + 1 = k + 1 by omega] at hse
                       exact hse
                     · rw [e03, eA3] at hfp
                       exact hfp)
                  | (refine V.ls (k286 F3 A3 (k + 1) _ [] hR3 hF3 (h14 (by omega)) (by omega) (by omega) ?_ ?_) ⟨rfl, rfl, rfl, rfl, trivial⟩
                     · by_cases h46 : A 0 k.toNat = 46
                       · rw [if_pos h46, if_pos h46]
                       · rw [if_neg h46, if_neg h46, if_neg (by omega)]
                     · rcases htok with t | t | t | t | t | t | t
                       · omega
                       · omega
                       · omega
                       · omega
                       · omega
                       · omega
                       · exact t.2)
            have hup : ∀ (F3 : Nat → Int) (A3 : Nat → Nat → Int) (z : Int), RS F3 A3 (itm b ou ws wh).1 (itm b ou ws wh).2.1 (itm b ou ws wh).2.2 → FM F1 A1 F3 A3 → RS (va_up F3 14 z) A3 (itm b ou ws wh).1 (itm b ou ws wh).2.1 (itm b ou ws wh).2.2 ∧ FM F A (va_up F3 14 z) A3 ∧ va_up F3 14 z 14 = z := by
              intro F3 A3 z hR3 hF3
              refine ⟨⟨?_, ?_, ?_, hR3.2.2.2⟩, ⟨?_, (hFM.tr hF3).2⟩, by simp [va_up]⟩
              · simp [va_up, hR3.1]
              · simp [va_up, hR3.2.1]
              · simp [va_up, hR3.2.2.1]
              · intro q q1 q2 q3 q4
                rw [va_up_ne _ _ q4]
                exact (hFM.tr hF3).1 q q1 q2 q3 q4
            refine r_aload_n (n := 233) C dX5_read_232 rfl rfl rfl ?_
            refine r_iload_n (n := 234) C dX5_read_233 rfl rfl rfl ?_
            refine r_callV (n := 237) (n0 := 1) (ci := 5) C (ct_item (xL x) g o F1 A1 r sz b (bi b) rfl hR hb (by omega) hwb (by omega)) (lw_V q906 q908 qs20 q48 q909) ⟨by decide, by decide, by decide +kernel⟩ rfl MH_o rfl dX5_read_234 rfl rfl ?_
            rintro v h' sz' ⟨F3, A3, rfl, rfl, rfl, hR3, hF3⟩ - -
            dsimp only [stk]
            refine r_aload_n (n := 238) C dX5_read_237 rfl rfl rfl ?_
            refine r_iload_n (n := 239) C dX5_read_238 rfl rfl rfl ?_
            refine r_bipush (n := 241) C dX5_read_239 (by decide) rfl ?_
            refine r_icmp_ne (t := 249) (n := 244) C dX5_read_241 (by decide) rfl (fun c_241 => ?_) (fun c_241 => ?_)
            · refine r_iconst (n := 250) C dX5_read_249 rfl ?_
              refine r_iload_n (n := 251) C dX5_read_250 rfl rfl rfl ?_
              refine r_bipush (n := 253) C dX5_read_251 (by decide) rfl ?_
              refine r_icmp_ne (t := 260) (n := 256) C dX5_read_253 (by decide) rfl (fun c_253 => ?_) (fun c_253 => ?_)
              · refine r_iload_n (n := 261) C dX5_read_260 rfl rfl rfl ?_
                refine r_bipush (n := 263) C dX5_read_261 (by decide) rfl ?_
                refine r_isub (n := 264) C dX5_read_263 rfl ?_
                refine r_ishl (n := 265) C dX5_read_264 rfl ?_
                refine r_mput (n := 268) (ty := .int) (k := 14) C (by decide) q798 rfl rfl (by decide +kernel) rfl rfl dX5_read_265 rfl rfl ?_
                first
                  | (exfalso; omega)
                  | (refine k268 _ A3 (hup F3 A3 _ hR3 hF3).1 (hup F3 A3 _ hR3 hF3).2.1 (fun h9 => ?_)
                     rw [(hup F3 A3 _ hR3 hF3).2.2]
                     first | (exfalso; omega) | rw [if_pos (by omega)] | (rw [if_neg (by omega)]))
              · refine r_iconst (n := 257) C dX5_read_256 rfl ?_
                refine r_goto (n := 264) C dX5_read_257 (by decide) ?_
                refine r_ishl (n := 265) C dX5_read_264 rfl ?_
                refine r_mput (n := 268) (ty := .int) (k := 14) C (by decide) q798 rfl rfl (by decide +kernel) rfl rfl dX5_read_265 rfl rfl ?_
                first
                  | (exfalso; omega)
                  | (refine k268 _ A3 (hup F3 A3 _ hR3 hF3).1 (hup F3 A3 _ hR3 hF3).2.1 (fun h9 => ?_)
                     rw [(hup F3 A3 _ hR3 hF3).2.2]
                     first | (exfalso; omega) | rw [if_pos (by omega)] | (rw [if_neg (by omega)]))
            · refine r_ldc (n := 246) (z := 67108863) C q914 (by decide) dX5_read_244 rfl ?_
              refine r_goto (n := 265) C dX5_read_246 (by decide) ?_
              refine r_mput (n := 268) (ty := .int) (k := 14) C (by decide) q798 rfl rfl (by decide +kernel) rfl rfl dX5_read_265 rfl rfl ?_
              first
                | (exfalso; omega)
                | (refine k268 _ A3 (hup F3 A3 _ hR3 hF3).1 (hup F3 A3 _ hR3 hF3).2.1 (fun h9 => ?_)
                   rw [(hup F3 A3 _ hR3 hF3).2.2]
                   first | (exfalso; omega) | rw [if_pos (by omega)] | (rw [if_neg (by omega)]))
          have k151 : ¬ A 0 k.toNat = 40 → ¬ A 0 k.toNat = 41 → ¬ (A 0 k.toNat = 42 ∨ A 0 k.toNat = 43 ∨ A 0 k.toNat = 63) → V x g h0 Q (MH g o F1 A1 r) sz 0 0 151 [some (.ref o), some (vI (bi b)), some (vI (k + 1)), some (vI (A 0 k.toNat)), none] [] := by
            intro n1 n2 n3
            have k157 : A 0 k.toNat = 60 → V x g h0 Q (MH g o F1 A1 r) sz 0 0 157 [some (.ref o), some (vI (bi b)), some (vI (k + 1)), some (vI (A 0 k.toNat)), none] [] := by
              intro n4
              have ht5 : bi b = 1 ∧ fl (sl (A 0) (k + 1).toNat (F 0 - (k + 1)).toNat) 5 d = none := by
                rcases htok with t | t | t | t | t | t | t
                · omega
                · omega
                · omega
                · omega
                · exact t.2
                · omega
                · omega
              have hbt : b = true := by
                cases b with
                | true => rfl
                | false => simp [bi] at ht5
              subst hbt
              simp only [if_true] at hwh
              obtain ⟨e, rr, he, he1, he2, hf6⟩ := fl_5 ht5.2
              have hlt : k + 1 < F 0 := by
                by_cases h9 : k + 1 < F 0
                · exact h9
                · rw [sl_0 (by omega)] at he
                  cases he
              rw [sl_c (by omega) hlt] at he
              have hee : A 0 (k + 1).toNat = e := (List.cons.inj he).1
              have her : sl (A 0) (k + 1 + 1).toNat (F 0 - (k + 1 + 1)).toNat = rr := (List.cons.inj he).2
              match wh, hwh, hk3, hwl, hR, hrd with
              | [], hwh, hk3, hwl, hR, hrd => simp at hwh
              | a :: wt, hwh, hk3, hwl, hR, hrd =>
                simp only [List.length_cons] at hwh hk3
                have k221 : ∀ (k2 lim : Int), k < k2 → k2 ≤ F 0 → limS (sl (A 0) (k + 1).toNat (F 0 - (k + 1)).toNat) = (lim, sl (A 0) k2.toNat (F 0 - k2).toNat) → fl (sl (A 0) k2.toNat (F 0 - k2).toNat) 1 d = none → V x g h0 Q (MH g o F1 A1 r) sz 0 0 221 [some (.ref o), some (vI (bi true)), some (vI k2), some (vI (A 0 k.toNat)), some (vI lim)] [] := by
                  intro k2 lim hk2a hk2b hlm hf2
                  refine r_aload_n (n := 222) C dX5_read_221 rfl rfl rfl ?_
                  refine r_bipush (n := 224) C dX5_read_222 (by decide) rfl ?_
                  refine r_iload (n := 226) C dX5_read_224 rfl rfl ?_
                  refine r_callV (n := 229) (n0 := 2) (ci := 5) C (ct_suffix (xL x) g o F1 A1 r sz 6 lim hR (by omega) (by omega)) (lw_V q910 q912 qs21 q48 q913) ⟨by decide, by decide, by decide +kernel⟩ rfl MH_o rfl dX5_read_226 rfl rfl ?_
                  rintro v h' sz' ⟨F4, A4, rfl, rfl, rfl, hR4, hF4, h144⟩ - -
                  dsimp only [stk]
                  refine r_goto (n := 298) C dX5_read_229 (by decide) ?_
                  refine V.ls (k298 F4 A4 k2 d 1 true _ _ _ (Or.inr rfl) ⟨fun _ => Or.inl rfl, fun _ => rfl⟩ hk2a ⟨hR4, hFM.tr hF4, hb, ⟨by omega, by omega, by simp; omega, by simp; omega⟩, ?_, hf2, hd, ?_⟩) ⟨rfl, rfl, rfl, rfl, trivial⟩
                  · simp
                    omega
                  · rw [hrd]
                    unfold rd1
                    rw [if_neg hn124, if_neg n1, if_neg n2, if_neg n3, if_pos n4]
                    dsimp only
                    rw [hlm]
                    rfl
                have hck1 := hc (k + 1).toNat (by omega)
                have hone : (∀ c r, rr = c :: r → ¬ (48 ≤ c ∧ c ≤ 57)) → limS (sl (A 0) (k + 1).toNat (F 0 - (k + 1)).toNat) = (A 0 (k + 1).toNat - 48, sl (A 0) (k + 1 + 1).toNat (F 0 - (k + 1 + 1)).toNat) ∧ fl (sl (A 0) (k + 1 + 1).toNat (F 0 - (k + 1 + 1)).toNat) 1 d = none := by
                  intro h9
                  rw [sl_c (by omega) hlt, her]
                  refine ⟨?_, by rw [← fl_61 h9]; exact hf6⟩
                  cases rr with
                  | nil => rfl
                  | cons c r9 =>
                    unfold limS
                    exact if_neg (h9 c r9 rfl)
                refine r_aload_n (n := 158) C dX5_read_157 rfl rfl rfl ?_
                refine r_get (n := 161) (ci := 5) (k := 1) C in_X5 rfl (by decide) q785 rfl dX5_read_158 rfl MH_o rfl ?_
                refine r_iload_n (n := 162) C dX5_read_161 rfl rfl rfl ?_
                refine r_iaload (n := 163) (N := 40) C dX5_read_162 rfl (MH_a 0 (by decide)) ?_
                rw [eA]
                refine r_bipush (n := 165) C dX5_read_163 (by decide) rfl ?_
                refine r_isub (n := 166) C dX5_read_165 rfl ?_
                refine r_istore (n := 168) C dX5_read_166 rfl ?_
                refine r_iinc (n := 171) C dX5_read_168 rfl rfl ?_
                refine r_iload_n (n := 172) C dX5_read_171 rfl rfl rfl ?_
                refine r_aload_n (n := 173) C dX5_read_172 rfl rfl rfl ?_
                refine r_get (n := 176) (ci := 5) (k := 0) C in_X5 rfl (by decide) q784 rfl dX5_read_173 rfl MH_o rfl ?_
                rw [e0]
                refine r_icmp_ge (t := 221) (n := 179) C dX5_read_176 (by decide) rfl (fun c_176 => ?_) (fun c_176 => ?_)
                · first
                    | (refine V.ls (k221 (k + 1 + 1) _ (by omega) (by omega) (hone ?_).1 (hone ?_).2) ⟨rfl, rfl, rfl, rfl, rfl, trivial⟩
                       · intro c r9 h9
                         first
                           | (rw [← her, sl_0 (by omega)] at h9; cases h9)
                           | (rw [← her] at h9; have := (List.cons.inj h9).1; omega)
                       · intro c r9 h9
                         first
                           | (rw [← her, sl_0 (by omega)] at h9; cases h9)
                           | (rw [← her] at h9; have := (List.cons.inj h9).1; omega))
                    | (refine V.ls (k221 (k + 1 + 1 + 1) _ (by omega) (by omega) ?_ ?_) ⟨rfl, rfl, rfl, rfl, rfl, trivial⟩
                       · rw [sl_c (by omega) hlt, sl_c (by omega) hlt2]
                         unfold limS
                         refine (if_pos (show 48 ≤ A 0 (k + 1 + 1).toNat ∧ A 0 (k + 1 + 1).toNat ≤ 57 by omega)).trans ?_
                         congr 1
                         omega
                       · rw [← her] at hf6
                         exact fl_6d (by omega) hf6)
                · have hlt2 : k + 1 + 1 < F 0 := by omega
                  have hck2 := hc (k + 1 + 1).toNat (by omega)
                  rw [sl_c (by omega) hlt2] at her
                  refine r_aload_n (n := 180) C dX5_read_179 rfl rfl rfl ?_
                  refine r_get (n := 183) (ci := 5) (k := 1) C in_X5 rfl (by decide) q785 rfl dX5_read_180 rfl MH_o rfl ?_
                  refine r_iload_n (n := 184) C dX5_read_183 rfl rfl rfl ?_
                  refine r_iaload (n := 185) (N := 40) C dX5_read_184 rfl (MH_a 0 (by decide)) ?_
                  rw [eA]
                  refine r_bipush (n := 187) C dX5_read_185 (by decide) rfl ?_
                  refine r_icmp_lt (t := 221) (n := 190) C dX5_read_187 (by decide) rfl (fun c_187 => ?_) (fun c_187 => ?_)
                  · first
                      | (refine V.ls (k221 (k + 1 + 1) _ (by omega) (by omega) (hone ?_).1 (hone ?_).2) ⟨rfl, rfl, rfl, rfl, rfl, trivial⟩
                         · intro c r9 h9
                           first
                             | (rw [← her, sl_0 (by omega)] at h9; cases h9)
                             | (rw [← her] at h9; have := (List.cons.inj h9).1; omega)
                         · intro c r9 h9
                           first
                             | (rw [← her, sl_0 (by omega)] at h9; cases h9)
                             | (rw [← her] at h9; have := (List.cons.inj h9).1; omega))
                      | (refine V.ls (k221 (k + 1 + 1 + 1) _ (by omega) (by omega) ?_ ?_) ⟨rfl, rfl, rfl, rfl, rfl, trivial⟩
                         · rw [sl_c (by omega) hlt, sl_c (by omega) hlt2]
                           unfold limS
                           refine (if_pos (show 48 ≤ A 0 (k + 1 + 1).toNat ∧ A 0 (k + 1 + 1).toNat ≤ 57 by omega)).trans ?_
                           congr 1
                           omega
                         · rw [← her] at hf6
                           exact fl_6d (by omega) hf6)
                  · refine r_aload_n (n := 191) C dX5_read_190 rfl rfl rfl ?_
                    refine r_get (n := 194) (ci := 5) (k := 1) C in_X5 rfl (by decide) q785 rfl dX5_read_191 rfl MH_o rfl ?_
                    refine r_iload_n (n := 195) C dX5_read_194 rfl rfl rfl ?_
                    refine r_iaload (n := 196) (N := 40) C dX5_read_195 rfl (MH_a 0 (by decide)) ?_
                    rw [eA]
                    refine r_bipush (n := 198) C dX5_read_196 (by decide) rfl ?_
                    refine r_icmp_gt (t := 221) (n := 201) C dX5_read_198 (by decide) rfl (fun c_198 => ?_) (fun c_198 => ?_)
                    · first
                        | (refine V.ls (k221 (k + 1 + 1) _ (by omega) (by omega) (hone ?_).1 (hone ?_).2) ⟨rfl, rfl, rfl, rfl, rfl, trivial⟩
                           · intro c r9 h9
                             first
                               | (rw [← her, sl_0 (by omega)] at h9; cases h9)
                               | (rw [← her] at h9; have := (List.cons.inj h9).1; omega)
                           · intro c r9 h9
                             first
                               | (rw [← her, sl_0 (by omega)] at h9; cases h9)
                               | (rw [← her] at h9; have := (List.cons.inj h9).1; omega))
                        | (refine V.ls (k221 (k + 1 + 1 + 1) _ (by omega) (by omega) ?_ ?_) ⟨rfl, rfl, rfl, rfl, rfl, trivial⟩
                           · rw [sl_c (by omega) hlt, sl_c (by omega) hlt2]
                             unfold limS
                             refine (if_pos (show 48 ≤ A 0 (k + 1 + 1).toNat ∧ A 0 (k + 1 + 1).toNat ≤ 57 by omega)).trans ?_
                             congr 1
                             omega
                           · rw [← her] at hf6
                             exact fl_6d (by omega) hf6)
                    · refine r_bipush (n := 203) C dX5_read_201 (by decide) rfl ?_
                      refine r_iload (n := 205) C dX5_read_203 rfl rfl ?_
                      refine r_imul (n := 206) C dX5_read_205 rfl ?_
                      refine r_aload_n (n := 207) C dX5_read_206 rfl rfl rfl ?_
                      refine r_get (n := 210) (ci := 5) (k := 1) C in_X5 rfl (by decide) q785 rfl dX5_read_207 rfl MH_o rfl ?_
                      refine r_iload_n (n := 211) C dX5_read_210 rfl rfl rfl ?_
                      refine r_iaload (n := 212) (N := 40) C dX5_read_211 rfl (MH_a 0 (by decide)) ?_
                      rw [eA]
                      refine r_iadd (n := 213) C dX5_read_212 rfl ?_
                      refine r_bipush (n := 215) C dX5_read_213 (by decide) rfl ?_
                      refine r_isub (n := 216) C dX5_read_215 rfl ?_
                      refine r_istore (n := 218) C dX5_read_216 rfl ?_
                      refine r_iinc (n := 221) C dX5_read_218 rfl rfl ?_
                      first
                        | (refine V.ls (k221 (k + 1 + 1) _ (by omega) (by omega) (hone ?_).1 (hone ?_).2) ⟨rfl, rfl, rfl, rfl, rfl, trivial⟩
                           · intro c r9 h9
                             first
                               | (rw [← her, sl_0 (by omega)] at h9; cases h9)
                               | (rw [← her] at h9; have := (List.cons.inj h9).1; omega)
                           · intro c r9 h9
                             first
                               | (rw [← her, sl_0 (by omega)] at h9; cases h9)
                               | (rw [← her] at h9; have := (List.cons.inj h9).1; omega))
                        | (refine V.ls (k221 (k + 1 + 1 + 1) _ (by omega) (by omega) ?_ ?_) ⟨rfl, rfl, rfl, rfl, rfl, trivial⟩
                           · rw [sl_c (by omega) hlt, sl_c (by omega) hlt2]
                             unfold limS
                             refine (if_pos (show 48 ≤ A 0 (k + 1 + 1).toNat ∧ A 0 (k + 1 + 1).toNat ≤ 57 by omega)).trans ?_
                             congr 1
                             omega
                           · rw [← her] at hf6
                             exact fl_6d (by omega) hf6)
            refine r_iload_n (n := 152) C dX5_read_151 rfl rfl rfl ?_
            refine r_bipush (n := 154) C dX5_read_152 (by decide) rfl ?_
            refine r_icmp_ne (t := 232) (n := 157) C dX5_read_154 (by decide) rfl (fun c_154 => ?_) (fun c_154 => ?_)
            · exact k232 n1 n2 n3 (by omega)
            · exact k157 (by omega)
          have k122 : (A 0 k.toNat = 42 ∨ A 0 k.toNat = 43 ∨ A 0 k.toNat = 63) → V x g h0 Q (MH g o F1 A1 r) sz 0 0 122 [some (.ref o), some (vI (bi b)), some (vI (k + 1)), some (vI (A 0 k.toNat)), none] [] := by
            intro n1
            have ht5 : bi b = 1 ∧ fl (sl (A 0) (k + 1).toNat (F 0 - (k + 1)).toNat) 1 d = none := by
              rcases htok with t | t | t | t | t | t | t
              · omega
              · omega
              · omega
              · exact t.2
              · omega
              · omega
              · omega
            have hbt : b = true := by
              cases b with
              | true => rfl
              | false => simp [bi] at ht5
            subst hbt
            simp only [if_true] at hwh
            match wh, hwh, hk3, hwl, hR, hrd with
            | [], hwh, hk3, hwl, hR, hrd => simp at hwh
            | a :: wt, hwh, hk3, hwl, hR, hrd =>
              simp only [List.length_cons] at hwh hk3
              have k144 : ∀ kd : Int, kd = sufK (A 0 k.toNat) → V x g h0 Q (MH g o F1 A1 r) sz 0 0 144 [some (.ref o), some (vI (bi true)), some (vI (k + 1)), some (vI (A 0 k.toNat)), none] [vI kd, .ref o] := by
                intro kd hkd
                refine r_iconst (n := 145) C dX5_read_144 rfl ?_
                refine r_callV (n := 148) (n0 := 2) (ci := 5) C (ct_suffix (xL x) g o F1 A1 r sz kd 0 hR (by omega) (by omega)) (lw_V q910 q912 qs21 q48 q913) ⟨by decide, by decide, by decide +kernel⟩ rfl MH_o rfl dX5_read_145 rfl rfl ?_
                rintro v h' sz' ⟨F4, A4, rfl, rfl, rfl, hR4, hF4, h144⟩ - -
                dsimp only [stk]
                refine r_goto (n := 298) C dX5_read_148 (by decide) ?_
                refine V.ls (k298 F4 A4 (k + 1) d 1 true _ _ _ (Or.inr rfl) ⟨fun _ => Or.inl rfl, fun _ => rfl⟩ (by omega) ⟨hR4, hFM.tr hF4, hb, ⟨by omega, by omega, by simp; omega, by simp; omega⟩, ?_, ht5.2, hd, ?_⟩) ⟨rfl, rfl, rfl, rfl, trivial⟩
                · simp
                  omega
                · rw [hrd, hkd]
                  unfold rd1
                  rw [if_neg hn124, if_neg (by omega), if_neg (by omega), if_pos n1]
                  rfl
              refine r_aload_n (n := 123) C dX5_read_122 rfl rfl rfl ?_
              refine r_iload_n (n := 124) C dX5_read_123 rfl rfl rfl ?_
              refine r_bipush (n := 126) C dX5_read_124 (by decide) rfl ?_
              refine r_icmp_ne (t := 133) (n := 129) C dX5_read_126 (by decide) rfl (fun c_126 => ?_) (fun c_126 => ?_)
              · refine r_iload_n (n := 134) C dX5_read_133 rfl rfl rfl ?_
                refine r_bipush (n := 136) C dX5_read_134 (by decide) rfl ?_
                refine r_icmp_ne (t := 143) (n := 139) C dX5_read_136 (by decide) rfl (fun c_136 => ?_) (fun c_136 => ?_)
                · refine r_iconst (n := 144) C dX5_read_143 rfl ?_
                  first
                    | (exfalso; omega)
                    | (refine k144 _ ?_
                       unfold sufK
                       repeat first | rw [if_pos (by omega)] | rw [if_neg (by omega)])
                · refine r_iconst (n := 140) C dX5_read_139 rfl ?_
                  refine r_goto (n := 144) C dX5_read_140 (by decide) ?_
                  first
                    | (exfalso; omega)
                    | (refine k144 _ ?_
                       unfold sufK
                       repeat first | rw [if_pos (by omega)] | rw [if_neg (by omega)])
              · refine r_iconst (n := 130) C dX5_read_129 rfl ?_
                refine r_goto (n := 144) C dX5_read_130 (by decide) ?_
                first
                  | (exfalso; omega)
                  | (refine k144 _ ?_
                     unfold sufK
                     repeat first | rw [if_pos (by omega)] | rw [if_neg (by omega)])
          refine r_iload_n (n := 59) C dX5_read_58 rfl rfl rfl ?_
          refine r_bipush (n := 61) C dX5_read_59 (by decide) rfl ?_
          refine r_icmp_ne (t := 80) (n := 64) C dX5_read_61 (by decide) rfl (fun c_61 => ?_) (fun c_61 => ?_)
          · refine r_iload_n (n := 81) C dX5_read_80 rfl rfl rfl ?_
            refine r_bipush (n := 83) C dX5_read_81 (by decide) rfl ?_
            refine r_icmp_ne (t := 104) (n := 86) C dX5_read_83 (by decide) rfl (fun c_83 => ?_) (fun c_83 => ?_)
            · refine r_iload_n (n := 105) C dX5_read_104 rfl rfl rfl ?_
              refine r_bipush (n := 107) C dX5_read_105 (by decide) rfl ?_
              refine r_icmp_eq (t := 122) (n := 110) C dX5_read_107 (by decide) rfl (fun c_107 => ?_) (fun c_107 => ?_)
              · exact k122 (by omega)
              · refine r_iload_n (n := 111) C dX5_read_110 rfl rfl rfl ?_
                refine r_bipush (n := 113) C dX5_read_111 (by decide) rfl ?_
                refine r_icmp_eq (t := 122) (n := 116) C dX5_read_113 (by decide) rfl (fun c_113 => ?_) (fun c_113 => ?_)
                · exact k122 (by omega)
                · refine r_iload_n (n := 117) C dX5_read_116 rfl rfl rfl ?_
                  refine r_bipush (n := 119) C dX5_read_117 (by decide) rfl ?_
                  refine r_icmp_ne (t := 151) (n := 122) C dX5_read_119 (by decide) rfl (fun c_119 => ?_) (fun c_119 => ?_)
                  · exact k151 (by omega) (by omega) (by omega)
                  · exact k122 (by omega)
            · have ht5 : bi b = 1 ∧ 0 < d ∧ fl (sl (A 0) (k + 1).toNat (F 0 - (k + 1)).toNat) 1 (d - 1) = none := by
                rcases htok with t | t | t | t | t | t | t
                · omega
                · omega
                · exact t.2
                · omega
                · omega
                · omega
                · omega
              have hbt : b = true := by
                cases b with
                | true => rfl
                | false => simp [bi] at ht5
              subst hbt
              simp only [if_true] at hwh
              have hs := jn_sum 2 ws ou wh
              have hsw := jn_le 2 ws ou wh
              have hj7 := jn_7 2 ws ou wh
              have hjw := jn_wh 2 1 ws ou wh hwh
              refine r_aload_n (n := 87) C dX5_read_86 rfl rfl rfl ?_
              refine r_iconst (n := 88) C dX5_read_87 rfl ?_
              refine r_callV (n := 91) (n0 := 1) (ci := 5) C (ct_join (xL x) g o F1 A1 r sz 2 (Or.inr rfl) hR hb (by omega) (by omega) (by omega)) (lw_V q894 q896 qs17 q48 q897) ⟨by decide, by decide, by decide +kernel⟩ rfl MH_o rfl dX5_read_88 rfl rfl ?_
              rintro v h' sz' ⟨F2, A2, rfl, rfl, rfl, hR2, hF2, h14⟩ - -
              dsimp only [stk]
              obtain ⟨w7, wr, hjj⟩ : ∃ w r, (jn 2 ws ou wh).2.1 = w :: r := by
                cases hq : (jn 2 ws ou wh).2.1 with
                | nil => rw [hq] at hj7; simp [nd7] at hj7; omega
                | cons w r => exact ⟨w, r, rfl⟩
              have h7 := jn2_7 ws ou wh hwh w7 wr hjj
              subst h7
              rw [hjj] at hR2 hj7 hjw hs
              have hR3 : RS (va_up F2 10 (F2 10 - 1)) A2 (jn 2 ws ou wh).1 wr (jn 2 ws ou wh).2.2 := by
                obtain ⟨q1, q2, q3, q4, q5, q6⟩ := hR2
                refine ⟨by simp [va_up, q1], ?_, by simp [va_up, q3], q4, q5.2, q6⟩
                simp [va_up, q2]
              have hF3 : FM F1 A1 (va_up F2 10 (F2 10 - 1)) A2 := ⟨fun q q1 q2 q3 q4 => by rw [va_up_ne _ _ q2]; exact hF2.1 q q1 q2 q3 q4, hF2.2⟩
              refine r_aload_n (n := 92) C dX5_read_91 rfl rfl rfl ?_
              refine r_dup (n := 93) C dX5_read_92 rfl rfl ?_
              refine r_get (n := 96) (ci := 5) (k := 10) C in_X5 rfl (by decide) q794 rfl dX5_read_93 rfl MH_o rfl ?_
              refine r_iconst (n := 97) C dX5_read_96 rfl ?_
              refine r_isub (n := 98) C dX5_read_97 rfl ?_
              refine r_mput (n := 101) (ty := .int) (k := 10) C (by decide) q794 rfl rfl (by decide +kernel) rfl rfl dX5_read_98 rfl rfl ?_
              refine r_goto (n := 298) C dX5_read_101 (by decide) ?_
              first
                | (refine V.ls (k298 F4 A4 (k + 1) (d + 1) 0 false _ _ _ (Or.inl rfl) ⟨fun c9 => (by cases c9), fun c9 => (by omega)⟩ (by omega) ⟨hR4, hFM.tr (hF3.tr hF4), ?_, ⟨by omega, by omega, by simp; omega, by omega⟩, ?_, ?_, ?_, ?_⟩) ⟨rfl, rfl, rfl, rfl, trivial⟩
                   · intro w hw
                     rcases List.mem_cons.mp hw with h9 | h9
                     · omega
                     · exact hib w h9
                   · simp [nb]
                     omega
                   · rcases htok with t | t | t | t | t | t | t
                     · omega
                     · exact t.2.2
                     · omega
                     · omega
                     · omega
                     · omega
                     · omega
                   · rw [nd7, if_pos rfl, hit.2.2.2.1]
                     omega
                   · rw [hrd]
                     unfold rd1
                     rw [if_neg hn124, if_pos (by omega)])
                | (refine V.ls (k298 _ A2 (k + 1) (d - 1) 1 true _ wr _ (Or.inr rfl) ⟨fun _ => Or.inl rfl, fun _ => rfl⟩ (by omega) ⟨hR3, hFM.tr hF3, ?_, ⟨by omega, by omega, by simp at hs; omega, by omega⟩, ?_, ht5.2.2, ?_, ?_⟩) ⟨rfl, rfl, rfl, rfl, trivial⟩
                   · intro w hw
                     exact hb w (jn_in 2 w ws ou wh (by rw [hjj]; exact List.mem_cons_of_mem _ hw))
                   · rw [nb, if_pos rfl] at hjw
                     exact hjw
                   · rw [nd7, if_pos rfl] at hj7
                     omega
                   · rw [hrd]
                     unfold rd1
                     rw [if_neg hn124, if_neg (by omega), if_pos (by omega)]
                     dsimp only
                     rw [hjj]
                     rfl)
          · refine r_aload_n (n := 65) C dX5_read_64 rfl rfl rfl ?_
            refine r_iload_n (n := 66) C dX5_read_65 rfl rfl rfl ?_
            refine r_callV (n := 69) (n0 := 1) (ci := 5) C (ct_item (xL x) g o F1 A1 r sz b (bi b) rfl hR hb (by omega) hwb (by omega)) (lw_V q906 q908 qs20 q48 q909) ⟨by decide, by decide, by decide +kernel⟩ rfl MH_o rfl dX5_read_66 rfl rfl ?_
            rintro v h' sz' ⟨F3, A3, rfl, rfl, rfl, hR3, hF3⟩ - -
            dsimp only [stk]
            refine r_aload_n (n := 70) C dX5_read_69 rfl rfl rfl ?_
            refine r_bipush (n := 72) C dX5_read_70 (by decide) rfl ?_
            refine r_callV (n := 75) (n0 := 1) (ci := 5) C (ct_hold (xL x) g o F3 A3 r sz 7 hR3 (by omega)) (lw_V q902 q904 qs19 q48 q905) ⟨by decide, by decide, by decide +kernel⟩ rfl MH_o rfl dX5_read_72 rfl rfl ?_
            rintro v h' sz' ⟨F4, A4, rfl, rfl, rfl, hR4, hF4, h144⟩ - -
            dsimp only [stk]
            refine r_iconst (n := 76) C dX5_read_75 rfl ?_
            refine r_istore_n (n := 77) C dX5_read_76 rfl rfl ?_
            refine r_goto (n := 298) C dX5_read_77 (by decide) ?_
            first
              | (refine V.ls (k298 F4 A4 (k + 1) (d + 1) 0 false _ _ _ (Or.inl rfl) ⟨fun c9 => (by cases c9), fun c9 => (by omega)⟩ (by omega) ⟨hR4, hFM.tr (hF3.tr hF4), ?_, ⟨by omega, by omega, by simp; omega, by omega⟩, ?_, ?_, ?_, ?_⟩) ⟨rfl, rfl, rfl, rfl, trivial⟩
                 · intro w hw
                   rcases List.mem_cons.mp hw with h9 | h9
                   · omega
                   · exact hib w h9
                 · simp [nb]
                   omega
                 · rcases htok with t | t | t | t | t | t | t
                   · omega
                   · exact t.2.2
                   · omega
                   · omega
                   · omega
                   · omega
                   · omega
                 · rw [nd7, if_pos rfl, hit.2.2.2.1]
                   omega
                 · rw [hrd]
                   unfold rd1
                   rw [if_neg hn124, if_pos (by omega)])
              | (refine V.ls (k298 _ A2 (k + 1) (d - 1) 1 true _ wr _ (Or.inr rfl) ⟨fun _ => Or.inl rfl, fun _ => rfl⟩ (by omega) ⟨hR3, hFM.tr hF3, ?_, ⟨by omega, by omega, by simp at hs; omega, by omega⟩, ?_, ht5.2.2, ?_, ?_⟩) ⟨rfl, rfl, rfl, rfl, trivial⟩
                 · intro w hw
                   exact hb w (jn_in 2 w ws ou wh (by rw [hjj]; exact List.mem_cons_of_mem _ hw))
                 · rw [nb, if_pos rfl] at hjw
                   exact hjw
                 · rw [nd7, if_pos rfl] at hj7
                   omega
                 · rw [hrd]
                   unfold rd1
                   rw [if_neg hn124, if_neg (by omega), if_pos (by omega)]
                   dsimp only
                   rw [hjj]
                   rfl)
        · have hbt : b = true := by
            rcases htok with t | t | t | t | t | t | t
            · cases b with
              | true => rfl
              | false => simp [bi] at t
            all_goals (exfalso; omega)
          subst hbt
          simp only [if_true] at hwh
          have hs := jn_sum 2 ws ou wh
          have hsw := jn_le 2 ws ou wh
          refine r_aload_n (n := 44) C dX5_read_43 rfl rfl rfl ?_
          refine r_iconst (n := 45) C dX5_read_44 rfl ?_
          refine r_callV (n := 48) (n0 := 1) (ci := 5) C (ct_join (xL x) g o F1 A1 r sz 2 (Or.inr rfl) hR hb (by omega) (by omega) (by omega)) (lw_V q894 q896 qs17 q48 q897) ⟨by decide, by decide, by decide +kernel⟩ rfl MH_o rfl dX5_read_45 rfl rfl ?_
          rintro v h' sz' ⟨F2, A2, rfl, rfl, rfl, hR2, hF2, h14⟩ - -
          dsimp only [stk]
          refine r_aload_n (n := 49) C dX5_read_48 rfl rfl rfl ?_
          refine r_iconst (n := 50) C dX5_read_49 rfl ?_
          refine r_callV (n := 53) (n0 := 1) (ci := 5) C (ct_hold (xL x) g o F2 A2 r sz 2 hR2 (by omega)) (lw_V q902 q904 qs19 q48 q905) ⟨by decide, by decide, by decide +kernel⟩ rfl MH_o rfl dX5_read_50 rfl rfl ?_
          rintro v h' sz' ⟨F3, A3, rfl, rfl, rfl, hR3, hF3, h143⟩ - -
          dsimp only [stk]
          refine r_iconst (n := 54) C dX5_read_53 rfl ?_
          refine r_istore_n (n := 55) C dX5_read_54 rfl rfl ?_
          refine r_goto (n := 298) C dX5_read_55 (by decide) ?_
          refine V.ls (k298 F3 A3 (k + 1) d 0 false _ _ _ (Or.inl rfl) ⟨fun c9 => (by cases c9), fun c9 => (by omega)⟩ (by omega) ⟨hR3, hFM.tr (hF2.tr hF3), ?_, ⟨by omega, by omega, by simp; omega, by omega⟩, ?_, ?_, ?_, ?_⟩) ⟨rfl, rfl, rfl, rfl, trivial⟩
          · intro w hw
            rcases List.mem_cons.mp hw with h9 | h9
            · omega
            · exact hb w (jn_in _ _ _ _ _ h9)
          · have := jn_wh 2 1 ws ou wh hwh
            simp [nb]
            omega
          · rcases htok with t | t | t | t | t | t | t
            · exact t.2.2
            all_goals (exfalso; omega)
          · rw [nd7, if_neg (by decide), jn_7]
            exact hd
          · rw [hrd]
            unfold rd1
            rw [if_pos (by omega)]
    · rw [sl_0 (by omega)] at hf hrd
      have hnil := fl_nil hf
      have hbt : b = true := by
        cases b with
        | true => rfl
        | false => simp [bi] at hnil
      subst hbt
      simp only [if_true] at hwh
      have hs := jn_sum 2 ws ou wh
      have hZ : rdZ (sl (A 0) 0 (F 0).toNat) = jn 2 ws ou wh := by
        unfold rdZ
        rw [hrd]
        rfl
      refine r_iload_n (n := 20) C dX5_read_19 rfl rfl rfl ?_
      refine r_aload_n (n := 21) C dX5_read_20 rfl rfl rfl ?_
      refine r_get (n := 24) (ci := 5) (k := 0) C in_X5 rfl (by decide) q784 rfl dX5_read_21 rfl MH_o rfl ?_
      rw [e0]
      refine r_icmp_ge (t := 317) (n := 27) C dX5_read_24 (by decide) rfl (fun c_24 => ?_) (fun c_24 => ?_)
      · refine r_aload_n (n := 318) C dX5_read_317 rfl rfl rfl ?_
        refine r_iconst (n := 319) C dX5_read_318 rfl ?_
        refine r_callV (n := 322) (n0 := 1) (ci := 5) C (ct_join (xL x) g o F1 A1 r sz 2 (Or.inr rfl) hR hb (by omega) (by omega) (by omega)) (lw_V q894 q896 qs17 q48 q897) ⟨by decide, by decide, by decide +kernel⟩ rfl MH_o rfl dX5_read_319 rfl rfl ?_
        rintro v h' sz' ⟨F2, A2, rfl, rfl, rfl, hR2, hF2, h14⟩ - -
        dsimp only [stk]
        refine r_return C hQ dX5_read_322 ?_
        refine ⟨_, _, rfl, rfl, rfl, ?_, hFM.tr hF2, ?_⟩
        · rw [hZ]
          exact hR2
        · rw [rdA_Z, hZ]
          omega
      · exfalso; omega
  refine key _ _ 0 0 false ([], [], []) ⟨⟨?_, ?_, ?_, trivial, trivial, trivial⟩, hF0, ?_, ⟨by omega, by omega, by simp, by simp⟩, rfl, ?_, rfl, ?_⟩
  · simp [va_up]
  · simp [va_up]
  · simp [va_up]
  · intro w hw
    cases hw
  · simpa [bi] using hgood
  · simp
