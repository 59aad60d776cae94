/-! CONSTANTS: the empty list's array, the Integers, Times -/
theorem KG.f1 {g : GG} {s : State} (hK : KG g s) : ∃ (s0 : State) (b : Nat), s0.heap = g.2.2 ∧ (∀ w ∈ lw_tbl, w.before #[Value.ref b] s0 = true) ∧ (∀ c ∈ flatC (Jvm.Cond.and given_1 narrow_1), c.before #[Value.ref b] s0 = true) ∧ KC g s0 b ∧ (∀ a : Nat, a < s0.heap.size → ¬ GA g a) ∧ s0.WarmedH s.vm := by
  obtain ⟨s0, b, h1, h2, h3, h4, h5⟩ := hK
  exact ⟨s0, b, h1, h2, flat_of_before _ h3, h4.2, fun a ha => by rw [h1] at ha; exact Nat.not_le.mpr ha, h5⟩
theorem va_eqI0 {args : Array Value} {s : State} {t : Term} {z : Int32} (h : (Cond.eq t (.int z)).before args s = true) : t.eval args s none [] s = some (.int z) := va_eqI (by simpa [Cond.before, Cond.holds] using h) (by simp [Term.eval])
theorem KG.dft {g : GG} {s : State} (hK : KG g s) : va_Z "java/util/ArrayList" "DEFAULTCAPACITY_EMPTY_ELEMENTDATA" "[Ljava/lang/Object;" (.ref (kc g 0)) (GA g) s g.2.2 ∧ va_T (.object "java/lang/Object") (kc g 0) 0 (fun _ => .null) (GA g) s g.2.2 := by
  obtain ⟨s0, b, e, h2, h3, h4, hA, h5⟩ := hK.f1
  have z := va_Zof (A := GA g) (h2 _ q215) (h2 _ (lw_all_tbl q47)) h4.1 hA
  obtain ⟨t, t1, t2⟩ := va_Tof (A := GA g) (N := 0) (f := fun _ => .null) (by decide) (h3 (Cond.arrayOf tDef (.object "java/lang/Object")) (by decide +kernel)) (va_eqI0 (h3 (Cond.eq (.length tDef) (.int 0)) (by decide +kernel))) (fun j hj => by omega) hA
  have : t = kc g 0 := by
    have := h4.1.symm.trans t1
    simp at this
    exact this.symm
  subst this
  rw [e] at z t2
  exact ⟨z.moved h5.alike, t2.moved h5.alike⟩
theorem KG.cache {g : GG} {s : State} (hK : KG g s) : va_Z "java/lang/Integer$IntegerCache" "cache" "[Ljava/lang/Integer;" (.ref (kc g 1)) (GA g) s g.2.2 ∧ va_T (.object "java/lang/Integer") (kc g 1) 256 (fun j => .ref (kc g (10 + j))) (GA g) s g.2.2 ∧ ∀ j : Nat, j < 256 → Bx g "java/lang/Integer" (kc g (10 + j)) s ∧ va_OF "java/lang/Integer" "value" "I" (vI ((j : Int) - 128)) (kc g (10 + j)) (GA g) s g.2.2 := by
  obtain ⟨s0, b, e, h2, h3, h4, hA, h5⟩ := hK.f1
  have z := va_Zof (A := GA g) (h2 _ q688) (h2 _ (lw_all_tbl q63)) h4.2.1 hA
  have hlen := va_eqI0 (h3 (Cond.eq (.length tCache) (.int 256)) (by decide +kernel))
  obtain ⟨t, t1, t2⟩ := va_Tof (A := GA g) (N := 256) (f := fun j => .ref (kc g (10 + j))) (by decide) (h3 (Cond.arrayOf tCache (.object "java/lang/Integer")) (by decide +kernel)) hlen (fun j hj => h4.2.2.2.2.2.1 j hj) hA
  have : t = kc g 1 := by
    have := h4.2.1.symm.trans t1
    simp at this
    exact this.symm
  subst this
  obtain ⟨ad, c1, c2⟩ := vb_Cof (A := GA g) (st := tCache) rfl hlen (h3 (Cond.all tCache (.and (.exactly (.elem tCache (.index 0)) "java/lang/Integer") (.eq (.field (.elem tCache (.index 0)) "java/lang/Integer" "value" "I") (.sub (.index 0) (.int 128))))) (by decide +kernel)) hA
  rw [e] at z t2 c1
  refine ⟨z.moved h5.alike, t2.moved h5.alike, fun j hj => ?_⟩
  have : ad j = kc g (10 + j) := by
    have := (c2 j hj).symm.trans (h4.2.2.2.2.2.1 j hj)
    simpa using this
  rw [← this]
  refine ⟨va_O.moved h5.alike (c1.1 j hj), ?_⟩
  have := va_OF.moved h5.alike (c1.2 j hj)
  dsimp only at this
  rw [show Value.int (vb_c j) = vI ((j : Int) - 128) by rw [vb_c, iI_nat, vI, ← iI_sub]; rfl] at this
  exact this
theorem KG.time {g : GG} {s : State} (hK : KG g s) : (va_Z "FuzzyFinder$Times" "MAYBE" "LFuzzyFinder$Times;" (.ref (kc g 2)) (GA g) s g.2.2 ∧ va_Z "FuzzyFinder$Times" "ANY" "LFuzzyFinder$Times;" (.ref (kc g 3)) (GA g) s g.2.2 ∧ va_Z "FuzzyFinder$Times" "SOME" "LFuzzyFinder$Times;" (.ref (kc g 4)) (GA g) s g.2.2) ∧ ∀ k, k < 3 → va_OF "FuzzyFinder$Times" "again" "Z" (vI (if k = 0 then 0 else 1)) (kc g (2 + k)) (GA g) s g.2.2 ∧ va_OF "FuzzyFinder$Times" "none" "Z" (vI (if k = 2 then 0 else 1)) (kc g (2 + k)) (GA g) s g.2.2 := by
  obtain ⟨s0, b, e, h2, h3, h4, hA, h5⟩ := hK.f1
  have z1 := va_Zof (A := GA g) (h2 _ q462) (h2 _ (lw_all_tbl q56)) h4.2.2.1 hA
  have z2 := va_Zof (A := GA g) (h2 _ q441) (h2 _ (lw_all_tbl q56)) h4.2.2.2.1 hA
  have z3 := va_Zof (A := GA g) (h2 _ q460) (h2 _ (lw_all_tbl q56)) h4.2.2.2.2.1 hA
  rw [e] at z1 z2 z3
  refine ⟨⟨z1.moved h5.alike, z2.moved h5.alike, z3.moved h5.alike⟩, fun k hk => ?_⟩
  have f : ∀ (nm fn : String) (z : Int32) (q : Nat), (tTm nm).eval #[Value.ref b] s0 none [] s0 = some (.ref q) → Cond.eq (.field (tTm nm) "FuzzyFinder$Times" fn "Z") (.int z) ∈ flatC (Jvm.Cond.and given_1 narrow_1) → va_OF "FuzzyFinder$Times" fn "Z" (.int z) q (GA g) s g.2.2 := by
    intro nm fn z q h6 h7
    have := vk_OFof (A := GA g) h6 (va_eqI0 (h3 _ h7)) hA
    rw [e] at this
    exact va_OF.moved h5.alike this
  match k, hk with
  | 0, _ => exact ⟨f "MAYBE" "again" 0 _ h4.2.2.1 (by decide +kernel), f "MAYBE" "none" 1 _ h4.2.2.1 (by decide +kernel)⟩
  | 1, _ => exact ⟨f "ANY" "again" 1 _ h4.2.2.2.1 (by decide +kernel), f "ANY" "none" 1 _ h4.2.2.2.1 (by decide +kernel)⟩
  | 2, _ => exact ⟨f "SOME" "again" 1 _ h4.2.2.2.2.1 (by decide +kernel), f "SOME" "none" 0 _ h4.2.2.2.2.1 (by decide +kernel)⟩
