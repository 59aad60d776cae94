/-! THE LAYER V: a walk over a map of cells. HM: what is known of the heap, address by address; ints as Int -/
abbrev HM : Type := Nat → Option va_E
abbrev GG : Type := va_G × (Nat → ClassId) × Heap
abbrev XT : Type := Program × Launch × Env × Room × State × MethodId × Array Value × List Frame × Method × Code
abbrev xP (x : XT) : Program := x.1
abbrev xL (x : XT) : Launch := x.2.1
abbrev xE (x : XT) : Env := x.2.2.1
abbrev xR (x : XT) : Room := x.2.2.2.1
abbrev xS (x : XT) : State := x.2.2.2.2.1
abbrev xM (x : XT) : MethodId := x.2.2.2.2.2.1
abbrev xA (x : XT) : Array Value := x.2.2.2.2.2.2.1
abbrev xB (x : XT) : List Frame := x.2.2.2.2.2.2.2.1
abbrev xMeth (x : XT) : Method := x.2.2.2.2.2.2.2.2.1
abbrev xC (x : XT) : Code := x.2.2.2.2.2.2.2.2.2
def iI (z : Int) : Int32 := Int32.ofInt z
abbrev vI (z : Int) : Value := .int (iI z)
theorem iI_add (a b : Int) : iI a + iI b = iI (a + b) := (Int32.ofInt_add a b).symm
theorem iI_sub (a b : Int) : iI a - iI b = iI (a - b) := (Int32.ofInt_sub a b).symm
theorem iI_mul (a b : Int) : iI a * iI b = iI (a * b) := (Int32.ofInt_mul a b).symm
theorem iI_neg (a : Int) : -iI a = iI (-a) := (Int32.ofInt_neg a).symm
theorem iI_to (x : Int32) : iI x.toInt = x := Int32.ofInt_toInt x
theorem iI_toInt {a : Int} (h : -2147483648 ≤ a ∧ a < 2147483648) : (iI a).toInt = a := Int32.toInt_ofInt_of_le (by omega) (by omega)
theorem iI_lt {a b : Int} (h : -2147483648 ≤ a ∧ a < 2147483648 ∧ -2147483648 ≤ b ∧ b < 2147483648) : iI a < iI b ↔ a < b := by
  rw [Int32.lt_iff_toInt_lt, iI_toInt ⟨h.1, h.2.1⟩, iI_toInt h.2.2]
theorem iI_le {a b : Int} (h : -2147483648 ≤ a ∧ a < 2147483648 ∧ -2147483648 ≤ b ∧ b < 2147483648) : iI a ≤ iI b ↔ a ≤ b := by
  rw [Int32.le_iff_toInt_le, iI_toInt ⟨h.1, h.2.1⟩, iI_toInt h.2.2]
theorem iI_eq {a b : Int} (h : -2147483648 ≤ a ∧ a < 2147483648 ∧ -2147483648 ≤ b ∧ b < 2147483648) : iI a = iI b ↔ a = b := by
  rw [← Int32.toInt_inj, iI_toInt ⟨h.1, h.2.1⟩, iI_toInt h.2.2]
theorem iI_in {i : Int} {n : Nat} (h : 0 ≤ i ∧ i < n) (hn : n < 2147483648) : vp_in (iI i) n := by
  rw [vp_in_iff, iI_toInt (by omega)]
  exact h
theorem iI_cl {i : Int} (h : 0 ≤ i ∧ i < 2147483648) : (iI i).toNatClampNeg = i.toNat := Int32.toNatClampNeg_ofInt_of_le (by omega) (by omega)
theorem iI_nat (n : Nat) : Int32.ofNat n = iI (n : Int) := by
  unfold iI
  exact Int32.ofInt_eq_ofNat.symm
def zand (a b : Int) : Int := (iI a &&& iI b).toInt
def zor (a b : Int) : Int := (iI a ||| iI b).toInt
def zxor (a b : Int) : Int := (iI a ^^^ iI b).toInt
def zshl (a b : Int) : Int := (iI a <<< (iI b &&& 31)).toInt
def zshr (a b : Int) : Int := (iI a >>> (iI b &&& 31)).toInt
def zchar (a : Int) : Int := ((iI a).toUInt32 % 65536).toInt32.toInt
def zbyte (a : Int) : Int := (iI a).toInt8.toInt32.toInt
theorem z_rg (x : Int32) : -2147483648 ≤ x.toInt ∧ x.toInt < 2147483648 := ⟨by have := Int32.le_toInt x; omega, by have := Int32.toInt_lt x; omega⟩
/-- the classes -/
def clA : List vw_C := [(RX0, TX0, 15), (RX1, TX1, 6), (RX2, TX2, 5), (RX3, TX3, 1), (RX4, TX4, 4), (RX5, TX5, 29), (RX6, TX6, 2), (RX7, TX7, 2), (RX8, TX8, 2), (RX9, TX9, 2), (RJ1, TJ1, 4), (RJ7, TJ7, 3), (RJ14, TJ14, 1)]
abbrev tysA (g : GG) : List (ClassId × FieldType) := [(g.2.1 0, .int), (g.2.1 1, .byte), (g.2.1 2, .array .int), (g.2.1 3, .object "java/lang/Object")]
/-- an array of ints, of bytes, of int arrays (2) or objects (3) -/
abbrev eI (g : GG) (n : Nat) (f : Nat → Int) : va_E := .inl (g.2.1 0, n, .inl (fun j => iI (f j)))
abbrev eB (g : GG) (n : Nat) (f : Nat → Int) : va_E := .inl (g.2.1 1, n, .inl (fun j => iI (f j)))
abbrev eG (g : GG) (n : Nat) (f : Nat → Option Nat) : va_E := .inl (g.2.1 2, n, .inr (.inr (.inr (.inr f))))
abbrev eO (g : GG) (n : Nat) (f : Nat → Option Nat) : va_E := .inl (g.2.1 3, n, .inr (.inr (.inr (.inr f))))
abbrev oC (ci : Nat) (fs : List Value) : va_E := .inr (ci, fs)
/-- the constants' addresses: the empty list's array, the cache of Integers, MAYBE, ANY, SOME; the cache's boxes from 10 on -/
def kc (g : GG) (k : Nat) : Nat := g.2.1 (4 + k)
def tDef : Term := .static "java/util/ArrayList" "DEFAULTCAPACITY_EMPTY_ELEMENTDATA" "[Ljava/lang/Object;"
def tCache : Term := .static "java/lang/Integer$IntegerCache" "cache" "[Ljava/lang/Integer;"
def tTm (nm : String) : Term := .static "FuzzyFinder$Times" nm "LFuzzyFinder$Times;"
def KC (g : GG) (s0 : State) (b : Nat) : Prop := tDef.eval #[Value.ref b] s0 none [] s0 = some (.ref (kc g 0)) ∧ tCache.eval #[Value.ref b] s0 none [] s0 = some (.ref (kc g 1)) ∧ (tTm "MAYBE").eval #[Value.ref b] s0 none [] s0 = some (.ref (kc g 2)) ∧ (tTm "ANY").eval #[Value.ref b] s0 none [] s0 = some (.ref (kc g 3)) ∧ (tTm "SOME").eval #[Value.ref b] s0 none [] s0 = some (.ref (kc g 4)) ∧ (∀ j : Nat, j < 256 → (Term.elem tCache (.int (Int32.ofNat j))).eval #[Value.ref b] s0 none [] s0 = some (.ref (kc g (10 + j)))) ∧ va_Mi "[Ljava/lang/Object;" (kc g 5) s0
/-- the tables and what the law's start gives: some start of the law, whose tables this state's are -/
def KG (g : GG) (U : State) : Prop := ∃ (s0 : State) (b : Nat), s0.heap = g.2.2 ∧ (∀ w ∈ lw_tbl, w.before #[Value.ref b] s0 = true) ∧ (Jvm.Cond.and given_1 narrow_1).before #[Value.ref b] s0 = true ∧ (va_K g.1 clA (tysA g) s0 ∧ KC g s0 b) ∧ s0.WarmedH U.vm
theorem KG.warm {g : GG} {s U : State} (h : KG g s) (hW : s.WarmedH U.vm) : KG g U := by
  obtain ⟨s0, b, h1, h2, h3, h4, h5⟩ := h
  exact ⟨s0, b, h1, h2, h3, h4, State.WarmedH.trans h5 hW⟩
theorem KG.K {g : GG} {s : State} (h : KG g s) : va_K g.1 clA (tysA g) s := by
  obtain ⟨s0, b, h1, h2, h3, h4, h5⟩ := h
  exact va_K.moved h5.alike h4.1
/-- the heap holds the map; the old part is as at the law's start -/
def HP (g : GG) (h : HM) (sz : Nat) (H : Heap) : Prop := H.size = sz ∧ g.2.2.size ≤ sz ∧ (∀ q : Nat, q < g.2.2.size → H[q]? = g.2.2[q]?) ∧ ∀ (a : Nat) (e : va_E), h a = some e → g.2.2.size ≤ a ∧ va_at g.1 clA (a, e) H
def AF (h0 : HM) (n : Nat) : Nat → Prop := fun q => h0 q ≠ none ∨ n ≤ q
def DO (h h0 : HM) (n : Nat) : Prop := ∀ a : Nat, h a ≠ none → AF h0 n a
/-- locals: of one word each -/
def LV (ls : Array Slot) (nL : Nat) (lo : List (Option Value)) : Prop := ls.size = nL ∧ lv_wf ls ∧ ∀ (k : Nat) (v : Value), lo[k]? = some (some v) → v.category = 1 ∧ ls[k]? = some (.val v)
def V (x : XT) (g : GG) (h0 : HM) (Q : State → Prop) (h : HM) (sz cells slots pc : Nat) (lo : List (Option Value)) (st : List Value) : Prop :=
  ∀ (H : Heap) (locs : List Loc) (ls : Array Slot), HP g h sz H → va_S (AF h0 (xS x).heap.size) (xS x).heap H locs → DO h h0 (xS x).heap.size → LV ls (xC x).maxLocals lo → W (xP x) (xL x) (xE x) (xR x) (xS x) (xM x) (xA x) (xB x) (xMeth x) (xC x) H locs cells slots Q (F0 (xM x) pc ls st)
/-- what holds all through a method's walk; L: its level -/
def CX (x : XT) (cc : ByteArray) (nL : Nat) (own : String) (ret : Option FieldType) (g : GG) (L mc ms : Nat) : Prop :=
  (xP x).tables.exec = Jvm.exec ∧ (xC x).code = cc ∧ (xMeth x).sig.returnType = ret ∧ (xC x).maxLocals = nL ∧ (xS x).vm.findClass own = some (xM x).cls ∧ (∀ w ∈ lw_all, w.before (xA x) (xS x) = true) ∧ (xMeth x).locks = false ∧ KG g (xS x) ∧ xR x = { frames := L, cells := mc, slots := ms, locals := 40 * L }
section CXP
variable {x : XT} {cc : ByteArray} {nL : Nat} {own : String} {ret : Option FieldType} {g : GG} {L mc ms : Nat}
theorem CX.hx (C : CX x cc nL own ret g L mc ms) : (xP x).tables.exec = Jvm.exec := C.1
theorem CX.hb (C : CX x cc nL own ret g L mc ms) : (xC x).code = cc := C.2.1
theorem CX.hr (C : CX x cc nL own ret g L mc ms) : (xMeth x).sig.returnType = ret := C.2.2.1
theorem CX.hml (C : CX x cc nL own ret g L mc ms) : (xC x).maxLocals = nL := C.2.2.2.1
theorem CX.hown (C : CX x cc nL own ret g L mc ms) : (xS x).vm.findClass own = some (xM x).cls := C.2.2.2.2.1
theorem CX.hts (C : CX x cc nL own ret g L mc ms) : ∀ w ∈ lw_all, w.before (xA x) (xS x) = true := C.2.2.2.2.2.1
theorem CX.hlk (C : CX x cc nL own ret g L mc ms) : (xMeth x).locks = false := C.2.2.2.2.2.2.1
theorem CX.kg (C : CX x cc nL own ret g L mc ms) : KG g (xS x) := C.2.2.2.2.2.2.2.1
theorem CX.rm (C : CX x cc nL own ret g L mc ms) : xR x = { frames := L, cells := mc, slots := ms, locals := 40 * L } := C.2.2.2.2.2.2.2.2
end CXP
theorem HP.one {g : GG} {h : HM} {sz : Nat} {H : Heap} (hP : HP g h sz H) {a : Nat} {e : va_E} (ha : h a = some e) : va_P g.1 clA [(a, e)] H := by
  intro k q hq
  match k, hq with
  | 0, hq =>
    cases hq
    exact (hP.2.2.2 a e ha).2
theorem HP.lt {g : GG} {h : HM} {sz : Nat} {H : Heap} (hP : HP g h sz H) {a : Nat} {e : va_E} (ha : h a = some e) : g.2.2.size ≤ a ∧ a < sz := by
  obtain ⟨h1, h2⟩ := hP.2.2.2 a e ha
  exact ⟨h1, by rw [← hP.1]; exact h2.lt⟩
theorem HP.none {g : GG} {h : HM} {sz : Nat} {H : Heap} (hP : HP g h sz H) {a : Nat} (ha : sz ≤ a) : h a = none := by
  cases hh : h a with
  | none => rfl
  | some e =>
    have := (hP.lt hh).2
    omega
/-- the map behind a write -/
theorem HP.set {g : GG} {h : HM} {sz : Nat} {H H1 : Heap} (hP : HP g h sz H) {a : Nat} {e0 e : va_E} (ha : h a = some e0) (z : H1.size = H.size) (oq : ∀ q : Nat, q ≠ a → H1[q]? = H[q]?) (he : va_at g.1 clA (a, e) H1) : HP g (va_up h a (some e)) sz H1 := by
  have hlt := hP.lt ha
  refine ⟨z.trans hP.1, hP.2.1, fun q hq => ?_, fun b e' hb => ?_⟩
  · rw [oq q (by omega)]
    exact hP.2.2.1 q hq
  · by_cases hba : b = a
    · subst hba
      rw [va_up_self] at hb
      cases hb
      exact ⟨hlt.1, he⟩
    · rw [va_up_ne _ _ hba] at hb
      obtain ⟨h1, h2⟩ := hP.2.2.2 b e' hb
      exact ⟨h1, h2.kept (oq b hba)⟩
theorem HP.push {g : GG} {h : HM} {sz : Nat} {H H1 : Heap} (hP : HP g h sz H) {e : va_E} (z : H1.size = sz + 1) (oq : ∀ q : Nat, q < sz → H1[q]? = H[q]?) (he : va_at g.1 clA (sz, e) H1) : HP g (va_up h sz (some e)) (sz + 1) H1 := by
  refine ⟨z, by have := hP.2.1; omega, fun q hq => ?_, fun b e' hb => ?_⟩
  · rw [oq q (by have := hP.2.1; omega)]
    exact hP.2.2.1 q hq
  · by_cases hba : b = sz
    · subst hba
      rw [va_up_self] at hb
      cases hb
      exact ⟨hP.2.1, he⟩
    · rw [va_up_ne _ _ hba] at hb
      obtain ⟨h1, h2⟩ := hP.2.2.2 b e' hb
      exact ⟨h1, h2.kept (oq b (by rw [← hP.1]; exact h2.lt))⟩
theorem DO.set {h h0 : HM} {n a : Nat} {e : va_E} (hD : DO h h0 n) (ha : AF h0 n a) : DO (va_up h a (some e)) h0 n := by
  intro b hb
  by_cases hba : b = a
  · subst hba
    exact ha
  · rw [va_up_ne _ _ hba] at hb
    exact hD b hb
/-- locals: a store -/
def lzp : Nat → List (Option Value) → List (Nat × Value)
  | _, [] => []
  | k, none :: r => lzp (k + 1) r
  | k, some v :: r => (k, v) :: lzp (k + 1) r
theorem lzp_mem : ∀ (r : List (Option Value)) (k j : Nat) (v : Value), (j, v) ∈ lzp k r ↔ k ≤ j ∧ r[j - k]? = some (some v)
  | [], k, j, v => by simp [lzp]
  | none :: r, k, j, v => by
    rw [lzp, lzp_mem r (k + 1) j v]
    constructor
    · rintro ⟨h1, h2⟩
      refine ⟨by omega, ?_⟩
      rw [show j - k = (j - (k + 1)) + 1 by omega, List.getElem?_cons_succ]
      exact h2
    · rintro ⟨h1, h2⟩
      by_cases hj : j = k
      · subst hj
        simp at h2
      · refine ⟨by omega, ?_⟩
        rw [show j - k = (j - (k + 1)) + 1 by omega, List.getElem?_cons_succ] at h2
        exact h2
  | some w :: r, k, j, v => by
    rw [lzp, List.mem_cons, lzp_mem r (k + 1) j v]
    constructor
    · rintro (h1 | ⟨h1, h2⟩)
      · cases h1
        exact ⟨Nat.le_refl _, by simp⟩
      · refine ⟨by omega, ?_⟩
        rw [show j - k = (j - (k + 1)) + 1 by omega, List.getElem?_cons_succ]
        exact h2
    · rintro ⟨h1, h2⟩
      by_cases hj : j = k
      · subst hj
        simp at h2
        exact Or.inl (by rw [h2])
      · refine Or.inr ⟨by omega, ?_⟩
        rw [show j - k = (j - (k + 1)) + 1 by omega, List.getElem?_cons_succ] at h2
        exact h2
theorem LV.has {ls : Array Slot} {nL : Nat} {lo : List (Option Value)} (h : LV ls nL lo) : lv_has ls nL (lzp 0 lo) := by
  refine ⟨h.1, h.2.1, fun q hq => ?_⟩
  obtain ⟨j, v⟩ := q
  have := (lzp_mem lo 0 j v).mp hq
  exact (h.2.2 j v this.2).2
theorem LV.at {ls : Array Slot} {nL : Nat} {lo : List (Option Value)} (h : LV ls nL lo) {k : Nat} {v : Value} (hk : lo[k]? = some (some v)) : ls[k]? = some (.val v) := (h.2.2 k v hk).2
theorem LV.set {ls ls' : Array Slot} {nL i : Nat} {lo : List (Option Value)} {v : Value} (h : LV ls nL lo) (hc : v.category = 1) (h' : lv_has ls' nL ((i, v) :: (lzp 0 lo).filter (fun q => !(q.1 == i) && !(q.1 + 1 == i && q.2.category == 2)))) : LV ls' nL (lo.set i (some v)) := by
  refine ⟨h'.1, h'.2.1, fun k w hk => ?_⟩
  by_cases hi : k = i
  · subst hi
    rw [List.getElem?_set] at hk
    by_cases hl : k < lo.length
    · simp [hl] at hk
      subst hk
      exact ⟨hc, h'.2.2 (k, v) List.mem_cons_self⟩
    · simp [hl] at hk
  · rw [List.getElem?_set_ne (by omega)] at hk
    have hw := h.2.2 k w hk
    refine ⟨hw.1, h'.2.2 (k, w) (List.mem_cons_of_mem _ (List.mem_filter.mpr ⟨(lzp_mem lo 0 k w).mpr ⟨Nat.zero_le _, by simpa using hk⟩, ?_⟩))⟩
    simp [hi, hw.1]
