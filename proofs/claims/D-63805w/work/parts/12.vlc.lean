/-! ROWS of layer V: the heap -/
section VH
variable {x : XT} {g : GG} {h0 : HM} {Q : State → Prop} {h : HM} {sz cells slots pc n : Nat} {lo : List (Option Value)} {rest : List Value}
variable {cc : ByteArray} {nL : Nat} {own : String} {ret : Option FieldType} {L mc ms : Nat}
/-- what the kit's rows give behind a write into one cell: the map's form -/
theorem one_D {A : Nat → Prop} {a : Nat} {e : va_E} (ha : A a) : va_D A [(a, e)] := by
  refine ⟨fun i j p q hi hj _ => ?_, fun k q hq => ?_⟩
  · have h1 : i < 1 := (List.getElem?_eq_some_iff.mp hi).1
    have h2 : j < 1 := (List.getElem?_eq_some_iff.mp hj).1
    omega
  · match k, hq with
    | 0, hq => cases hq; exact ha
theorem r_get (C : CX x cc nL own ret g L mc ms) {ref Cn : String} {T : u_T} {N ci i a k : Nat} {fs : List Value} {v : Value} (hin : ∀ w ∈ u_ws Cn T N, w ∈ lw_all) (hc : clA[ci]? = some (Cn, T, N)) (hk : k < N) (hw : (Cond.fieldLink own i ref (T k).2.1 (T k).2.2.1) ∈ lw_all) (hs : (T k).1 = ref) (d : decode cc pc = .ok (.getfield i, 3)) (hn : pc + 3 = n) (ha : h a = some (oC ci fs)) (hv : fs[k]? = some v)
    (kk : V x g h0 Q h sz cells slots n lo (v :: rest)) : V x g h0 Q h sz cells slots pc lo (.ref a :: rest) := by
  subst hn; subst hs
  intro H locs ls hP hS hD hL
  exact va_get C.hx C.hb C.hts hin C.hown C.kg.K (hP.one ha) 0 rfl hc k hk (C.hts _ hw) (fun _ z => z) hv d (kk H locs ls hP hS hD hL)
theorem KG.nwF {g : GG} {s : State} (h : KG g s) {a : String} {i : Nat} {b m d ho : String} (hw : (Cond.fieldLinkNest a i b m d ho) ∈ lw_tbl) : va_Nw (.fieldLinkNest a i b m d ho) s := by
  obtain ⟨s0, b0, h1, h2, h3, h4, h5⟩ := h
  exact va_Nw.warmF h5 (va_Nw.of rfl (h2 _ hw))
theorem KG.nwM {g : GG} {s : State} (h : KG g s) {a : String} {i : Nat} {y : MethodName} {ho : String} (hw : (Cond.methodLinkNest a i y ho) ∈ lw_tbl) : va_Nw (.methodLinkNest a i y ho) s := by
  obtain ⟨s0, b0, h1, h2, h3, h4, h5⟩ := h
  exact va_Nw.warmM h5 (va_Nw.of rfl (h2 _ hw))
theorem r_getN (C : CX x cc nL own ret g L mc ms) {ref Cn host : String} {T : u_T} {N ci i a k : Nat} {fs : List Value} {v : Value} (hin : ∀ w ∈ u_ws Cn T N, w ∈ lw_all) (hc : clA[ci]? = some (Cn, T, N)) (hk : k < N) (hw : (Cond.fieldLinkNest own i ref (T k).2.1 (T k).2.2.1 host) ∈ lw_tbl) (hs : (T k).1 = ref) (d : decode cc pc = .ok (.getfield i, 3)) (hn : pc + 3 = n) (ha : h a = some (oC ci fs)) (hv : fs[k]? = some v)
    (kk : V x g h0 Q h sz cells slots n lo (v :: rest)) : V x g h0 Q h sz cells slots pc lo (.ref a :: rest) := by
  subst hn; subst hs
  intro H locs ls hP hS hD hL
  exact va_getN C.hx C.hb C.hts hin C.hown C.kg.K (hP.one ha) 0 rfl hc k hk (va_Nw.use rfl (C.kg.nwF hw)) (fun _ z => z) hv d (kk H locs ls hP hS hD hL)
/-- behind a write at a -/
theorem put_end {H : Heap} {locs : List Loc} {ls : Array Slot} {a : Nat} {e0 e : va_E} {lo' : List (Option Value)} {st : List Value} {n' : Nat} (hP : HP g h sz H) (hS : va_S (AF h0 (xS x).heap.size) (xS x).heap H locs) (hD : DO h h0 (xS x).heap.size) (hL : LV ls (xC x).maxLocals lo') (ha : h a = some e0)
    (kk : V x g h0 Q (va_up h a (some e)) sz cells slots n' lo' st) {H1 : Heap} {locs1 : List Loc} (z : H1.size = H.size) (oq : ∀ q : Nat, q ≠ a → H1[q]? = H[q]?) (hp : va_at g.1 clA (a, e) H1) (hS1 : va_S (AF h0 (xS x).heap.size) (xS x).heap H1 locs1) : W (xP x) (xL x) (xE x) (xR x) (xS x) (xM x) (xA x) (xB x) (xMeth x) (xC x) H1 locs1 cells slots Q (F0 (xM x) n' ls st) :=
  kk H1 locs1 ls (hP.set ha z oq hp) hS1 (hD.set (hD a (by rw [ha]; simp))) hL
theorem r_put (C : CX x cc nL own ret g L mc ms) {ref Cn : String} {T : u_T} {N ci i a k : Nat} {fs : List Value} {v : Value} {ty : FieldType} (hin : ∀ w ∈ u_ws Cn T N, w ∈ lw_all) (ty0 : Nat → FieldType) (hty : ∀ k, k < N → parseFieldDescriptor (T k).2.2.1 = some (ty0 k)) (hnm : ∀ a, a < N → ∀ b, b < N → a ≠ b → (T a).2.1 ≠ (T b).2.1) (hc : clA[ci]? = some (Cn, T, N)) (hk : k < N) (hw : (Cond.fieldLink own i ref (T k).2.1 (T k).2.2.1) ∈ lw_all) (hs : (T k).1 = ref) (hfin : (T k).2.2.2 = false) (hd : parseFieldDescriptor (T k).2.2.1 = some ty) (hna : narrow ty v = v) (hfit : fits ty v = true) (d : decode cc pc = .ok (.putfield i, 3)) (hn : pc + 3 = n) (ha : h a = some (oC ci fs)) (hl : k < fs.length)
    (kk : V x g h0 Q (va_up h a (some (oC ci (fs.set k v)))) sz cells slots n lo rest) : V x g h0 Q h sz cells slots pc lo (v :: .ref a :: rest) := by
  subst hn; subst hs
  intro H locs ls hP hS hD hL
  have hK := C.kg.K
  have hap := va_apart (own := own) C.hts hin ty0 hty hnm hK hc
  obtain ⟨r, h1, cell, q1, q2, q3, q4⟩ := (hP.2.2.2 a _ ha).2
  have hr : r = (Cn, T, N) := Option.some.inj (h1.symm.trans hc)
  subst hr
  obtain ⟨hS2, hfc, kC, hkC, hkind⟩ := hK.1 ci _ hc
  obtain ⟨cf, kf, fi, f, hi, hsl⟩ := hS2 k hk
  have hlay := C.hts _ (hin _ (u_in_lay hk))
  unfold u_lay at hlay
  rw [if_neg (by rw [hfin]; decide)] at hlay
  have hst := (u_facts hfc hkC (u_lays C.hts hin hk) hi).1
  have h6 := u_store hfc hkC hkind hlay hi hd hna hfit
  refine W.putK C.hx C.hb (f := f) ⟨C.hown, C.hts _ hw, ⟨_, _, _, hi⟩, hst⟩ (by rw [q2]; exact h6) q1 q3 (by rw [hsl]; exact k2_hasslot (q4 k hk)) rfl rfl d fun H' e1 e2 e3 => ?_
  rw [hsl] at e1 ⊢
  exact put_end hP hS hD hL ha kk e2 e3 ⟨_, hc, t_OB.to (V := updV (vp_V fs) k v) ⟨_, e1, q2, q3, t_set q4 hap hk v⟩ (fun j _ => vp_updV_set hl v j)⟩ (hS.put e2 e3 (hD a (by rw [ha]; simp)))
theorem r_putN (C : CX x cc nL own ret g L mc ms) {ref Cn host : String} {T : u_T} {N ci i a k : Nat} {fs : List Value} {v : Value} {ty : FieldType} (hin : ∀ w ∈ u_ws Cn T N, w ∈ lw_all) (ty0 : Nat → FieldType) (hty : ∀ k, k < N → parseFieldDescriptor (T k).2.2.1 = some (ty0 k)) (hnm : ∀ a, a < N → ∀ b, b < N → a ≠ b → (T a).2.1 ≠ (T b).2.1) (hc : clA[ci]? = some (Cn, T, N)) (hk : k < N) (hw : (Cond.fieldLinkNest own i ref (T k).2.1 (T k).2.2.1 host) ∈ lw_tbl) (hs : (T k).1 = ref) (hfin : (T k).2.2.2 = false) (hd : parseFieldDescriptor (T k).2.2.1 = some ty) (hna : narrow ty v = v) (hfit : fits ty v = true) (d : decode cc pc = .ok (.putfield i, 3)) (hn : pc + 3 = n) (ha : h a = some (oC ci fs)) (hl : k < fs.length)
    (kk : V x g h0 Q (va_up h a (some (oC ci (fs.set k v)))) sz cells slots n lo rest) : V x g h0 Q h sz cells slots pc lo (v :: .ref a :: rest) := by
  subst hn; subst hs
  intro H locs ls hP hS hD hL
  have hK := C.kg.K
  have hap := va_apart (own := own) C.hts hin ty0 hty hnm hK hc
  obtain ⟨r, h1, cell, q1, q2, q3, q4⟩ := (hP.2.2.2 a _ ha).2
  have hr : r = (Cn, T, N) := Option.some.inj (h1.symm.trans hc)
  subst hr
  obtain ⟨hS2, hfc, kC, hkC, hkind⟩ := hK.1 ci _ hc
  obtain ⟨cf, kf, fi, f, hi, hsl⟩ := hS2 k hk
  have hlay := C.hts _ (hin _ (u_in_lay hk))
  unfold u_lay at hlay
  rw [if_neg (by rw [hfin]; decide)] at hlay
  have hst := (u_facts hfc hkC (u_lays C.hts hin hk) hi).1
  have h6 := u_store hfc hkC hkind hlay hi hd hna hfit
  refine va_WputK C.hx C.hb (f := f) C.hown (va_Nw.use rfl (C.kg.nwF hw)) hi hst (by rw [q2]; exact h6) q1 q3 (by rw [hsl]; exact k2_hasslot (q4 k hk)) rfl rfl d fun H' e1 e2 e3 => ?_
  rw [hsl] at e1 ⊢
  exact put_end hP hS hD hL ha kk e2 e3 ⟨_, hc, t_OB.to (V := updV (vp_V fs) k v) ⟨_, e1, q2, q3, t_set q4 hap hk v⟩ (fun j _ => vp_updV_set hl v j)⟩ (hS.put e2 e3 (hD a (by rw [ha]; simp)))
/-- a final field, in a constructor -/
theorem r_putF (C : CX x cc nL own ret g L mc ms) (hni : (xMeth x).name = "<init>") {ref Cn : String} {T : u_T} {N ci i a k : Nat} {fs : List Value} {v : Value} {ty : FieldType} (hin : ∀ w ∈ u_ws Cn T N, w ∈ lw_all) (ty0 : Nat → FieldType) (hty : ∀ k, k < N → parseFieldDescriptor (T k).2.2.1 = some (ty0 k)) (hnm : ∀ a, a < N → ∀ b, b < N → a ≠ b → (T a).2.1 ≠ (T b).2.1) (hc : clA[ci]? = some (Cn, T, N)) (hk : k < N) (hw : (Cond.fieldLink own i ref (T k).2.1 (T k).2.2.1) ∈ lw_all) (hs : (T k).1 = ref) (hfin : (T k).2.2.2 = true) (hdecl : (T k).1 = own) (hd : parseFieldDescriptor (T k).2.2.1 = some ty) (hna : narrow ty v = v) (hfit : fits ty v = true) (d : decode cc pc = .ok (.putfield i, 3)) (hn : pc + 3 = n) (ha : h a = some (oC ci fs)) (hl : k < fs.length)
    (kk : V x g h0 Q (va_up h a (some (oC ci (fs.set k v)))) sz cells slots n lo rest) : V x g h0 Q h sz cells slots pc lo (v :: .ref a :: rest) := by
  subst hn; subst hs
  intro H locs ls hP hS hD hL
  have hK := C.kg.K
  have hap := va_apart (own := own) C.hts hin ty0 hty hnm hK hc
  obtain ⟨r, h1, cell, q1, q2, q3, q4⟩ := (hP.2.2.2 a _ ha).2
  have hr : r = (Cn, T, N) := Option.some.inj (h1.symm.trans hc)
  subst hr
  obtain ⟨hS2, hfc, kC, hkC, hkind⟩ := hK.1 ci _ hc
  obtain ⟨cf, kf, fi, f, hi, hsl⟩ := hS2 k hk
  have hlay := C.hts _ (hin _ (u_in_lay hk))
  unfold u_lay at hlay
  rw [if_pos hfin] at hlay
  have hst := (u_facts hfc hkC (u_lays C.hts hin hk) hi).1
  have hcf : (xM x).cls = cf := by
    obtain ⟨_, _, c', _, _, _, -, -, hf', -, -, -, hown2, -⟩ := Cond.laysFinal_spec hlay
    have e1 : c' = cf := by have := hi.symm.trans hf'; simp at this; exact this.1.symm
    rw [hdecl] at hown2
    rw [← e1]; exact Option.some.inj (C.hown.symm.trans hown2)
  have h6 := u_fits hfc hkC hkind (Or.inr hlay) hi hd hna hfit
  refine W.putFinK C.hx C.hb C.hown (C.hts _ hw) hi hst hcf hni (by rw [q2]; exact h6) q1 q3 (by rw [hsl]; exact k2_hasslot (q4 k hk)) rfl rfl d fun H' e1 e2 e3 => ?_
  rw [hsl] at e1 ⊢
  exact put_end hP hS hD hL ha kk e2 e3 ⟨_, hc, t_OB.to (V := updV (vp_V fs) k v) ⟨_, e1, q2, q3, t_set q4 hap hk v⟩ (fun j _ => vp_updV_set hl v j)⟩ (hS.put e2 e3 (hD a (by rw [ha]; simp)))
theorem r_iaload (C : CX x cc nL own ret g L mc ms) {a N : Nat} {f : Nat → Int} {i : Int} (d : decode cc pc = .ok (.iaload, 1)) (hn : pc + 1 = n) (ha : h a = some (eI g N f)) (kk : V x g h0 Q h sz cells slots n lo (vI (f i.toNat) :: rest)) (hi : 0 ≤ i ∧ i < N := by omega) (hN : N < 2147483648 := by omega) : V x g h0 Q h sz cells slots pc lo (vI i :: .ref a :: rest) := by
  subst hn
  intro H locs ls hP hS hD hL
  have k9 := kk H locs ls hP hS hD hL
  rw [← iI_cl (by omega)] at k9
  exact va_iald C.hx C.hb C.kg.K (hP.one ha) 0 0 rfl rfl (iI_in hi hN) d k9
theorem r_baload (C : CX x cc nL own ret g L mc ms) {a N : Nat} {f : Nat → Int} {i : Int} (d : decode cc pc = .ok (.baload, 1)) (hn : pc + 1 = n) (ha : h a = some (eB g N f)) (kk : V x g h0 Q h sz cells slots n lo (vI (f i.toNat) :: rest)) (hi : 0 ≤ i ∧ i < N := by omega) (hN : N < 2147483648 := by omega) : V x g h0 Q h sz cells slots pc lo (vI i :: .ref a :: rest) := by
  subst hn
  intro H locs ls hP hS hD hL
  have k9 := kk H locs ls hP hS hD hL
  rw [← iI_cl (by omega)] at k9
  exact va_bald C.hx C.hb C.kg.K (hP.one ha) 0 1 rfl rfl (iI_in hi hN) d k9
theorem up_iI (f : Nat → Int) (k : Nat) (z : Int) : upd (fun j => iI (f j)) k (iI z) = fun j => iI (va_up f k z j) := by
  funext j
  unfold upd va_up
  by_cases hj : j = k
  · simp [hj]
  · simp [hj]
theorem r_iastore (C : CX x cc nL own ret g L mc ms) {a N : Nat} {f : Nat → Int} {i z : Int} (d : decode cc pc = .ok (.iastore, 1)) (hn : pc + 1 = n) (ha : h a = some (eI g N f)) (kk : V x g h0 Q (va_up h a (some (eI g N (va_up f i.toNat z)))) sz cells slots n lo rest) (hi : 0 ≤ i ∧ i < N := by omega) (hN : N < 2147483648 := by omega) : V x g h0 Q h sz cells slots pc lo (vI z :: vI i :: .ref a :: rest) := by
  subst hn
  intro H locs ls hP hS hD hL
  have harr := (C.kg.K.2 0 (g.2.1 0, .int) rfl).1 N (fun j => .int (iI (f j)))
  refine W.iast C.hx C.hb (hP.2.2.2 a _ ha).2 harr (fun q => by cases q) (by show ¬ (iI i < 0 ∨ (arrV _ _ _).slots.size ≤ _); rw [arrV_size]; exact iI_in hi hN) rfl rfl d fun H1 e z oq => ?_
  refine put_end hP hS hD hL ha kk z oq ?_ (hS.put z oq (hD a (by rw [ha]; simp)))
  show H1[a]? = some (vp_cell _ _)
  rw [e, vp_cell_i, vp_cell_i, arrV_store, iI_cl (by omega)]
  congr 2
  funext q
  by_cases hq : q = i.toNat
  · subst hq
    simp [updV, va_up]
  · simp [updV, va_up, hq]
theorem r_bastore (C : CX x cc nL own ret g L mc ms) {a N : Nat} {f : Nat → Int} {i z : Int} (d : decode cc pc = .ok (.bastore, 1)) (hn : pc + 1 = n) (ha : h a = some (eB g N f)) (kk : V x g h0 Q (va_up h a (some (eB g N (va_up f i.toNat (zbyte z))))) sz cells slots n lo rest) (hi : 0 ≤ i ∧ i < N := by omega) (hN : N < 2147483648 := by omega) : V x g h0 Q h sz cells slots pc lo (vI z :: vI i :: .ref a :: rest) := by
  subst hn
  intro H locs ls hP hS hD hL
  have harr := (C.kg.K.2 1 (g.2.1 1, .byte) rfl).1 N (fun j => .int (iI (f j)))
  refine W.bast C.hx C.hb (hP.2.2.2 a _ ha).2 harr (fun q => by cases q) (by show ¬ (iI i < 0 ∨ (arrV _ _ _).slots.size ≤ _); rw [arrV_size]; exact iI_in hi hN) rfl rfl d fun H1 e z oq => ?_
  refine put_end hP hS hD hL ha kk z oq ?_ (hS.put z oq (hD a (by rw [ha]; simp)))
  show H1[a]? = some (vp_cell _ _)
  rw [e, vp_cell_i, vp_cell_i, arrV_store, iI_cl (by omega)]
  congr 2
  funext q
  by_cases hq : q = i.toNat
  · subst hq
    simp only [updV, va_up, if_true]
    unfold zbyte
    rw [iI_to]
    rfl
  · simp [updV, va_up, hq]
theorem r_aaload2 (C : CX x cc nL own ret g L mc ms) {a N : Nat} {f : Nat → Option Nat} {i : Int} (d : decode cc pc = .ok (.aaload, 1)) (hn : pc + 1 = n) (ha : h a = some (eG g N f)) {r : Option Nat} (hr : f i.toNat = r) (kk : V x g h0 Q h sz cells slots n lo (va_rf r :: rest)) (hi : 0 ≤ i ∧ i < N := by omega) (hN : N < 2147483648 := by omega) : V x g h0 Q h sz cells slots pc lo (vI i :: .ref a :: rest) := by
  subst hn; subst hr
  intro H locs ls hP hS hD hL
  have k9 := kk H locs ls hP hS hD hL
  have hc : (iI i).toNatClampNeg = i.toNat := iI_cl (by omega)
  have hlt : (iI i).toNatClampNeg < N := by rw [hc]; omega
  refine W.aald (v := va_rf (f i.toNat)) (ty := .array .int) C.hx C.hb (hP.2.2.2 a _ ha).2 ((C.kg.K.2 2 (g.2.1 2, .array .int) rfl).1 N (fun j => va_rf (f j))) rfl (fun q => by cases q) (by show ¬ (iI i < 0 ∨ (arrV _ _ _).slots.size ≤ _); rw [arrV_size]; exact iI_in hi hN) (by show (arrV _ _ _).slots[_]? = _; rw [arrV_read _ _ hlt, hc]) rfl rfl d k9
theorem r_aaload3 (C : CX x cc nL own ret g L mc ms) {a N : Nat} {f : Nat → Option Nat} {i : Int} (d : decode cc pc = .ok (.aaload, 1)) (hn : pc + 1 = n) (ha : h a = some (eO g N f)) {r : Option Nat} (hr : f i.toNat = r) (kk : V x g h0 Q h sz cells slots n lo (va_rf r :: rest)) (hi : 0 ≤ i ∧ i < N := by omega) (hN : N < 2147483648 := by omega) : V x g h0 Q h sz cells slots pc lo (vI i :: .ref a :: rest) := by
  subst hn; subst hr
  intro H locs ls hP hS hD hL
  have k9 := kk H locs ls hP hS hD hL
  have hc : (iI i).toNatClampNeg = i.toNat := iI_cl (by omega)
  have hlt : (iI i).toNatClampNeg < N := by rw [hc]; omega
  refine W.aald (v := va_rf (f i.toNat)) (ty := .object "java/lang/Object") C.hx C.hb (hP.2.2.2 a _ ha).2 ((C.kg.K.2 3 (g.2.1 3, .object "java/lang/Object") rfl).1 N (fun j => va_rf (f j))) rfl (fun q => by cases q) (by show ¬ (iI i < 0 ∨ (arrV _ _ _).slots.size ≤ _); rw [arrV_size]; exact iI_in hi hN) (by show (arrV _ _ _).slots[_]? = _; rw [arrV_read _ _ hlt, hc]) rfl rfl d k9
theorem r_alenI (C : CX x cc nL own ret g L mc ms) {a N : Nat} {f : Nat → Int} (d : decode cc pc = .ok (.arraylength, 1)) (hn : pc + 1 = n) (ha : h a = some (eI g N f)) (kk : V x g h0 Q h sz cells slots n lo (vI (N : Int) :: rest)) : V x g h0 Q h sz cells slots pc lo (.ref a :: rest) := by
  subst hn
  intro H locs ls hP hS hD hL
  exact va_alen C.hx C.hb C.kg.K (hP.one ha) 0 0 rfl rfl (iI_nat N) d (kk H locs ls hP hS hD hL)
theorem r_alenB (C : CX x cc nL own ret g L mc ms) {a N : Nat} {f : Nat → Int} (d : decode cc pc = .ok (.arraylength, 1)) (hn : pc + 1 = n) (ha : h a = some (eB g N f)) (kk : V x g h0 Q h sz cells slots n lo (vI (N : Int) :: rest)) : V x g h0 Q h sz cells slots pc lo (.ref a :: rest) := by
  subst hn
  intro H locs ls hP hS hD hL
  exact va_alen C.hx C.hb C.kg.K (hP.one ha) 0 1 rfl rfl (iI_nat N) d (kk H locs ls hP hS hD hL)
theorem r_alenO (C : CX x cc nL own ret g L mc ms) {a N : Nat} {f : Nat → Option Nat} (d : decode cc pc = .ok (.arraylength, 1)) (hn : pc + 1 = n) (ha : h a = some (eO g N f)) (kk : V x g h0 Q h sz cells slots n lo (vI (N : Int) :: rest)) : V x g h0 Q h sz cells slots pc lo (.ref a :: rest) := by
  subst hn
  intro H locs ls hP hS hD hL
  exact va_alen C.hx C.hb C.kg.K (hP.one ha) 0 3 rfl rfl (iI_nat N) d (kk H locs ls hP hS hD hL)
/-- behind a new cell -/
theorem push_end {H : Heap} {locs : List Loc} {ls : Array Slot} {e : va_E} {lo' : List (Option Value)} {st : List Value} {n' cells' slots' : Nat} (hP : HP g h sz H) (hS : va_S (AF h0 (xS x).heap.size) (xS x).heap H locs) (hD : DO h h0 (xS x).heap.size) (hL : LV ls (xC x).maxLocals lo')
    (kk : V x g h0 Q (va_up h sz (some e)) (sz + 1) cells' slots' n' lo' st) {H1 : Heap} (z : H1.size = H.size + 1) (oq : ∀ q : Nat, q < H.size → H1[q]? = H[q]?) (hp : va_at g.1 clA (sz, e) H1) : W (xP x) (xL x) (xE x) (xR x) (xS x) (xM x) (xA x) (xB x) (xMeth x) (xC x) H1 locs cells' slots' Q (F0 (xM x) n' ls st) := by
  have hz := hP.1
  refine kk H1 locs ls (hP.push (by omega) (fun q hq => oq q (by omega)) hp) ⟨by have := hS.1; omega, fun q h1 h2 => (oq q (by have := hS.1; omega)).trans (hS.2.1 q h1 h2), hS.2.2⟩ (hD.set (Or.inr (by have := hS.1; omega))) hL
theorem r_new (C : CX x cc nL own ret g L mc ms) {Cn : String} {T : u_T} {N ci i : Nat} {fs : List Value} (hin : ∀ w ∈ u_ws Cn T N, w ∈ lw_all) (ty : Nat → FieldType) (hty : ∀ k, k < N → parseFieldDescriptor (T k).2.2.1 = some (ty k)) (hcl : (Cond.classLink own i Cn) ∈ lw_all) (hins : (Cond.instantiable Cn N) ∈ lw_all) (hini : (Cond.initialized Cn) ∈ lw_all) (hc : clA[ci]? = some (Cn, T, N)) (hfs : ∀ j, j < N → defaultValue (ty j) = vp_V fs j) (d : decode cc pc = .ok (.new i, 3)) (hn : pc + 3 = n)
    (kk : V x g h0 Q (va_up h sz (some (oC ci fs))) (sz + 1) (cells + 1) (slots + N) n lo (.ref sz :: rest)) (h1 : cells + 1 ≤ mc := by omega) (h2 : slots + N ≤ ms := by omega) : V x g h0 Q h sz cells slots pc lo rest := by
  subst hn
  intro H locs ls hP hS hD hL
  have hKn := C.kg.K.1 ci _ hc
  have hz : H.size = sz := hP.1
  refine W.newcK C.hx C.hb C.hown (C.hts _ hcl) (C.hts _ hins) (C.hts _ hini) rfl d (by rw [C.rm]; exact h1) (by rw [C.rm]; exact h2) hKn.2.1 rfl fun H1 kC hkC e1 z1 o1 => ?_
  subst hz
  exact push_end hP hS hD hL kk z1 o1 ⟨_, hc, (u_born ty C.hts hin hKn hkC e1 hty).to hfs⟩
theorem r_newI (C : CX x cc nL own ret g L mc ms) {N : Nat} {z : Int} (harr : (Cond.arrayClass .int) ∈ lw_all) (d : decode cc pc = .ok (.newarray .int, 2)) (hn : pc + 2 = n) (hz : z = (N : Int))
    (kk : V x g h0 Q (va_up h sz (some (eI g N (fun _ => 0)))) (sz + 1) (cells + 1) (slots + N) n lo (.ref sz :: rest)) (h1 : cells + 1 ≤ mc := by omega) (h2 : slots + N ≤ ms := by omega) (hN : N < 100000000 := by omega) : V x g h0 Q h sz cells slots pc lo (vI z :: rest) := by
  subst hn; subst hz
  intro H locs ls hP hS hD hL
  have hzz : H.size = sz := hP.1
  subst hzz
  have hcl : (iI (N : Int)).toNatClampNeg = N := by rw [iI_cl (by omega)]; omega
  refine va_newaK (atype := .int) C.hx C.hb (C.hts _ harr) rfl d rfl (fun c9 => by have := (iI_lt (b := 0) (by omega)).mp c9; omega) hcl (by show N * 4 ≤ _; omega) (by rw [C.rm]; exact h1) (by rw [C.rm]; exact h2) rfl fun H1 cA e1 z1 o1 hAr hNm => ?_
  have hcA : cA = g.2.1 0 := Option.some.inj (hNm.symm.trans (C.kg.K.2 0 (g.2.1 0, .int) rfl).2)
  subst hcA
  exact push_end hP hS hD hL kk z1 o1 e1
theorem r_newB (C : CX x cc nL own ret g L mc ms) {N : Nat} {z : Int} (harr : (Cond.arrayClass .byte) ∈ lw_all) (d : decode cc pc = .ok (.newarray .byte, 2)) (hn : pc + 2 = n) (hz : z = (N : Int))
    (kk : V x g h0 Q (va_up h sz (some (eB g N (fun _ => 0)))) (sz + 1) (cells + 1) (slots + N) n lo (.ref sz :: rest)) (h1 : cells + 1 ≤ mc := by omega) (h2 : slots + N ≤ ms := by omega) (hN : N < 100000000 := by omega) : V x g h0 Q h sz cells slots pc lo (vI z :: rest) := by
  subst hn; subst hz
  intro H locs ls hP hS hD hL
  have hzz : H.size = sz := hP.1
  subst hzz
  have hcl : (iI (N : Int)).toNatClampNeg = N := by rw [iI_cl (by omega)]; omega
  refine va_newaK (atype := .byte) C.hx C.hb (C.hts _ harr) rfl d rfl (fun c9 => by have := (iI_lt (b := 0) (by omega)).mp c9; omega) hcl (by show N * 1 ≤ _; omega) (by rw [C.rm]; exact h1) (by rw [C.rm]; exact h2) rfl fun H1 cA e1 z1 o1 hAr hNm => ?_
  have hcA : cA = g.2.1 1 := Option.some.inj (hNm.symm.trans (C.kg.K.2 1 (g.2.1 1, .byte) rfl).2)
  subst hcA
  exact push_end hP hS hD hL kk z1 o1 e1
end VH
