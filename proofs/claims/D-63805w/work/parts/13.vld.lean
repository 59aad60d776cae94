/-! CONTRACTS over layer V, calls, ends -/
def QC (g : GG) (h : HM) (sz : Nat) (Post : Option Value → HM → Nat → Prop) : Array Value → State → Outcome → State → Prop := fun _ st o t =>
  ∃ (v : Option Value) (h' : HM) (sz' : Nat), o = .returned v ∧ Post v h' sz' ∧ HP g h' sz' t.heap ∧ DO h' h sz ∧ va_F (AF h sz) st t
/-- the contract of y at level L, called with 'as' on the map h, sz cells in all: it returns v on the map h', sz' cells -/
def CT (l : Launch) (y : MethodName) (cc : ByteArray) (nL : Nat) (ret : Option FieldType) (L mc ms : Nat) (as : List Value) (g : GG) (h : HM) (sz : Nat) (Post : Option Value → HM → Nat → Prop) : Prop :=
  Met l y (ws_ y cc nL ret) { frames := L, cells := mc, slots := ms, locals := 40 * L } (va_Pc as (fun U => KG g U ∧ HP g h sz U.heap)) (QC g h sz Post) mc ms (AF h sz)
def QM (x : XT) (g : GG) (h0 : HM) (Post : Option Value → HM → Nat → Prop) (mc ms : Nat) : State → Prop := MQ (xB x) (QC g h0 (xS x).heap.size Post) (xA x) (xS x) mc ms (AF h0 (xS x).heap.size)
def RQ (x : XT) (g : GG) (h0 : HM) (Q : State → Prop) (Post : Option Value → HM → Nat → Prop) (mc ms : Nat) : Prop := Q = QM x g h0 Post mc ms
theorem lv_args_mem : ∀ (as : List Value) (k i : Nat) (v : Value), (∀ w ∈ as, w.category = 1) → as[i]? = some v → (k + i, v) ∈ lv_args k as
  | [], _, _, _, _, h => by simp at h
  | w :: as, k, i, v, hc, h => by
    have hw : w.category = 1 := hc w List.mem_cons_self
    rw [lv_args, if_neg (by omega)]
    cases i with
    | zero =>
      simp at h
      subst h
      exact List.mem_cons_self
    | succ i =>
      have := lv_args_mem as (k + 1) i v (fun z hz => hc z (List.mem_cons_of_mem _ hz)) (by simpa using h)
      exact List.mem_cons_of_mem _ (by rw [show k + (i + 1) = k + 1 + i by omega]; exact this)
theorem lg_sl_len : ∀ (as : List Value), (∀ w ∈ as, w.category = 1) → (lg_sl as).length = as.length
  | [], _ => rfl
  | w :: as, hc => by
    have hw : w.category = 1 := hc w List.mem_cons_self
    have ih := lg_sl_len as (fun z hz => hc z (List.mem_cons_of_mem _ hz))
    show ((if w.category = 2 then [Slot.val w, Slot.second] else [Slot.val w]) ++ lg_sl as).length = _
    rw [if_neg (by omega), List.length_append, ih]
    simp
    omega
theorem CT.of {l : Launch} {y : MethodName} {cc : ByteArray} {nL : Nat} {ret : Option FieldType} {L mc ms : Nat} {as : List Value} {g : GG} {h : HM} {sz : Nat} {Post : Option Value → HM → Nat → Prop} {lo : List (Option Value)}
    (hy : plainName y.cls = true) (hcat : ∀ v ∈ as, v.category = 1) (hlen : as.length ≤ nL) (hlo : as.map some ++ List.replicate (nL - as.length) none = lo)
    (body : ∀ (x : XT) (h0 : HM) (Q : State → Prop), CX x cc nL y.cls ret g L mc ms → RQ x g h0 Q Post mc ms → xL x = l → (xMeth x).name = y.name → V x g h0 Q h sz 0 0 0 lo []) : CT l y cc nL ret L mc ms as g h sz Post := by
  refine Met.ofW (cc := cc) (maxL := nL) (ret := ret) hy rfl ?_
  intro p e s m args below meth c s₁ B hml hv
  obtain ⟨rfl, hK, hP⟩ := hv
  have hts := atoms_spec (ws := ws_ y cc nL ret) B.pre
  have hts : ∀ w ∈ lw_all, w.before _ s = true := fun w h => hts w (List.mem_cons_of_mem _ h)
  have hz : s.heap.size = sz := hP.1
  subst hz
  have hll : (lg_sl as).length ≤ nL := by rw [lg_sl_len as hcat]; exact hlen
  have hl := lv_entry as (n := nL) hll
  rw [lg_entry_eq]
  refine body (p, l, e, { frames := L, cells := mc, slots := ms, locals := 40 * L }, s, m, as.toArray, below, meth, c) h _ ⟨B.exec, B.bytes, B.returns, hml, findClass_of_methodNamed B.named, hts, B.notSynchronized, hK, rfl⟩ rfl rfl (name_of_methodNamed B.named B.method).1 s.heap [] _ hP va_S.rf (fun a ha => Or.inl ha) ?_
  refine ⟨by show _ = c.maxLocals; rw [hml]; exact hl.1, hl.2.1, fun k v hk => ?_⟩
  have hk' : as[k]? = some v := by
    rw [← hlo] at hk
    by_cases hlt : k < as.length
    · rw [List.getElem?_append_left (by simpa using hlt), List.getElem?_map] at hk
      cases hq : as[k]? with
      | none => rw [hq] at hk; simp at hk
      | some w => rw [hq] at hk; simp at hk; rw [hk]
    · rw [List.getElem?_append_right (by simp; omega), List.getElem?_replicate] at hk
      split at hk <;> simp at hk
  refine ⟨hcat v (List.mem_of_getElem? hk'), ?_⟩
  have := hl.2.2 (0 + k, v) (lv_args_mem as 0 k v hcat hk')
  simpa using this
/-- another post, other room -/
theorem CT.post {l : Launch} {y : MethodName} {cc : ByteArray} {nL : Nat} {ret : Option FieldType} {L mc ms : Nat} {as : List Value} {g : GG} {h : HM} {sz : Nat} {Post Post' : Option Value → HM → Nat → Prop} (hM : CT l y cc nL ret L mc ms as g h sz Post) (hp : ∀ v h' sz', Post v h' sz' → Post' v h' sz') : CT l y cc nL ret L mc ms as g h sz Post' := by
  intro p e ha hc hk s m args below hf hfit hheap happ
  obtain ⟨k, o, h1, h2, h3, ⟨v, h', sz', e1, e2, e3⟩, h4⟩ := hM p e ha hc hk s m args below hf hfit hheap happ
  exact ⟨k, o, h1, h2, h3, ⟨v, h', sz', e1, hp _ _ _ e2, e3⟩, h4⟩
def stk (v : Option Value) (rest : List Value) : List Value := match v with
  | none => rest
  | some w => w :: rest
theorem stk_eq (v : Option Value) (rest : List Value) : v.toList ++ rest = stk v rest := by cases v <;> rfl
section VC
variable {x : XT} {g : GG} {h0 : HM} {Q : State → Prop} {h : HM} {sz cells slots pc n : Nat} {lo : List (Option Value)} {rest : List Value}
variable {cc : ByteArray} {nL : Nat} {own : String} {ret : Option FieldType} {L mc ms : Nat} {Post : Option Value → HM → Nat → Prop}
theorem r_ireturn (C : CX x cc nL own (some .int) g L mc ms) (hQ : RQ x g h0 Q Post mc ms) {z : Int} (d : decode cc pc = .ok (.ireturn, 1)) (hq : Post (some (vI z)) h sz) (h1 : cells ≤ mc := by omega) (h2 : slots ≤ ms := by omega) : V x g h0 Q h sz cells slots pc lo [vI z] := by
  subst hQ
  intro H locs ls hP hS hD hL
  refine W.widen h1 h2 ?_
  exact W.iret C.hx C.hb C.hr (fun t ht hW => ⟨some (vI z), h, sz, rfl, hq, by rw [ht]; exact hP, hD, hS.F ht⟩) hS.2.2 d C.hlk
theorem r_zreturn {ty : FieldType} (C : CX x cc nL own (some ty) g L mc ms) (hQ : RQ x g h0 Q Post mc ms) {z : Int} (hna : narrow ty (vI z) = vI z) (d : decode cc pc = .ok (.ireturn, 1)) (hq : Post (some (vI z)) h sz) (h1 : cells ≤ mc := by omega) (h2 : slots ≤ ms := by omega) : V x g h0 Q h sz cells slots pc lo [vI z] := by
  subst hQ
  intro H locs ls hP hS hD hL
  refine W.widen h1 h2 ?_
  exact W.zret C.hx C.hb C.hr hna (fun t ht hW => ⟨some (vI z), h, sz, rfl, hq, by rw [ht]; exact hP, hD, hS.F ht⟩) hS.2.2 d C.hlk
theorem r_return (C : CX x cc nL own none g L mc ms) (hQ : RQ x g h0 Q Post mc ms) (d : decode cc pc = .ok (.return_, 1)) (hq : Post none h sz) (h1 : cells ≤ mc := by omega) (h2 : slots ≤ ms := by omega) : V x g h0 Q h sz cells slots pc lo [] := by
  subst hQ
  intro H locs ls hP hS hD hL
  refine W.widen h1 h2 ?_
  exact W.vret C.hx C.hb C.hr (fun t ht hW => ⟨none, h, sz, rfl, hq, by rw [ht]; exact hP, hD, hS.F ht⟩) hS.2.2 d C.hlk
theorem r_areturn {rt : FieldType} (C : CX x cc nL own (some rt) g L mc ms) (hQ : RQ x g h0 Q Post mc ms) {v : Value} (hrt : (∃ n, rt = .object n) ∨ ∃ t, rt = .array t) (hv : v = .null ∨ ∃ a, v = .ref a) (d : decode cc pc = .ok (.areturn, 1)) (hq : Post (some v) h sz) (h1 : cells ≤ mc := by omega) (h2 : slots ≤ ms := by omega) : V x g h0 Q h sz cells slots pc lo [v] := by
  subst hQ
  intro H locs ls hP hS hD hL
  refine W.widen h1 h2 ?_
  exact W.aret C.hx C.hb C.hr hrt hv (fun t ht hW => ⟨some v, h, sz, rfl, hq, by rw [ht]; exact hP, hD, hS.F ht⟩) hS.2.2 d C.hlk
theorem ct_blind {as : List Value} : FrameBlind (va_Pc as (fun U => KG g U ∧ HP g h sz U.heap)) := fun _ _ _ _ q => ⟨q.1, q.2.1, q.2.2⟩
/-- behind a call -/
theorem call_end {H : Heap} {locs : List Loc} {ls : Array Slot} {st0 : List Value} {mc' ms' : Nat} {a : Array Value} (hr : va_Run (xP x) (xL x) (xE x) (xR x) (xS x) (xM x) (xA x) (xB x) (xMeth x) (xC x) H locs cells slots mc' ms' (F0 (xM x) pc ls st0) rest (QC g h sz Post a) (AF h sz))
    (hP : HP g h sz H) (hS : va_S (AF h0 (xS x).heap.size) (xS x).heap H locs) (hD : DO h h0 (xS x).heap.size) (hL : LV ls (xC x).maxLocals lo)
    (kk : ∀ (v : Option Value) (h' : HM) (sz' : Nat), Post v h' sz' → sz ≤ sz' → DO h' h sz → V x g h0 Q h' sz' (cells + mc') (slots + ms') (pc + 3) lo (stk v rest)) : W (xP x) (xL x) (xE x) (xR x) (xS x) (xM x) (xA x) (xB x) (xMeth x) (xC x) H locs cells slots Q (F0 (xM x) pc ls st0) := by
  intro T hT X
  obtain ⟨v, st₀, t, T', L, e0, X', hL', e1, e2, ⟨v', h', sz', hv, hp, hP', hD', hF⟩, st⟩ := hr T hT X
  cases hv
  rw [stk_eq] at st
  have hz : H.size = sz := hP.1
  have hz' : t.heap.size = sz' := hP'.1
  have hF1 : sz ≤ sz' := by have := hF.1; rw [e0] at this; omega
  have hsub : ∀ q, AF h sz q → AF h0 (xS x).heap.size q := fun q hq => by
    rcases hq with hq | hq
    · exact hD q hq
    · exact Or.inr (by have := hS.1; omega)
  obtain ⟨t2, a1, b1⟩ := kk v h' sz' hp hF1 hD' T'.heap (locs ++ L) ls (by rw [e1]; exact hP')
    ⟨by rw [e1]; have := hS.1; omega, fun q h1 h2 => by
      have h3 := hF.2 q (by rw [e0]; have := hS.1; omega) (fun c9 => h2 (hsub q c9))
      rw [e1, h3, e0]
      exact hS.2.1 q h1 h2, fun q hq => by
      rcases List.mem_append.mp hq with h | h
      · exact hS.2.2 q h
      · exact hsub _ (hL' q h)⟩ (fun a ha => hsub a (hD' a ha)) hL T' rfl X'
  exact ⟨t2, st t2 a1, b1⟩
theorem call_end5 {H : Heap} {locs : List Loc} {ls : Array Slot} {st0 : List Value} {mc' ms' : Nat} {a : Array Value} (hr : va_Run5 (xP x) (xL x) (xE x) (xR x) (xS x) (xM x) (xA x) (xB x) (xMeth x) (xC x) H locs cells slots mc' ms' (F0 (xM x) pc ls st0) rest (QC g h sz Post a) (AF h sz))
    (hP : HP g h sz H) (hS : va_S (AF h0 (xS x).heap.size) (xS x).heap H locs) (hD : DO h h0 (xS x).heap.size) (hL : LV ls (xC x).maxLocals lo)
    (kk : ∀ (v : Option Value) (h' : HM) (sz' : Nat), Post v h' sz' → sz ≤ sz' → DO h' h sz → V x g h0 Q h' sz' (cells + mc') (slots + ms') (pc + 5) lo (stk v rest)) : W (xP x) (xL x) (xE x) (xR x) (xS x) (xM x) (xA x) (xB x) (xMeth x) (xC x) H locs cells slots Q (F0 (xM x) pc ls st0) := by
  intro T hT X
  obtain ⟨v, st₀, t, T', L, e0, X', hL', e1, e2, ⟨v', h', sz', hv, hp, hP', hD', hF⟩, st⟩ := hr T hT X
  cases hv
  rw [stk_eq] at st
  have hz : H.size = sz := hP.1
  have hz' : t.heap.size = sz' := hP'.1
  have hF1 : sz ≤ sz' := by have := hF.1; rw [e0] at this; omega
  have hsub : ∀ q, AF h sz q → AF h0 (xS x).heap.size q := fun q hq => by
    rcases hq with hq | hq
    · exact hD q hq
    · exact Or.inr (by have := hS.1; omega)
  obtain ⟨t2, a1, b1⟩ := kk v h' sz' hp hF1 hD' T'.heap (locs ++ L) ls (by rw [e1]; exact hP')
    ⟨by rw [e1]; have := hS.1; omega, fun q h1 h2 => by
      have h3 := hF.2 q (by rw [e0]; have := hS.1; omega) (fun c9 => h2 (hsub q c9))
      rw [e1, h3, e0]
      exact hS.2.1 q h1 h2, fun q hq => by
      rcases List.mem_append.mp hq with h | h
      · exact hS.2.2 q h
      · exact hsub _ (hL' q h)⟩ (fun a ha => hsub a (hD' a ha)) hL T' rfl X'
  exact ⟨t2, st t2 a1, b1⟩
section VCC
variable {y : MethodName} {bytes : ByteArray} {maxL : Nat} {ret' : Option FieldType} {L' mc' ms' i b ci N n0 : Nat} {T : u_T} {fs As st : List Value}
theorem HP.recv {H : Heap} {s : State} {q : vw_C} (hK : KG g s) (hP : HP g h sz H) (hc : clA[ci]? = some q) (ha : h b = some (oC ci fs)) : ∃ cell : Cell, H[b]? = some cell ∧ cell.vm.isStatics = false ∧ s.vm.findClass q.1 = some cell.cls := va_recv (q0 := 0) hK.K (hP.one ha) hc rfl
theorem r_callV (C : CX x cc nL own ret g L mc ms) (hM : CT (xL x) y bytes maxL ret' L' mc' ms' (.ref b :: As) g h sz Post) (hw : GoodIn lw_all (wsV own i y.cls y (ws_ y bytes maxL ret'))) (hd : y.cls ≠ "java/lang/invoke/MethodHandle" ∧ y.cls ≠ "java/lang/invoke/VarHandle" ∧ (parseMethodDescriptor y.desc).map (fun d => d.parameters.length) = some n0) (hl : As.length = n0) (ha : h b = some (oC ci fs)) (hc : clA[ci]? = some (y.cls, T, N)) (d : decode cc pc = .ok (.invokevirtual i, 3)) (hn : pc + 3 = n) (hst : st = As.reverse ++ .ref b :: rest)
    (kk : ∀ (v : Option Value) (h' : HM) (sz' : Nat), Post v h' sz' → sz ≤ sz' → DO h' h sz → V x g h0 Q h' sz' (cells + mc') (slots + ms') n lo (stk v rest)) (hLv : L' + 1 ≤ L := by omega) (hm : maxL ≤ 21 := by decide) (h1 : cells + mc' ≤ mc := by omega) (h2 : slots + ms' ≤ ms := by omega) (hW : (rest.map fun v => v.category).sum ≤ 8 := by exact Nat.le_of_ble_eq_true rfl) : V x g h0 Q h sz cells slots pc lo st := by
  subst hn; subst hst
  intro H locs ls hP hS hD hL
  exact call_end (va_runV (nL := nL) (Ts := lw_all) ⟨C.hx, C.hb, C.hml, C.hown, C.hts⟩ hM (cwV n0 C.hts hw rfl rfl rfl ⟨rfl, hd⟩ ⟨by rw [C.rm]; exact hLv, by rw [C.rm]; show _ + 40 * L' ≤ 40 * L; omega⟩) ⟨ct_blind, hP.recv C.kg hc ha, fun U hU hWm => ⟨rfl, C.kg.warm hWm, by rw [hU]; exact hP⟩⟩ rfl hl (by rw [← C.hml]; exact hL.1) rfl (lv_room hW) d ⟨by rw [C.rm]; exact h1, by rw [C.rm]; exact h2⟩) hP hS hD hL kk
theorem r_callS (C : CX x cc nL own ret g L mc ms) (hM : CT (xL x) y bytes maxL ret' L' mc' ms' As g h sz Post) (hw : GoodIn lw_all (va_wsS own i y (ws_ y bytes maxL ret'))) (hd : y.cls ≠ "java/lang/invoke/MethodHandle" ∧ y.cls ≠ "java/lang/invoke/VarHandle" ∧ (parseMethodDescriptor y.desc).map (fun d => d.parameters.length) = some n0) (hl : As.length = n0) (d : decode cc pc = .ok (.invokestatic i, 3)) (hn : pc + 3 = n) (hst : st = As.reverse ++ rest)
    (kk : ∀ (v : Option Value) (h' : HM) (sz' : Nat), Post v h' sz' → sz ≤ sz' → DO h' h sz → V x g h0 Q h' sz' (cells + mc') (slots + ms') n lo (stk v rest)) (hLv : L' + 1 ≤ L := by omega) (hm : maxL ≤ 21 := by decide) (h1 : cells + mc' ≤ mc := by omega) (h2 : slots + ms' ≤ ms := by omega) (hW : (rest.map fun v => v.category).sum ≤ 8 := by exact Nat.le_of_ble_eq_true rfl) : V x g h0 Q h sz cells slots pc lo st := by
  subst hn; subst hst
  intro H locs ls hP hS hD hL
  exact call_end (va_runS (nL := nL) (Ts := lw_all) ⟨C.hx, C.hb, C.hml, C.hown, C.hts⟩ hM (va_cwS n0 C.hts hw rfl rfl rfl hd ⟨by rw [C.rm]; exact hLv, by rw [C.rm]; show _ + 40 * L' ≤ 40 * L; omega⟩) ⟨ct_blind, fun U hU hWm => ⟨rfl, C.kg.warm hWm, by rw [hU]; exact hP⟩⟩ rfl hl (by rw [← C.hml]; exact hL.1) rfl (lv_room hW) d ⟨by rw [C.rm]; exact h1, by rw [C.rm]; exact h2⟩) hP hS hD hL kk
/-- a constructor -/
theorem r_callI (C : CX x cc nL own ret g L mc ms) (hM : CT (xL x) y bytes maxL none L' mc' ms' (.ref b :: As) g h sz Post) (hw : Cond.code y bytes maxL none ∈ lw_all) (hi : Cond.initialized y.cls ∈ lw_all) (hk : Cond.methodLink own i y ∈ lw_all) (him : Cond.instanceMethod y ∈ lw_all) (hy : y.name = "<init>") (hd : y.cls ≠ "java/lang/invoke/MethodHandle" ∧ y.cls ≠ "java/lang/invoke/VarHandle" ∧ (parseMethodDescriptor y.desc).map (fun d => d.parameters.length) = some n0) (hl : As.length = n0) (d : decode cc pc = .ok (.invokespecial i, 3)) (hn : pc + 3 = n) (hst : st = As.reverse ++ .ref b :: rest)
    (kk : ∀ (v : Option Value) (h' : HM) (sz' : Nat), Post v h' sz' → sz ≤ sz' → DO h' h sz → V x g h0 Q h' sz' (cells + mc') (slots + ms') n lo (stk v rest)) (hLv : L' + 1 ≤ L := by omega) (hm : maxL ≤ 21 := by decide) (h1 : cells + mc' ≤ mc := by omega) (h2 : slots + ms' ≤ ms := by omega) (hW : (rest.map fun v => v.category).sum ≤ 8 := by exact Nat.le_of_ble_eq_true rfl) : V x g h0 Q h sz cells slots pc lo st := by
  subst hn; subst hst
  intro H locs ls hP hS hD hL
  exact call_end (va_runI (nL := nL) (Ts := lw_all) (n := n0) ⟨C.hx, C.hb, C.hml, C.hown, C.hts⟩ hM ⟨callB_of n0 C.hts (lw_meth hw) rfl rfl rfl (C.hts _ hi) (C.hts _ hk) hd ⟨by rw [C.rm]; exact hLv, by rw [C.rm]; show _ + 40 * L' ≤ 40 * L; omega⟩, hy, C.hts _ him⟩ ⟨ct_blind, fun U hU hWm => ⟨rfl, C.kg.warm hWm, by rw [hU]; exact hP⟩⟩ rfl hl (by rw [← C.hml]; exact hL.1) rfl (lv_room hW) d ⟨by rw [C.rm]; exact h1, by rw [C.rm]; exact h2⟩) hP hS hD hL kk
/-- a nest mate's private constructor -/
theorem r_callIN (C : CX x cc nL own ret g L mc ms) {host : String} (hM : CT (xL x) y bytes maxL none L' mc' ms' (.ref b :: As) g h sz Post) (hw : Cond.code y bytes maxL none ∈ lw_all) (hi : Cond.initialized y.cls ∈ lw_all) (hk : Cond.methodLinkNest own i y host ∈ lw_tbl) (him : Cond.instanceMethod y ∈ lw_all) (hy : y.name = "<init>") (hd : y.cls ≠ "java/lang/invoke/MethodHandle" ∧ y.cls ≠ "java/lang/invoke/VarHandle" ∧ (parseMethodDescriptor y.desc).map (fun d => d.parameters.length) = some n0) (hl : As.length = n0) (d : decode cc pc = .ok (.invokespecial i, 3)) (hn : pc + 3 = n) (hst : st = As.reverse ++ .ref b :: rest)
    (kk : ∀ (v : Option Value) (h' : HM) (sz' : Nat), Post v h' sz' → sz ≤ sz' → DO h' h sz → V x g h0 Q h' sz' (cells + mc') (slots + ms') n lo (stk v rest)) (hLv : L' + 1 ≤ L := by omega) (hm : maxL ≤ 21 := by decide) (h1 : cells + mc' ≤ mc := by omega) (h2 : slots + ms' ≤ ms := by omega) (hW : (rest.map fun v => v.category).sum ≤ 8 := by exact Nat.le_of_ble_eq_true rfl) : V x g h0 Q h sz cells slots pc lo st := by
  subst hn; subst hst
  intro H locs ls hP hS hD hL
  exact call_end (va_runIN (nL := nL) (Ts := lw_all) (n := n0) ⟨C.hx, C.hb, C.hml, C.hown, C.hts⟩ hM ⟨va_cnB n0 C.hts (lw_meth hw) rfl rfl rfl (C.kg.nwM hk) (C.hts _ hi) hd ⟨by rw [C.rm]; exact hLv, by rw [C.rm]; show _ + 40 * L' ≤ 40 * L; omega⟩, hy, C.hts _ him⟩ ⟨ct_blind, fun U hU hWm => ⟨rfl, C.kg.warm hWm, by rw [hU]; exact hP⟩⟩ rfl hl (by rw [← C.hml]; exact hL.1) rfl (lv_room hW) d ⟨by rw [C.rm]; exact h1, by rw [C.rm]; exact h2⟩) hP hS hD hL kk
theorem KG.fw {s : State} (hK : KG g s) {C : String} {xx yy : MethodName} (hx : xx.cls ≠ "java/lang/invoke/MethodHandle" ∧ xx.cls ≠ "java/lang/invoke/VarHandle") (h1 : (Cond.declares xx) ∈ lw_tbl) (h2 : (Cond.interfaceMethod xx.cls xx.cls xx.name xx.desc) ∈ lw_tbl) (h3 : (Cond.publicMethod yy) ∈ lw_tbl) (h4 : (Cond.unhidden C xx.name xx.desc) ∈ lw_tbl) (h5 : (Cond.castable C xx.cls) ∈ lw_tbl) : va_Fw C xx yy s := by
  obtain ⟨s0, b0, k1, k2, k3, k4, k5⟩ := hK
  exact va_Fw.moved hx k5.alike (va_Fw.of (k2 _ h1) (k2 _ h2) (k2 _ h3) (k2 _ h4) (k2 _ h5))
/-- through an interface -/
theorem r_callF (C : CX x cc nL own ret g L mc ms) {xx : MethodName} {count : Nat} (hM : CT (xL x) y bytes maxL ret' L' mc' ms' (.ref b :: As) g h sz Post) (hw : GoodIn lw_all (va_wsF own i y.cls xx y (ws_ y bytes maxL ret'))) (hF : va_Fw y.cls xx y (xS x)) (hd : xx.cls ≠ "java/lang/invoke/MethodHandle" ∧ xx.cls ≠ "java/lang/invoke/VarHandle" ∧ (parseMethodDescriptor xx.desc).map (fun d => d.parameters.length) = some n0) (hl : As.length = n0) (ha : h b = some (oC ci fs)) (hc : clA[ci]? = some (y.cls, T, N)) (d : decode cc pc = .ok (.invokeinterface i count, 5)) (hn : pc + 5 = n) (hst : st = As.reverse ++ .ref b :: rest)
    (kk : ∀ (v : Option Value) (h' : HM) (sz' : Nat), Post v h' sz' → sz ≤ sz' → DO h' h sz → V x g h0 Q h' sz' (cells + mc') (slots + ms') n lo (stk v rest)) (hLv : L' + 1 ≤ L := by omega) (hm : maxL ≤ 21 := by decide) (h1 : cells + mc' ≤ mc := by omega) (h2 : slots + ms' ≤ ms := by omega) (hW : (rest.map fun v => v.category).sum ≤ 8 := by exact Nat.le_of_ble_eq_true rfl) : V x g h0 Q h sz cells slots pc lo st := by
  subst hn; subst hst
  intro H locs ls hP hS hD hL
  exact call_end5 (va_runF (nL := nL) (Ts := lw_all) (C := y.cls) (C.kg.K.1 ci _ hc).2 ⟨C.hx, C.hb, C.hml, C.hown, C.hts⟩ hM (va_cwF n0 C.hts hw rfl rfl rfl hF hd ⟨by rw [C.rm]; exact hLv, by rw [C.rm]; show _ + 40 * L' ≤ 40 * L; omega⟩) ⟨ct_blind, hP.recv C.kg hc ha, fun U hU hWm => ⟨rfl, C.kg.warm hWm, by rw [hU]; exact hP⟩⟩ rfl hl (by rw [← C.hml]; exact hL.1) rfl (lv_room hW) d ⟨by rw [C.rm]; exact h1, by rw [C.rm]; exact h2⟩) hP hS hD hL kk
end VCC
theorem r_objInit (C : CX x cc nL own ret g L mc ms) {i a : Nat} (h1 : (Cond.methodLink own i Lib.objectInit) ∈ lw_all) (h2 : (Cond.instanceMethod Lib.objectInit) ∈ lw_all) (h3 : (Cond.code Lib.objectInit ⟨#[0xb1]⟩ 1 none) ∈ lw_all) (d : decode cc pc = .ok (.invokespecial i, 3)) (hn : pc + 3 = n)
    (kk : V x g h0 Q h sz cells slots n lo rest) (hLv : 1 ≤ L := by omega) (hW : (rest.map fun v => v.category).sum ≤ 8 := by exact Nat.le_of_ble_eq_true rfl) : V x g h0 Q h sz cells slots pc lo (.ref a :: rest) := by
  subst hn
  intro H locs ls hP hS hD hL
  exact W.objInit C.hx C.hb C.hown (C.hts _ h1) (C.hts _ h2) (C.hts _ h3) rfl hL.1 rfl d (by rw [C.rm]; exact hLv) (by rw [C.rm]; show 2 * 0 + _ + 12 ≤ 40 * L; omega) (kk H locs ls hP hS hD hL)
theorem r_mmin (C : CX x cc nL own ret g L mc ms) {i : Nat} {a b : Int} (h1 : (Cond.methodLink own i Lib.Math.min.name) ∈ lw_all) (h2 : (Cond.static Lib.Math.min.name) ∈ lw_all) (h3 : (Cond.initialized "java/lang/Math") ∈ lw_all) (h4 : (Cond.code Lib.Math.min.name Lib.Math.min.code 2 (some .int)) ∈ lw_all) (d : decode cc pc = .ok (.invokestatic i, 3)) (hn : pc + 3 = n)
    (kk : V x g h0 Q h sz cells slots n lo (vI (min a b) :: rest)) (hr : -2147483648 ≤ a ∧ a < 2147483648 ∧ -2147483648 ≤ b ∧ b < 2147483648 := by omega) (hLv : 1 ≤ L := by omega) (hc1 : cells ≤ mc := by omega) (hc2 : slots ≤ ms := by omega) (hW : (rest.map fun v => v.category).sum ≤ 8 := by exact Nat.le_of_ble_eq_true rfl) : V x g h0 Q h sz cells slots pc lo (vI b :: vI a :: rest) := by
  subst hn
  intro H locs ls hP hS hD hL
  have k9 := kk H locs ls hP hS hD hL
  have e : vI (min a b) = Value.int (if iI b < iI a then iI b else iI a) := by
    by_cases hh : b < a
    · rw [if_pos ((iI_lt ⟨hr.2.2.1, hr.2.2.2, hr.1, hr.2.1⟩).mpr hh), show min a b = b by omega]
    · rw [if_neg (fun c9 => hh ((iI_lt ⟨hr.2.2.1, hr.2.2.2, hr.1, hr.2.1⟩).mp c9)), show min a b = a by omega]
  rw [e] at k9
  exact va_mmin C.hx C.hb hL.1.symm C.hown (C.hts _ h1) (C.hts _ h2) (C.hts _ h3) (C.hts _ h4) (by rw [C.rm]; exact hLv) (by rw [C.rm]; show _ + 13 ≤ 40 * L; omega) (by rw [C.rm]; exact hc1) (by rw [C.rm]; exact hc2) d k9
end VC
/-- a loop: a measure falls -/
theorem lp_v {α : Type} (P I : α → Prop) (μ : α → Nat) (step : ∀ a, I a → (∀ b, I b → μ b < μ a → P b) → P a) (a : α) (h : I a) : P a := by
  have key : ∀ (n : Nat) (a : α), μ a < n → I a → P a := by
    intro n
    induction n with
    | zero => intro a h1; omega
    | succ n ih => intro a h1 h2; exact step a h2 (fun b h3 h4 => ih b (by omega) h3)
  exact key (μ a + 1) a (by omega) h
