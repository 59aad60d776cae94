/-! fields as a function: for constructors -/
def ff (n : Nat) (f : Nat → Value) : List Value := (List.range n).map f
theorem ff_len (n : Nat) (f : Nat → Value) : (ff n f).length = n := by simp [ff]
theorem ff_set {n k : Nat} {f : Nat → Value} {v : Value} (hk : k < n) : (ff n f).set k v = ff n (va_up f k v) := by
  refine List.ext_getElem? (fun i => ?_)
  rw [List.getElem?_set]
  unfold ff
  by_cases hi : k = i
  · subst hi
    simp [hk, va_up]
  · rw [if_neg hi, List.getElem?_map, List.getElem?_map]
    by_cases h2 : i < n
    · simp [h2, va_up, Ne.symm hi]
    · simp [h2]
section VFF
variable {x : XT} {g : GG} {h0 : HM} {Q : State → Prop} {h : HM} {sz cells slots pc n : Nat} {lo : List (Option Value)} {rest : List Value}
variable {cc : ByteArray} {nL : Nat} {own : String} {ret : Option FieldType} {L mc ms : Nat}
theorem r_putFF (C : CX x cc nL own ret g L mc ms) (hni : (xMeth x).name = "<init>") {ref Cn : String} {T : u_T} {N ci i a k : Nat} {f : Nat → Value} {v : Value} {ty : FieldType} (hin : ∀ w ∈ u_ws Cn T N, w ∈ lw_all) (ty0 : Nat → FieldType) (hty : ∀ k, k < N → parseFieldDescriptor (T k).2.2.1 = some (ty0 k)) (hnm : ∀ a, a < N → ∀ b, b < N → a ≠ b → (T a).2.1 ≠ (T b).2.1) (hc : clA[ci]? = some (Cn, T, N)) (hk : k < N) (hw : (Cond.fieldLink own i ref (T k).2.1 (T k).2.2.1) ∈ lw_all) (hs : (T k).1 = ref) (hfin : (T k).2.2.2 = true) (hdecl : (T k).1 = own) (hd : parseFieldDescriptor (T k).2.2.1 = some ty) (hna : narrow ty v = v) (hfit : fits ty v = true) (d : decode cc pc = .ok (.putfield i, 3)) (hn : pc + 3 = n) (ha : h a = some (oC ci (ff N f)))
    (kk : V x g h0 Q (va_up h a (some (oC ci (ff N (va_up f k v))))) sz cells slots n lo rest) : V x g h0 Q h sz cells slots pc lo (v :: .ref a :: rest) := by
  refine r_putF C hni hin ty0 hty hnm hc hk hw hs hfin hdecl hd hna hfit d hn ha (by rw [ff_len]; exact hk) ?_
  rw [ff_set hk]
  exact kk
theorem r_putf (C : CX x cc nL own ret g L mc ms) {ref Cn : String} {T : u_T} {N ci i a k : Nat} {f : Nat → Value} {v : Value} {ty : FieldType} (hin : ∀ w ∈ u_ws Cn T N, w ∈ lw_all) (ty0 : Nat → FieldType) (hty : ∀ k, k < N → parseFieldDescriptor (T k).2.2.1 = some (ty0 k)) (hnm : ∀ a, a < N → ∀ b, b < N → a ≠ b → (T a).2.1 ≠ (T b).2.1) (hc : clA[ci]? = some (Cn, T, N)) (hk : k < N) (hw : (Cond.fieldLink own i ref (T k).2.1 (T k).2.2.1) ∈ lw_all) (hs : (T k).1 = ref) (hfin : (T k).2.2.2 = false) (hd : parseFieldDescriptor (T k).2.2.1 = some ty) (hna : narrow ty v = v) (hfit : fits ty v = true) (d : decode cc pc = .ok (.putfield i, 3)) (hn : pc + 3 = n) (ha : h a = some (oC ci (ff N f)))
    (kk : V x g h0 Q (va_up h a (some (oC ci (ff N (va_up f k v))))) sz cells slots n lo rest) : V x g h0 Q h sz cells slots pc lo (v :: .ref a :: rest) := by
  refine r_put C hin ty0 hty hnm hc hk hw hs hfin hd hna hfit d hn ha (by rw [ff_len]; exact hk) ?_
  rw [ff_set hk]
  exact kk
theorem up_over {h : HM} {a o : Nat} {X E Y : Option va_E} (ha : a ≠ o) : va_up (va_up (va_up h o X) a E) o Y = va_up (va_up h a E) o Y := by
  funext q
  unfold va_up
  by_cases h1 : q = o
  · simp [h1]
  · simp [h1]
end VFF
