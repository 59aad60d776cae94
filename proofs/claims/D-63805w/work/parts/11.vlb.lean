/-! ROWS of layer V: an instruction a row -/
section VR
variable {x : XT} {g : GG} {h0 : HM} {Q : State → Prop} {h : HM} {sz cells slots pc n : Nat} {lo : List (Option Value)} {rest : List Value}
variable {cc : ByteArray} {nL : Nat} {own : String} {ret : Option FieldType} {L mc ms : Nat}

theorem r_iconst (C : CX x cc nL own ret g L mc ms) {z : Int} (d : decode cc pc = .ok (.iconst z, 1)) (hn : pc + 1 = n)
    (k : V x g h0 Q h sz cells slots n lo (vI z :: rest)) : V x g h0 Q h sz cells slots pc lo (rest) := by
  subst hn
  intro H locs ls hP hS hD hL
  exact lv_iconst C.hx C.hb d rfl (k H locs ls hP hS hD hL)

theorem r_bipush (C : CX x cc nL own ret g L mc ms) {z : Int} (d : decode cc pc = .ok (.bipush z, 2)) (hz : (Int8.ofInt z).toInt32 = iI z) (hn : pc + 2 = n)
    (k : V x g h0 Q h sz cells slots n lo (vI z :: rest)) : V x g h0 Q h sz cells slots pc lo (rest) := by
  subst hn
  intro H locs ls hP hS hD hL
  exact lv_bipush C.hx C.hb d hz (k H locs ls hP hS hD hL)

theorem r_sipush (C : CX x cc nL own ret g L mc ms) {z : Int} (d : decode cc pc = .ok (.sipush z, 3)) (hz : (Int16.ofInt z).toInt32 = iI z) (hn : pc + 3 = n)
    (k : V x g h0 Q h sz cells slots n lo (vI z :: rest)) : V x g h0 Q h sz cells slots pc lo (rest) := by
  subst hn
  intro H locs ls hP hS hD hL
  exact lv_sipush C.hx C.hb d hz (k H locs ls hP hS hD hL)

theorem r_ldc (C : CX x cc nL own ret g L mc ms) {i : Nat} {v : Int32} {z : Int} (hc : (Jvm.Cond.constant own i v) ∈ lw_all) (hz : v = iI z) (d : decode cc pc = .ok (.ldc i, 2)) (hn : pc + 2 = n)
    (k : V x g h0 Q h sz cells slots n lo (vI z :: rest)) : V x g h0 Q h sz cells slots pc lo (rest) := by
  subst hn
  intro H locs ls hP hS hD hL
  subst hz
  exact lv_ldc C.hx C.hb C.hown (C.hts _ hc) d (k H locs ls hP hS hD hL)

theorem r_aconst_null (C : CX x cc nL own ret g L mc ms) (d : decode cc pc = .ok (.aconst_null, 1)) (hn : pc + 1 = n)
    (k : V x g h0 Q h sz cells slots n lo (.null :: rest)) : V x g h0 Q h sz cells slots pc lo (rest) := by
  subst hn
  intro H locs ls hP hS hD hL
  exact lv_null C.hx C.hb d (k H locs ls hP hS hD hL)

theorem r_iload_n (C : CX x cc nL own ret g L mc ms) {f : Fin 4} {i : Nat} {z : Int} (d : decode cc pc = .ok (.iload_n f, 1)) (hi : (f : Nat) = i) (hl : lo[i]? = some (some (vI z))) (hn : pc + 1 = n)
    (k : V x g h0 Q h sz cells slots n lo (vI z :: rest)) : V x g h0 Q h sz cells slots pc lo (rest) := by
  subst hn
  intro H locs ls hP hS hD hL
  exact lv_iload_n C.hx C.hb d hi (hL.at hl) (k H locs ls hP hS hD hL)

theorem r_iload (C : CX x cc nL own ret g L mc ms) {i : Nat} {z : Int} (d : decode cc pc = .ok (.iload i, 2)) (hl : lo[i]? = some (some (vI z))) (hn : pc + 2 = n)
    (k : V x g h0 Q h sz cells slots n lo (vI z :: rest)) : V x g h0 Q h sz cells slots pc lo (rest) := by
  subst hn
  intro H locs ls hP hS hD hL
  exact lv_iload C.hx C.hb d (hL.at hl) (k H locs ls hP hS hD hL)

theorem r_aload_n (C : CX x cc nL own ret g L mc ms) {f : Fin 4} {i a : Nat} (d : decode cc pc = .ok (.aload_n f, 1)) (hi : (f : Nat) = i) (hl : lo[i]? = some (some (.ref a))) (hn : pc + 1 = n)
    (k : V x g h0 Q h sz cells slots n lo (.ref a :: rest)) : V x g h0 Q h sz cells slots pc lo (rest) := by
  subst hn
  intro H locs ls hP hS hD hL
  exact lv_aload_n C.hx C.hb d hi (hL.at hl) (k H locs ls hP hS hD hL)

theorem r_aload (C : CX x cc nL own ret g L mc ms) {i a : Nat} (d : decode cc pc = .ok (.aload i, 2)) (hl : lo[i]? = some (some (.ref a))) (hn : pc + 2 = n)
    (k : V x g h0 Q h sz cells slots n lo (.ref a :: rest)) : V x g h0 Q h sz cells slots pc lo (rest) := by
  subst hn
  intro H locs ls hP hS hD hL
  exact lv_aload C.hx C.hb d (hL.at hl) (k H locs ls hP hS hD hL)

theorem r_aload_nN (C : CX x cc nL own ret g L mc ms) {f : Fin 4} {i : Nat} (d : decode cc pc = .ok (.aload_n f, 1)) (hi : (f : Nat) = i) (hl : lo[i]? = some (some .null)) (hn : pc + 1 = n)
    (k : V x g h0 Q h sz cells slots n lo (.null :: rest)) : V x g h0 Q h sz cells slots pc lo (rest) := by
  subst hn
  intro H locs ls hP hS hD hL
  exact lv_aload_nN C.hx C.hb d hi (hL.at hl) (k H locs ls hP hS hD hL)

theorem r_aloadN (C : CX x cc nL own ret g L mc ms) {i : Nat} (d : decode cc pc = .ok (.aload i, 2)) (hl : lo[i]? = some (some .null)) (hn : pc + 2 = n)
    (k : V x g h0 Q h sz cells slots n lo (.null :: rest)) : V x g h0 Q h sz cells slots pc lo (rest) := by
  subst hn
  intro H locs ls hP hS hD hL
  exact lv_aloadN C.hx C.hb d (hL.at hl) (k H locs ls hP hS hD hL)

theorem r_aload_nq (C : CX x cc nL own ret g L mc ms) {f : Fin 4} {i : Nat} {r : Option Nat} (d : decode cc pc = .ok (.aload_n f, 1)) (hi : (f : Nat) = i) (hl : lo[i]? = some (some (va_rf r))) (hn : pc + 1 = n)
    (k : V x g h0 Q h sz cells slots n lo (va_rf r :: rest)) : V x g h0 Q h sz cells slots pc lo (rest) := by
  cases r with
  | none => exact r_aload_nN C d hi hl hn k
  | some a => exact r_aload_n C d hi hl hn k

theorem r_aloadq (C : CX x cc nL own ret g L mc ms) {i : Nat} {r : Option Nat} (d : decode cc pc = .ok (.aload i, 2)) (hl : lo[i]? = some (some (va_rf r))) (hn : pc + 2 = n)
    (k : V x g h0 Q h sz cells slots n lo (va_rf r :: rest)) : V x g h0 Q h sz cells slots pc lo (rest) := by
  cases r with
  | none => exact r_aloadN C d hl hn k
  | some a => exact r_aload C d hl hn k

theorem r_istore_n (C : CX x cc nL own ret g L mc ms) {f : Fin 4} {i : Nat} {z : Int} (d : decode cc pc = .ok (.istore_n f, 1)) (hi : (f : Nat) = i) (hn : pc + 1 = n)
    (k : V x g h0 Q h sz cells slots n (lo.set i (some (vI z))) (rest)) (hl : i < nL := by decide) : V x g h0 Q h sz cells slots pc lo (vI z :: rest) := by
  subst hn
  intro H locs ls hP hS hD hL
  refine lv_istore_n C.hx C.hb d hi hL.has (by rw [C.hml]; exact hl) rfl (fun ls' hl' => k H locs ls' hP hS hD (hL.set rfl hl'))

theorem r_istore (C : CX x cc nL own ret g L mc ms) {i : Nat} {z : Int} (d : decode cc pc = .ok (.istore i, 2)) (hn : pc + 2 = n)
    (k : V x g h0 Q h sz cells slots n (lo.set i (some (vI z))) (rest)) (hl : i < nL := by decide) : V x g h0 Q h sz cells slots pc lo (vI z :: rest) := by
  subst hn
  intro H locs ls hP hS hD hL
  refine lv_istore C.hx C.hb d hL.has (by rw [C.hml]; exact hl) rfl (fun ls' hl' => k H locs ls' hP hS hD (hL.set rfl hl'))

theorem r_astore_n (C : CX x cc nL own ret g L mc ms) {f : Fin 4} {i : Nat} {a : Nat} (d : decode cc pc = .ok (.astore_n f, 1)) (hi : (f : Nat) = i) (hn : pc + 1 = n)
    (k : V x g h0 Q h sz cells slots n (lo.set i (some (.ref a))) (rest)) (hl : i < nL := by decide) : V x g h0 Q h sz cells slots pc lo (.ref a :: rest) := by
  subst hn
  intro H locs ls hP hS hD hL
  refine lv_astore_n C.hx C.hb d hi hL.has (by rw [C.hml]; exact hl) rfl (fun ls' hl' => k H locs ls' hP hS hD (hL.set rfl hl'))

theorem r_astore (C : CX x cc nL own ret g L mc ms) {i : Nat} {a : Nat} (d : decode cc pc = .ok (.astore i, 2)) (hn : pc + 2 = n)
    (k : V x g h0 Q h sz cells slots n (lo.set i (some (.ref a))) (rest)) (hl : i < nL := by decide) : V x g h0 Q h sz cells slots pc lo (.ref a :: rest) := by
  subst hn
  intro H locs ls hP hS hD hL
  refine lv_astore C.hx C.hb d hL.has (by rw [C.hml]; exact hl) rfl (fun ls' hl' => k H locs ls' hP hS hD (hL.set rfl hl'))

theorem r_astore_nN (C : CX x cc nL own ret g L mc ms) {f : Fin 4} {i : Nat}  (d : decode cc pc = .ok (.astore_n f, 1)) (hi : (f : Nat) = i) (hn : pc + 1 = n)
    (k : V x g h0 Q h sz cells slots n (lo.set i (some (.null))) (rest)) (hl : i < nL := by decide) : V x g h0 Q h sz cells slots pc lo (.null :: rest) := by
  subst hn
  intro H locs ls hP hS hD hL
  refine lv_astore_nN C.hx C.hb d hi hL.has (by rw [C.hml]; exact hl) rfl (fun ls' hl' => k H locs ls' hP hS hD (hL.set rfl hl'))

theorem r_astoreN (C : CX x cc nL own ret g L mc ms) {i : Nat}  (d : decode cc pc = .ok (.astore i, 2)) (hn : pc + 2 = n)
    (k : V x g h0 Q h sz cells slots n (lo.set i (some (.null))) (rest)) (hl : i < nL := by decide) : V x g h0 Q h sz cells slots pc lo (.null :: rest) := by
  subst hn
  intro H locs ls hP hS hD hL
  refine lv_astoreN C.hx C.hb d hL.has (by rw [C.hml]; exact hl) rfl (fun ls' hl' => k H locs ls' hP hS hD (hL.set rfl hl'))

theorem r_astore_nq (C : CX x cc nL own ret g L mc ms) {f : Fin 4} {i : Nat} {r : Option Nat} (d : decode cc pc = .ok (.astore_n f, 1)) (hi : (f : Nat) = i) (hn : pc + 1 = n)
    (k : V x g h0 Q h sz cells slots n (lo.set i (some (va_rf r))) (rest)) (hl : i < nL := by decide) : V x g h0 Q h sz cells slots pc lo (va_rf r :: rest) := by
  cases r with
  | none => exact r_astore_nN C d hi hn k hl
  | some a => exact r_astore_n C d hi hn k hl

theorem r_astoreq (C : CX x cc nL own ret g L mc ms) {i : Nat} {r : Option Nat} (d : decode cc pc = .ok (.astore i, 2)) (hn : pc + 2 = n)
    (k : V x g h0 Q h sz cells slots n (lo.set i (some (va_rf r))) (rest)) (hl : i < nL := by decide) : V x g h0 Q h sz cells slots pc lo (va_rf r :: rest) := by
  cases r with
  | none => exact r_astoreN C d hn k hl
  | some a => exact r_astore C d hn k hl

theorem r_iinc (C : CX x cc nL own ret g L mc ms) {i : Nat} {z w : Int} (d : decode cc pc = .ok (.iinc i w, 3)) (hl : lo[i]? = some (some (vI z))) (hn : pc + 3 = n)
    (k : V x g h0 Q h sz cells slots n (lo.set i (some (vI (z + w)))) (rest)) (hl2 : i < nL := by decide) : V x g h0 Q h sz cells slots pc lo (rest) := by
  subst hn
  intro H locs ls hP hS hD hL
  obtain ⟨j, hj⟩ := List.getElem?_of_mem ((lzp_mem lo 0 i (vI z)).mpr ⟨Nat.zero_le _, by simpa using hl⟩)
  exact lv_iinc (k := j) C.hx C.hb d hL.has hj (iI_add z w) (by rw [C.hml]; exact hl2) rfl (fun ls' hl' => k H locs ls' hP hS hD (hL.set rfl hl'))

theorem r_iadd (C : CX x cc nL own ret g L mc ms) {a b : Int} (d : decode cc pc = .ok (.iadd, 1)) (hn : pc + 1 = n)
    (k : V x g h0 Q h sz cells slots n lo (vI (a + b) :: rest)) : V x g h0 Q h sz cells slots pc lo (vI b :: vI a :: rest) := by
  subst hn
  intro H locs ls hP hS hD hL
  have k9 := k H locs ls hP hS hD hL
  rw [vI, ← iI_add a b] at k9
  exact lv_iadd C.hx C.hb d k9

theorem r_isub (C : CX x cc nL own ret g L mc ms) {a b : Int} (d : decode cc pc = .ok (.isub, 1)) (hn : pc + 1 = n)
    (k : V x g h0 Q h sz cells slots n lo (vI (a - b) :: rest)) : V x g h0 Q h sz cells slots pc lo (vI b :: vI a :: rest) := by
  subst hn
  intro H locs ls hP hS hD hL
  have k9 := k H locs ls hP hS hD hL
  rw [vI, ← iI_sub a b] at k9
  exact lv_isub C.hx C.hb d k9

theorem r_imul (C : CX x cc nL own ret g L mc ms) {a b : Int} (d : decode cc pc = .ok (.imul, 1)) (hn : pc + 1 = n)
    (k : V x g h0 Q h sz cells slots n lo (vI (a * b) :: rest)) : V x g h0 Q h sz cells slots pc lo (vI b :: vI a :: rest) := by
  subst hn
  intro H locs ls hP hS hD hL
  have k9 := k H locs ls hP hS hD hL
  rw [vI, ← iI_mul a b] at k9
  exact lv_imul C.hx C.hb d k9

theorem r_iand (C : CX x cc nL own ret g L mc ms) {a b : Int} (d : decode cc pc = .ok (.iand, 1)) (hn : pc + 1 = n)
    (k : V x g h0 Q h sz cells slots n lo (vI (zand a b) :: rest)) : V x g h0 Q h sz cells slots pc lo (vI b :: vI a :: rest) := by
  subst hn
  intro H locs ls hP hS hD hL
  have k9 := k H locs ls hP hS hD hL
  unfold zand at k9
  rw [vI, iI_to] at k9
  exact lv_iand C.hx C.hb d k9

theorem r_ior (C : CX x cc nL own ret g L mc ms) {a b : Int} (d : decode cc pc = .ok (.ior, 1)) (hn : pc + 1 = n)
    (k : V x g h0 Q h sz cells slots n lo (vI (zor a b) :: rest)) : V x g h0 Q h sz cells slots pc lo (vI b :: vI a :: rest) := by
  subst hn
  intro H locs ls hP hS hD hL
  have k9 := k H locs ls hP hS hD hL
  unfold zor at k9
  rw [vI, iI_to] at k9
  exact lv_ior C.hx C.hb d k9

theorem r_ixor (C : CX x cc nL own ret g L mc ms) {a b : Int} (d : decode cc pc = .ok (.ixor, 1)) (hn : pc + 1 = n)
    (k : V x g h0 Q h sz cells slots n lo (vI (zxor a b) :: rest)) : V x g h0 Q h sz cells slots pc lo (vI b :: vI a :: rest) := by
  subst hn
  intro H locs ls hP hS hD hL
  have k9 := k H locs ls hP hS hD hL
  unfold zxor at k9
  rw [vI, iI_to] at k9
  exact lv_ixor C.hx C.hb d k9

theorem r_ishl (C : CX x cc nL own ret g L mc ms) {a b : Int} (d : decode cc pc = .ok (.ishl, 1)) (hn : pc + 1 = n)
    (k : V x g h0 Q h sz cells slots n lo (vI (zshl a b) :: rest)) : V x g h0 Q h sz cells slots pc lo (vI b :: vI a :: rest) := by
  subst hn
  intro H locs ls hP hS hD hL
  have k9 := k H locs ls hP hS hD hL
  unfold zshl at k9
  rw [vI, iI_to] at k9
  exact lv_ishl C.hx C.hb d k9

theorem r_ishr (C : CX x cc nL own ret g L mc ms) {a b : Int} (d : decode cc pc = .ok (.ishr, 1)) (hn : pc + 1 = n)
    (k : V x g h0 Q h sz cells slots n lo (vI (zshr a b) :: rest)) : V x g h0 Q h sz cells slots pc lo (vI b :: vI a :: rest) := by
  subst hn
  intro H locs ls hP hS hD hL
  have k9 := k H locs ls hP hS hD hL
  unfold zshr at k9
  rw [vI, iI_to] at k9
  exact lv_ishr C.hx C.hb d k9

theorem r_ineg (C : CX x cc nL own ret g L mc ms) {a : Int} (d : decode cc pc = .ok (.ineg, 1)) (hn : pc + 1 = n)
    (k : V x g h0 Q h sz cells slots n lo (vI (-a) :: rest)) : V x g h0 Q h sz cells slots pc lo (vI a :: rest) := by
  subst hn
  intro H locs ls hP hS hD hL
  have k9 := k H locs ls hP hS hD hL
  rw [vI, ← iI_neg a] at k9
  exact lv_ineg C.hx C.hb d k9

theorem r_i2c (C : CX x cc nL own ret g L mc ms) {a : Int} (d : decode cc pc = .ok (.i2c, 1)) (hn : pc + 1 = n)
    (k : V x g h0 Q h sz cells slots n lo (vI (zchar a) :: rest)) : V x g h0 Q h sz cells slots pc lo (vI a :: rest) := by
  subst hn
  intro H locs ls hP hS hD hL
  have k9 := k H locs ls hP hS hD hL
  unfold zchar at k9
  rw [vI, iI_to] at k9
  exact lv_i2c C.hx C.hb d rfl k9

theorem r_i2b (C : CX x cc nL own ret g L mc ms) {a : Int} (d : decode cc pc = .ok (.i2b, 1)) (hn : pc + 1 = n)
    (k : V x g h0 Q h sz cells slots n lo (vI (zbyte a) :: rest)) : V x g h0 Q h sz cells slots pc lo (vI a :: rest) := by
  subst hn
  intro H locs ls hP hS hD hL
  have k9 := k H locs ls hP hS hD hL
  unfold zbyte at k9
  rw [vI, iI_to] at k9
  exact lv_i2b C.hx C.hb d rfl k9

theorem r_dup (C : CX x cc nL own ret g L mc ms) {v : Value} (d : decode cc pc = .ok (.dup, 1)) (hc : v.category = 1) (hn : pc + 1 = n)
    (k : V x g h0 Q h sz cells slots n lo (v :: v :: rest)) : V x g h0 Q h sz cells slots pc lo (v :: rest) := by
  subst hn
  intro H locs ls hP hS hD hL
  exact lv_dup C.hx C.hb d hc (k H locs ls hP hS hD hL)

theorem r_pop (C : CX x cc nL own ret g L mc ms) {v : Value} (d : decode cc pc = .ok (.pop, 1)) (hc : v.category = 1) (hn : pc + 1 = n)
    (k : V x g h0 Q h sz cells slots n lo (rest)) : V x g h0 Q h sz cells slots pc lo (v :: rest) := by
  subst hn
  intro H locs ls hP hS hD hL
  exact lv_pop C.hx C.hb d hc (k H locs ls hP hS hD hL)

theorem r_dup_x1 (C : CX x cc nL own ret g L mc ms) {v w : Value} (d : decode cc pc = .ok (.dup_x1, 1)) (hc : v.category = 1) (hc2 : w.category = 1) (hn : pc + 1 = n)
    (k : V x g h0 Q h sz cells slots n lo (v :: w :: v :: rest)) : V x g h0 Q h sz cells slots pc lo (v :: w :: rest) := by
  subst hn
  intro H locs ls hP hS hD hL
  exact lv_dup_x1 C.hx C.hb d hc hc2 (k H locs ls hP hS hD hL)

theorem r_dup2 (C : CX x cc nL own ret g L mc ms) {v w : Value} (d : decode cc pc = .ok (.dup2, 1)) (hc : v.category = 1) (hc2 : w.category = 1) (hn : pc + 1 = n)
    (k : V x g h0 Q h sz cells slots n lo (v :: w :: v :: w :: rest)) : V x g h0 Q h sz cells slots pc lo (v :: w :: rest) := by
  subst hn
  intro H locs ls hP hS hD hL
  exact lv_dup2_11 C.hx C.hb d hc hc2 (k H locs ls hP hS hD hL)

theorem r_goto (C : CX x cc nL own ret g L mc ms) {off : Int} (d : decode cc pc = .ok (.goto off, 3)) (ht : (pc : Int) + off = (n : Int))
    (k : V x g h0 Q h sz cells slots n lo (rest)) : V x g h0 Q h sz cells slots pc lo (rest) := by
  intro H locs ls hP hS hD hL
  exact lv_goto C.hx C.hb d ht (k H locs ls hP hS hD hL)

theorem r_icmp_lt (C : CX x cc nL own ret g L mc ms) {a b off : Int} {t : Nat} (d : decode cc pc = .ok (.if_icmp .lt off, 3)) (ht : (pc : Int) + off = (t : Int)) (hn : pc + 3 = n)
    (kt : a < b → V x g h0 Q h sz cells slots t lo rest) (kf : ¬ a < b → V x g h0 Q h sz cells slots n lo rest) (hr : -2147483648 ≤ a ∧ a < 2147483648 ∧ -2147483648 ≤ b ∧ b < 2147483648 := by omega) : V x g h0 Q h sz cells slots pc lo (vI b :: vI a :: rest) := by
  subst hn
  intro H locs ls hP hS hD hL
  exact lv_icmp_lt C.hx C.hb d ht (fun c => kt ((iI_lt hr).mp c) H locs ls hP hS hD hL) (fun c => kf (fun c9 => c ((iI_lt hr).mpr c9)) H locs ls hP hS hD hL)

theorem r_icmp_ge (C : CX x cc nL own ret g L mc ms) {a b off : Int} {t : Nat} (d : decode cc pc = .ok (.if_icmp .ge off, 3)) (ht : (pc : Int) + off = (t : Int)) (hn : pc + 3 = n)
    (kt : b ≤ a → V x g h0 Q h sz cells slots t lo rest) (kf : ¬ b ≤ a → V x g h0 Q h sz cells slots n lo rest) (hr : -2147483648 ≤ a ∧ a < 2147483648 ∧ -2147483648 ≤ b ∧ b < 2147483648 := by omega) : V x g h0 Q h sz cells slots pc lo (vI b :: vI a :: rest) := by
  subst hn
  intro H locs ls hP hS hD hL
  exact lv_icmp_ge C.hx C.hb d ht (fun c => kt ((iI_le ⟨hr.2.2.1, hr.2.2.2, hr.1, hr.2.1⟩).mp c) H locs ls hP hS hD hL) (fun c => kf (fun c9 => c ((iI_le ⟨hr.2.2.1, hr.2.2.2, hr.1, hr.2.1⟩).mpr c9)) H locs ls hP hS hD hL)

theorem r_icmp_gt (C : CX x cc nL own ret g L mc ms) {a b off : Int} {t : Nat} (d : decode cc pc = .ok (.if_icmp .gt off, 3)) (ht : (pc : Int) + off = (t : Int)) (hn : pc + 3 = n)
    (kt : b < a → V x g h0 Q h sz cells slots t lo rest) (kf : ¬ b < a → V x g h0 Q h sz cells slots n lo rest) (hr : -2147483648 ≤ a ∧ a < 2147483648 ∧ -2147483648 ≤ b ∧ b < 2147483648 := by omega) : V x g h0 Q h sz cells slots pc lo (vI b :: vI a :: rest) := by
  subst hn
  intro H locs ls hP hS hD hL
  exact lv_icmp_gt C.hx C.hb d ht (fun c => kt ((iI_lt ⟨hr.2.2.1, hr.2.2.2, hr.1, hr.2.1⟩).mp c) H locs ls hP hS hD hL) (fun c => kf (fun c9 => c ((iI_lt ⟨hr.2.2.1, hr.2.2.2, hr.1, hr.2.1⟩).mpr c9)) H locs ls hP hS hD hL)

theorem r_icmp_le (C : CX x cc nL own ret g L mc ms) {a b off : Int} {t : Nat} (d : decode cc pc = .ok (.if_icmp .le off, 3)) (ht : (pc : Int) + off = (t : Int)) (hn : pc + 3 = n)
    (kt : a ≤ b → V x g h0 Q h sz cells slots t lo rest) (kf : ¬ a ≤ b → V x g h0 Q h sz cells slots n lo rest) (hr : -2147483648 ≤ a ∧ a < 2147483648 ∧ -2147483648 ≤ b ∧ b < 2147483648 := by omega) : V x g h0 Q h sz cells slots pc lo (vI b :: vI a :: rest) := by
  subst hn
  intro H locs ls hP hS hD hL
  exact lv_icmp_le C.hx C.hb d ht (fun c => kt ((iI_le hr).mp c) H locs ls hP hS hD hL) (fun c => kf (fun c9 => c ((iI_le hr).mpr c9)) H locs ls hP hS hD hL)

theorem r_icmp_eq (C : CX x cc nL own ret g L mc ms) {a b off : Int} {t : Nat} (d : decode cc pc = .ok (.if_icmp .eq off, 3)) (ht : (pc : Int) + off = (t : Int)) (hn : pc + 3 = n)
    (kt : a = b → V x g h0 Q h sz cells slots t lo rest) (kf : ¬ a = b → V x g h0 Q h sz cells slots n lo rest) (hr : -2147483648 ≤ a ∧ a < 2147483648 ∧ -2147483648 ≤ b ∧ b < 2147483648 := by omega) : V x g h0 Q h sz cells slots pc lo (vI b :: vI a :: rest) := by
  subst hn
  intro H locs ls hP hS hD hL
  exact lv_icmp_eq C.hx C.hb d ht (fun c => kt ((iI_eq hr).mp c) H locs ls hP hS hD hL) (fun c => kf (fun c9 => c ((iI_eq hr).mpr c9)) H locs ls hP hS hD hL)

theorem r_icmp_ne (C : CX x cc nL own ret g L mc ms) {a b off : Int} {t : Nat} (d : decode cc pc = .ok (.if_icmp .ne off, 3)) (ht : (pc : Int) + off = (t : Int)) (hn : pc + 3 = n)
    (kt : ¬ a = b → V x g h0 Q h sz cells slots t lo rest) (kf : a = b → V x g h0 Q h sz cells slots n lo rest) (hr : -2147483648 ≤ a ∧ a < 2147483648 ∧ -2147483648 ≤ b ∧ b < 2147483648 := by omega) : V x g h0 Q h sz cells slots pc lo (vI b :: vI a :: rest) := by
  subst hn
  intro H locs ls hP hS hD hL
  exact lv_icmp_ne C.hx C.hb d ht (fun c => kt (fun c9 => c ((iI_eq hr).mpr c9)) H locs ls hP hS hD hL) (fun c => kf ((iI_eq hr).mp c) H locs ls hP hS hD hL)

theorem r_if_lt (C : CX x cc nL own ret g L mc ms) {a off : Int} {t : Nat} (d : decode cc pc = .ok (.ifCond .lt off, 3)) (ht : (pc : Int) + off = (t : Int)) (hn : pc + 3 = n)
    (kt : a < 0 → V x g h0 Q h sz cells slots t lo rest) (kf : ¬ a < 0 → V x g h0 Q h sz cells slots n lo rest) (hr : -2147483648 ≤ a ∧ a < 2147483648 := by omega) : V x g h0 Q h sz cells slots pc lo (vI a :: rest) := by
  subst hn
  intro H locs ls hP hS hD hL
  exact lv_if_lt C.hx C.hb d ht (fun c => kt ((iI_lt (b := 0) ⟨hr.1, hr.2, by decide, by decide⟩).mp c) H locs ls hP hS hD hL) (fun c => kf (fun c9 => c ((iI_lt (b := 0) ⟨hr.1, hr.2, by decide, by decide⟩).mpr c9)) H locs ls hP hS hD hL)

theorem r_if_ge (C : CX x cc nL own ret g L mc ms) {a off : Int} {t : Nat} (d : decode cc pc = .ok (.ifCond .ge off, 3)) (ht : (pc : Int) + off = (t : Int)) (hn : pc + 3 = n)
    (kt : 0 ≤ a → V x g h0 Q h sz cells slots t lo rest) (kf : ¬ 0 ≤ a → V x g h0 Q h sz cells slots n lo rest) (hr : -2147483648 ≤ a ∧ a < 2147483648 := by omega) : V x g h0 Q h sz cells slots pc lo (vI a :: rest) := by
  subst hn
  intro H locs ls hP hS hD hL
  exact lv_if_ge C.hx C.hb d ht (fun c => kt ((iI_le (a := 0) ⟨by decide, by decide, hr.1, hr.2⟩).mp c) H locs ls hP hS hD hL) (fun c => kf (fun c9 => c ((iI_le (a := 0) ⟨by decide, by decide, hr.1, hr.2⟩).mpr c9)) H locs ls hP hS hD hL)

theorem r_if_gt (C : CX x cc nL own ret g L mc ms) {a off : Int} {t : Nat} (d : decode cc pc = .ok (.ifCond .gt off, 3)) (ht : (pc : Int) + off = (t : Int)) (hn : pc + 3 = n)
    (kt : 0 < a → V x g h0 Q h sz cells slots t lo rest) (kf : ¬ 0 < a → V x g h0 Q h sz cells slots n lo rest) (hr : -2147483648 ≤ a ∧ a < 2147483648 := by omega) : V x g h0 Q h sz cells slots pc lo (vI a :: rest) := by
  subst hn
  intro H locs ls hP hS hD hL
  exact lv_if_gt C.hx C.hb d ht (fun c => kt ((iI_lt (a := 0) ⟨by decide, by decide, hr.1, hr.2⟩).mp c) H locs ls hP hS hD hL) (fun c => kf (fun c9 => c ((iI_lt (a := 0) ⟨by decide, by decide, hr.1, hr.2⟩).mpr c9)) H locs ls hP hS hD hL)

theorem r_if_le (C : CX x cc nL own ret g L mc ms) {a off : Int} {t : Nat} (d : decode cc pc = .ok (.ifCond .le off, 3)) (ht : (pc : Int) + off = (t : Int)) (hn : pc + 3 = n)
    (kt : a ≤ 0 → V x g h0 Q h sz cells slots t lo rest) (kf : ¬ a ≤ 0 → V x g h0 Q h sz cells slots n lo rest) (hr : -2147483648 ≤ a ∧ a < 2147483648 := by omega) : V x g h0 Q h sz cells slots pc lo (vI a :: rest) := by
  subst hn
  intro H locs ls hP hS hD hL
  exact lv_if_le C.hx C.hb d ht (fun c => kt ((iI_le (b := 0) ⟨hr.1, hr.2, by decide, by decide⟩).mp c) H locs ls hP hS hD hL) (fun c => kf (fun c9 => c ((iI_le (b := 0) ⟨hr.1, hr.2, by decide, by decide⟩).mpr c9)) H locs ls hP hS hD hL)

theorem r_if_eq (C : CX x cc nL own ret g L mc ms) {a off : Int} {t : Nat} (d : decode cc pc = .ok (.ifCond .eq off, 3)) (ht : (pc : Int) + off = (t : Int)) (hn : pc + 3 = n)
    (kt : a = 0 → V x g h0 Q h sz cells slots t lo rest) (kf : ¬ a = 0 → V x g h0 Q h sz cells slots n lo rest) (hr : -2147483648 ≤ a ∧ a < 2147483648 := by omega) : V x g h0 Q h sz cells slots pc lo (vI a :: rest) := by
  subst hn
  intro H locs ls hP hS hD hL
  exact lv_if_eq C.hx C.hb d ht (fun c => kt ((iI_eq (b := 0) ⟨hr.1, hr.2, by decide, by decide⟩).mp c) H locs ls hP hS hD hL) (fun c => kf (fun c9 => c ((iI_eq (b := 0) ⟨hr.1, hr.2, by decide, by decide⟩).mpr c9)) H locs ls hP hS hD hL)

theorem r_if_ne (C : CX x cc nL own ret g L mc ms) {a off : Int} {t : Nat} (d : decode cc pc = .ok (.ifCond .ne off, 3)) (ht : (pc : Int) + off = (t : Int)) (hn : pc + 3 = n)
    (kt : ¬ a = 0 → V x g h0 Q h sz cells slots t lo rest) (kf : a = 0 → V x g h0 Q h sz cells slots n lo rest) (hr : -2147483648 ≤ a ∧ a < 2147483648 := by omega) : V x g h0 Q h sz cells slots pc lo (vI a :: rest) := by
  subst hn
  intro H locs ls hP hS hD hL
  exact lv_if_ne C.hx C.hb d ht (fun c => kt (fun c9 => c ((iI_eq (b := 0) ⟨hr.1, hr.2, by decide, by decide⟩).mpr c9)) H locs ls hP hS hD hL) (fun c => kf ((iI_eq (b := 0) ⟨hr.1, hr.2, by decide, by decide⟩).mp c) H locs ls hP hS hD hL)

theorem r_ifnull (C : CX x cc nL own ret g L mc ms) {off : Int} {t a : Nat} (d : decode cc pc = .ok (.ifnull off, 3)) (hn : pc + 3 = n)
    (k : V x g h0 Q h sz cells slots n lo (rest)) : V x g h0 Q h sz cells slots pc lo (.ref a :: rest) := by
  subst hn
  intro H locs ls hP hS hD hL
  exact lv_ifnull C.hx C.hb d (k H locs ls hP hS hD hL)

theorem r_ifnullN (C : CX x cc nL own ret g L mc ms) {off : Int} {t : Nat} (d : decode cc pc = .ok (.ifnull off, 3)) (ht : (pc : Int) + off = (t : Int))
    (k : V x g h0 Q h sz cells slots t lo (rest)) : V x g h0 Q h sz cells slots pc lo (.null :: rest) := by
  intro H locs ls hP hS hD hL
  exact lv_ifnullN C.hx C.hb d ht (k H locs ls hP hS hD hL)

theorem r_ifnonnull (C : CX x cc nL own ret g L mc ms) {off : Int} {t a : Nat} (d : decode cc pc = .ok (.ifnonnull off, 3)) (ht : (pc : Int) + off = (t : Int))
    (k : V x g h0 Q h sz cells slots t lo (rest)) : V x g h0 Q h sz cells slots pc lo (.ref a :: rest) := by
  intro H locs ls hP hS hD hL
  exact lv_ifnonnull C.hx C.hb d ht (k H locs ls hP hS hD hL)

theorem r_ifnonnullN (C : CX x cc nL own ret g L mc ms) {off : Int} {t : Nat} (d : decode cc pc = .ok (.ifnonnull off, 3)) (hn : pc + 3 = n)
    (k : V x g h0 Q h sz cells slots n lo (rest)) : V x g h0 Q h sz cells slots pc lo (.null :: rest) := by
  subst hn
  intro H locs ls hP hS hD hL
  exact lv_ifnonnullN C.hx C.hb d (k H locs ls hP hS hD hL)

theorem r_tableIn (C : CX x cc nL own ret g L mc ms) {dflt l1 l2 : Int} {offs : Array Int} {len t : Nat} {z off : Int} (d : decode cc pc = .ok (.tableswitch dflt l1 l2 offs, len)) (hz : -2147483648 ≤ z ∧ z < 2147483648) (h1 : ¬ z < l1) (h2 : ¬ l2 < z) (ho : offs[(z - l1).toNat]? = some off) (ht : (pc : Int) + off = (t : Int)) (k : V x g h0 Q h sz cells slots t lo rest) : V x g h0 Q h sz cells slots pc lo (vI z :: rest) := by
  intro H locs ls hP hS hD hL
  have e := iI_toInt hz
  exact lv_tableIn C.hx C.hb d (by rw [e]; exact h1) (by rw [e]; exact h2) (by rw [e]; exact ho) ht (k H locs ls hP hS hD hL)
theorem r_tableOut (C : CX x cc nL own ret g L mc ms) {dflt l1 l2 : Int} {offs : Array Int} {len t : Nat} {z : Int} (d : decode cc pc = .ok (.tableswitch dflt l1 l2 offs, len)) (hz : -2147483648 ≤ z ∧ z < 2147483648) (h1 : z < l1 ∨ l2 < z) (ht : (pc : Int) + dflt = (t : Int)) (k : V x g h0 Q h sz cells slots t lo rest) : V x g h0 Q h sz cells slots pc lo (vI z :: rest) := by
  intro H locs ls hP hS hD hL
  have e := iI_toInt hz
  exact lv_tableOut C.hx C.hb d (by rw [e]; exact h1) ht (k H locs ls hP hS hD hL)
theorem r_lookup (C : CX x cc nL own ret g L mc ms) {dflt : Int} {ps : Array (Int × Int)} {len t : Nat} {z off : Int} (d : decode cc pc = .ok (.lookupswitch dflt ps, len)) (hz : -2147483648 ≤ z ∧ z < 2147483648) (hp : (ps.toList.zip (ps.toList.drop 1)).all (fun (a, next) => a.1 < next.1) = true) (ho : Op.lookupswitch.offset ps.toList dflt z = off) (ht : (pc : Int) + off = (t : Int)) (k : V x g h0 Q h sz cells slots t lo rest) : V x g h0 Q h sz cells slots pc lo (vI z :: rest) := by
  intro H locs ls hP hS hD hL
  have e := iI_toInt hz
  exact lv_lookup C.hx C.hb d hp (by rw [e]; exact ho) ht (k H locs ls hP hS hD hL)

end VR
theorem V.lo {x : XT} {g : GG} {h0 : HM} {Q : State → Prop} {h : HM} {sz cells slots pc : Nat} {lo lo' : List (Option Value)} {st : List Value} (hs : ∀ (k : Nat) (v : Value), lo'[k]? = some (some v) → lo[k]? = some (some v)) (k : V x g h0 Q h sz cells slots pc lo' st) : V x g h0 Q h sz cells slots pc lo st :=
  fun H locs ls hP hS hD hL => k H locs ls hP hS hD ⟨hL.1, hL.2.1, fun i v hi => hL.2.2 i v (hs i v hi)⟩
def LSub : List (Option Value) → List (Option Value) → Prop
  | [], _ => True
  | none :: a, _ :: b => LSub a b
  | some v :: a, y :: b => y = some v ∧ LSub a b
  | _ :: _, [] => False
theorem LSub.ok : ∀ (a b : List (Option Value)), LSub a b → ∀ (k : Nat) (v : Value), a[k]? = some (some v) → b[k]? = some (some v)
  | [], _, _, k, v, h => by simp at h
  | none :: a, [], hs, _, _, _ => by cases hs
  | some w :: a, [], hs, _, _, _ => by cases hs
  | none :: a, y :: b, hs, k, v, h => by
    cases k with
    | zero => simp at h
    | succ k => exact LSub.ok a b hs k v (by simpa using h)
  | some w :: a, y :: b, hs, k, v, h => by
    obtain ⟨h1, h2⟩ := hs
    cases k with
    | zero => simp at h ⊢; rw [h1, h]
    | succ k => exact LSub.ok a b h2 k v (by simpa using h)
/-- fewer locals -/
theorem V.ls {x : XT} {g : GG} {h0 : HM} {Q : State → Prop} {h : HM} {sz cells slots pc : Nat} {lo lo' : List (Option Value)} {st : List Value} (k : V x g h0 Q h sz cells slots pc lo' st) (hs : LSub lo' lo) : V x g h0 Q h sz cells slots pc lo st := V.lo (LSub.ok lo' lo hs) k
/-- more used -/
theorem V.widen {x : XT} {g : GG} {h0 : HM} {Q : State → Prop} {h : HM} {sz cells slots cells' slots' pc : Nat} {lo : List (Option Value)} {st : List Value} (h1 : cells ≤ cells') (h2 : slots ≤ slots') (k : V x g h0 Q h sz cells' slots' pc lo st) : V x g h0 Q h sz cells slots pc lo st :=
  fun H locs ls hP hS hD hL => W.widen h1 h2 (k H locs ls hP hS hD hL)
