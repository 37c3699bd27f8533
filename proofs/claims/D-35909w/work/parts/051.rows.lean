/-! one row an opcode, over the shadow: written by prog/gen_rows.py -/
set_option maxRecDepth 100000
def isR : Value → Bool | .ref _ => true | .null => true | _ => false
theorem isR_rf (r : Option Nat) : isR (va_rf r) = true := by cases r <;> rfl
theorem isR_or {v : Value} (h : isR v = true) : v = .null ∨ ∃ a, v = .ref a := by cases v <;> simp [isR] at h <;> simp
section Rows
variable {γ : Gm} {M : MI} {X0 X : Sh} {pc : Nat} {lv : List (Option Value)} {rest : List Value} {Q : Ot → Sh → Prop}
theorem sw_iconst {n : Int} (pc1 : Nat) (hp : pc + 1 = pc1) (v : Int32) (hv : Int32.ofInt n = v) (d : decode M.cd pc = .ok (.iconst n, 1)) (k : SW γ M X0 X pc1 lv (.int v :: rest) Q) : SW γ M X0 X pc lv (rest) Q := by
  subst hp
  exact SW.up (fun p e R s m args below meth c H locs cells slots Z ls X' C hR hL hz hl kk => lv_iconst C.exec C.code d hv (kk ls hl)) k
theorem sw_bipush {n : Int} (pc1 : Nat) (hp : pc + 2 = pc1) (v : Int32) (hv : (Int8.ofInt n).toInt32 = v) (d : decode M.cd pc = .ok (.bipush n, 2)) (k : SW γ M X0 X pc1 lv (.int v :: rest) Q) : SW γ M X0 X pc lv (rest) Q := by
  subst hp
  exact SW.up (fun p e R s m args below meth c H locs cells slots Z ls X' C hR hL hz hl kk => lv_bipush C.exec C.code d hv (kk ls hl)) k
theorem sw_sipush {n : Int} (pc1 : Nat) (hp : pc + 3 = pc1) (v : Int32) (hv : (Int16.ofInt n).toInt32 = v) (d : decode M.cd pc = .ok (.sipush n, 3)) (k : SW γ M X0 X pc1 lv (.int v :: rest) Q) : SW γ M X0 X pc lv (rest) Q := by
  subst hp
  exact SW.up (fun p e R s m args below meth c H locs cells slots Z ls X' C hR hL hz hl kk => lv_sipush C.exec C.code d hv (kk ls hl)) k
theorem sw_lconst {n : Fin 2} (pc1 : Nat) (hp : pc + 1 = pc1) (v : Int64) (hv : Int64.ofNat (n : Nat) = v) (d : decode M.cd pc = .ok (.lconst n, 1)) (k : SW γ M X0 X pc1 lv (.long v :: rest) Q) : SW γ M X0 X pc lv (rest) Q := by
  subst hp
  exact SW.up (fun p e R s m args below meth c H locs cells slots Z ls X' C hR hL hz hl kk => lv_lconst C.exec C.code d hv (kk ls hl)) k
theorem sw_null  (pc1 : Nat) (hp : pc + 1 = pc1)  (d : decode M.cd pc = .ok (.aconst_null, 1)) (k : SW γ M X0 X pc1 lv (.null :: rest) Q) : SW γ M X0 X pc lv (rest) Q := by
  subst hp
  exact SW.up (fun p e R s m args below meth c H locs cells slots Z ls X' C hR hL hz hl kk => lv_null C.exec C.code d (kk ls hl)) k
theorem sw_ldc {index : Nat} {v : Int32} (pc1 : Nat) (hp : pc + 2 = pc1) (hw : Jvm.Cond.constant M.y.cls index v ∈ lw_all) (d : decode M.cd pc = .ok (.ldc index, 2)) (k : SW γ M X0 X pc1 lv (.int v :: rest) Q) : SW γ M X0 X pc lv (rest) Q := by
  subst hp
  exact SW.up (fun p e R s m args below meth c H locs cells slots Z ls X' C hR hL hz hl kk => W.ldc C.exec C.code C.own (C.hts _ hw) rfl d (kk ls hl)) k
theorem sw_ldc2 {index : Nat} {v : Int64} (pc1 : Nat) (hp : pc + 3 = pc1) (hw : Jvm.Cond.constantLong M.y.cls index v ∈ lw_all) (d : decode M.cd pc = .ok (.ldc2_w index, 3)) (k : SW γ M X0 X pc1 lv (.long v :: rest) Q) : SW γ M X0 X pc lv (rest) Q := by
  subst hp
  exact SW.up (fun p e R s m args below meth c H locs cells slots Z ls X' C hR hL hz hl kk => W.ldc2 C.exec C.code C.own (C.hts _ hw) rfl d (kk ls hl)) k
theorem sw_iload_n {i : Fin 4} {x : Int32} (pc1 : Nat) (hp : pc + 1 = pc1) (h : lv[(i : Nat)]? = some (some (.int x))) (d : decode M.cd pc = .ok (.iload_n i, 1)) (k : SW γ M X0 X pc1 lv (.int x :: rest) Q) : SW γ M X0 X pc lv (rest) Q := by
  subst hp
  exact SW.up (fun p e R s m args below meth c H locs cells slots Z ls X' C hR hL hz hl kk => lv_iload_n C.exec C.code d rfl (hl.at h) (kk ls hl)) k
theorem sw_iload {i : Nat} {x : Int32} (pc1 : Nat) (hp : pc + 2 = pc1) (h : lv[i]? = some (some (.int x))) (d : decode M.cd pc = .ok (.iload i, 2)) (k : SW γ M X0 X pc1 lv (.int x :: rest) Q) : SW γ M X0 X pc lv (rest) Q := by
  subst hp
  exact SW.up (fun p e R s m args below meth c H locs cells slots Z ls X' C hR hL hz hl kk => lv_iload C.exec C.code d (hl.at h) (kk ls hl)) k
theorem sw_lload_n {i : Fin 4} {x : Int64} (pc1 : Nat) (hp : pc + 1 = pc1) (h : lv[(i : Nat)]? = some (some (.long x))) (d : decode M.cd pc = .ok (.lload_n i, 1)) (k : SW γ M X0 X pc1 lv (.long x :: rest) Q) : SW γ M X0 X pc lv (rest) Q := by
  subst hp
  exact SW.up (fun p e R s m args below meth c H locs cells slots Z ls X' C hR hL hz hl kk => lv_lload_n C.exec C.code d rfl (hl.at h) (kk ls hl)) k
theorem sw_lload {i : Nat} {x : Int64} (pc1 : Nat) (hp : pc + 2 = pc1) (h : lv[i]? = some (some (.long x))) (d : decode M.cd pc = .ok (.lload i, 2)) (k : SW γ M X0 X pc1 lv (.long x :: rest) Q) : SW γ M X0 X pc lv (rest) Q := by
  subst hp
  exact SW.up (fun p e R s m args below meth c H locs cells slots Z ls X' C hR hL hz hl kk => lv_lload C.exec C.code d (hl.at h) (kk ls hl)) k
theorem sw_aload_n {i : Fin 4} {v : Value} (pc1 : Nat) (hp : pc + 1 = pc1) (h : lv[(i : Nat)]? = some (some v)) (hv : isR v = true) (d : decode M.cd pc = .ok (.aload_n i, 1)) (k : SW γ M X0 X pc1 lv (v :: rest) Q) : SW γ M X0 X pc lv rest Q := by
  subst hp
  rcases isR_or hv with rfl | ⟨a, rfl⟩
  · exact SW.up (fun p e R s m args below meth c H locs cells slots Z ls X' C hR hL hz hl kk => lv_aload_nN C.exec C.code d rfl (hl.at h) (kk ls hl)) k
  · exact SW.up (fun p e R s m args below meth c H locs cells slots Z ls X' C hR hL hz hl kk => lv_aload_n C.exec C.code d rfl (hl.at h) (kk ls hl)) k
theorem sw_aload {i : Nat} {v : Value} (pc1 : Nat) (hp : pc + 2 = pc1) (h : lv[i]? = some (some v)) (hv : isR v = true) (d : decode M.cd pc = .ok (.aload i, 2)) (k : SW γ M X0 X pc1 lv (v :: rest) Q) : SW γ M X0 X pc lv rest Q := by
  subst hp
  rcases isR_or hv with rfl | ⟨a, rfl⟩
  · exact SW.up (fun p e R s m args below meth c H locs cells slots Z ls X' C hR hL hz hl kk => lv_aloadN C.exec C.code d (hl.at h) (kk ls hl)) k
  · exact SW.up (fun p e R s m args below meth c H locs cells slots Z ls X' C hR hL hz hl kk => lv_aload C.exec C.code d (hl.at h) (kk ls hl)) k
theorem sw_istore_n {i : Fin 4} {x : Int32} (pc1 : Nat) (hp : pc + 1 = pc1) (lv' : List (Option Value)) (hn : (i : Nat) < M.nL) (h : ls1 lv i (.int x) = lv') (d : decode M.cd pc = .ok (.istore_n i, 1)) (k : SW γ M X0 X pc1 lv' rest Q) : SW γ M X0 X pc lv (.int x :: rest) Q := by
  subst hp
  exact SW.up (fun p e R s m args below meth c H locs cells slots Z ls X' C hR hL hz hl kk => lv_istore_n C.exec C.code d rfl hl.has hn rfl (fun ls' hl' => kk ls' (ls1_is h hl'))) k
theorem sw_istore {i : Nat} {x : Int32} (pc1 : Nat) (hp : pc + 2 = pc1) (lv' : List (Option Value)) (hn : (i : Nat) < M.nL) (h : ls1 lv i (.int x) = lv') (d : decode M.cd pc = .ok (.istore i, 2)) (k : SW γ M X0 X pc1 lv' rest Q) : SW γ M X0 X pc lv (.int x :: rest) Q := by
  subst hp
  exact SW.up (fun p e R s m args below meth c H locs cells slots Z ls X' C hR hL hz hl kk => lv_istore C.exec C.code d hl.has hn rfl (fun ls' hl' => kk ls' (ls1_is h hl'))) k
theorem sw_lstore_n {i : Fin 4} {x : Int64} (pc1 : Nat) (hp : pc + 1 = pc1) (lv' : List (Option Value)) (hn : (i : Nat) + 1 < M.nL) (h : ls2 lv i (.long x) = lv') (d : decode M.cd pc = .ok (.lstore_n i, 1)) (k : SW γ M X0 X pc1 lv' rest Q) : SW γ M X0 X pc lv (.long x :: rest) Q := by
  subst hp
  exact SW.up (fun p e R s m args below meth c H locs cells slots Z ls X' C hR hL hz hl kk => lv_lstore_n C.exec C.code d rfl hl.has hn rfl (fun ls' hl' => kk ls' (ls2_is h hl'))) k
theorem sw_lstore {i : Nat} {x : Int64} (pc1 : Nat) (hp : pc + 2 = pc1) (lv' : List (Option Value)) (hn : (i : Nat) + 1 < M.nL) (h : ls2 lv i (.long x) = lv') (d : decode M.cd pc = .ok (.lstore i, 2)) (k : SW γ M X0 X pc1 lv' rest Q) : SW γ M X0 X pc lv (.long x :: rest) Q := by
  subst hp
  exact SW.up (fun p e R s m args below meth c H locs cells slots Z ls X' C hR hL hz hl kk => lv_lstore C.exec C.code d hl.has hn rfl (fun ls' hl' => kk ls' (ls2_is h hl'))) k
theorem sw_astore_n {i : Fin 4} {v : Value} (pc1 : Nat) (hp : pc + 1 = pc1) (lv' : List (Option Value)) (hn : (i : Nat) < M.nL) (hv : isR v = true) (h : ls1 lv i v = lv') (d : decode M.cd pc = .ok (.astore_n i, 1)) (k : SW γ M X0 X pc1 lv' rest Q) : SW γ M X0 X pc lv (v :: rest) Q := by
  subst hp
  rcases isR_or hv with rfl | ⟨a, rfl⟩
  · exact SW.up (fun p e R s m args below meth c H locs cells slots Z ls X' C hR hL hz hl kk => lv_astore_nN C.exec C.code d rfl hl.has hn rfl (fun ls' hl' => kk ls' (ls1_is h hl'))) k
  · exact SW.up (fun p e R s m args below meth c H locs cells slots Z ls X' C hR hL hz hl kk => lv_astore_n C.exec C.code d rfl hl.has hn rfl (fun ls' hl' => kk ls' (ls1_is h hl'))) k
theorem sw_astore {i : Nat} {v : Value} (pc1 : Nat) (hp : pc + 2 = pc1) (lv' : List (Option Value)) (hn : (i : Nat) < M.nL) (hv : isR v = true) (h : ls1 lv i v = lv') (d : decode M.cd pc = .ok (.astore i, 2)) (k : SW γ M X0 X pc1 lv' rest Q) : SW γ M X0 X pc lv (v :: rest) Q := by
  subst hp
  rcases isR_or hv with rfl | ⟨a, rfl⟩
  · exact SW.up (fun p e R s m args below meth c H locs cells slots Z ls X' C hR hL hz hl kk => lv_astoreN C.exec C.code d hl.has hn rfl (fun ls' hl' => kk ls' (ls1_is h hl'))) k
  · exact SW.up (fun p e R s m args below meth c H locs cells slots Z ls X' C hR hL hz hl kk => lv_astore C.exec C.code d hl.has hn rfl (fun ls' hl' => kk ls' (ls1_is h hl'))) k
theorem asl_at {lv : List (Option Value)} {i : Nat} {v : Value} (h : lv[i]? = some (some v)) : ∃ k : Nat, (asl 0 lv)[k]? = some (i, v) := by
  have h1 : (i, v) ∈ asl 0 lv := asl_mem.mpr ⟨Nat.zero_le _, h⟩
  obtain ⟨k, hk⟩ := List.getElem?_of_mem h1
  exact ⟨k, hk⟩
theorem sw_iinc {i : Nat} {n : Int} {x : Int32} (pc1 : Nat) (hp : pc + 3 = pc1) (lv' : List (Option Value)) (v : Int32) (h0 : lv[i]? = some (some (.int x))) (hv : x + Int32.ofInt n = v) (hn : (i : Nat) < M.nL) (h : ls1 lv i (.int v) = lv') (d : decode M.cd pc = .ok (.iinc i n, 3)) (k : SW γ M X0 X pc1 lv' rest Q) : SW γ M X0 X pc lv rest Q := by
  subst hp
  obtain ⟨j, hj⟩ := asl_at h0
  exact SW.up (fun p e R s m args below meth c H locs cells slots Z ls X' C hR hL hz hl kk => lv_iinc C.exec C.code d hl.has hj hv hn rfl (fun ls' hl' => kk ls' (ls1_is h hl'))) k
theorem sw_iadd {x y : Int32} (pc1 : Nat) (hp : pc + 1 = pc1)  (d : decode M.cd pc = .ok (.iadd, 1)) (k : SW γ M X0 X pc1 lv (.int (x + y) :: rest) Q) : SW γ M X0 X pc lv (.int y :: .int x :: rest) Q := by
  subst hp
  exact SW.up (fun p e R s m args below meth c H locs cells slots Z ls X' C hR hL hz hl kk => lv_iadd C.exec C.code d (kk ls hl)) k
theorem sw_isub {x y : Int32} (pc1 : Nat) (hp : pc + 1 = pc1)  (d : decode M.cd pc = .ok (.isub, 1)) (k : SW γ M X0 X pc1 lv (.int (x - y) :: rest) Q) : SW γ M X0 X pc lv (.int y :: .int x :: rest) Q := by
  subst hp
  exact SW.up (fun p e R s m args below meth c H locs cells slots Z ls X' C hR hL hz hl kk => lv_isub C.exec C.code d (kk ls hl)) k
theorem sw_imul {x y : Int32} (pc1 : Nat) (hp : pc + 1 = pc1)  (d : decode M.cd pc = .ok (.imul, 1)) (k : SW γ M X0 X pc1 lv (.int (x * y) :: rest) Q) : SW γ M X0 X pc lv (.int y :: .int x :: rest) Q := by
  subst hp
  exact SW.up (fun p e R s m args below meth c H locs cells slots Z ls X' C hR hL hz hl kk => lv_imul C.exec C.code d (kk ls hl)) k
theorem sw_iand {x y : Int32} (pc1 : Nat) (hp : pc + 1 = pc1)  (d : decode M.cd pc = .ok (.iand, 1)) (k : SW γ M X0 X pc1 lv (.int (x &&& y) :: rest) Q) : SW γ M X0 X pc lv (.int y :: .int x :: rest) Q := by
  subst hp
  exact SW.up (fun p e R s m args below meth c H locs cells slots Z ls X' C hR hL hz hl kk => lv_iand C.exec C.code d (kk ls hl)) k
theorem sw_ior {x y : Int32} (pc1 : Nat) (hp : pc + 1 = pc1)  (d : decode M.cd pc = .ok (.ior, 1)) (k : SW γ M X0 X pc1 lv (.int (x ||| y) :: rest) Q) : SW γ M X0 X pc lv (.int y :: .int x :: rest) Q := by
  subst hp
  exact SW.up (fun p e R s m args below meth c H locs cells slots Z ls X' C hR hL hz hl kk => lv_ior C.exec C.code d (kk ls hl)) k
theorem sw_ishl {x y : Int32} (pc1 : Nat) (hp : pc + 1 = pc1)  (d : decode M.cd pc = .ok (.ishl, 1)) (k : SW γ M X0 X pc1 lv (.int (x <<< (y &&& 31)) :: rest) Q) : SW γ M X0 X pc lv (.int y :: .int x :: rest) Q := by
  subst hp
  exact SW.up (fun p e R s m args below meth c H locs cells slots Z ls X' C hR hL hz hl kk => lv_ishl C.exec C.code d (kk ls hl)) k
theorem sw_ishr {x y : Int32} (pc1 : Nat) (hp : pc + 1 = pc1)  (d : decode M.cd pc = .ok (.ishr, 1)) (k : SW γ M X0 X pc1 lv (.int (x >>> (y &&& 31)) :: rest) Q) : SW γ M X0 X pc lv (.int y :: .int x :: rest) Q := by
  subst hp
  exact SW.up (fun p e R s m args below meth c H locs cells slots Z ls X' C hR hL hz hl kk => lv_ishr C.exec C.code d (kk ls hl)) k
theorem sw_ineg {x : Int32} (pc1 : Nat) (hp : pc + 1 = pc1)  (d : decode M.cd pc = .ok (.ineg, 1)) (k : SW γ M X0 X pc1 lv (.int (-x) :: rest) Q) : SW γ M X0 X pc lv (.int x :: rest) Q := by
  subst hp
  exact SW.up (fun p e R s m args below meth c H locs cells slots Z ls X' C hR hL hz hl kk => lv_ineg C.exec C.code d (kk ls hl)) k
theorem sw_ladd {x y : Int64} (pc1 : Nat) (hp : pc + 1 = pc1)  (d : decode M.cd pc = .ok (.ladd, 1)) (k : SW γ M X0 X pc1 lv (.long (x + y) :: rest) Q) : SW γ M X0 X pc lv (.long y :: .long x :: rest) Q := by
  subst hp
  exact SW.up (fun p e R s m args below meth c H locs cells slots Z ls X' C hR hL hz hl kk => lv_ladd C.exec C.code d (kk ls hl)) k
theorem sw_lsub {x y : Int64} (pc1 : Nat) (hp : pc + 1 = pc1)  (d : decode M.cd pc = .ok (.lsub, 1)) (k : SW γ M X0 X pc1 lv (.long (x - y) :: rest) Q) : SW γ M X0 X pc lv (.long y :: .long x :: rest) Q := by
  subst hp
  exact SW.up (fun p e R s m args below meth c H locs cells slots Z ls X' C hR hL hz hl kk => lv_lsub C.exec C.code d (kk ls hl)) k
theorem sw_lmul {x y : Int64} (pc1 : Nat) (hp : pc + 1 = pc1)  (d : decode M.cd pc = .ok (.lmul, 1)) (k : SW γ M X0 X pc1 lv (.long (x * y) :: rest) Q) : SW γ M X0 X pc lv (.long y :: .long x :: rest) Q := by
  subst hp
  exact SW.up (fun p e R s m args below meth c H locs cells slots Z ls X' C hR hL hz hl kk => lv_lmul C.exec C.code d (kk ls hl)) k
theorem sw_ldiv {x y : Int64} (pc1 : Nat) (hp : pc + 1 = pc1) (h0 : ¬ y = 0) (d : decode M.cd pc = .ok (.ldiv, 1)) (k : SW γ M X0 X pc1 lv (.long (x / y) :: rest) Q) : SW γ M X0 X pc lv (.long y :: .long x :: rest) Q := by
  subst hp
  exact SW.up (fun p e R s m args below meth c H locs cells slots Z ls X' C hR hL hz hl kk => lv_ldiv C.exec C.code d h0 (kk ls hl)) k
theorem sw_lneg {x : Int64} (pc1 : Nat) (hp : pc + 1 = pc1)  (d : decode M.cd pc = .ok (.lneg, 1)) (k : SW γ M X0 X pc1 lv (.long (-x) :: rest) Q) : SW γ M X0 X pc lv (.long x :: rest) Q := by
  subst hp
  exact SW.up (fun p e R s m args below meth c H locs cells slots Z ls X' C hR hL hz hl kk => lv_lneg C.exec C.code d (kk ls hl)) k
theorem sw_i2l {x : Int32} (pc1 : Nat) (hp : pc + 1 = pc1)  (d : decode M.cd pc = .ok (.i2l, 1)) (k : SW γ M X0 X pc1 lv (.long x.toInt64 :: rest) Q) : SW γ M X0 X pc lv (.int x :: rest) Q := by
  subst hp
  exact SW.up (fun p e R s m args below meth c H locs cells slots Z ls X' C hR hL hz hl kk => lv_i2l C.exec C.code d rfl (kk ls hl)) k
theorem sw_l2i {x : Int64} (pc1 : Nat) (hp : pc + 1 = pc1)  (d : decode M.cd pc = .ok (.l2i, 1)) (k : SW γ M X0 X pc1 lv (.int x.toInt32 :: rest) Q) : SW γ M X0 X pc lv (.long x :: rest) Q := by
  subst hp
  exact SW.up (fun p e R s m args below meth c H locs cells slots Z ls X' C hR hL hz hl kk => lv_l2i C.exec C.code d rfl (kk ls hl)) k
theorem sw_iaddN {a b : Nat} (pc1 : Nat) (hp : pc + 1 = pc1)  (d : decode M.cd pc = .ok (.iadd, 1)) (k : SW γ M X0 X pc1 lv (.int (nI (a + b)) :: rest) Q) : SW γ M X0 X pc lv (.int (nI b) :: .int (nI a) :: rest) Q := by
  subst hp
  exact SW.up (fun p e R s m args below meth c H locs cells slots Z ls X' C hR hL hz hl kk => by rw [← nI_add] at kk; exact lv_iadd C.exec C.code d (kk ls hl)) k
theorem sw_imulN {a b : Nat} (pc1 : Nat) (hp : pc + 1 = pc1)  (d : decode M.cd pc = .ok (.imul, 1)) (k : SW γ M X0 X pc1 lv (.int (nI (a * b)) :: rest) Q) : SW γ M X0 X pc lv (.int (nI b) :: .int (nI a) :: rest) Q := by
  subst hp
  exact SW.up (fun p e R s m args below meth c H locs cells slots Z ls X' C hR hL hz hl kk => by rw [← pk_mul] at kk; exact lv_imul C.exec C.code d (kk ls hl)) k
theorem sw_isubN {a b : Nat} (pc1 : Nat) (hp : pc + 1 = pc1) (hb : b ≤ a) (d : decode M.cd pc = .ok (.isub, 1)) (k : SW γ M X0 X pc1 lv (.int (nI (a - b)) :: rest) Q) : SW γ M X0 X pc lv (.int (nI b) :: .int (nI a) :: rest) Q := by
  subst hp
  exact SW.up (fun p e R s m args below meth c H locs cells slots Z ls X' C hR hL hz hl kk => by rw [← pk_sub hb] at kk; exact lv_isub C.exec C.code d (kk ls hl)) k
theorem sw_top {v w : Value} (h : v = w) (k : SW γ M X0 X pc lv (w :: rest) Q) : SW γ M X0 X pc lv (v :: rest) Q := h ▸ k
theorem sw_sk {st st' : List Value} (h : st = st') (k : SW γ M X0 X pc lv st' Q) : SW γ M X0 X pc lv st Q := h ▸ k
theorem sw_lv {lv' : List (Option Value)} (h : lv = lv') (k : SW γ M X0 X pc lv' rest Q) : SW γ M X0 X pc lv rest Q := h ▸ k
theorem sw_pc {pc' : Nat} (h : pc = pc') (k : SW γ M X0 X pc' lv rest Q) : SW γ M X0 X pc lv rest Q := h ▸ k
theorem sw_X {X' : Sh} (h : X = X') (k : SW γ M X0 X' pc lv rest Q) : SW γ M X0 X pc lv rest Q := h ▸ k
/-- what is known of the locals may be forgotten -/
def lvle (lv lv' : List (Option Value)) : Prop := ∀ (i : Nat) (v : Value), lv'[i]? = some (some v) → lv[i]? = some (some v)
theorem lvle_nil : lvle [] [] := fun _ _ h => h
theorem lvle_c {x : Option Value} {t t' : List (Option Value)} (h : lvle t t') : lvle (x :: t) (x :: t') := fun i v hv => by
  cases i with
  | zero => exact hv
  | succ i => exact h i v hv
theorem lvle_n {x : Option Value} {t t' : List (Option Value)} (h : lvle t t') : lvle (x :: t) (none :: t') := fun i v hv => by
  cases i with
  | zero => simp at hv
  | succ i => exact h i v hv
theorem sw_fgt {lv' : List (Option Value)} {st : List Value} (h : lvle lv lv') (k : SW γ M X0 X pc lv' st Q) : SW γ M X0 X pc lv st Q :=
  SW.up (fun p e R s m args below meth c H locs cells slots Z ls X' C hR hL hz hl kk => kk ls ⟨hl.1, hl.2.1, fun i v hv => hl.2.2 i v (h i v hv)⟩) k
theorem sw_dup {v : Value} (pc1 : Nat) (hp : pc + 1 = pc1) (h : v.category = 1) (d : decode M.cd pc = .ok (.dup, 1)) (k : SW γ M X0 X pc1 lv (v :: v :: rest) Q) : SW γ M X0 X pc lv (v :: rest) Q := by
  subst hp
  exact SW.up (fun p e R s m args below meth c H locs cells slots Z ls X' C hR hL hz hl kk => lv_dup C.exec C.code d h (kk ls hl)) k
theorem sw_pop {v : Value} (pc1 : Nat) (hp : pc + 1 = pc1) (h : v.category = 1) (d : decode M.cd pc = .ok (.pop, 1)) (k : SW γ M X0 X pc1 lv (rest) Q) : SW γ M X0 X pc lv (v :: rest) Q := by
  subst hp
  exact SW.up (fun p e R s m args below meth c H locs cells slots Z ls X' C hR hL hz hl kk => lv_pop C.exec C.code d h (kk ls hl)) k
theorem sw_dup_x1 {v w : Value} (pc1 : Nat) (hp : pc + 1 = pc1) (h : v.category = 1) (h2 : w.category = 1) (d : decode M.cd pc = .ok (.dup_x1, 1)) (k : SW γ M X0 X pc1 lv (v :: w :: v :: rest) Q) : SW γ M X0 X pc lv (v :: w :: rest) Q := by
  subst hp
  exact SW.up (fun p e R s m args below meth c H locs cells slots Z ls X' C hR hL hz hl kk => lv_dup_x1 C.exec C.code d h h2 (kk ls hl)) k
theorem sw_dup2 {v w : Value} (pc1 : Nat) (hp : pc + 1 = pc1) (h : v.category = 1) (h2 : w.category = 1) (d : decode M.cd pc = .ok (.dup2, 1)) (k : SW γ M X0 X pc1 lv (v :: w :: v :: w :: rest) Q) : SW γ M X0 X pc lv (v :: w :: rest) Q := by
  subst hp
  exact SW.up (fun p e R s m args below meth c H locs cells slots Z ls X' C hR hL hz hl kk => lv_dup2_11 C.exec C.code d h h2 (kk ls hl)) k
theorem sw_dup2L {v : Value} (pc1 : Nat) (hp : pc + 1 = pc1) (h : v.category = 2) (d : decode M.cd pc = .ok (.dup2, 1)) (k : SW γ M X0 X pc1 lv (v :: v :: rest) Q) : SW γ M X0 X pc lv (v :: rest) Q := by
  subst hp
  exact SW.up (fun p e R s m args below meth c H locs cells slots Z ls X' C hR hL hz hl kk => lv_dup2_2 C.exec C.code d h (kk ls hl)) k
theorem sw_lcmp {x y : Int64} (pc1 : Nat) (hp : pc + 1 = pc1)  (d : decode M.cd pc = .ok (.lcmp, 1)) (k : SW γ M X0 X pc1 lv (.int (lg_cmp x y) :: rest) Q) : SW γ M X0 X pc lv (.long y :: .long x :: rest) Q := by
  subst hp
  exact SW.up (fun p e R s m args below meth c H locs cells slots Z ls X' C hR hL hz hl kk => W.lcmp C.exec C.code d (kk ls hl)) k
theorem sw_if_eq {x : Int32} {off : Int} (tgt pc1 : Nat) (ht : (pc : Int) + off = (tgt : Int)) (hp : pc + 3 = pc1) (d : decode M.cd pc = .ok (.ifCond .eq off, 3)) (kt : (x = 0) → SW γ M X0 X tgt lv rest Q) (kf : ¬ (x = 0) → SW γ M X0 X pc1 lv rest Q) : SW γ M X0 X pc lv (.int x :: rest) Q := by
  subst hp
  by_cases hc : (x = 0)
  · exact SW.up (fun p e R s m args below meth c H locs cells slots Z ls X' C hR hL hz hl kk => lv_if_eq C.exec C.code d ht (fun _ => kk ls hl) (fun q => absurd hc q)) (kt hc)
  · exact SW.up (fun p e R s m args below meth c H locs cells slots Z ls X' C hR hL hz hl kk => lv_if_eq C.exec C.code d ht (fun q => absurd q hc) (fun _ => kk ls hl)) (kf hc)
theorem sw_icmp_eq {x y : Int32} {off : Int} (tgt pc1 : Nat) (ht : (pc : Int) + off = (tgt : Int)) (hp : pc + 3 = pc1) (d : decode M.cd pc = .ok (.if_icmp .eq off, 3)) (kt : (x = y) → SW γ M X0 X tgt lv rest Q) (kf : ¬ (x = y) → SW γ M X0 X pc1 lv rest Q) : SW γ M X0 X pc lv (.int y :: .int x :: rest) Q := by
  subst hp
  by_cases hc : (x = y)
  · exact SW.up (fun p e R s m args below meth c H locs cells slots Z ls X' C hR hL hz hl kk => lv_icmp_eq C.exec C.code d ht (fun _ => kk ls hl) (fun q => absurd hc q)) (kt hc)
  · exact SW.up (fun p e R s m args below meth c H locs cells slots Z ls X' C hR hL hz hl kk => lv_icmp_eq C.exec C.code d ht (fun q => absurd q hc) (fun _ => kk ls hl)) (kf hc)
theorem sw_if_lt {x : Int32} {off : Int} (tgt pc1 : Nat) (ht : (pc : Int) + off = (tgt : Int)) (hp : pc + 3 = pc1) (d : decode M.cd pc = .ok (.ifCond .lt off, 3)) (kt : (x < 0) → SW γ M X0 X tgt lv rest Q) (kf : ¬ (x < 0) → SW γ M X0 X pc1 lv rest Q) : SW γ M X0 X pc lv (.int x :: rest) Q := by
  subst hp
  by_cases hc : (x < 0)
  · exact SW.up (fun p e R s m args below meth c H locs cells slots Z ls X' C hR hL hz hl kk => lv_if_lt C.exec C.code d ht (fun _ => kk ls hl) (fun q => absurd hc q)) (kt hc)
  · exact SW.up (fun p e R s m args below meth c H locs cells slots Z ls X' C hR hL hz hl kk => lv_if_lt C.exec C.code d ht (fun q => absurd q hc) (fun _ => kk ls hl)) (kf hc)
theorem sw_icmp_lt {x y : Int32} {off : Int} (tgt pc1 : Nat) (ht : (pc : Int) + off = (tgt : Int)) (hp : pc + 3 = pc1) (d : decode M.cd pc = .ok (.if_icmp .lt off, 3)) (kt : (x < y) → SW γ M X0 X tgt lv rest Q) (kf : ¬ (x < y) → SW γ M X0 X pc1 lv rest Q) : SW γ M X0 X pc lv (.int y :: .int x :: rest) Q := by
  subst hp
  by_cases hc : (x < y)
  · exact SW.up (fun p e R s m args below meth c H locs cells slots Z ls X' C hR hL hz hl kk => lv_icmp_lt C.exec C.code d ht (fun _ => kk ls hl) (fun q => absurd hc q)) (kt hc)
  · exact SW.up (fun p e R s m args below meth c H locs cells slots Z ls X' C hR hL hz hl kk => lv_icmp_lt C.exec C.code d ht (fun q => absurd q hc) (fun _ => kk ls hl)) (kf hc)
theorem sw_if_ge {x : Int32} {off : Int} (tgt pc1 : Nat) (ht : (pc : Int) + off = (tgt : Int)) (hp : pc + 3 = pc1) (d : decode M.cd pc = .ok (.ifCond .ge off, 3)) (kt : (0 ≤ x) → SW γ M X0 X tgt lv rest Q) (kf : ¬ (0 ≤ x) → SW γ M X0 X pc1 lv rest Q) : SW γ M X0 X pc lv (.int x :: rest) Q := by
  subst hp
  by_cases hc : (0 ≤ x)
  · exact SW.up (fun p e R s m args below meth c H locs cells slots Z ls X' C hR hL hz hl kk => lv_if_ge C.exec C.code d ht (fun _ => kk ls hl) (fun q => absurd hc q)) (kt hc)
  · exact SW.up (fun p e R s m args below meth c H locs cells slots Z ls X' C hR hL hz hl kk => lv_if_ge C.exec C.code d ht (fun q => absurd q hc) (fun _ => kk ls hl)) (kf hc)
theorem sw_icmp_ge {x y : Int32} {off : Int} (tgt pc1 : Nat) (ht : (pc : Int) + off = (tgt : Int)) (hp : pc + 3 = pc1) (d : decode M.cd pc = .ok (.if_icmp .ge off, 3)) (kt : (y ≤ x) → SW γ M X0 X tgt lv rest Q) (kf : ¬ (y ≤ x) → SW γ M X0 X pc1 lv rest Q) : SW γ M X0 X pc lv (.int y :: .int x :: rest) Q := by
  subst hp
  by_cases hc : (y ≤ x)
  · exact SW.up (fun p e R s m args below meth c H locs cells slots Z ls X' C hR hL hz hl kk => lv_icmp_ge C.exec C.code d ht (fun _ => kk ls hl) (fun q => absurd hc q)) (kt hc)
  · exact SW.up (fun p e R s m args below meth c H locs cells slots Z ls X' C hR hL hz hl kk => lv_icmp_ge C.exec C.code d ht (fun q => absurd q hc) (fun _ => kk ls hl)) (kf hc)
theorem sw_if_gt {x : Int32} {off : Int} (tgt pc1 : Nat) (ht : (pc : Int) + off = (tgt : Int)) (hp : pc + 3 = pc1) (d : decode M.cd pc = .ok (.ifCond .gt off, 3)) (kt : (0 < x) → SW γ M X0 X tgt lv rest Q) (kf : ¬ (0 < x) → SW γ M X0 X pc1 lv rest Q) : SW γ M X0 X pc lv (.int x :: rest) Q := by
  subst hp
  by_cases hc : (0 < x)
  · exact SW.up (fun p e R s m args below meth c H locs cells slots Z ls X' C hR hL hz hl kk => lv_if_gt C.exec C.code d ht (fun _ => kk ls hl) (fun q => absurd hc q)) (kt hc)
  · exact SW.up (fun p e R s m args below meth c H locs cells slots Z ls X' C hR hL hz hl kk => lv_if_gt C.exec C.code d ht (fun q => absurd q hc) (fun _ => kk ls hl)) (kf hc)
theorem sw_icmp_gt {x y : Int32} {off : Int} (tgt pc1 : Nat) (ht : (pc : Int) + off = (tgt : Int)) (hp : pc + 3 = pc1) (d : decode M.cd pc = .ok (.if_icmp .gt off, 3)) (kt : (y < x) → SW γ M X0 X tgt lv rest Q) (kf : ¬ (y < x) → SW γ M X0 X pc1 lv rest Q) : SW γ M X0 X pc lv (.int y :: .int x :: rest) Q := by
  subst hp
  by_cases hc : (y < x)
  · exact SW.up (fun p e R s m args below meth c H locs cells slots Z ls X' C hR hL hz hl kk => lv_icmp_gt C.exec C.code d ht (fun _ => kk ls hl) (fun q => absurd hc q)) (kt hc)
  · exact SW.up (fun p e R s m args below meth c H locs cells slots Z ls X' C hR hL hz hl kk => lv_icmp_gt C.exec C.code d ht (fun q => absurd q hc) (fun _ => kk ls hl)) (kf hc)
theorem sw_if_le {x : Int32} {off : Int} (tgt pc1 : Nat) (ht : (pc : Int) + off = (tgt : Int)) (hp : pc + 3 = pc1) (d : decode M.cd pc = .ok (.ifCond .le off, 3)) (kt : (x ≤ 0) → SW γ M X0 X tgt lv rest Q) (kf : ¬ (x ≤ 0) → SW γ M X0 X pc1 lv rest Q) : SW γ M X0 X pc lv (.int x :: rest) Q := by
  subst hp
  by_cases hc : (x ≤ 0)
  · exact SW.up (fun p e R s m args below meth c H locs cells slots Z ls X' C hR hL hz hl kk => lv_if_le C.exec C.code d ht (fun _ => kk ls hl) (fun q => absurd hc q)) (kt hc)
  · exact SW.up (fun p e R s m args below meth c H locs cells slots Z ls X' C hR hL hz hl kk => lv_if_le C.exec C.code d ht (fun q => absurd q hc) (fun _ => kk ls hl)) (kf hc)
theorem sw_icmp_le {x y : Int32} {off : Int} (tgt pc1 : Nat) (ht : (pc : Int) + off = (tgt : Int)) (hp : pc + 3 = pc1) (d : decode M.cd pc = .ok (.if_icmp .le off, 3)) (kt : (x ≤ y) → SW γ M X0 X tgt lv rest Q) (kf : ¬ (x ≤ y) → SW γ M X0 X pc1 lv rest Q) : SW γ M X0 X pc lv (.int y :: .int x :: rest) Q := by
  subst hp
  by_cases hc : (x ≤ y)
  · exact SW.up (fun p e R s m args below meth c H locs cells slots Z ls X' C hR hL hz hl kk => lv_icmp_le C.exec C.code d ht (fun _ => kk ls hl) (fun q => absurd hc q)) (kt hc)
  · exact SW.up (fun p e R s m args below meth c H locs cells slots Z ls X' C hR hL hz hl kk => lv_icmp_le C.exec C.code d ht (fun q => absurd q hc) (fun _ => kk ls hl)) (kf hc)
theorem sw_if_ne {x : Int32} {off : Int} (tgt pc1 : Nat) (ht : (pc : Int) + off = (tgt : Int)) (hp : pc + 3 = pc1) (d : decode M.cd pc = .ok (.ifCond .ne off, 3)) (kt : ¬ (x = 0) → SW γ M X0 X tgt lv rest Q) (kf : (x = 0) → SW γ M X0 X pc1 lv rest Q) : SW γ M X0 X pc lv (.int x :: rest) Q := by
  subst hp
  by_cases hc : (x = 0)
  · exact SW.up (fun p e R s m args below meth c H locs cells slots Z ls X' C hR hL hz hl kk => lv_if_ne C.exec C.code d ht (fun q => absurd hc q) (fun q => kk ls hl)) (kf hc)
  · exact SW.up (fun p e R s m args below meth c H locs cells slots Z ls X' C hR hL hz hl kk => lv_if_ne C.exec C.code d ht (fun _ => kk ls hl) (fun q => absurd q hc)) (kt hc)
theorem sw_icmp_ne {x y : Int32} {off : Int} (tgt pc1 : Nat) (ht : (pc : Int) + off = (tgt : Int)) (hp : pc + 3 = pc1) (d : decode M.cd pc = .ok (.if_icmp .ne off, 3)) (kt : ¬ (x = y) → SW γ M X0 X tgt lv rest Q) (kf : (x = y) → SW γ M X0 X pc1 lv rest Q) : SW γ M X0 X pc lv (.int y :: .int x :: rest) Q := by
  subst hp
  by_cases hc : (x = y)
  · exact SW.up (fun p e R s m args below meth c H locs cells slots Z ls X' C hR hL hz hl kk => lv_icmp_ne C.exec C.code d ht (fun q => absurd hc q) (fun q => kk ls hl)) (kf hc)
  · exact SW.up (fun p e R s m args below meth c H locs cells slots Z ls X' C hR hL hz hl kk => lv_icmp_ne C.exec C.code d ht (fun _ => kk ls hl) (fun q => absurd q hc)) (kt hc)
theorem sw_leq {x y : Int64} {off : Int} (tgt pc1 pc2 : Nat) (hp0 : pc + 1 = pc1) (ht : (pc1 : Int) + off = (tgt : Int)) (hp : pc1 + 3 = pc2) (d : decode M.cd pc = .ok (.lcmp, 1)) (d2 : decode M.cd pc1 = .ok (.ifCond .eq off, 3)) (kt : x = y → SW γ M X0 X tgt lv rest Q) (kf : ¬ x = y → SW γ M X0 X pc2 lv rest Q) : SW γ M X0 X pc lv (.long y :: .long x :: rest) Q :=
  sw_lcmp pc1 hp0 d (sw_if_eq tgt pc2 ht hp d2 (fun q => kt ((lg_cmp_eq x y).mp q)) (fun q => kf (fun q2 => q ((lg_cmp_eq x y).mpr q2))))
theorem sw_llt {x y : Int64} {off : Int} (tgt pc1 pc2 : Nat) (hp0 : pc + 1 = pc1) (ht : (pc1 : Int) + off = (tgt : Int)) (hp : pc1 + 3 = pc2) (d : decode M.cd pc = .ok (.lcmp, 1)) (d2 : decode M.cd pc1 = .ok (.ifCond .lt off, 3)) (kt : x < y → SW γ M X0 X tgt lv rest Q) (kf : ¬ x < y → SW γ M X0 X pc2 lv rest Q) : SW γ M X0 X pc lv (.long y :: .long x :: rest) Q :=
  sw_lcmp pc1 hp0 d (sw_if_lt tgt pc2 ht hp d2 (fun q => kt ((lg_cmp_lt x y).mp q)) (fun q => kf (fun q2 => q ((lg_cmp_lt x y).mpr q2))))
theorem sw_lge {x y : Int64} {off : Int} (tgt pc1 pc2 : Nat) (hp0 : pc + 1 = pc1) (ht : (pc1 : Int) + off = (tgt : Int)) (hp : pc1 + 3 = pc2) (d : decode M.cd pc = .ok (.lcmp, 1)) (d2 : decode M.cd pc1 = .ok (.ifCond .ge off, 3)) (kt : y ≤ x → SW γ M X0 X tgt lv rest Q) (kf : ¬ y ≤ x → SW γ M X0 X pc2 lv rest Q) : SW γ M X0 X pc lv (.long y :: .long x :: rest) Q :=
  sw_lcmp pc1 hp0 d (sw_if_ge tgt pc2 ht hp d2 (fun q => kt ((lg_cmp_ge x y).mp q)) (fun q => kf (fun q2 => q ((lg_cmp_ge x y).mpr q2))))
theorem sw_lgt {x y : Int64} {off : Int} (tgt pc1 pc2 : Nat) (hp0 : pc + 1 = pc1) (ht : (pc1 : Int) + off = (tgt : Int)) (hp : pc1 + 3 = pc2) (d : decode M.cd pc = .ok (.lcmp, 1)) (d2 : decode M.cd pc1 = .ok (.ifCond .gt off, 3)) (kt : y < x → SW γ M X0 X tgt lv rest Q) (kf : ¬ y < x → SW γ M X0 X pc2 lv rest Q) : SW γ M X0 X pc lv (.long y :: .long x :: rest) Q :=
  sw_lcmp pc1 hp0 d (sw_if_gt tgt pc2 ht hp d2 (fun q => kt ((lg_cmp_gt x y).mp q)) (fun q => kf (fun q2 => q ((lg_cmp_gt x y).mpr q2))))
theorem sw_lle {x y : Int64} {off : Int} (tgt pc1 pc2 : Nat) (hp0 : pc + 1 = pc1) (ht : (pc1 : Int) + off = (tgt : Int)) (hp : pc1 + 3 = pc2) (d : decode M.cd pc = .ok (.lcmp, 1)) (d2 : decode M.cd pc1 = .ok (.ifCond .le off, 3)) (kt : x ≤ y → SW γ M X0 X tgt lv rest Q) (kf : ¬ x ≤ y → SW γ M X0 X pc2 lv rest Q) : SW γ M X0 X pc lv (.long y :: .long x :: rest) Q :=
  sw_lcmp pc1 hp0 d (sw_if_le tgt pc2 ht hp d2 (fun q => kt ((lg_cmp_le x y).mp q)) (fun q => kf (fun q2 => q ((lg_cmp_le x y).mpr q2))))
theorem sw_lne {x y : Int64} {off : Int} (tgt pc1 pc2 : Nat) (hp0 : pc + 1 = pc1) (ht : (pc1 : Int) + off = (tgt : Int)) (hp : pc1 + 3 = pc2) (d : decode M.cd pc = .ok (.lcmp, 1)) (d2 : decode M.cd pc1 = .ok (.ifCond .ne off, 3)) (kt : ¬ x = y → SW γ M X0 X tgt lv rest Q) (kf : x = y → SW γ M X0 X pc2 lv rest Q) : SW γ M X0 X pc lv (.long y :: .long x :: rest) Q :=
  sw_lcmp pc1 hp0 d (sw_if_ne tgt pc2 ht hp d2 (fun q => kt (fun q2 => q ((lg_cmp_eq x y).mpr q2))) (fun q => kf ((lg_cmp_eq x y).mp q)))
theorem sw_goto {off : Int} (tgt : Nat) (ht : (pc : Int) + off = (tgt : Int)) (d : decode M.cd pc = .ok (.goto off, 3)) (k : SW γ M X0 X tgt lv rest Q) : SW γ M X0 X pc lv rest Q :=
  SW.up (fun p e R s m args below meth c H locs cells slots Z ls X' C hR hL hz hl kk => lv_goto C.exec C.code d ht (kk ls hl)) k
theorem sw_ifnull {r : Option Nat} {off : Int} (tgt pc1 : Nat) (ht : (pc : Int) + off = (tgt : Int)) (hp : pc + 3 = pc1) (d : decode M.cd pc = .ok (.ifnull off, 3)) (kt : r = none → SW γ M X0 X tgt lv rest Q) (kf : ∀ a, r = some a → SW γ M X0 X pc1 lv rest Q) : SW γ M X0 X pc lv (va_rf r :: rest) Q := by
  subst hp
  cases r with
  | none => exact SW.up (fun p e R s m args below meth c H locs cells slots Z ls X' C hR hL hz hl kk => lv_ifnullN C.exec C.code d ht (kk ls hl)) (kt rfl)
  | some a => exact SW.up (fun p e R s m args below meth c H locs cells slots Z ls X' C hR hL hz hl kk => lv_ifnull C.exec C.code d (kk ls hl)) (kf a rfl)
theorem sw_ifnonnull {r : Option Nat} {off : Int} (tgt pc1 : Nat) (ht : (pc : Int) + off = (tgt : Int)) (hp : pc + 3 = pc1) (d : decode M.cd pc = .ok (.ifnonnull off, 3)) (kt : ∀ a, r = some a → SW γ M X0 X tgt lv rest Q) (kf : r = none → SW γ M X0 X pc1 lv rest Q) : SW γ M X0 X pc lv (va_rf r :: rest) Q := by
  subst hp
  cases r with
  | none => exact SW.up (fun p e R s m args below meth c H locs cells slots Z ls X' C hR hL hz hl kk => lv_ifnonnullN C.exec C.code d (kk ls hl)) (kf rfl)
  | some a => exact SW.up (fun p e R s m args below meth c H locs cells slots Z ls X' C hR hL hz hl kk => lv_ifnonnull C.exec C.code d ht (kk ls hl)) (kt a rfl)
theorem sw_acmp_eq {x y : Option Nat} {off : Int} (tgt pc1 : Nat) (ht : (pc : Int) + off = (tgt : Int)) (hp : pc + 3 = pc1) (d : decode M.cd pc = .ok (.if_acmp .eq off, 3)) (kt : x = y → SW γ M X0 X tgt lv rest Q) (kf : ¬ x = y → SW γ M X0 X pc1 lv rest Q) : SW γ M X0 X pc lv (va_rf y :: va_rf x :: rest) Q := by
  subst hp
  by_cases hc : x = y
  · exact SW.up (fun p e R s m args below meth c H locs cells slots Z ls X' C hR hL hz hl kk => lv_acmp_eq C.exec C.code d ht (fun _ => kk ls hl) (fun q => absurd hc q)) (kt hc)
  · exact SW.up (fun p e R s m args below meth c H locs cells slots Z ls X' C hR hL hz hl kk => lv_acmp_eq C.exec C.code d ht (fun q => absurd q hc) (fun _ => kk ls hl)) (kf hc)
theorem sw_acmp_ne {x y : Option Nat} {off : Int} (tgt pc1 : Nat) (ht : (pc : Int) + off = (tgt : Int)) (hp : pc + 3 = pc1) (d : decode M.cd pc = .ok (.if_acmp .ne off, 3)) (kt : ¬ x = y → SW γ M X0 X tgt lv rest Q) (kf : x = y → SW γ M X0 X pc1 lv rest Q) : SW γ M X0 X pc lv (va_rf y :: va_rf x :: rest) Q := by
  subst hp
  by_cases hc : x = y
  · exact SW.up (fun p e R s m args below meth c H locs cells slots Z ls X' C hR hL hz hl kk => lv_acmp_ne C.exec C.code d ht (fun q => absurd hc q) (fun _ => kk ls hl)) (kf hc)
  · exact SW.up (fun p e R s m args below meth c H locs cells slots Z ls X' C hR hL hz hl kk => lv_acmp_ne C.exec C.code d ht (fun _ => kk ls hl) (fun q => absurd q hc)) (kt hc)
/-- the two with plain addresses -/
theorem sw_acmp_eqA {x y : Nat} {off : Int} (tgt pc1 : Nat) (ht : (pc : Int) + off = (tgt : Int)) (hp : pc + 3 = pc1) (d : decode M.cd pc = .ok (.if_acmp .eq off, 3)) (kt : x = y → SW γ M X0 X tgt lv rest Q) (kf : ¬ x = y → SW γ M X0 X pc1 lv rest Q) : SW γ M X0 X pc lv (.ref y :: .ref x :: rest) Q :=
  sw_acmp_eq (x := some x) (y := some y) tgt pc1 ht hp d (fun q => kt (Option.some.inj q)) (fun q => kf (fun z => q (congrArg some z)))
theorem sw_acmp_neA {x y : Nat} {off : Int} (tgt pc1 : Nat) (ht : (pc : Int) + off = (tgt : Int)) (hp : pc + 3 = pc1) (d : decode M.cd pc = .ok (.if_acmp .ne off, 3)) (kt : ¬ x = y → SW γ M X0 X tgt lv rest Q) (kf : x = y → SW γ M X0 X pc1 lv rest Q) : SW γ M X0 X pc lv (.ref y :: .ref x :: rest) Q :=
  sw_acmp_ne (x := some x) (y := some y) tgt pc1 ht hp d (fun q => kt (fun z => q (congrArg some z))) (fun q => kf (Option.some.inj q))
theorem sw_tabOut {dflt lo hi : Int} {offs : Array Int} {len : Nat} {x : Int32} (tgt : Nat) (d : decode M.cd pc = .ok (.tableswitch dflt lo hi offs, len)) (h : x.toInt < lo ∨ hi < x.toInt) (ht : (pc : Int) + dflt = (tgt : Int)) (k : SW γ M X0 X tgt lv rest Q) : SW γ M X0 X pc lv (.int x :: rest) Q :=
  SW.up (fun p e R s m args below meth c H locs cells slots Z ls X' C hR hL hz hl kk => lv_tableOut C.exec C.code d h ht (kk ls hl)) k
theorem sw_tabIn {dflt lo hi : Int} {offs : Array Int} {len : Nat} {x : Int32} {off : Int} (tgt : Nat) (d : decode M.cd pc = .ok (.tableswitch dflt lo hi offs, len)) (h1 : ¬ x.toInt < lo) (h2 : ¬ hi < x.toInt) (ho : offs[(x.toInt - lo).toNat]? = some off) (ht : (pc : Int) + off = (tgt : Int)) (k : SW γ M X0 X tgt lv rest Q) : SW γ M X0 X pc lv (.int x :: rest) Q :=
  SW.up (fun p e R s m args below meth c H locs cells slots Z ls X' C hR hL hz hl kk => lv_tableIn C.exec C.code d h1 h2 ho ht (kk ls hl)) k
theorem sw_iret {x : Int32} {ty : FieldType} (hr : M.rt = some ty) (hn : narrow ty (.int x) = .int x) (d : decode M.cd pc = .ok (.ireturn, 1)) (q : Q (.inl (some (.int x))) X) : SW γ M X0 X pc lv [.int x] Q :=
  ⟨.inl (some (.int x)), X, q, Nat.le_refl _, Nat.le_refl _, fun p e R s m args below meth c H locs ls C hR hL hl hz hz2 => vx_ret (W.zret C.exec C.code (C.rets.trans hr) hn (fun t ht hW => ⟨⟨_, rfl, rfl⟩, by rw [ht]; exact hR⟩) hL d C.locks)⟩
theorem sw_lret {x : Int64} (hr : M.rt = some .long) (d : decode M.cd pc = .ok (.lreturn, 1)) (q : Q (.inl (some (.long x))) X) : SW γ M X0 X pc lv [.long x] Q :=
  ⟨.inl (some (.long x)), X, q, Nat.le_refl _, Nat.le_refl _, fun p e R s m args below meth c H locs ls C hR hL hl hz hz2 => vx_ret (W.lret C.exec C.code (C.rets.trans hr) (fun t ht hW => ⟨⟨_, rfl, rfl⟩, by rw [ht]; exact hR⟩) hL d C.locks)⟩
theorem sw_vret (hr : M.rt = none) (d : decode M.cd pc = .ok (.return_, 1)) (q : Q (.inl none) X) : SW γ M X0 X pc lv [] Q :=
  ⟨.inl none, X, q, Nat.le_refl _, Nat.le_refl _, fun p e R s m args below meth c H locs ls C hR hL hl hz hz2 => vx_ret (W.vret C.exec C.code (C.rets.trans hr) (fun t ht hW => ⟨⟨_, rfl, rfl⟩, by rw [ht]; exact hR⟩) hL d C.locks)⟩
theorem sw_aret {v : Value} {rt : FieldType} (hr : M.rt = some rt) (hrt : (∃ n, rt = .object n) ∨ ∃ t, rt = .array t) (hv : isR v = true) (d : decode M.cd pc = .ok (.areturn, 1)) (q : Q (.inl (some v)) X) : SW γ M X0 X pc lv [v] Q :=
  ⟨.inl (some v), X, q, Nat.le_refl _, Nat.le_refl _, fun p e R s m args below meth c H locs ls C hR hL hl hz hz2 => vx_ret (W.aret C.exec C.code (C.rets.trans hr) hrt (isR_or hv) (fun t ht hW => ⟨⟨_, rfl, rfl⟩, by rw [ht]; exact hR⟩) hL d C.locks)⟩
end Rows
