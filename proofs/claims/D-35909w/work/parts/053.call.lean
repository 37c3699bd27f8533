/-! rows that make cells, casts, and calls -/
set_option maxRecDepth 100000
section MRows
variable {γ : Gm} {M : MI} {X0 X : Sh} {pc : Nat} {lv : List (Option Value)} {rest : List Value} {Q : Ot → Sh → Prop}
/-- an object of any kind into an array of objects -/
theorem sw_oast {a n j v ci N : Nat} {C : String} {T : u_T} {vs : List Value} {f : Nat → Option Nat} (pc1 : Nat) (hp : pc + 1 = pc1) (hX : X.2.2 a = some (eO γ n f)) (hv : X.2.2 v = some (.inr (ci, vs))) (hc : clA[ci]? = some (C, T, N)) (hw : Cond.castable C "java/lang/Object" ∈ lw_tbl) (hj : j < n) (hn : n < 2 ^ 31) (d : decode M.cd pc = .ok (.aastore, 1)) (kk : ∀ X1, X1 = X.set a (eO γ n (va_up f j (some v))) → SW γ M X0 X1 pc1 lv rest Q) : SW γ M X0 X pc lv (.ref v :: .int (nI j) :: .ref a :: rest) Q := by
  subst hp
  refine SW.go (X1 := X.set a (eO γ n (va_up f j (some v)))) (Nat.le_refl _) (Nat.le_refl _) ?_ (kk _ rfl)
  intro p e R s m args below meth c H locs cells slots Z ls X' C9 hR hL hz hlv hc1 hc2 k9
  obtain ⟨r', hr', cellV, g1, g2, g3, -⟩ := (hR.2.2.2 v _ hv).2
  have hr : r' = (C, T, N) := Option.some.inj (hr'.symm.trans hc)
  subst hr
  have hcls := (C9.K.1 ci _ hc).2
  obtain ⟨kA, comp, k1, k2, k3, -⟩ := (C9.K.2 3 _ rfl).2
  obtain ⟨c0, t0, f1, f2, f3⟩ := Cond.castable_spec (va_Nw.use (A := args) rfl (va_Nw.warmC C9.warm (C9.nw rfl hw)))
  have e0 : c0 = γ.D.1 ci := Option.some.inj (f1.symm.trans hcls.1)
  have e1 : t0 = comp := Option.some.inj (f2.symm.trans k3)
  subst e0; subst e1
  obtain ⟨kO, hkO, -⟩ := Vm.findClass_spec k3
  obtain ⟨kC, hkC, -⟩ := hcls.2
  refine W.aast C9.exec C9.code (hR.2.2.2 a _ hX).2 (fun q h => by cases h) (fun h => by cases h) k1 k2 rfl hkO ⟨nI_pos (Nat.lt_trans hj hn), by show _ < (arrV _ _ _).slots.size; rw [arrV_size, nI_clamp (Nat.lt_trans hj hn)]; exact hj⟩ g1 (fun q h => by rw [g3] at h; cases h) (by rw [g2]; exact hkC) (by rw [g2]; exact f3) rfl rfl d fun H1 e1 e2 e3 => ?_
  rw [nI_clamp (Nat.lt_trans hj hn)] at e1
  refine cast ?_ (k9 H1 (locs ++ [⟨a, (nI j).toNatClampNeg⟩]) (hR.set hX ?_ e2 e3) (hL.app (hR.2.2.2 a _ hX).1))
  · rw [show (X.set a (eO γ n (va_up f j (some v)))).n = X.n from rfl, show (X.set a (eO γ n (va_up f j (some v)))).k = X.k from rfl, Nat.sub_self, Nat.sub_self]
    rfl
  · show H1[a]? = some (vp_cell _ _)
    rw [e1, vp_cell_q, vp_cell_q, arrV_store, ← up_eqf va_rf]; rfl
theorem sw_new {C : String} {T : u_T} {N ci index : Nat} (fs : List Value) (ty : Nat → FieldType) (pc1 : Nat) (hp : pc + 3 = pc1) (hc : clA[ci]? = some (C, T, N)) (hin : ∀ w ∈ u_ws C T N, w ∈ lw_all) (hty : ∀ k, k < N → parseFieldDescriptor (T k).2.2.1 = some (ty k)) (hcl : Cond.classLink M.y.cls index C ∈ lw_all) (hinst : Cond.instantiable C N ∈ lw_all) (hini : Cond.initialized C ∈ lw_all) (hfs : ∀ j, j < N → defaultValue (ty j) = vp_V fs j) (d : decode M.cd pc = .ok (.new index, 3)) (kk : ∀ X1, X1 = X.add (.inr (ci, fs)) N → SW γ M X0 X1 pc1 lv (.ref X.1 :: rest) Q) : SW γ M X0 X pc lv rest Q := by
  subst hp
  refine SW.go (X1 := X.add (.inr (ci, fs)) N) (Nat.le_succ _) (Nat.le_add_right _ _) ?_ (kk _ rfl)
  intro p e R s m args below meth c H locs cells slots Z ls X' C9 hR hL hz hlv hc1 hc2 k9
  have hKn := C9.K.1 ci _ hc
  have e1 : (X.add (.inr (ci, fs)) N).n - X.n = 1 := by show X.1 + 1 - X.1 = 1; omega
  have e2 : (X.add (.inr (ci, fs)) N).k - X.k = N := by show X.2.1 + N - X.2.1 = N; omega
  rw [e1] at hc1 k9
  rw [e2] at hc2 k9
  refine W.newcK C9.exec C9.code C9.own (C9.hts _ hcl) (C9.hts _ hinst) (C9.hts _ hini) rfl d hc1 hc2 hKn.2.1 hR.1 fun H1 kC hkC f1 z1 o1 => ?_
  exact k9 H1 locs (hR.add ⟨_, hc, (u_born ty C9.hts hin hKn hkC f1 hty).to hfs⟩ z1 (fun q hq => o1 q hq)) hL
theorem wh_RA {γ : Gm} {s : State} (hK : va_K γ.D clA (tyA γ) s) (k : Nat) {cA : ClassId} {ty : FieldType} (ht : (tyA γ)[k]? = some (cA, ty)) (hty : ∀ C, ty ≠ .object C) : s.vm.findClass ("[" ++ ty.toString) = some cA := by
  have h := (hK.2 k _ ht).2
  cases ty <;> first | exact h | exact absurd rfl (hty _)
theorem sw_newI {n : Nat} (pc1 : Nat) (hp : pc + 2 = pc1) (hn : n ≤ 1000000) (hw : Cond.arrayClass .int ∈ lw_all) (d : decode M.cd pc = .ok (.newarray .int, 2)) (kk : ∀ X1, X1 = X.add (eI γ n (fun _ => 0)) n → SW γ M X0 X1 pc1 lv (.ref X.1 :: rest) Q) : SW γ M X0 X pc lv (.int (nI n) :: rest) Q := by
  subst hp
  have hn1 : n < 2 ^ 31 := Nat.lt_of_le_of_lt hn (Nat.le_of_ble_eq_true rfl)
  refine SW.go (X1 := X.add (eI γ n (fun _ => 0)) n) (Nat.le_succ _) (Nat.le_add_right _ _) ?_ (kk _ rfl)
  intro p e R s m args below meth c H locs cells slots Z ls X' C9 hR hL hz hlv hc1 hc2 k9
  have e1 : (X.add (eI γ n (fun _ => 0)) n).n - X.n = 1 := by show X.1 + 1 - X.1 = 1; omega
  have e2 : (X.add (eI γ n (fun _ => 0)) n).k - X.k = n := by show X.2.1 + n - X.2.1 = n; omega
  rw [e1] at hc1 k9
  rw [e2] at hc2 k9
  refine va_newaK C9.exec C9.code (atype := .int) (C9.hts _ hw) rfl d rfl (nI_pos hn1) (nI_clamp hn1) (Nat.le_trans (Nat.mul_le_mul_right 4 hn) (Nat.le_of_ble_eq_true rfl)) hc1 hc2 hR.1 fun H1 cA f1 z1 o1 hAr hNm => ?_
  have eA : cA = γ.A 0 := Option.some.inj (hNm.symm.trans (wh_RA C9.K 0 rfl (fun C h => by cases h)))
  subst eA
  exact k9 H1 locs (hR.add f1 z1 o1) hL
theorem sw_newL {n : Nat} (pc1 : Nat) (hp : pc + 2 = pc1) (hn : n ≤ 1000000) (hw : Cond.arrayClass .long ∈ lw_all) (d : decode M.cd pc = .ok (.newarray .long, 2)) (kk : ∀ X1, X1 = X.add (eL γ n (fun _ => 0)) n → SW γ M X0 X1 pc1 lv (.ref X.1 :: rest) Q) : SW γ M X0 X pc lv (.int (nI n) :: rest) Q := by
  subst hp
  have hn1 : n < 2 ^ 31 := Nat.lt_of_le_of_lt hn (Nat.le_of_ble_eq_true rfl)
  refine SW.go (X1 := X.add (eL γ n (fun _ => 0)) n) (Nat.le_succ _) (Nat.le_add_right _ _) ?_ (kk _ rfl)
  intro p e R s m args below meth c H locs cells slots Z ls X' C9 hR hL hz hlv hc1 hc2 k9
  have e1 : (X.add (eL γ n (fun _ => 0)) n).n - X.n = 1 := by show X.1 + 1 - X.1 = 1; omega
  have e2 : (X.add (eL γ n (fun _ => 0)) n).k - X.k = n := by show X.2.1 + n - X.2.1 = n; omega
  rw [e1] at hc1 k9
  rw [e2] at hc2 k9
  refine va_newaK C9.exec C9.code (atype := .long) (C9.hts _ hw) rfl d rfl (nI_pos hn1) (nI_clamp hn1) (Nat.le_trans (Nat.mul_le_mul_right 8 hn) (Nat.le_of_ble_eq_true rfl)) hc1 hc2 hR.1 fun H1 cA f1 z1 o1 hAr hNm => ?_
  have eA : cA = γ.A 1 := Option.some.inj (hNm.symm.trans (wh_RA C9.K 1 rfl (fun C h => by cases h)))
  subst eA
  exact k9 H1 locs (hR.add f1 z1 o1) hL
theorem sw_newZ {n : Nat} (pc1 : Nat) (hp : pc + 2 = pc1) (hn : n ≤ 1000000) (hw : Cond.arrayClass .boolean ∈ lw_all) (d : decode M.cd pc = .ok (.newarray .boolean, 2)) (kk : ∀ X1, X1 = X.add (eZ γ n (fun _ => 0)) n → SW γ M X0 X1 pc1 lv (.ref X.1 :: rest) Q) : SW γ M X0 X pc lv (.int (nI n) :: rest) Q := by
  subst hp
  have hn1 : n < 2 ^ 31 := Nat.lt_of_le_of_lt hn (Nat.le_of_ble_eq_true rfl)
  refine SW.go (X1 := X.add (eZ γ n (fun _ => 0)) n) (Nat.le_succ _) (Nat.le_add_right _ _) ?_ (kk _ rfl)
  intro p e R s m args below meth c H locs cells slots Z ls X' C9 hR hL hz hlv hc1 hc2 k9
  have e1 : (X.add (eZ γ n (fun _ => 0)) n).n - X.n = 1 := by show X.1 + 1 - X.1 = 1; omega
  have e2 : (X.add (eZ γ n (fun _ => 0)) n).k - X.k = n := by show X.2.1 + n - X.2.1 = n; omega
  rw [e1] at hc1 k9
  rw [e2] at hc2 k9
  refine va_newaK C9.exec C9.code (atype := .boolean) (C9.hts _ hw) rfl d rfl (nI_pos hn1) (nI_clamp hn1) (Nat.le_trans (Nat.mul_le_mul_right 1 hn) (Nat.le_of_ble_eq_true rfl)) hc1 hc2 hR.1 fun H1 cA f1 z1 o1 hAr hNm => ?_
  have eA : cA = γ.A 2 := Option.some.inj (hNm.symm.trans (wh_RA C9.K 2 rfl (fun C h => by cases h)))
  subst eA
  exact k9 H1 locs (hR.add f1 z1 o1) hL
theorem wh_RAo {γ : Gm} {s : State} (hK : va_K γ.D clA (tyA γ) s) (k : Nat) {cA : ClassId} {C : String} (ht : (tyA γ)[k]? = some (cA, .object C)) : s.vm.findClass ("[" ++ (FieldType.object C).toString) = some cA := by
  obtain ⟨kA, comp, h1, h2, h3, h4⟩ := (hK.2 k _ ht).2
  exact h4
theorem sw_newB {n index : Nat} (pc1 : Nat) (hp : pc + 3 = pc1) (hn : n ≤ 1000000) (hw : Cond.classLink M.y.cls index "HundiHall$Broker" ∈ lw_all) (hw2 : Cond.arrayOver (.object "HundiHall$Broker") ∈ lw_tbl) (d : decode M.cd pc = .ok (.anewarray index, 3)) (kk : ∀ X1, X1 = X.add (eB γ n (fun _ => none)) n → SW γ M X0 X1 pc1 lv (.ref X.1 :: rest) Q) : SW γ M X0 X pc lv (.int (nI n) :: rest) Q := by
  subst hp
  have hn1 : n < 2 ^ 31 := Nat.lt_of_le_of_lt hn (Nat.le_of_ble_eq_true rfl)
  refine SW.go (X1 := X.add (eB γ n (fun _ => none)) n) (Nat.le_succ _) (Nat.le_add_right _ _) ?_ (kk _ rfl)
  intro p e R s m args below meth c H locs cells slots Z ls X' C9 hR hL hz hlv hc1 hc2 k9
  have e1 : (X.add (eB γ n (fun _ => none)) n).n - X.n = 1 := by show X.1 + 1 - X.1 = 1; omega
  have e2 : (X.add (eB γ n (fun _ => none)) n).k - X.k = n := by show X.2.1 + n - X.2.1 = n; omega
  rw [e1] at hc1 k9
  rw [e2] at hc2 k9
  have hAO : va_AO "HundiHall$Broker" s := by
    obtain ⟨b, h1, -⟩ := C9.gok.2.2
    exact va_AO.moved C9.warm.alike (va_AO.of (h1 _ hw2))
  refine W.anew C9.exec C9.code C9.own (C9.hts _ hw) hAO.use rfl d rfl (nI_pos hn1) (by rw [nI_clamp hn1]; exact Nat.le_trans (Nat.mul_le_mul_right 4 hn) (Nat.le_of_ble_eq_true rfl)) hc1 (by rw [nI_clamp hn1]; exact hc2) fun cA kA comp h1 h2 h3 h4 => ?_
  rw [nI_clamp hn1]
  have eA : cA = γ.A 4 := Option.some.inj (h1.symm.trans (wh_RAo C9.K 4 rfl))
  subst eA
  have hz1 : H.size = X.1 := hR.1
  rw [hz1]
  refine k9 _ locs (hR.add ?_ (by rw [Array.size_push, hz1]) (fun q hq => by rw [Array.getElem?_push, if_neg (by omega)])) hL
  show (H.push _)[X.1]? = some (vp_cell _ _)
  rw [← hz1, Array.getElem?_push_size, vp_cell_q]
  exact congrArg some (arrV_new _ _ _)
theorem sw_newO {n index : Nat} (pc1 : Nat) (hp : pc + 3 = pc1) (hn : n ≤ 1000000) (hw : Cond.classLink M.y.cls index "java/lang/Object" ∈ lw_all) (hw2 : Cond.arrayOver (.object "java/lang/Object") ∈ lw_tbl) (d : decode M.cd pc = .ok (.anewarray index, 3)) (kk : ∀ X1, X1 = X.add (eO γ n (fun _ => none)) n → SW γ M X0 X1 pc1 lv (.ref X.1 :: rest) Q) : SW γ M X0 X pc lv (.int (nI n) :: rest) Q := by
  subst hp
  have hn1 : n < 2 ^ 31 := Nat.lt_of_le_of_lt hn (Nat.le_of_ble_eq_true rfl)
  refine SW.go (X1 := X.add (eO γ n (fun _ => none)) n) (Nat.le_succ _) (Nat.le_add_right _ _) ?_ (kk _ rfl)
  intro p e R s m args below meth c H locs cells slots Z ls X' C9 hR hL hz hlv hc1 hc2 k9
  have e1 : (X.add (eO γ n (fun _ => none)) n).n - X.n = 1 := by show X.1 + 1 - X.1 = 1; omega
  have e2 : (X.add (eO γ n (fun _ => none)) n).k - X.k = n := by show X.2.1 + n - X.2.1 = n; omega
  rw [e1] at hc1 k9
  rw [e2] at hc2 k9
  have hAO : va_AO "java/lang/Object" s := by
    obtain ⟨b, h1, -⟩ := C9.gok.2.2
    exact va_AO.moved C9.warm.alike (va_AO.of (h1 _ hw2))
  refine W.anew C9.exec C9.code C9.own (C9.hts _ hw) hAO.use rfl d rfl (nI_pos hn1) (by rw [nI_clamp hn1]; exact Nat.le_trans (Nat.mul_le_mul_right 4 hn) (Nat.le_of_ble_eq_true rfl)) hc1 (by rw [nI_clamp hn1]; exact hc2) fun cA kA comp h1 h2 h3 h4 => ?_
  rw [nI_clamp hn1]
  have eA : cA = γ.A 3 := Option.some.inj (h1.symm.trans (wh_RAo C9.K 3 rfl))
  subst eA
  have hz1 : H.size = X.1 := hR.1
  rw [hz1]
  refine k9 _ locs (hR.add ?_ (by rw [Array.size_push, hz1]) (fun q hq => by rw [Array.getElem?_push, if_neg (by omega)])) hL
  show (H.push _)[X.1]? = some (vp_cell _ _)
  rw [← hz1, Array.getElem?_push_size, vp_cell_q]
  exact congrArg some (arrV_new _ _ _)
/-! casts -/
theorem RL.recv {γ : Gm} {X : Sh} {H : Heap} {s : State} (hR : RL γ X H) (hK : va_K γ.D clA (tyA γ) s) {a ci N : Nat} {C : String} {T : u_T} {fs : List Value} (hX : X.2.2 a = some (.inr (ci, fs))) (hc : clA[ci]? = some (C, T, N)) : ∃ cell : Cell, H[a]? = some cell ∧ cell.vm.isStatics = false ∧ s.vm.findClass C = some cell.cls :=
  va_recv hK (hR.one hX) hc (q0 := 0) rfl
theorem sw_castN {index : Nat} (pc1 : Nat) (hp : pc + 3 = pc1) (d : decode M.cd pc = .ok (.checkcast index, 3)) (kk : SW γ M X0 X pc1 lv (.null :: rest) Q) : SW γ M X0 X pc lv (.null :: rest) Q := by
  subst hp
  exact SW.up (fun p e R s m args below meth c H locs cells slots Z ls X' C9 hR hL hz hl kk => lv_castN C9.exec C9.code d (kk ls hl)) kk
theorem sw_castS {a ci N index : Nat} {C : String} {T : u_T} {fs : List Value} (pc1 : Nat) (hp : pc + 3 = pc1) (hX : X.2.2 a = some (.inr (ci, fs))) (hc : clA[ci]? = some (C, T, N)) (hw : Cond.classLink M.y.cls index C ∈ lw_all) (d : decode M.cd pc = .ok (.checkcast index, 3)) (kk : SW γ M X0 X pc1 lv (.ref a :: rest) Q) : SW γ M X0 X pc lv (.ref a :: rest) Q := by
  subst hp
  exact SW.up (fun p e R s m args below meth c H locs cells slots Z ls X' C9 hR hL hz hl kk => va_castS C9.exec C9.code C9.own (C9.hts _ hw) (C9.K.1 ci _ hc).2 (hR.recv C9.K hX hc) d (kk ls hl)) kk
theorem sw_instS {a ci N index : Nat} {C : String} {T : u_T} {fs : List Value} (pc1 : Nat) (hp : pc + 3 = pc1) (hX : X.2.2 a = some (.inr (ci, fs))) (hc : clA[ci]? = some (C, T, N)) (hw : Cond.classLink M.y.cls index C ∈ lw_all) (d : decode M.cd pc = .ok (.instanceof index, 3)) (kk : SW γ M X0 X pc1 lv (.int 1 :: rest) Q) : SW γ M X0 X pc lv (.ref a :: rest) Q := by
  subst hp
  exact SW.up (fun p e R s m args below meth c H locs cells slots Z ls X' C9 hR hL hz hl kk => va_instS C9.exec C9.code C9.own (C9.hts _ hw) (C9.K.1 ci _ hc).2 (hR.recv C9.K hX hc) d (kk ls hl)) kk
/-- not of that kind: by one of the claim's premises -/
theorem sw_instNo {a ci N index : Nat} {C nm : String} {T : u_T} {fs : List Value} (pc1 : Nat) (hp : pc + 3 = pc1) (hX : X.2.2 a = some (.inr (ci, fs))) (hc : clA[ci]? = some (C, T, N)) (hw : Cond.classLink M.y.cls index nm ∈ lw_all) (hno : ∀ b : Nat, (Jvm.Cond.and given_1 narrow_1).before #[Value.ref b] γ.s = true → (Cond.not (.castable C nm)).before #[Value.ref b] γ.s = true) (d : decode M.cd pc = .ok (.instanceof index, 3)) (kk : SW γ M X0 X pc1 lv (.int 0 :: rest) Q) : SW γ M X0 X pc lv (.ref a :: rest) Q := by
  subst hp
  refine SW.up (fun p e R s m args below meth c H locs cells slots Z ls X' C9 hR hL hz hl kk => ?_) kk
  obtain ⟨b, h1, h2⟩ := C9.gok.2.2
  exact va_instNo C9.exec C9.code C9.own (C9.hts _ hw) (va_Nc.moved C9.warm.alike (va_Nc.of (hno b h2))) (hR.recv C9.K hX hc) d (kk ls hl)
theorem sw_objI {index a : Nat} (pc1 : Nat) (hp : pc + 3 = pc1) (h1 : Cond.methodLink M.y.cls index Lib.objectInit ∈ lw_all) (h2 : Cond.instanceMethod Lib.objectInit ∈ lw_all) (h3 : Cond.code Lib.objectInit ⟨#[0xb1]⟩ 1 none ∈ lw_all) (hdp : 1 ≤ M.dp) (hcat : (rest.map fun v => v.category).sum ≤ 8) (d : decode M.cd pc = .ok (.invokespecial index, 3)) (kk : SW γ M X0 X pc1 lv rest Q) : SW γ M X0 X pc lv (.ref a :: rest) Q := by
  subst hp
  refine SW.up (fun p e R s m args below meth c H locs cells slots Z ls X' C9 hR hL hz hl kk => ?_) kk
  have r1 := C9.rfr
  have r2 := C9.rlo
  refine W.objInit C9.exec C9.code C9.own (C9.hts _ h1) (C9.hts _ h2) (C9.hts _ h3) rfl (by rw [C9.maxL]; exact hl.1) rfl d (by omega) ?_ (kk ls hl)
  have h0 : (F0 m pc ls (.ref a :: rest)).monitorRoom = 0 := rfl
  rw [h0]
  omega
end MRows
section CallW9
variable {γ : Gm} {p : Program} {l : Launch} {e : Env} {R : Room} {s : State} {m : MethodId} {args : Array Value} {below : List Frame} {meth : Method} {c : Code} {H : Heap} {locs : List Loc} {cells slots : Nat} {Q : State → Prop}
variable {mc ms : Nat} {a : Array Value} {pc : Nat} {ls : Array Slot} {st0 rest : List Value} {o : Ot} {X1 : Sh}
theorem LO.join {locs L : List Loc} (h : LO γ locs) (h2 : ∀ q ∈ L, frG γ q.base) : LO γ (locs ++ L) := fun q hq => (List.mem_append.mp hq).elim (h q) (h2 q)
theorem wh_call (hr : vx_Run p l e R s m args below meth c H locs cells slots mc ms (F0 m pc ls st0) rest (QcO γ o X1 a) (XcO γ o X1) (frG γ)) (hL : LO γ locs)
    (kv : ∀ v H1 locs1, o = .inl v → RL γ X1 H1 → LO γ locs1 → W p l e R s m args below meth c H1 locs1 (cells + mc) (slots + ms) Q (F0 m (pc + 3) ls (v.toList ++ rest)))
    (kx : ∀ E ce q H1 locs1, o = .inr E → RL γ X1 H1 → LO γ locs1 → H1[q]? = some ce → ce.vm = .none → s.vm.findClass E = some ce.cls → vx_W p l e R s m args below meth c H1 locs1 (cells + mc) (slots + ms) Q (F0 m pc ls rest) q) : W p l e R s m args below meth c H locs cells slots Q (F0 m pc ls st0) := by
  intro T hT X
  rcases hr T hT X with ⟨v, st₀, t, T', L, h0, X', hL2, e1, e2, ⟨⟨v', ho, hv⟩, hR⟩, st⟩ | ⟨q, st₀, t, T', L, E, ce, h0, X', hL2, e1, e2, ⟨ho, hR⟩, hce, hcv, hcl, st⟩
  · cases hv
    obtain ⟨t2, a1, b1⟩ := kv v T'.heap (locs ++ L) ho (by rw [e1]; exact hR) (hL.join hL2) T' rfl X'
    exact ⟨t2, st t2 a1, b1⟩
  · obtain ⟨t2, a1, b1⟩ := kx E ce q T'.heap (locs ++ L) ho (by rw [e1]; exact hR) (hL.join hL2) (by rw [e1]; exact hce) hcv hcl T' rfl X'
    exact ⟨t2, st.trans a1, b1⟩
theorem wh_call5 (hr : vx_Run5 p l e R s m args below meth c H locs cells slots mc ms (F0 m pc ls st0) rest (QcO γ o X1 a) (XcO γ o X1) (frG γ)) (hL : LO γ locs)
    (kv : ∀ v H1 locs1, o = .inl v → RL γ X1 H1 → LO γ locs1 → W p l e R s m args below meth c H1 locs1 (cells + mc) (slots + ms) Q (F0 m (pc + 5) ls (v.toList ++ rest)))
    (kx : ∀ E ce q H1 locs1, o = .inr E → RL γ X1 H1 → LO γ locs1 → H1[q]? = some ce → ce.vm = .none → s.vm.findClass E = some ce.cls → vx_W p l e R s m args below meth c H1 locs1 (cells + mc) (slots + ms) Q (F0 m pc ls rest) q) : W p l e R s m args below meth c H locs cells slots Q (F0 m pc ls st0) := by
  intro T hT X
  rcases hr T hT X with ⟨v, st₀, t, T', L, h0, X', hL2, e1, e2, ⟨⟨v', ho, hv⟩, hR⟩, st⟩ | ⟨q, st₀, t, T', L, E, ce, h0, X', hL2, e1, e2, ⟨ho, hR⟩, hce, hcv, hcl, st⟩
  · cases hv
    obtain ⟨t2, a1, b1⟩ := kv v T'.heap (locs ++ L) ho (by rw [e1]; exact hR) (hL.join hL2) T' rfl X'
    exact ⟨t2, st t2 a1, b1⟩
  · obtain ⟨t2, a1, b1⟩ := kx E ce q T'.heap (locs ++ L) ho (by rw [e1]; exact hR) (hL.join hL2) (by rw [e1]; exact hce) hcv hcl T' rfl X'
    exact ⟨t2, st.trans a1, b1⟩
end CallW9
/-! what a call asks of the tables, by its place in the constants of its kind -/
abbrev nMH (N : MI) (n : Nat) : Prop := N.y.cls ≠ "java/lang/invoke/MethodHandle" ∧ N.y.cls ≠ "java/lang/invoke/VarHandle" ∧ (parseMethodDescriptor N.y.desc).map (fun d => d.parameters.length) = some n
def CsS (own : String) (N : MI) (index n : Nat) : Prop := GoodIn lw_all (va_wsS own index N.y (ws_ N.y N.cd N.nL N.rt)) ∧ nMH N n ∧ N.nL ≤ 45
def CsV (own : String) (N : MI) (index n : Nat) : Prop := GoodIn lw_all (wsV own index N.y.cls N.y (ws_ N.y N.cd N.nL N.rt)) ∧ nMH N n ∧ N.nL ≤ 45
def CsI (own : String) (N : MI) (index n : Nat) : Prop := GoodIn lw_all (ws_ N.y N.cd N.nL N.rt) ∧ (Cond.initialized N.y.cls ∈ lw_all ∧ Cond.methodLink own index N.y ∈ lw_all ∧ Cond.instanceMethod N.y ∈ lw_all) ∧ N.y.name = "<init>" ∧ N.rt = none ∧ nMH N n ∧ N.nL ≤ 45
def CsN (own : String) (N : MI) (index n : Nat) : Prop := GoodIn lw_all (ws_ N.y N.cd N.nL N.rt) ∧ (Cond.initialized N.y.cls ∈ lw_all ∧ (∃ host, Cond.methodLinkNest own index N.y host ∈ lw_tbl) ∧ Cond.instanceMethod N.y ∈ lw_all) ∧ N.y.name = "<init>" ∧ N.rt = none ∧ nMH N n ∧ N.nL ≤ 45
def CsF (own C : String) (x : MethodName) (N : MI) (index n : Nat) : Prop := GoodIn lw_all (va_wsF own index C x N.y (ws_ N.y N.cd N.nL N.rt)) ∧ (Cond.declares x ∈ lw_tbl ∧ Cond.interfaceMethod x.cls x.cls x.name x.desc ∈ lw_tbl ∧ Cond.publicMethod N.y ∈ lw_tbl ∧ Cond.unhidden C x.name x.desc ∈ lw_tbl ∧ Cond.castable C x.cls ∈ lw_tbl) ∧ (x.cls ≠ "java/lang/invoke/MethodHandle" ∧ x.cls ≠ "java/lang/invoke/VarHandle" ∧ (parseMethodDescriptor x.desc).map (fun d => d.parameters.length) = some n) ∧ N.nL ≤ 45
section Calls9
variable {γ : Gm} {M N : MI} {X0 X : Sh} {pc index n : Nat} {lv : List (Option Value)} {As st : List Value} {Q Q1 : Ot → Sh → Prop}
theorem wh_room {M N : MI} {X0 X X1 X' : Sh} {p : Program} {R : Room} {s : State} {m : MethodId} {args : Array Value} {meth : Method} {c : Code} (C : CX γ M X0 X' p R s m args meth c) (hdp : N.dp + 1 ≤ M.dp) (hnl : N.nL ≤ 45) (x y : Nat) : (rmM N x y).frames + 1 ≤ R.frames ∧ 8 + (N.nL + 11) + (rmM N x y).locals ≤ R.locals := by
  have r1 := C.rfr
  have r2 := C.rlo
  refine ⟨Nat.le_trans hdp r1, ?_⟩
  show 8 + (N.nL + 11) + N.dp * 64 ≤ R.locals
  omega
/-- no handler of the method takes it -/
theorem wh_out {M : MI} {X0 X1 : Sh} {p : Program} {e : Env} {R : Room} {s : State} {m : MethodId} {args : Array Value} {below : List Frame} {meth : Method} {c : Code} {H1 : Heap} {locs1 : List Loc} {ls : Array Slot} {rest : List Value} {E : String} {ce : Cell} {q a b k i : Nat} (C : CX γ M X0 X1 p R s m args meth c) (hh : M.hh = []) (hR : RL γ X1 H1) (hL : LO γ locs1) (hce : H1[q]? = some ce) (hcv : ce.vm = .none) (hcl : s.vm.findClass E = some ce.cls) (h1 : a ≤ k) (h2 : b ≤ i) : vx_W p γ.l e R s m args below meth c H1 locs1 a b (vx_MQ below (QcO γ (.inr E) X1) (XcO γ (.inr E) X1) args s k i (frG γ)) (F0 m pc ls rest) q :=
  vx_out (fun x hx => by rw [C.tab, hh] at hx; cases hx) C.locks hce hcv hcl (fun t ht _ => ⟨rfl, by rw [ht]; exact hR⟩) hL h1 h2
theorem pre_of (γ : Gm) (vs : List Value) (X : Sh) : FrameBlind (va_Pc vs (fun U => GOK γ ∧ γ.s.WarmedH U.vm ∧ RL γ X U.heap)) := fun _ _ _ _ q => ⟨q.1, q.2.1, q.2.2.1, q.2.2.2⟩
theorem sw_callS {own : String} (pc1 : Nat) (rest : List Value) (hp : pc + 3 = pc1) (cs : CsS own N index n) (hM : M.y.cls = own) (hdp : N.dp + 1 ≤ M.dp) (hh : M.hh = []) (hE : Ev γ N As X Q1) (hn : As.length = n) (hst : st = As.reverse ++ rest) (hcat : (rest.map fun v => v.category).sum ≤ 8) (d : decode M.cd pc = .ok (.invokestatic index, 3))
    (kv : ∀ v X1, Q1 (.inl v) X1 → SW γ M X0 X1 pc1 lv (v.toList ++ rest) Q) (kx : ∀ E X1, Q1 (.inr E) X1 → Q (.inr E) X1) : SW γ M X0 X pc lv st Q := by
  subst hp; subst hM
  obtain ⟨hG, hmh, hnl⟩ := cs
  obtain ⟨o, X1, hQ1, g1, g2, hMet⟩ := hE
  have run : ∀ (p : Program) (e : Env) (R : Room) (s : State) (m : MethodId) (args : Array Value) (below : List Frame) (meth : Method) (c : Code) (H : Heap) (locs : List Loc) (cells slots : Nat) (ls : Array Slot) (X' : Sh), CX γ M X0 X' p R s m args meth c → RL γ X H → lv_is ls M.nL lv → cells + (X1.n - X.n) ≤ R.cells → slots + (X1.k - X.k) ≤ R.slots → vx_Run p γ.l e R s m args below meth c H locs cells slots (X1.n - X.n) (X1.k - X.k) (F0 m pc ls st) rest (QcO γ o X1 As.toArray) (XcO γ o X1) (frG γ) := by
    intro p e R s m args below meth c H locs cells slots ls X' C hR hl hc1 hc2
    exact vx_runS (As := As) (rest := rest) ⟨C.exec, C.code, C.maxL, C.own, C.hts⟩ hMet (va_cwS n C.hts hG rfl rfl rfl hmh (wh_room (X := X) (X1 := X1) C hdp hnl _ _)) ⟨pre_of γ As X, fun U hU hW => ⟨rfl, C.gok, State.WarmedH.trans C.warm hW, by rw [hU]; exact hR⟩⟩ rfl hn hl.1 hst (by show 2 * 0 + _ ≤ 8; omega) d ⟨hc1, hc2⟩
  cases o with
  | inl v =>
    refine SW.go g1 g2 (fun p e R s m args below meth c H locs cells slots Z ls X' C hR hL hz hl hc1 hc2 k9 => ?_) (kv v X1 hQ1)
    refine wh_call (run p e R s m args below meth c H locs cells slots ls X' C hR hl hc1 hc2) hL (fun v' H1 locs1 ho hR1 hL1 => ?_) (fun E ce q H1 locs1 ho => by cases ho)
    cases ho
    exact k9 H1 locs1 hR1 hL1
  | inr E =>
    refine ⟨.inr E, X1, kx E X1 hQ1, g1, g2, fun p e R s m args below meth c H locs ls C hR hL hl hz hz2 => ?_⟩
    have a1 := C.rce
    have a2 := C.rsl
    refine wh_call (run p e R s m args below meth c H locs _ _ ls X1 C hR hl (by omega) (by omega)) hL (fun v' H1 locs1 ho => by cases ho) (fun E' ce q H1 locs1 ho hR1 hL1 hce hcv hcl => ?_)
    cases ho
    exact wh_out C hh hR1 hL1 hce hcv hcl (by omega) (by omega)
theorem sw_callV {own : String} {b ci Nf : Nat} {C : String} {T : u_T} {fs : List Value} (pc1 : Nat) (rest : List Value) (hp : pc + 3 = pc1) (cs : CsV own N index n) (hM : M.y.cls = own) (hdp : N.dp + 1 ≤ M.dp) (hh : M.hh = []) (hX : X.2.2 b = some (.inr (ci, fs))) (hci : clA[ci]? = some (C, T, Nf)) (hC : N.y.cls = C) (hE : Ev γ N (.ref b :: As) X Q1) (hn : As.length = n) (hst : st = As.reverse ++ .ref b :: rest) (hcat : (rest.map fun v => v.category).sum ≤ 8) (d : decode M.cd pc = .ok (.invokevirtual index, 3))
    (kv : ∀ v X1, Q1 (.inl v) X1 → SW γ M X0 X1 pc1 lv (v.toList ++ rest) Q) (kx : ∀ E X1, Q1 (.inr E) X1 → Q (.inr E) X1) : SW γ M X0 X pc lv st Q := by
  subst hp; subst hM; subst hC
  obtain ⟨hG, hmh, hnl⟩ := cs
  obtain ⟨o, X1, hQ1, g1, g2, hMet⟩ := hE
  have run : ∀ (p : Program) (e : Env) (R : Room) (s : State) (m : MethodId) (args : Array Value) (below : List Frame) (meth : Method) (c : Code) (H : Heap) (locs : List Loc) (cells slots : Nat) (ls : Array Slot) (X' : Sh), CX γ M X0 X' p R s m args meth c → RL γ X H → lv_is ls M.nL lv → cells + (X1.n - X.n) ≤ R.cells → slots + (X1.k - X.k) ≤ R.slots → vx_Run p γ.l e R s m args below meth c H locs cells slots (X1.n - X.n) (X1.k - X.k) (F0 m pc ls st) rest (QcO γ o X1 (Value.ref b :: As).toArray) (XcO γ o X1) (frG γ) := by
    intro p e R s m args below meth c H locs cells slots ls X' C hR hl hc1 hc2
    exact vx_runV (As := As) (rest := rest) ⟨C.exec, C.code, C.maxL, C.own, C.hts⟩ hMet (cwV n C.hts hG rfl rfl rfl ⟨rfl, hmh⟩ (wh_room (X := X) (X1 := X1) C hdp hnl _ _)) ⟨pre_of γ _ X, hR.recv C.K hX hci, fun U hU hW => ⟨rfl, C.gok, State.WarmedH.trans C.warm hW, by rw [hU]; exact hR⟩⟩ rfl hn hl.1 hst (by show 2 * 0 + _ ≤ 8; omega) d ⟨hc1, hc2⟩
  cases o with
  | inl v =>
    refine SW.go g1 g2 (fun p e R s m args below meth c H locs cells slots Z ls X' C hR hL hz hl hc1 hc2 k9 => ?_) (kv v X1 hQ1)
    refine wh_call (run p e R s m args below meth c H locs cells slots ls X' C hR hl hc1 hc2) hL (fun v' H1 locs1 ho hR1 hL1 => ?_) (fun E ce q H1 locs1 ho => by cases ho)
    cases ho
    exact k9 H1 locs1 hR1 hL1
  | inr E =>
    refine ⟨.inr E, X1, kx E X1 hQ1, g1, g2, fun p e R s m args below meth c H locs ls C hR hL hl hz hz2 => ?_⟩
    have a1 := C.rce
    have a2 := C.rsl
    refine wh_call (run p e R s m args below meth c H locs _ _ ls X1 C hR hl (by omega) (by omega)) hL (fun v' H1 locs1 ho => by cases ho) (fun E' ce q H1 locs1 ho hR1 hL1 hce hcv hcl => ?_)
    cases ho
    exact wh_out C hh hR1 hL1 hce hcv hcl (by omega) (by omega)
theorem sw_callI {own : String} {b : Nat} (pc1 : Nat) (rest : List Value) (hp : pc + 3 = pc1) (cs : CsI own N index n) (hM : M.y.cls = own) (hdp : N.dp + 1 ≤ M.dp) (hh : M.hh = []) (hE : Ev γ N (.ref b :: As) X Q1) (hn : As.length = n) (hst : st = As.reverse ++ .ref b :: rest) (hcat : (rest.map fun v => v.category).sum ≤ 8) (d : decode M.cd pc = .ok (.invokespecial index, 3))
    (kv : ∀ v X1, Q1 (.inl v) X1 → SW γ M X0 X1 pc1 lv (v.toList ++ rest) Q) (kx : ∀ E X1, Q1 (.inr E) X1 → Q (.inr E) X1) : SW γ M X0 X pc lv st Q := by
  subst hp; subst hM
  obtain ⟨hG, ⟨hw1, hw2, hw3⟩, hnm, hrt, hmh, hnl⟩ := cs
  obtain ⟨o, X1, hQ1, g1, g2, hMet⟩ := hE
  have run : ∀ (p : Program) (e : Env) (R : Room) (s : State) (m : MethodId) (args : Array Value) (below : List Frame) (meth : Method) (c : Code) (H : Heap) (locs : List Loc) (cells slots : Nat) (ls : Array Slot) (X' : Sh), CX γ M X0 X' p R s m args meth c → RL γ X H → lv_is ls M.nL lv → cells + (X1.n - X.n) ≤ R.cells → slots + (X1.k - X.k) ≤ R.slots → vx_Run p γ.l e R s m args below meth c H locs cells slots (X1.n - X.n) (X1.k - X.k) (F0 m pc ls st) rest (QcO γ o X1 (Value.ref b :: As).toArray) (XcO γ o X1) (frG γ) := by
    intro p e R s m args below meth c H locs cells slots ls X' C hR hl hc1 hc2
    exact vx_runI (As := As) (rest := rest) ⟨C.exec, C.code, C.maxL, C.own, C.hts⟩ hMet (cwI n C.hts hG (by rw [hrt]) rfl rfl (C.hts _ hw1) (C.hts _ hw2) (C.hts _ hw3) hnm hmh (wh_room (X := X) (X1 := X1) C hdp hnl _ _)) ⟨pre_of γ _ X, fun U hU hW => ⟨rfl, C.gok, State.WarmedH.trans C.warm hW, by rw [hU]; exact hR⟩⟩ rfl hn hl.1 hst (by show 2 * 0 + _ ≤ 8; omega) d ⟨hc1, hc2⟩
  cases o with
  | inl v =>
    refine SW.go g1 g2 (fun p e R s m args below meth c H locs cells slots Z ls X' C hR hL hz hl hc1 hc2 k9 => ?_) (kv v X1 hQ1)
    refine wh_call (run p e R s m args below meth c H locs cells slots ls X' C hR hl hc1 hc2) hL (fun v' H1 locs1 ho hR1 hL1 => ?_) (fun E ce q H1 locs1 ho => by cases ho)
    cases ho
    exact k9 H1 locs1 hR1 hL1
  | inr E =>
    refine ⟨.inr E, X1, kx E X1 hQ1, g1, g2, fun p e R s m args below meth c H locs ls C hR hL hl hz hz2 => ?_⟩
    have a1 := C.rce
    have a2 := C.rsl
    refine wh_call (run p e R s m args below meth c H locs _ _ ls X1 C hR hl (by omega) (by omega)) hL (fun v' H1 locs1 ho => by cases ho) (fun E' ce q H1 locs1 ho hR1 hL1 hce hcv hcl => ?_)
    cases ho
    exact wh_out C hh hR1 hL1 hce hcv hcl (by omega) (by omega)
theorem sw_callN {own : String} {b : Nat} (pc1 : Nat) (rest : List Value) (hp : pc + 3 = pc1) (cs : CsN own N index n) (hM : M.y.cls = own) (hdp : N.dp + 1 ≤ M.dp) (hh : M.hh = []) (hE : Ev γ N (.ref b :: As) X Q1) (hn : As.length = n) (hst : st = As.reverse ++ .ref b :: rest) (hcat : (rest.map fun v => v.category).sum ≤ 8) (d : decode M.cd pc = .ok (.invokespecial index, 3))
    (kv : ∀ v X1, Q1 (.inl v) X1 → SW γ M X0 X1 pc1 lv (v.toList ++ rest) Q) (kx : ∀ E X1, Q1 (.inr E) X1 → Q (.inr E) X1) : SW γ M X0 X pc lv st Q := by
  subst hp; subst hM
  obtain ⟨hG, ⟨hw1, ⟨host, hw2⟩, hw3⟩, hnm, hrt, hmh, hnl⟩ := cs
  obtain ⟨o, X1, hQ1, g1, g2, hMet⟩ := hE
  have run : ∀ (p : Program) (e : Env) (R : Room) (s : State) (m : MethodId) (args : Array Value) (below : List Frame) (meth : Method) (c : Code) (H : Heap) (locs : List Loc) (cells slots : Nat) (ls : Array Slot) (X' : Sh), CX γ M X0 X' p R s m args meth c → RL γ X H → lv_is ls M.nL lv → cells + (X1.n - X.n) ≤ R.cells → slots + (X1.k - X.k) ≤ R.slots → vx_Run p γ.l e R s m args below meth c H locs cells slots (X1.n - X.n) (X1.k - X.k) (F0 m pc ls st) rest (QcO γ o X1 (Value.ref b :: As).toArray) (XcO γ o X1) (frG γ) := by
    intro p e R s m args below meth c H locs cells slots ls X' C hR hl hc1 hc2
    exact vx_runIN (As := As) (rest := rest) ⟨C.exec, C.code, C.maxL, C.own, C.hts⟩ hMet ⟨va_cnB n C.hts hG (by rw [hrt]) rfl rfl (va_Nw.warmM C.warm (C.nw rfl hw2)) (C.hts _ hw1) hmh (wh_room (X := X) (X1 := X1) C hdp hnl _ _), hnm, C.hts _ hw3⟩ ⟨pre_of γ _ X, fun U hU hW => ⟨rfl, C.gok, State.WarmedH.trans C.warm hW, by rw [hU]; exact hR⟩⟩ rfl hn hl.1 hst (by show 2 * 0 + _ ≤ 8; omega) d ⟨hc1, hc2⟩
  cases o with
  | inl v =>
    refine SW.go g1 g2 (fun p e R s m args below meth c H locs cells slots Z ls X' C hR hL hz hl hc1 hc2 k9 => ?_) (kv v X1 hQ1)
    refine wh_call (run p e R s m args below meth c H locs cells slots ls X' C hR hl hc1 hc2) hL (fun v' H1 locs1 ho hR1 hL1 => ?_) (fun E ce q H1 locs1 ho => by cases ho)
    cases ho
    exact k9 H1 locs1 hR1 hL1
  | inr E =>
    refine ⟨.inr E, X1, kx E X1 hQ1, g1, g2, fun p e R s m args below meth c H locs ls C hR hL hl hz hz2 => ?_⟩
    have a1 := C.rce
    have a2 := C.rsl
    refine wh_call (run p e R s m args below meth c H locs _ _ ls X1 C hR hl (by omega) (by omega)) hL (fun v' H1 locs1 ho => by cases ho) (fun E' ce q H1 locs1 ho hR1 hL1 hce hcv hcl => ?_)
    cases ho
    exact wh_out C hh hR1 hL1 hce hcv hcl (by omega) (by omega)
/-- through an interface -/
theorem sw_callF {own C : String} {x : MethodName} {b ci Nf count : Nat} {T : u_T} {fs : List Value} (pc1 : Nat) (rest : List Value) (hp : pc + 5 = pc1) (cs : CsF own C x N index n) (hM : M.y.cls = own) (hdp : N.dp + 1 ≤ M.dp) (hh : M.hh = []) (hX : X.2.2 b = some (.inr (ci, fs))) (hci : clA[ci]? = some (C, T, Nf)) (hE : Ev γ N (.ref b :: As) X Q1) (hn : As.length = n) (hst : st = As.reverse ++ .ref b :: rest) (hcat : (rest.map fun v => v.category).sum ≤ 8) (d : decode M.cd pc = .ok (.invokeinterface index count, 5))
    (kv : ∀ v X1, Q1 (.inl v) X1 → SW γ M X0 X1 pc1 lv (v.toList ++ rest) Q) (kx : ∀ E X1, Q1 (.inr E) X1 → Q (.inr E) X1) : SW γ M X0 X pc lv st Q := by
  subst hp; subst hM
  obtain ⟨hG, ⟨w1, w2, w3, w4, w5⟩, hmh, hnl⟩ := cs
  obtain ⟨o, X1, hQ1, g1, g2, hMet⟩ := hE
  have run : ∀ (p : Program) (e : Env) (R : Room) (s : State) (m : MethodId) (args : Array Value) (below : List Frame) (meth : Method) (c : Code) (H : Heap) (locs : List Loc) (cells slots : Nat) (ls : Array Slot) (X' : Sh), CX γ M X0 X' p R s m args meth c → RL γ X H → lv_is ls M.nL lv → cells + (X1.n - X.n) ≤ R.cells → slots + (X1.k - X.k) ≤ R.slots → vx_Run5 p γ.l e R s m args below meth c H locs cells slots (X1.n - X.n) (X1.k - X.k) (F0 m pc ls st) rest (QcO γ o X1 (Value.ref b :: As).toArray) (XcO γ o X1) (frG γ) := by
    intro p e R s m args below meth c H locs cells slots ls X' C9 hR hl hc1 hc2
    have hF : va_Fw C x N.y s := by
      obtain ⟨b9, h1, -⟩ := C9.gok.2.2
      exact va_Fw.moved ⟨hmh.1, hmh.2.1⟩ C9.warm.alike (va_Fw.of (h1 _ w1) (h1 _ w2) (h1 _ w3) (h1 _ w4) (h1 _ w5))
    exact vx_runF (As := As) (rest := rest) (C9.K.1 ci _ hci).2 ⟨C9.exec, C9.code, C9.maxL, C9.own, C9.hts⟩ hMet (va_cwF n C9.hts hG rfl rfl rfl hF hmh (wh_room (X := X) (X1 := X1) C9 hdp hnl _ _)) ⟨pre_of γ _ X, hR.recv C9.K hX hci, fun U hU hW => ⟨rfl, C9.gok, State.WarmedH.trans C9.warm hW, by rw [hU]; exact hR⟩⟩ rfl hn hl.1 hst (by show 2 * 0 + _ ≤ 8; omega) d ⟨hc1, hc2⟩
  cases o with
  | inl v =>
    refine SW.go g1 g2 (fun p e R s m args below meth c H locs cells slots Z ls X' C hR hL hz hl hc1 hc2 k9 => ?_) (kv v X1 hQ1)
    refine wh_call5 (run p e R s m args below meth c H locs cells slots ls X' C hR hl hc1 hc2) hL (fun v' H1 locs1 ho hR1 hL1 => ?_) (fun E ce q H1 locs1 ho => by cases ho)
    cases ho
    exact k9 H1 locs1 hR1 hL1
  | inr E =>
    refine ⟨.inr E, X1, kx E X1 hQ1, g1, g2, fun p e R s m args below meth c H locs ls C hR hL hl hz hz2 => ?_⟩
    have a1 := C.rce
    have a2 := C.rsl
    refine wh_call5 (run p e R s m args below meth c H locs _ _ ls X1 C hR hl (by omega) (by omega)) hL (fun v' H1 locs1 ho => by cases ho) (fun E' ce q H1 locs1 ho hR1 hL1 hce hcv hcl => ?_)
    cases ho
    exact wh_out C hh hR1 hL1 hce hcv hcl (by omega) (by omega)
end Calls9
