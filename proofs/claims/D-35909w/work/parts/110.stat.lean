/-! the one static field that is read: ArrayList's empty array, a cell of the world before us -/
set_option maxRecDepth 100000
def cL : Cond → Cond
  | .and a _ => a
  | c => c
def cR : Cond → Cond
  | .and _ b => b
  | c => c
theorem cL_ok {args : Array Value} {s : State} {c : Cond} (h : c.before args s = true) : (cL c).before args s = true := by
  cases c <;> first | exact h | (rw [Cond.before_and, Bool.and_eq_true] at h; exact h.1)
theorem cR_ok {args : Array Value} {s : State} {c : Cond} (h : c.before args s = true) : (cR c).before args s = true := by
  cases c <;> first | exact h | (rw [Cond.before_and, Bool.and_eq_true] at h; exact h.2)
abbrev ALn : String := "java/util/ArrayList"
abbrev EDn : String := "DEFAULTCAPACITY_EMPTY_ELEMENTDATA"
abbrev EDd : String := "[Ljava/lang/Object;"
def eDp (γ : Gm) (a : Nat) : Prop := a < γ.N ∧ va_Z ALn EDn EDd (.ref a) (frG γ) γ.s γ.s.heap ∧ ∃ cell : Cell, γ.s.heap[a]? = some cell ∧ γ.s.isArrayOf cell (.object "java/lang/Object") ∧ cell.slots.size.toInt32 = 0
theorem eD_ex {γ : Gm} (h : GOK γ) : ∃ a, eDp γ a := by
  obtain ⟨-, -, b, h1, h2⟩ := h
  have h3 := cL_ok (cL_ok (cL_ok (cL_ok (cL_ok (cR_ok h2)))))
  have h5 : (Cond.arrayOf (.static ALn EDn EDd) (.object "java/lang/Object")).before #[Value.ref b] γ.s = true := cL_ok (cR_ok (cR_ok h3))
  have h4 := cL_ok (cL_ok (cL_ok (cL_ok (cR_ok h2))))
  have h6 : (Cond.eq (.length (.static ALn EDn EDd)) (.int 0)).before #[Value.ref b] γ.s = true := cL_ok (cL_ok (cR_ok h4))
  obtain ⟨a, cell, e1, e2⟩ := Free.AList.arrayOf_ref h5
  have e3 := (Cond.arrayOf_spec h5 e1 e2).1
  refine ⟨a, (Array.getElem?_eq_some_iff.mp e2).1, va_Zof (h1 _ q90) (h1 _ (List.mem_filter.mp q44).1) e1 (fun q hq hz => absurd hz (Nat.not_le.mpr hq)), cell, e2, e3, ?_⟩
  have e4 : ∃ v, (Term.length (.static ALn EDn EDd)).eval #[Value.ref b] γ.s none [] γ.s = some v := by
    cases hv : (Term.length (.static ALn EDn EDd)).eval #[Value.ref b] γ.s none [] γ.s with
    | none => simp [Cond.before, Cond.holds, Cond.value, hv] at h6
    | some v => exact ⟨v, rfl⟩
  obtain ⟨v, hv⟩ := e4
  obtain ⟨a', cell', g1, g2, g3⟩ := Term.length_spec hv
  rw [e1] at g1
  cases g1
  have g4 : γ.s.heap[a]? = some cell' := by
    unfold State.arrayAt? at g2
    simp only [Option.bind_eq_bind, e2, Option.bind_some] at g2
    obtain ⟨k, hk, g2⟩ := Option.bind_eq_some_iff.mp g2
    split at g2
    · cases g2
    · split at g2
      · cases g2; exact e2
      · cases g2
  rw [e2] at g4
  cases g4
  subst g3
  have hz : (Term.int 0).eval #[Value.ref b] γ.s none [] γ.s = some (.int 0) := rfl
  simp only [Cond.before, Cond.holds, Cond.value, hv, hz] at h6
  simpa using h6
noncomputable def eD (γ : Gm) : Nat := Classical.epsilon (eDp γ)
theorem eD_ok {γ : Gm} (h : GOK γ) : eDp γ (eD γ) := Classical.epsilon_spec (eD_ex h)
section Stat
variable {γ : Gm} {M : MI} {X0 X : Sh} {pc : Nat} {lv : List (Option Value)} {rest : List Value} {Q : Ot → Sh → Prop}
theorem RL.zv {X : Sh} {H : Heap} {p : Program} {R : Room} {s : State} {m : MethodId} {args : Array Value} {meth : Method} {c : Code} {X' : Sh} (C : CX γ M X0 X' p R s m args meth c) : va_Z ALn EDn EDd (.ref (eD γ)) (frG γ) s s.heap := by
  refine va_Z.kept (va_Z.moved C.warm.alike (eD_ok C.gok).2.1) (fun q hq hz => ?_)
  exact C.rl0.2.2.1 q (Nat.lt_of_not_le hz)
theorem sw_gsE {index : Nat} (pc1 : Nat) (hp : pc + 3 = pc1) (hM : M.y.cls = ALn) (hl : Cond.fieldLink ALn index ALn EDn EDd ∈ lw_all) (d : decode M.cd pc = .ok (.getstatic index, 3)) (kk : SW γ M X0 X pc1 lv (.ref (eD γ) :: rest) Q) : SW γ M X0 X pc lv rest Q := by
  subst hp
  exact SW.up (fun p e R s m args below meth c H locs cells slots Z ls X' C9 hR hL hz hlv kk => va_gets C9.exec C9.code (RL.zv (X := X) (H := H) C9) (C9.va hR hL hz) (hM ▸ C9.own) (C9.hts _ hl) (fun _ h => h) d (kk ls hlv)) kk
theorem sw_alenE (pc1 : Nat) (hp : pc + 1 = pc1) (d : decode M.cd pc = .ok (.arraylength, 1)) (kk : SW γ M X0 X pc1 lv (.int (nI 0) :: rest) Q) : SW γ M X0 X pc lv (.ref (eD γ) :: rest) Q := by
  subst hp
  refine SW.up (fun p e R s m args below meth c H locs cells slots Z ls X' C9 hR hL hz hlv kk => ?_) kk
  obtain ⟨h1, -, cell, h2, h3, h4⟩ := eD_ok C9.gok
  have h5 : H[eD γ]? = some cell := by rw [hR.2.2.1 _ h1]; exact h2
  have h6 : s.isArrayOf cell (.object "java/lang/Object") := by
    obtain ⟨a1, k, a2, comp, a3⟩ := h3
    obtain ⟨k', b1, b2⟩ := C9.warm.alike.2.2 _ _ a2
    exact ⟨a1, k', b1, comp, by rw [b2]; exact a3⟩
  exact W.alen (n := nI 0) C9.exec C9.code h5 h6 h4 rfl rfl d (kk ls hlv)
/-! class constants -/
abbrev OAn : String := "[Ljava/lang/Object;"
abbrev gCn : MethodName := ⟨"java/lang/Object", "getClass", "()Ljava/lang/Class;"⟩
noncomputable def mO (γ : Gm) : Nat := Classical.epsilon (fun a => va_Mi OAn a γ.s)
theorem mO_ok {γ : Gm} (h : GOK γ) : va_Mi OAn (mO γ) γ.s := by
  obtain ⟨-, -, b, h1, h2⟩ := h
  have h3 : (Cond.isRef (.mirror OAn)).before #[Value.ref b] γ.s = true := cR_ok (cL_ok (cR_ok (cL_ok (cR_ok (cL_ok (cR_ok (cR_ok h2)))))))
  exact Classical.epsilon_spec (va_Mi.of h3)
theorem sw_ldcM {own : String} {index : Nat} (pc1 : Nat) (hp : pc + 2 = pc1) (hM : M.y.cls = own) (hl : Cond.classLink own index OAn ∈ lw_all) (d : decode M.cd pc = .ok (.ldc index, 2)) (kk : SW γ M X0 X pc1 lv (.ref (mO γ) :: rest) Q) : SW γ M X0 X pc lv rest Q := by
  subst hp; subst hM
  exact SW.up (fun p e R s m args below meth c H locs cells slots Z ls X' C9 hR hL hz hlv kk => va_ldcM C9.exec C9.code C9.own (C9.hts _ hl) (va_Mi.moved C9.warm.alike (mO_ok C9.gok)) d (kk ls hlv)) kk
theorem sw_getC {own : String} {index a n : Nat} {f : Nat → Option Nat} (pc1 : Nat) (hp : pc + 3 = pc1) (hM : M.y.cls = own) (hdp : 1 ≤ M.dp) (hX : X.2.2 a = some (eO γ n f)) (hl : Cond.methodLink own index gCn ∈ lw_all) (h1 : Cond.selects OAn gCn gCn ∈ lw_all) (h2 : Cond.instanceMethod gCn ∈ lw_all) (h3 : Cond.native gCn ∈ lw_all) (h4 : Cond.declares gCn ∈ lw_tbl) (hcat : (rest.map fun v => v.category).sum ≤ 8) (d : decode M.cd pc = .ok (.invokevirtual index, 3)) (kk : SW γ M X0 X pc1 lv (.ref (mO γ) :: rest) Q) : SW γ M X0 X pc lv (.ref a :: rest) Q := by
  subst hp; subst hM
  refine SW.up (fun p e R s m args below meth c H locs cells slots Z ls X' C9 hR hL hz hlv kk => ?_) kk
  obtain ⟨b, g1, -⟩ := C9.gok.2.2
  have a1 := C9.rfr
  have a2 := C9.rlo
  refine va_getC C9.exec C9.code (C9.maxL.trans hlv.1.symm) C9.own (C9.hts _ hl) (va_Dc.use (va_Dc.moved C9.warm.alike (va_Dc.of (g1 _ h4)))) (C9.hts _ h1) (C9.hts _ h2) (C9.hts _ h3) (va_Mi.moved C9.warm.alike (mO_ok C9.gok)) ⟨_, (hR.2.2.2 a _ hX).2, rfl, ?_⟩ (by omega) (by omega) d (kk ls hlv)
  exact va_nmO (C9.K.2 3 _ rfl).2 rfl
theorem sw_acopy {own C : String} {T : u_T} {N ci index a a0 n0 n1 cnt : Nat} {f g : Nat → Option Nat} (pc1 : Nat) (hp : pc + 3 = pc1) (hM : M.y.cls = own) (hdp : 1 ≤ M.dp) (hX0 : X.2.2 a0 = some (eO γ n0 f)) (hX1 : X.2.2 a = some (eO γ n1 g)) (h0 : cnt ≤ n0) (h1 : cnt ≤ n1) (hcn : cnt < 2 ^ 31) (hel : ∀ i, i < cnt → ∀ y, f i = some y → ∃ vs, X.2.2 y = some (.inr (ci, vs))) (hc : clA[ci]? = some (C, T, N)) (hw : Cond.castable C "java/lang/Object" ∈ lw_tbl)
    (hl : Cond.methodLink own index arraycopyName ∈ lw_all) (hs : Cond.static arraycopyName ∈ lw_all) (hna : Cond.native arraycopyName ∈ lw_all) (hi : Cond.initialized "java/lang/System" ∈ lw_all) (hcat : (rest.map fun v => v.category).sum ≤ 8) (d : decode M.cd pc = .ok (.invokestatic index, 3))
    (kk : ∀ X1, X1 = X.set a (eO γ n1 (va_cpy f g 0 0 cnt)) → SW γ M X0 X1 pc1 lv rest Q) : SW γ M X0 X pc lv (.int (nI cnt) :: .int (nI 0) :: .ref a :: .int (nI 0) :: .ref a0 :: rest) Q := by
  subst hp; subst hM
  refine SW.go (X1 := X.set a (eO γ n1 (va_cpy f g 0 0 cnt))) (Nat.le_refl _) (Nat.le_refl _) ?_ (kk _ rfl)
  intro p e R s m args below meth c H locs cells slots Z ls X' C9 hR hL hz hlv hc1 hc2 k9
  have hc0 : H[a0]? = some (vp_cell (γ.A 3) (n0, .inr (.inr (.inr (.inr f))))) := (hR.2.2.2 a0 _ hX0).2
  have hc1' : H[a]? = some (vp_cell (γ.A 3) (n1, .inr (.inr (.inr (.inr g))))) := (hR.2.2.2 a _ hX1).2
  obtain ⟨-, k0, hk0, cm0, hkk0⟩ := (C9.K.2 3 _ rfl).1 n0 (fun j => va_rf (f j))
  obtain ⟨-, k1, hk1, cm1, hkk1⟩ := (C9.K.2 3 _ rfl).1 n1 (fun j => va_rf (g j))
  have a1 := C9.rfr
  have a2 := C9.rlo
  have z0 : (nI 0).toNatClampNeg = 0 := nI_clamp (by omega)
  have zc : (nI cnt).toNatClampNeg = cnt := nI_clamp hcn
  have ti0 : (nI 0).toInt = 0 := rfl
  have tic : (nI cnt).toInt = (cnt : Int) := nI_toInt hcn
  intro T' hT W'
  obtain ⟨vm', W2, step⟩ := W'.arraycopy C9.exec C9.own (C9.hts _ hl) (C9.hts _ hna) (C9.hts _ hs) (C9.hts _ hi) (src := a0) (dst := a) (cs := vp_cell (γ.A 3) (n0, .inr (.inr (.inr (.inr f))))) (cd := vp_cell (γ.A 3) (n1, .inr (.inr (.inr (.inr g))))) (srcPos := nI 0) (destPos := nI 0) (n := nI cnt) (by rw [hT]; exact hc0) (by rw [hT]; exact hc1')
    (fun _ h => by cases h) (fun _ h => by cases h) (fun h => by cases h) (fun h => by cases h) hk0 hk1 hkk0 hkk1 rfl (nI_pos (by omega)) (nI_pos (by omega)) (nI_pos hcn)
    (by rw [ti0, tic]; show ¬ _ > ((arrV (γ.A 3) n0 (fun j => va_rf (f j))).slots.size : Int); rw [arrV_size]; omega)
    (by rw [ti0, tic]; show ¬ _ > ((arrV (γ.A 3) n1 (fun j => va_rf (g j))).slots.size : Int); rw [arrV_size]; omega)
    (fun vm₁ hal i hi => by
      rw [zc] at hi
      rw [z0, Nat.zero_add]
      have e : (vp_cell (γ.A 3) (n0, .inr (.inr (.inr (.inr f))))).slots.getD i .null = va_rf (f i) := by
        show (arrV (γ.A 3) n0 (fun j => va_rf (f j))).slots.getD _ _ = _
        rw [Array.getD_eq_getD_getElem?, arrV_read _ _ (by omega)]
        rfl
      rw [e]
      cases hy : f i with
      | none => exact ⟨rfl, trivial⟩
      | some y =>
        obtain ⟨vs, hv⟩ := hel i hi y hy
        obtain ⟨r', hr', cellV, g1, g2, g3, -⟩ := (hR.2.2.2 y _ hv).2
        have hr : r' = (C, T, N) := Option.some.inj (hr'.symm.trans hc)
        subst hr
        have hcls := (C9.K.1 ci _ hc).2
        obtain ⟨c0, t0, f1, f2, f3⟩ := Cond.castable_spec (va_Nw.use (A := args) rfl (va_Nw.warmC C9.warm (C9.nw rfl hw)))
        obtain ⟨kA, comp, r1, r2, r3, -⟩ := (C9.K.2 3 _ rfl).2
        cases hk1.symm.trans r1
        cases hkk1.symm.trans r2
        have e0 : c0 = γ.D.1 ci := Option.some.inj (f1.symm.trans hcls.1)
        have e1 : t0 = cm1 := Option.some.inj (f2.symm.trans r3)
        subst e0; subst e1
        obtain ⟨kC, hkC, -⟩ := Vm.findClass_spec f1
        obtain ⟨kE, hkE, -⟩ := Vm.findClass_spec r3
        obtain ⟨kC', hkC', -⟩ := hal.2.2 _ _ hkC
        obtain ⟨kE', hkE', -⟩ := hal.2.2 _ _ hkE
        refine ⟨rfl, cellV, (show T'.heap[y]? = some cellV by rw [hT]; exact g1), (fun q h => by rw [g3] at h; cases h), ⟨kC', by rw [g2]; exact hkC'⟩, ?_, ?_⟩
        · exact ⟨kE', hkE'⟩
        · show vm₁.assignable _ _ = true
          rw [hal.assignable, g2]
          exact f3)
    (g := F0 m pc ls (.int (nI cnt) :: .int (nI 0) :: .ref a :: .int (nI 0) :: .ref a0 :: rest)) rfl (by rw [C9.maxL]; exact hlv.1) (rest := rest) rfl (by rw [C9.code]; exact d) (by omega) (by show 2 * 0 + _ + _ ≤ _; have hw : nativeFrameWords "java/lang/System" "arraycopy" 5 ≤ 40 := (by decide); omega)
  have e1 : copied (vp_cell (γ.A 3) (n0, .inr (.inr (.inr (.inr f))))) (vp_cell (γ.A 3) (n1, .inr (.inr (.inr (.inr g))))) (nI 0) (nI 0) (nI cnt) = vp_cell (γ.A 3) (n1, .inr (.inr (.inr (.inr (va_cpy f g 0 0 cnt))))) := by
    rw [vp_cell_q, vp_cell_q, vp_cell_q]
    have := va_copied (fun z => va_rf z) (γ.A 3) (γ.A 3) (n0 := n0) (n1 := n1) (sp := 0) (dp := 0) (n := cnt) f g (by omega)
    rw [← this]
    unfold copied
    rw [z0, zc]
  rw [e1] at W2 step
  have hl' : a < H.size := (Array.getElem?_eq_some_iff.mp hc1').1
  have hheap : ((T'.setVm vm').setCell a (vp_cell (γ.A 3) (n1, .inr (.inr (.inr (.inr (va_cpy f g 0 0 cnt))))))).heap = H.setIfInBounds a (vp_cell (γ.A 3) (n1, .inr (.inr (.inr (.inr (va_cpy f g 0 0 cnt)))))) := by rw [← hT]; rfl
  have oq : ∀ q : Nat, q ≠ a → (H.setIfInBounds a (vp_cell (γ.A 3) (n1, .inr (.inr (.inr (.inr (va_cpy f g 0 0 cnt)))))))[q]? = H[q]? := fun q hq => by simp [Array.getElem?_setIfInBounds, Ne.symm hq]
  have k8 := fun L hL' => k9 (H.setIfInBounds a (vp_cell (γ.A 3) (n1, .inr (.inr (.inr (.inr (va_cpy f g 0 0 cnt))))))) L (hR.set hX1 (show (H.setIfInBounds a _)[a]? = some _ by simp [Array.getElem?_setIfInBounds, hl']) (by simp) oq) hL'
  rw [show (X.set a (eO γ n1 (va_cpy f g 0 0 cnt))).n = X.n from rfl, show (X.set a (eO γ n1 (va_cpy f g 0 0 cnt))).k = X.k from rfl, Nat.sub_self, Nat.sub_self] at k8
  obtain ⟨t, b1, b2⟩ := k8 _ (fun q hq => by
      rcases List.mem_append.mp hq with h | h
      · exact hL q h
      · obtain ⟨z, -, hz⟩ := List.mem_map.mp h
        rw [← hz]
        exact (hR.2.2.2 a _ hX1).1) _ hheap W2
  exact ⟨t, step t b1, b2⟩
end Stat
