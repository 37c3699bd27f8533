/-! the one static field that is read: ArrayList's empty array, a cell of the world before us -/
set_option maxRecDepth 100000
def cL : Cond → Cond
  | .and a _ => a
  | c => c
def cR : Cond → Cond
  | .and _ b => b
  | c => c
theorem cL_ok {args : Array Value} {s : State} {c : Cond} (h : c.before args s = true) : (cL c).before args s = true := by
  cases c <;> first | exact h | (rw [Cond.before_and, Bool.and_eq_true] at h; exact h.1)
theorem cR_ok {args : Array Value} {s : State} {c : Cond} (h : c.before args s = true) : (cR c).before args s = true := by
  cases c <;> first | exact h | (rw [Cond.before_and, Bool.and_eq_true] at h; exact h.2)
abbrev ALn : String := "java/util/ArrayList"
abbrev EDn : String := "DEFAULTCAPACITY_EMPTY_ELEMENTDATA"
abbrev EDd : String := "[Ljava/lang/Object;"
def eDp (γ : Gm) (a : Nat) : Prop := a < γ.N ∧ va_Z ALn EDn EDd (.ref a) (frG γ) γ.s γ.s.heap ∧ ∃ cell : Cell, γ.s.heap[a]? = some cell ∧ γ.s.isArrayOf cell (.object "java/lang/Object") ∧ cell.slots.size.toInt32 = 0
theorem eD_ex {γ : Gm} (h : GOK γ) : ∃ a, eDp γ a := by
  obtain ⟨-, -, b, h1, h2⟩ := h
  have h3 := cL_ok (cL_ok (cL_ok (cL_ok (cL_ok (cR_ok h2)))))
  have h5 : (Cond.arrayOf (.static ALn EDn EDd) (.object "java/lang/Object")).before #[Value.ref b] γ.s = true := cL_ok (cR_ok (cR_ok h3))
  have h4 := cL_ok (cL_ok (cL_ok (cL_ok (cR_ok h2))))
  have h6 : (Cond.eq (.length (.static ALn EDn EDd)) (.int 0)).before #[Value.ref b] γ.s = true := cL_ok (cL_ok (cR_ok h4))
  obtain ⟨a, cell, e1, e2⟩ := Free.AList.arrayOf_ref h5
  have e3 := (Cond.arrayOf_spec h5 e1 e2).1
  refine ⟨a, (Array.getElem?_eq_some_iff.mp e2).1, va_Zof (h1 _ q90) (h1 _ (List.mem_filter.mp q44).1) e1 (fun q hq hz => absurd hz (Nat.not_le.mpr hq)), cell, e2, e3, ?_⟩
  have e4 : ∃ v, (Term.length (.static ALn EDn EDd)).eval #[Value.ref b] γ.s none [] γ.s = some v := by
    cases hv : (Term.length (.static ALn EDn EDd)).eval #[Value.ref b] γ.s none [] γ.s with
    | none => simp [Cond.before, Cond.holds, Cond.value, hv] at h6
    | some v => exact ⟨v, rfl⟩
  obtain ⟨v, hv⟩ := e4
  obtain ⟨a', cell', g1, g2, g3⟩ := Term.length_spec hv
  rw [e1] at g1
  cases g1
  have g4 : γ.s.heap[a]? = some cell' := by
    unfold State.arrayAt? at g2
    simp only [Option.bind_eq_bind, e2, Option.bind_some] at g2
    obtain ⟨k, hk, g2⟩ := Option.bind_eq_some_iff.mp g2
    split at g2
    · cases g2
    · split at g2
      · cases g2; exact e2
      · cases g2
  rw [e2] at g4
  cases g4
  subst g3
  have hz : (Term.int 0).eval #[Value.ref b] γ.s none [] γ.s = some (.int 0) := rfl
  simp only [Cond.before, Cond.holds, Cond.value, hv, hz] at h6
  simpa using h6
noncomputable def eD (γ : Gm) : Nat := Classical.epsilon (eDp γ)
theorem eD_ok {γ : Gm} (h : GOK γ) : eDp γ (eD γ) := Classical.epsilon_spec (eD_ex h)
section Stat
variable {γ : Gm} {M : MI} {X0 X : Sh} {pc : Nat} {lv : List (Option Value)} {rest : List Value} {Q : Ot → Sh → Prop}
theorem RL.zv {X : Sh} {H : Heap} {p : Program} {R : Room} {s : State} {m : MethodId} {args : Array Value} {meth : Method} {c : Code} {X' : Sh} (C : CX γ M X0 X' p R s m args meth c) : va_Z ALn EDn EDd (.ref (eD γ)) (frG γ) s s.heap := by
  refine va_Z.kept (va_Z.moved C.warm.alike (eD_ok C.gok).2.1) (fun q hq hz => ?_)
  exact C.rl0.2.2.1 q (Nat.lt_of_not_le hz)
theorem sw_gsE {index : Nat} (pc1 : Nat) (hp : pc + 3 = pc1) (hM : M.y.cls = ALn) (hl : Cond.fieldLink ALn index ALn EDn EDd ∈ lw_all) (d : decode M.cd pc = .ok (.getstatic index, 3)) (kk : SW γ M X0 X pc1 lv (.ref (eD γ) :: rest) Q) : SW γ M X0 X pc lv rest Q := by
  subst hp
  exact SW.up (fun p e R s m args below meth c H locs cells slots Z ls X' C9 hR hL hz hlv kk => va_gets C9.exec C9.code (RL.zv (X := X) (H := H) C9) (C9.va hR hL hz) (hM ▸ C9.own) (C9.hts _ hl) (fun _ h => h) d (kk ls hlv)) kk
theorem sw_alenE (pc1 : Nat) (hp : pc + 1 = pc1) (d : decode M.cd pc = .ok (.arraylength, 1)) (kk : SW γ M X0 X pc1 lv (.int (nI 0) :: rest) Q) : SW γ M X0 X pc lv (.ref (eD γ) :: rest) Q := by
  subst hp
  refine SW.up (fun p e R s m args below meth c H locs cells slots Z ls X' C9 hR hL hz hlv kk => ?_) kk
  obtain ⟨h1, -, cell, h2, h3, h4⟩ := eD_ok C9.gok
  have h5 : H[eD γ]? = some cell := by rw [hR.2.2.1 _ h1]; exact h2
  have h6 : s.isArrayOf cell (.object "java/lang/Object") := by
    obtain ⟨a1, k, a2, comp, a3⟩ := h3
    obtain ⟨k', b1, b2⟩ := C9.warm.alike.2.2 _ _ a2
    exact ⟨a1, k', b1, comp, by rw [b2]; exact a3⟩
  exact W.alen (n := nI 0) C9.exec C9.code h5 h6 h4 rfl rfl d (kk ls hlv)
/-! class constants -/
abbrev OAn : String := "[Ljava/lang/Object;"
abbrev gCn : MethodName := ⟨"java/lang/Object", "getClass", "()Ljava/lang/Class;"⟩
end Stat
