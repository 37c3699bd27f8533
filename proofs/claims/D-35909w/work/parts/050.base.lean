/-! THE SHADOW LAYER: a heap of typed cells beside the machine's own; 'SW' says that the method's frame, at pc with locals lv and stack st over the shadow X, comes to an end o, X' with Q o X'. -/
set_option maxRecDepth 100000
/-- shadow heap: how many cells, how many slots were given out, what each known cell holds -/
abbrev Sh : Type := Nat × Nat × (Nat → Option va_E)
abbrev Sh.n (X : Sh) : Nat := X.1
abbrev Sh.k (X : Sh) : Nat := X.2.1
abbrev Sh.c (X : Sh) : Nat → Option va_E := X.2.2
/-- an end: a value given back, or an object of a named kind thrown -/
abbrev Ot : Type := Option Value ⊕ String
/-- launch, the state at the start of all, numbers of classes and slots, numbers of the array kinds -/
abbrev Gm : Type := Launch × State × va_G × (Nat → ClassId)
abbrev Gm.l (γ : Gm) : Launch := γ.1
abbrev Gm.s (γ : Gm) : State := γ.2.1
abbrev Gm.D (γ : Gm) : va_G := γ.2.2.1
abbrev Gm.A (γ : Gm) : Nat → ClassId := γ.2.2.2
abbrev Gm.N (γ : Gm) : Nat := γ.2.1.heap.size
/-- a method: name, code, locals, answer, depth, handlers -/
abbrev MI : Type := MethodName × ByteArray × Nat × Option FieldType × Nat × List (Nat × Nat × Nat × Nat)
abbrev MI.y (M : MI) : MethodName := M.1
abbrev MI.cd (M : MI) : ByteArray := M.2.1
abbrev MI.nL (M : MI) : Nat := M.2.2.1
abbrev MI.rt (M : MI) : Option FieldType := M.2.2.2.1
abbrev MI.dp (M : MI) : Nat := M.2.2.2.2.1
abbrev MI.hh (M : MI) : List (Nat × Nat × Nat × Nat) := M.2.2.2.2.2
abbrev clA : List vw_C := [(RX1, TX1, 9), (RX2, TX2, 38), (RX3, TX3, 11), (RX4, TX4, 1), (RX5, TX5, 4), (RX6, TX6, 2), (RX7, TX7, 2), (RX8, TX8, 11), (RX9, TX9, 5), (RJ2, TJ2, 3), (RJ17, TJ17, 4)]
abbrev tyA (γ : Gm) : List (ClassId × FieldType) := [(γ.A 0, .int), (γ.A 1, .long), (γ.A 2, .boolean), (γ.A 3, .object "java/lang/Object"), (γ.A 4, .object "HundiHall$Broker")]
abbrev eI (γ : Gm) (n : Nat) (f : Nat → Int32) : va_E := .inl (γ.A 0, n, .inl f)
abbrev eL (γ : Gm) (n : Nat) (f : Nat → Int64) : va_E := .inl (γ.A 1, n, .inr (.inl f))
abbrev eZ (γ : Gm) (n : Nat) (f : Nat → Int32) : va_E := .inl (γ.A 2, n, .inl f)
abbrev eO (γ : Gm) (n : Nat) (f : Nat → Option Nat) : va_E := .inl (γ.A 3, n, .inr (.inr (.inr (.inr f))))
abbrev eB (γ : Gm) (n : Nat) (f : Nat → Option Nat) : va_E := .inl (γ.A 4, n, .inr (.inr (.inr (.inr f))))
/-- what holds from the start of all on: the tables' words, the claim's premises, the classes -/
def GOK (γ : Gm) : Prop := γ.l.stackTraces = false ∧ va_K γ.D clA (tyA γ) γ.s ∧ ∃ b : Nat, (∀ w ∈ lw_tbl, w.before #[Value.ref b] γ.s = true) ∧ (Jvm.Cond.and given_1 narrow_1).before #[Value.ref b] γ.s = true
/-- the machine's heap is the shadow's -/
def RL (γ : Gm) (X : Sh) (H : Heap) : Prop := H.size = X.n ∧ γ.N ≤ X.n ∧ (∀ q, q < γ.N → H[q]? = γ.s.heap[q]?) ∧ ∀ a e, X.c a = some e → γ.N ≤ a ∧ va_at γ.D clA (a, e) H
def LO (γ : Gm) (locs : List Loc) : Prop := ∀ q ∈ locs, γ.N ≤ q.base
abbrev frG (γ : Gm) : Addr → Prop := fun q => γ.N ≤ q
def QcO (γ : Gm) (o : Ot) (X' : Sh) : Array Value → State → Outcome → State → Prop := fun _ _ oc t => (∃ v, o = .inl v ∧ oc = .returned v) ∧ RL γ X' t.heap
def XcO (γ : Gm) (o : Ot) (X' : Sh) : String → State → State → Prop := fun E _ t => o = .inr E ∧ RL γ X' t.heap
abbrev rmM (M : MI) (a b : Nat) : Room := { frames := M.dp, cells := a, slots := b, locals := M.dp * 64 }
/-- what stays through a method's body -/
def CX (γ : Gm) (M : MI) (X0 X' : Sh) (p : Program) (R : Room) (s : State) (m : MethodId) (args : Array Value) (meth : Method) (c : Code) : Prop :=
  GOK γ ∧ p.tables.exec = Jvm.exec ∧ c.code = M.cd ∧ meth.sig.returnType = M.rt ∧ meth.locks = false ∧ c.maxLocals = M.nL ∧ s.vm.findClass M.y.cls = some m.cls ∧ γ.s.WarmedH s.vm ∧ (∀ w ∈ lw_all, w.before args s = true) ∧ c.exceptionTable.toList = tableOf M.hh ∧ meth.name = M.y.name ∧ RL γ X0 s.heap ∧ M.dp ≤ R.frames ∧ M.dp * 64 ≤ R.locals ∧ X'.n - X0.n ≤ R.cells ∧ X'.k - X0.k ≤ R.slots
section CXs
variable {γ : Gm} {M : MI} {X0 X' : Sh} {p : Program} {R : Room} {s : State} {m : MethodId} {args : Array Value} {meth : Method} {c : Code}
theorem CX.gok (C : CX γ M X0 X' p R s m args meth c) : GOK γ := C.1
theorem CX.exec (C : CX γ M X0 X' p R s m args meth c) : p.tables.exec = Jvm.exec := C.2.1
theorem CX.code (C : CX γ M X0 X' p R s m args meth c) : c.code = M.cd := C.2.2.1
theorem CX.rets (C : CX γ M X0 X' p R s m args meth c) : meth.sig.returnType = M.rt := C.2.2.2.1
theorem CX.locks (C : CX γ M X0 X' p R s m args meth c) : meth.locks = false := C.2.2.2.2.1
theorem CX.maxL (C : CX γ M X0 X' p R s m args meth c) : c.maxLocals = M.nL := C.2.2.2.2.2.1
theorem CX.own (C : CX γ M X0 X' p R s m args meth c) : s.vm.findClass M.y.cls = some m.cls := C.2.2.2.2.2.2.1
theorem CX.warm (C : CX γ M X0 X' p R s m args meth c) : γ.s.WarmedH s.vm := C.2.2.2.2.2.2.2.1
theorem CX.hts (C : CX γ M X0 X' p R s m args meth c) : ∀ w ∈ lw_all, w.before args s = true := C.2.2.2.2.2.2.2.2.1
theorem CX.tab (C : CX γ M X0 X' p R s m args meth c) : c.exceptionTable.toList = tableOf M.hh := C.2.2.2.2.2.2.2.2.2.1
theorem CX.name (C : CX γ M X0 X' p R s m args meth c) : meth.name = M.y.name := C.2.2.2.2.2.2.2.2.2.2.1
theorem CX.rl0 (C : CX γ M X0 X' p R s m args meth c) : RL γ X0 s.heap := C.2.2.2.2.2.2.2.2.2.2.2.1
theorem CX.rfr (C : CX γ M X0 X' p R s m args meth c) : M.dp ≤ R.frames := C.2.2.2.2.2.2.2.2.2.2.2.2.1
theorem CX.rlo (C : CX γ M X0 X' p R s m args meth c) : M.dp * 64 ≤ R.locals := C.2.2.2.2.2.2.2.2.2.2.2.2.2.1
theorem CX.rce (C : CX γ M X0 X' p R s m args meth c) : X'.n - X0.n ≤ R.cells := C.2.2.2.2.2.2.2.2.2.2.2.2.2.2.1
theorem CX.rsl (C : CX γ M X0 X' p R s m args meth c) : X'.k - X0.k ≤ R.slots := C.2.2.2.2.2.2.2.2.2.2.2.2.2.2.2
theorem CX.K (C : CX γ M X0 X' p R s m args meth c) : va_K γ.D clA (tyA γ) s := va_K.moved C.warm.alike C.gok.2.1
/-- a word of the tables that rides in no list -/
theorem CX.nw (C : CX γ M X0 X' p R s m args meth c) {w : Cond} (hw : w.onTables = true) (h : w ∈ lw_tbl) : va_Nw w γ.s := by
  obtain ⟨b, h1, -⟩ := C.gok.2.2
  exact va_Nw.of hw (h1 w h)
theorem CX.va (C : CX γ M X0 X' p R s m args meth c) {X : Sh} {H : Heap} {locs : List Loc} (hR : RL γ X H) (hL : LO γ locs) (hz : X0.n ≤ X.n) : va_S (frG γ) s.heap H locs := by
  refine ⟨?_, fun q h1 h2 => ?_, hL⟩
  · rw [C.rl0.1, hR.1]; exact hz
  · have h3 : q < γ.N := Nat.lt_of_not_le h2
    rw [hR.2.2.1 q h3, C.rl0.2.2.1 q h3]
end CXs
/-- the locals: where lv has a value, the machine has it -/
def lv_is (ls : Array Slot) (nL : Nat) (lv : List (Option Value)) : Prop := ls.size = nL ∧ lv_wf ls ∧ ∀ (i : Nat) (v : Value), lv[i]? = some (some v) → ls[i]? = some (.val v)
def asl : Nat → List (Option Value) → List (Nat × Value)
  | _, [] => []
  | i, none :: t => asl (i + 1) t
  | i, some v :: t => (i, v) :: asl (i + 1) t
theorem asl_mem {lv : List (Option Value)} : ∀ {i j : Nat} {v : Value}, (j, v) ∈ asl i lv ↔ i ≤ j ∧ lv[j - i]? = some (some v) := by
  induction lv with
  | nil => intro i j v; simp [asl]
  | cons x t ih =>
    intro i j v
    have hs : ∀ k, i + 1 ≤ k → (x :: t)[k - i]? = t[k - (i + 1)]? := fun k hk => by
      rw [show k - i = (k - (i + 1)) + 1 by omega, List.getElem?_cons_succ]
    cases x with
    | none =>
      show (j, v) ∈ asl (i + 1) t ↔ _
      rw [ih]
      constructor
      · rintro ⟨h1, h2⟩; exact ⟨by omega, by rw [hs j h1]; exact h2⟩
      · rintro ⟨h1, h2⟩
        rcases Nat.lt_or_ge i j with h | h
        · exact ⟨h, by rw [hs j h] at h2; exact h2⟩
        · rw [show j - i = 0 by omega] at h2; simp at h2
    | some w =>
      show (j, v) ∈ (i, w) :: asl (i + 1) t ↔ _
      rw [List.mem_cons, ih]
      constructor
      · rintro (h | ⟨h1, h2⟩)
        · cases h; exact ⟨Nat.le_refl _, by simp⟩
        · exact ⟨by omega, by rw [hs j h1]; exact h2⟩
      · rintro ⟨h1, h2⟩
        rcases Nat.lt_or_ge i j with h | h
        · exact Or.inr ⟨h, by rw [hs j h] at h2; exact h2⟩
        · have e : j = i := by omega
          subst e
          rw [Nat.sub_self] at h2
          simp at h2
          exact Or.inl (by rw [h2])
theorem lv_is.has {ls : Array Slot} {nL : Nat} {lv : List (Option Value)} (h : lv_is ls nL lv) : lv_has ls nL (asl 0 lv) :=
  ⟨h.1, h.2.1, fun q hq => h.2.2 q.1 q.2 (by have := (asl_mem (i := 0) (j := q.1) (v := q.2)).mp hq; exact this.2)⟩
theorem lv_is.at {ls : Array Slot} {nL : Nat} {lv : List (Option Value)} (h : lv_is ls nL lv) {i : Nat} {v : Value} (hv : lv[i]? = some (some v)) : ls[i]? = some (.val v) := h.2.2 i v hv
def cl2 : Option Value → Option Value
  | some (.long _) => none
  | some (.double _) => none
  | x => x
/-- a store of one slot -/
def ls1 : List (Option Value) → Nat → Value → List (Option Value)
  | [], _, _ => []
  | _ :: t, 0, v => some v :: t
  | x :: t, 1, v => cl2 x :: (match t with | [] => [] | _ :: t' => some v :: t')
  | x :: t, i + 2, v => x :: ls1 t (i + 1) v
/-- a store of two slots -/
def ls2 : List (Option Value) → Nat → Value → List (Option Value)
  | [], _, _ => []
  | _ :: t, 0, v => some v :: (match t with | [] => [] | _ :: t' => none :: t')
  | x :: t, 1, v => cl2 x :: (match t with | [] => [] | _ :: t' => some v :: (match t' with | [] => [] | _ :: t'' => none :: t''))
  | x :: t, i + 2, v => x :: ls2 t (i + 1) v
theorem cl2_some {x : Option Value} {w : Value} (h : cl2 x = some w) : x = some w ∧ ¬ w.category = 2 := by
  cases x with
  | none => simp [cl2] at h
  | some v => cases v <;> simp [cl2] at h <;> subst h <;> simp [Value.category]
theorem ls1_mem : ∀ {lv : List (Option Value)} {i : Nat} {v : Value} {j : Nat} {w : Value}, (ls1 lv i v)[j]? = some (some w) → (j = i ∧ w = v) ∨ (j ≠ i ∧ lv[j]? = some (some w) ∧ ¬ (j + 1 = i ∧ w.category = 2))
  | [], i, v, j, w, h => by simp [ls1] at h
  | x :: t, 0, v, j, w, h => by
    cases j with
    | zero => simp [ls1] at h; exact Or.inl ⟨rfl, h.symm⟩
    | succ j => simp [ls1] at h; exact Or.inr ⟨by omega, by simpa using h, by omega⟩
  | x :: t, 1, v, j, w, h => by
    cases j with
    | zero =>
      simp [ls1] at h
      obtain ⟨h1, h2⟩ := cl2_some h
      exact Or.inr ⟨by omega, by simp [h1], fun q => h2 q.2⟩
    | succ j =>
      cases t with
      | nil => simp [ls1] at h
      | cons y t' =>
        cases j with
        | zero => simp [ls1] at h; exact Or.inl ⟨rfl, h.symm⟩
        | succ j => simp [ls1] at h; exact Or.inr ⟨by omega, by simpa using h, by omega⟩
  | x :: t, i + 2, v, j, w, h => by
    cases j with
    | zero => simp [ls1] at h; exact Or.inr ⟨by omega, by simpa using h, by omega⟩
    | succ j =>
      simp [ls1] at h
      rcases ls1_mem h with ⟨h1, h2⟩ | ⟨h1, h2, h3⟩
      · exact Or.inl ⟨by omega, h2⟩
      · exact Or.inr ⟨by omega, by simpa using h2, fun q => h3 ⟨by omega, q.2⟩⟩
theorem ls2_mem : ∀ {lv : List (Option Value)} {i : Nat} {v : Value} {j : Nat} {w : Value}, (ls2 lv i v)[j]? = some (some w) → (j = i ∧ w = v) ∨ (j ≠ i ∧ j ≠ i + 1 ∧ lv[j]? = some (some w) ∧ ¬ (j + 1 = i ∧ w.category = 2))
  | [], i, v, j, w, h => by simp [ls2] at h
  | x :: t, 0, v, j, w, h => by
    cases j with
    | zero => simp [ls2] at h; exact Or.inl ⟨rfl, h.symm⟩
    | succ j =>
      cases t with
      | nil => simp [ls2] at h
      | cons y t' =>
        cases j with
        | zero => simp [ls2] at h
        | succ j => simp [ls2] at h; exact Or.inr ⟨by omega, by omega, by simpa using h, by omega⟩
  | x :: t, 1, v, j, w, h => by
    cases j with
    | zero =>
      simp [ls2] at h
      obtain ⟨h1, h2⟩ := cl2_some h
      exact Or.inr ⟨by omega, by omega, by simp [h1], fun q => h2 q.2⟩
    | succ j =>
      cases t with
      | nil => simp [ls2] at h
      | cons y t' =>
        cases j with
        | zero => simp [ls2] at h; exact Or.inl ⟨rfl, h.symm⟩
        | succ j =>
          cases t' with
          | nil => simp [ls2] at h
          | cons z t'' =>
            cases j with
            | zero => simp [ls2] at h
            | succ j => simp [ls2] at h; exact Or.inr ⟨by omega, by omega, by simpa using h, by omega⟩
  | x :: t, i + 2, v, j, w, h => by
    cases j with
    | zero => simp [ls2] at h; exact Or.inr ⟨by omega, by omega, by simpa using h, by omega⟩
    | succ j =>
      simp [ls2] at h
      rcases ls2_mem h with ⟨h1, h2⟩ | ⟨h1, h2, h3, h4⟩
      · exact Or.inl ⟨by omega, h2⟩
      · exact Or.inr ⟨by omega, by omega, by simpa using h3, fun q => h4 ⟨by omega, q.2⟩⟩
theorem ls1_is {ls : Array Slot} {nL : Nat} {lv lv' : List (Option Value)} {i : Nat} {v : Value} (hl : ls1 lv i v = lv') (h : lv_has ls nL ((i, v) :: (asl 0 lv).filter (fun q => !(q.1 == i) && !(q.1 + 1 == i && q.2.category == 2)))) : lv_is ls nL lv' := by
  refine ⟨h.1, h.2.1, fun j w hj => ?_⟩
  rw [← hl] at hj
  rcases ls1_mem hj with ⟨h1, h2⟩ | ⟨h1, h2, h3⟩
  · subst h1; subst h2; exact h.2.2 _ List.mem_cons_self
  · refine h.2.2 (j, w) (List.mem_cons_of_mem _ (List.mem_filter.mpr ⟨asl_mem.mpr ⟨Nat.zero_le _, h2⟩, ?_⟩))
    have e1 : (j == i) = false := by simpa using h1
    have e2 : (j + 1 == i && w.category == 2) = false := by
      rw [Bool.eq_false_iff]
      intro q
      rw [Bool.and_eq_true] at q
      exact h3 ⟨by simpa using q.1, by simpa using q.2⟩
    simp only [e1, e2]; rfl
theorem ls2_is {ls : Array Slot} {nL : Nat} {lv lv' : List (Option Value)} {i : Nat} {v : Value} (hl : ls2 lv i v = lv') (h : lv_has ls nL ((i, v) :: (asl 0 lv).filter (fun q => !(q.1 == i) && (!(q.1 == i + 1) && !(q.1 + 1 == i && q.2.category == 2))))) : lv_is ls nL lv' := by
  refine ⟨h.1, h.2.1, fun j w hj => ?_⟩
  rw [← hl] at hj
  rcases ls2_mem hj with ⟨h1, h2⟩ | ⟨h1, h1', h2, h3⟩
  · subst h1; subst h2; exact h.2.2 _ List.mem_cons_self
  · refine h.2.2 (j, w) (List.mem_cons_of_mem _ (List.mem_filter.mpr ⟨asl_mem.mpr ⟨Nat.zero_le _, h2⟩, ?_⟩))
    have e1 : (j == i) = false := by simpa using h1
    have e3 : (j == i + 1) = false := by simpa using h1'
    have e2 : (j + 1 == i && w.category == 2) = false := by
      rw [Bool.eq_false_iff]
      intro q
      rw [Bool.and_eq_true] at q
      exact h3 ⟨by simpa using q.1, by simpa using q.2⟩
    simp only [e1, e2, e3]; rfl
/-- the locals with which a method begins -/
def elv : List Value → List (Option Value)
  | [] => []
  | .long v :: t => some (.long v) :: none :: elv t
  | .double v :: t => some (.double v) :: none :: elv t
  | v :: t => some v :: elv t
theorem elv_mem : ∀ {vs : List Value} {i j : Nat} {w : Value}, (elv vs)[j]? = some (some w) → (i + j, w) ∈ lv_args i vs
  | [], i, j, w, h => by simp [elv] at h
  | v :: t, i, j, w, h => by
    by_cases hc : v.category = 2
    · have e : elv (v :: t) = some v :: none :: elv t := by cases v <;> first | rfl | (simp [Value.category] at hc)
      rw [e] at h
      simp only [lv_args, hc, if_true]
      match j, h with
      | 0, h => simp at h; subst h; simp
      | 1, h => simp at h
      | j + 2, h =>
        simp at h
        exact List.mem_cons_of_mem _ (by have := elv_mem (i := i + 2) h; rwa [show i + 2 + j = i + (j + 2) by omega] at this)
    · have e : elv (v :: t) = some v :: elv t := by cases v <;> first | rfl | (exact absurd rfl hc)
      rw [e] at h
      simp only [lv_args, hc, if_false]
      match j, h with
      | 0, h => simp at h; subst h; simp
      | j + 1, h =>
        simp at h
        exact List.mem_cons_of_mem _ (by have := elv_mem (i := i + 1) h; rwa [show i + 1 + j = i + (j + 1) by omega] at this)
theorem elv_is {vs : List Value} {nL k : Nat} {lv : List (Option Value)} (h : (lg_sl vs).length ≤ nL) (hl : elv vs ++ List.replicate k none = lv) : lv_is ((lg_sl vs ++ List.replicate (nL - (lg_sl vs).length) Slot.unset).toArray) nL lv := by
  have h1 := lv_entry vs h
  refine ⟨h1.1, h1.2.1, fun j w hj => ?_⟩
  rw [← hl] at hj
  rcases Nat.lt_or_ge j (elv vs).length with q | q
  · rw [List.getElem?_append_left q] at hj
    have h2 := elv_mem (i := 0) hj
    rw [Nat.zero_add] at h2
    exact h1.2.2 _ h2
  · rw [List.getElem?_append_right q] at hj
    have h2 := List.eq_of_mem_replicate (List.mem_of_getElem? hj)
    cases h2
/-- from here the method comes to an end o, X' with Q o X' -/
def SW (γ : Gm) (M : MI) (X0 X : Sh) (pc : Nat) (lv : List (Option Value)) (st : List Value) (Q : Ot → Sh → Prop) : Prop :=
  ∃ (o : Ot) (X' : Sh), Q o X' ∧ X.n ≤ X'.n ∧ X.k ≤ X'.k ∧
    ∀ (p : Program) (e : Env) (R : Room) (s : State) (m : MethodId) (args : Array Value) (below : List Frame) (meth : Method) (c : Code) (H : Heap) (locs : List Loc) (ls : Array Slot),
      CX γ M X0 X' p R s m args meth c → RL γ X H → LO γ locs → lv_is ls M.nL lv → X0.n ≤ X.n → X0.k ≤ X.k →
      W p γ.l e R s m args below meth c H locs (X.n - X0.n) (X.k - X0.k) (vx_MQ below (QcO γ o X') (XcO γ o X') args s (X'.n - X0.n) (X'.k - X0.k) (frG γ)) (F0 m pc ls st)
/-- the method M, called with args over X, comes to an end o, X' with Q o X' -/
def Ev (γ : Gm) (M : MI) (args : List Value) (X : Sh) (Q : Ot → Sh → Prop) : Prop :=
  ∃ (o : Ot) (X' : Sh), Q o X' ∧ X.n ≤ X'.n ∧ X.k ≤ X'.k ∧
    vx_Met γ.l M.y (ws_ M.y M.cd M.nL M.rt) (rmM M (X'.n - X.n) (X'.k - X.k)) (va_Pc args (fun U => GOK γ ∧ γ.s.WarmedH U.vm ∧ RL γ X U.heap)) (QcO γ o X') (XcO γ o X') (X'.n - X.n) (X'.k - X.k) (frG γ)
theorem SW.mono {γ : Gm} {M : MI} {X0 X : Sh} {pc : Nat} {lv : List (Option Value)} {st : List Value} {Q Q' : Ot → Sh → Prop} (h : SW γ M X0 X pc lv st Q) (k : ∀ o X', Q o X' → Q' o X') : SW γ M X0 X pc lv st Q' := by
  obtain ⟨o, X', hQ, h1⟩ := h
  exact ⟨o, X', k o X' hQ, h1⟩
theorem Ev.mono {γ : Gm} {M : MI} {X : Sh} {args : List Value} {Q Q' : Ot → Sh → Prop} (h : Ev γ M args X Q) (k : ∀ o X', Q o X' → Q' o X') : Ev γ M args X Q' := by
  obtain ⟨o, X', hQ, h1⟩ := h
  exact ⟨o, X', k o X' hQ, h1⟩
/-- a method without handlers out of its body's walk -/
theorem Ev.of {γ : Gm} {M : MI} {args : List Value} {X : Sh} {Q : Ot → Sh → Prop} {lv : List (Option Value)} (k : Nat) (hp : plainName M.y.cls = true ∧ M.hh = [] ∧ (lg_sl args).length ≤ M.nL) (hl : elv args ++ List.replicate k none = lv) (h : SW γ M X X 0 lv [] Q) : Ev γ M args X Q := by
  obtain ⟨o, X', hQ, h1, h2, hk⟩ := h
  refine ⟨o, X', hQ, h1, h2, ?_⟩
  refine vx_ofW (cc := M.cd) (maxL := M.nL) (ret := M.rt) hp.1 rfl ?_
  intro p e s m vs below meth c s₁ B hml ht hv
  obtain ⟨rfl, hG, hW, hR⟩ := hv
  have hts := atoms_spec (ws := ws_ M.y M.cd M.nL M.rt) B.pre
  have hts : ∀ w ∈ lw_all, w.before _ s = true := fun w h => hts w (List.mem_cons_of_mem _ h)
  have hin : meth.name = M.y.name := (name_of_methodNamed B.named B.method).1
  have htab : c.exceptionTable.toList = tableOf M.hh := by
    rw [hp.2.1]
    cases he : c.exceptionTable.toList with
    | nil => rfl
    | cons a t => exact absurd (by rw [he]; exact List.mem_cons_self) (ht a)
  have hC : CX γ M X X' p (headSpec (ws_ M.y M.cd M.nL M.rt) (rmM M (X'.n - X.n) (X'.k - X.k))).room s m args.toArray meth c :=
    ⟨hG, B.exec, B.bytes, B.returns, B.notSynchronized, hml, findClass_of_methodNamed B.named, hW, hts, htab, hin, hR, Nat.le_refl _, Nat.le_refl _, Nat.le_refl _, Nat.le_refl _⟩
  rw [lg_entry_eq]
  have h9 := hk p e _ s m args.toArray below meth c s.heap [] _ hC hR (fun _ h => by cases h) (elv_is hp.2.2 hl) (Nat.le_refl _) (Nat.le_refl _)
  rw [Nat.sub_self, Nat.sub_self] at h9
  exact h9
section Up
variable {γ : Gm} {M : MI} {X0 X : Sh} {pc : Nat} {lv : List (Option Value)} {st : List Value} {Q : Ot → Sh → Prop}
/-- a row that leaves the heap as it is -/
theorem SW.up {pc' : Nat} {lv' : List (Option Value)} {st' : List Value}
    (h : ∀ (p : Program) (e : Env) (R : Room) (s : State) (m : MethodId) (args : Array Value) (below : List Frame) (meth : Method) (c : Code) (H : Heap) (locs : List Loc) (cells slots : Nat) (Z : State → Prop) (ls : Array Slot) (X' : Sh), CX γ M X0 X' p R s m args meth c → RL γ X H → LO γ locs → X0.n ≤ X.n → lv_is ls M.nL lv →
      (∀ ls', lv_is ls' M.nL lv' → W p γ.l e R s m args below meth c H locs cells slots Z (F0 m pc' ls' st')) → W p γ.l e R s m args below meth c H locs cells slots Z (F0 m pc ls st))
    (k : SW γ M X0 X pc' lv' st' Q) : SW γ M X0 X pc lv st Q := by
  obtain ⟨o, X', hQ, h1, h2, hk⟩ := k
  exact ⟨o, X', hQ, h1, h2, fun p e R s m args below meth c H locs ls C hR hL hl hz hz2 => h p e R s m args below meth c H locs _ _ _ ls X' C hR hL hz hl (fun ls' hl' => hk p e R s m args below meth c H locs ls' C hR hL hl' hz hz2)⟩
/-- a row that changes the shadow, and may make cells -/
theorem SW.go {X1 : Sh} {pc' : Nat} {st' : List Value} (h1 : X.n ≤ X1.n) (h2 : X.k ≤ X1.k)
    (h : ∀ (p : Program) (e : Env) (R : Room) (s : State) (m : MethodId) (args : Array Value) (below : List Frame) (meth : Method) (c : Code) (H : Heap) (locs : List Loc) (cells slots : Nat) (Z : State → Prop) (ls : Array Slot) (X' : Sh), CX γ M X0 X' p R s m args meth c → RL γ X H → LO γ locs → X0.n ≤ X.n → lv_is ls M.nL lv → cells + (X1.n - X.n) ≤ R.cells → slots + (X1.k - X.k) ≤ R.slots →
      (∀ H1 locs1, RL γ X1 H1 → LO γ locs1 → W p γ.l e R s m args below meth c H1 locs1 (cells + (X1.n - X.n)) (slots + (X1.k - X.k)) Z (F0 m pc' ls st')) → W p γ.l e R s m args below meth c H locs cells slots Z (F0 m pc ls st))
    (k : SW γ M X0 X1 pc' lv st' Q) : SW γ M X0 X pc lv st Q := by
  obtain ⟨o, X', hQ, g1, g2, hk⟩ := k
  refine ⟨o, X', hQ, Nat.le_trans h1 g1, Nat.le_trans h2 g2, fun p e R s m args below meth c H locs ls C hR hL hl hz hz2 => ?_⟩
  have a1 := C.rce
  have a2 := C.rsl
  refine h p e R s m args below meth c H locs _ _ _ ls X' C hR hL hz hl (by omega) (by omega) (fun H1 locs1 hR1 hL1 => ?_)
  have h9 := hk p e R s m args below meth c H1 locs1 ls C hR1 hL1 hl (by omega) (by omega)
  rw [show X.n - X0.n + (X1.n - X.n) = X1.n - X0.n by omega, show X.k - X0.k + (X1.k - X.k) = X1.k - X0.k by omega]
  exact h9
end Up
