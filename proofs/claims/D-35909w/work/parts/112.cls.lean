/-! THE CLASS' CELLS: written by prog/gen_cls.py. ad t i: the address of the cell of kind t and number i -/
set_option maxRecDepth 100000
/-- a function cut off behind n -/
def ctr {α : Type} (d : α) (n : Nat) (f : Nat → α) : Nat → α := fun j => if j < n then f j else d
theorem tr_lt {α : Type} {d : α} {n j : Nat} {f : Nat → α} (h : j < n) : ctr d n f j = f j := if_pos h
theorem tr_up {α : Type} {d : α} {n j : Nat} {f : Nat → α} {v : α} (h : j < n) : va_up (ctr d n f) j v = ctr d n (va_up f j v) := by
  funext i
  unfold va_up ctr
  by_cases e : i = j
  · subst e; rw [if_pos rfl, if_pos h]; exact (if_pos rfl).symm
  · rw [if_neg e]; by_cases q : i < n
    · rw [if_pos q, if_pos q]; exact (if_neg e).symm
    · rw [if_neg q, if_neg q]
theorem tr_c {α : Type} {d : α} {n : Nat} {f g : Nat → α} (h : ∀ j, j < n → f j = g j) : ctr d n f = ctr d n g := by
  funext i
  unfold ctr
  by_cases q : i < n
  · rw [if_pos q, if_pos q, h i q]
  · rw [if_neg q, if_neg q]
theorem tr_k {α : Type} {d : α} {n : Nat} : ctr d n (fun _ => d) = fun _ => d := by
  funext i
  unfold ctr
  split <;> rfl
def szL (S : TS) : Nat → Nat
  | 0 => S.1 3 0
  | 1 => S.1 14 0
  | _ => S.1 25 0
def elT : Nat → Nat
  | 0 => 7
  | 1 => 12
  | _ => 16
/-- how long ArrayList's array is -/
def capN (n : Nat) : Nat := if n = 0 then 0 else if n ≤ 10 then 10 else if n ≤ 15 then 15 else if n ≤ 22 then 22 else if n ≤ 33 then 33 else 49
/-- which cells there are -/
def vl (S : TS) : Nat → Nat → Prop
  | 0, i => i = 0
  | 1, i => i < 3
  | 2, i => i < 3 ∧ szL S i ≠ 0
  | 3, i => i = 0
  | 4, i => i = 0
  | 5, i => i = 0
  | 6, i => i = 0
  | 7, i => i < S.1 3 0
  | 8, i => i < S.1 3 0
  | 9, i => i < S.1 3 0
  | 10, i => i < S.1 3 0
  | 11, i => i < S.1 3 0
  | 12, i => i < S.1 14 0
  | 13, i => i < S.1 14 0
  | 14, i => i < S.1 14 0
  | 15, i => i < S.1 14 0
  | 16, i => i < S.1 25 0
  | _, _ => False
/-- a debt of a way -/
def dbt (S : TS) (o k : Nat) : Int64 := if k + 1 < S.1 22 o then lN (S.1 24 (12 * o + k)) else lN (S.1 16 o)
/-- what a cell holds -/
noncomputable def cel (γ : Gm) (ad fe : Nat → Nat → Nat) (S : TS) : Nat → Nat → va_E
  | 0, _ => .inr (0, [.ref (ad 1 0), .ref (ad 1 1), .ref (ad 1 2), .ref (ad 3 0), .ref (ad 4 0), .ref (ad 5 0), .ref (ad 6 0), .int (S.2.1 2 0), .int (nI (S.1 1 0))])
  | 1, i => .inr (9, [.int (nI (szL S i)), .ref (if szL S i = 0 then eD γ else ad 2 i), .int (nI (szL S i))])
  | 2, i => eO γ (capN (szL S i)) (ctr none (szL S i) (fun k => some (ad (elT i) k)))
  | 3, _ => eI γ 8 (fun j => S.2.1 31 j)
  | 4, _ => eI γ 8 (fun j => S.2.1 32 j)
  | 5, _ => eZ γ 20 (fun j => S.2.1 33 j)
  | 6, _ => eL γ 5 (fun j => S.2.2 34 j)
  | 7, b => .inr (2, [.int (nI b), .int (nI (S.1 4 b)), .long (lN (S.1 5 b)), .int (nI (S.1 6 b)), .int (S.2.1 7 b), .int (nI (S.1 8 b)), .int (S.2.1 9 b), .ref (ad 8 b), .ref (ad 9 b), .ref (ad 10 b), .ref (ad 11 b)])
  | 8, b => eL γ 12 (ctr 0 12 (fun j => S.2.2 12 (12 * b + j)))
  | 9, b => eL γ 12 (ctr 0 12 (fun j => S.2.2 13 (12 * b + j)))
  | 10, b => eI γ 12 (ctr 0 12 (fun j => nI (S.1 10 (12 * b + j))))
  | 11, b => eZ γ 12 (ctr 0 12 (fun j => S.2.1 11 (12 * b + j)))
  | 12, o => .inr (7, [.int (nI o), .int (nI (S.1 16 o)), .int (S.2.1 18 o), .int (nI (S.1 20 o)), .int (nI (S.1 17 o)), .ref (ad 13 o), .ref (ad 14 o), .ref (ad 15 o), .int (nI (S.1 21 o)), .int (nI (S.1 19 o)), .int (S.2.1 15 o)])
  | 13, o => eB γ (S.1 22 o) (ctr none (S.1 22 o) (fun k => some (ad 7 (S.1 23 (12 * o + k)))))
  | 14, o => eI γ (S.1 22 o) (ctr 0 (S.1 22 o) (fun k => nI (fe o k)))
  | 15, o => eL γ (S.1 22 o) (ctr 0 (S.1 22 o) (dbt S o))
  | 16, c => .inr (8, [.ref (ad 7 (S.1 27 c)), .ref (ad 7 (S.1 28 c)), .int (nI (S.1 26 c)), .int (nI (S.1 29 c)), .int (S.2.1 30 c)])
  | _, _ => .inr (0, [])
/-- the class' cells hold S -/
def CpR (γ : Gm) (ad fe : Nat → Nat → Nat) (X : Sh) (S : TS) : Prop :=
  (∀ t i, vl S t i → X.2.2 (ad t i) = some (cel γ ad fe S t i)) ∧ (∀ t i u j, vl S t i → vl S u j → ad t i = ad u j → t = u ∧ i = j) ∧ ∀ a, X.1 ≤ a → X.2.2 a = none
def own (ad : Nat → Nat → Nat) (S : TS) (b : Nat) : Prop := ∃ t i, vl S t i ∧ b = ad t i
/-- .. and what has changed since X0 (where ad0, S0 held): at most c cells and k slots made -/
def CpF (γ : Gm) (ad0 : Nat → Nat → Nat) (S0 : TS) (X0 : Sh) (ad fe : Nat → Nat → Nat) (X : Sh) (S : TS) (c k : Nat) : Prop :=
  CpR γ ad fe X S ∧ (X0.1 ≤ X.1 ∧ X.1 ≤ X0.1 + c ∧ X0.2.1 ≤ X.2.1 ∧ X.2.1 ≤ X0.2.1 + k) ∧ (∀ b, b < X0.1 → ¬ own ad0 S0 b → X.2.2 b = X0.2.2 b) ∧ ∀ b, own ad S b → own ad0 S0 b ∨ X0.1 ≤ b
section Cp
variable {γ : Gm} {ad0 ad ad' fe fe' : Nat → Nat → Nat} {X0 X X1 : Sh} {S0 S S' : TS} {c k : Nat}
theorem CpR.lt (h : CpR γ ad fe X S) {a : Nat} {e : va_E} (ha : X.2.2 a = some e) : a < X.1 := Nat.lt_of_not_le (fun q => by rw [h.2.2 a q] at ha; cases ha)
theorem CpR.adlt (h : CpR γ ad fe X S) {t i : Nat} (hv : vl S t i) : ad t i < X.1 := h.lt (h.1 t i hv)
theorem CpF.rf (h : CpR γ ad fe X S) : CpF γ ad S X ad fe X S 0 0 := ⟨h, ⟨Nat.le_refl _, Nat.le_refl _, Nat.le_refl _, Nat.le_refl _⟩, fun _ _ _ => rfl, fun _ hb => Or.inl hb⟩
theorem CpF.at (h : CpF γ ad0 S0 X0 ad fe X S c k) (t i : Nat) (hv : vl S t i) : X.2.2 (ad t i) = some (cel γ ad fe S t i) := h.1.1 t i hv
theorem CpF.st (h : CpF γ ad0 S0 X0 ad fe X S c k) (e : S = S') : CpF γ ad0 S0 X0 ad fe X S' c k := e ▸ h
theorem CpF.up (h : CpF γ ad0 S0 X0 ad fe X S c k) {c' k' : Nat} (hc : c ≤ c') (hk : k ≤ k') : CpF γ ad0 S0 X0 ad fe X S c' k' := by
  obtain ⟨h1, ⟨h2, h3, h4, h5⟩, h6⟩ := h
  exact ⟨h1, ⟨h2, by omega, h4, by omega⟩, h6⟩
theorem CpF.tr {c' k' : Nat} (h : CpF γ ad0 S0 X0 ad fe X S c k) (g : CpF γ ad S X ad' fe' X1 S' c' k') : CpF γ ad0 S0 X0 ad' fe' X1 S' (c + c') (k + k') := by
  obtain ⟨h1, ⟨h2, h3, h4, h5⟩, h6, h7⟩ := h
  obtain ⟨g1, ⟨g2, g3, g4, g5⟩, g6, g7⟩ := g
  refine ⟨g1, ⟨by omega, by omega, by omega, by omega⟩, fun b hb ho => ?_, fun b hb => ?_⟩
  · rw [g6 b (by omega) (fun q => (h7 b q).elim ho (fun z => by omega))]; exact h6 b hb ho
  · rcases g7 b hb with q | q
    · exact h7 b q
    · exact Or.inr (by omega)
/-- a new cell -/
theorem CpF.add (h : CpF γ ad0 S0 X0 ad fe X S c k) {e : va_E} {n : Nat} (hX : X1 = X.add e n) : CpF γ ad0 S0 X0 ad fe X1 S (c + 1) (k + n) := by
  subst hX
  obtain ⟨h1, ⟨h2, h3, h4, h5⟩, h6, h7⟩ := h
  refine ⟨⟨fun t i hv => ?_, h1.2.1, fun a ha => ?_⟩, ⟨?_, ?_, ?_, ?_⟩, fun b hb ho => ?_, h7⟩
  · have := h1.adlt hv
    rw [Sh.add_ne _ _ _ (by omega)]; exact h1.1 t i hv
  · have ha : X.1 + 1 ≤ a := ha
    rw [Sh.add_ne _ _ _ (by omega)]; exact h1.2.2 a (by omega)
  · show X0.1 ≤ X.1 + 1; omega
  · show X.1 + 1 ≤ _; omega
  · show X0.2.1 ≤ X.2.1 + n; omega
  · show X.2.1 + n ≤ _; omega
  · rw [Sh.add_ne _ _ _ (by omega)]; exact h6 b hb ho
/-- a cell of our own that is none of the class' -/
theorem CpF.loc (h : CpF γ ad0 S0 X0 ad fe X S c k) {a : Nat} {e0 e : va_E} (ha : X.2.2 a = some e0) (hn : ¬ own ad S a) (h0 : X0.1 ≤ a) (hX : X1 = X.set a e) : CpF γ ad0 S0 X0 ad fe X1 S c k := by
  subst hX
  obtain ⟨h1, h2, h6, h7⟩ := h
  have hl := h1.lt ha
  refine ⟨⟨fun t i hv => ?_, h1.2.1, fun b hb => ?_⟩, h2, fun b hb ho => ?_, h7⟩
  · rw [Sh.set_ne _ _ (fun q => hn ⟨t, i, hv, q.symm⟩)]; exact h1.1 t i hv
  · rw [Sh.set_ne _ _ (by have : X.1 ≤ b := hb; omega)]; exact h1.2.2 b hb
  · rw [Sh.set_ne _ _ (by omega)]; exact h6 b hb ho
def szE (S' S : TS) : Prop := S'.1 3 0 = S.1 3 0 ∧ S'.1 14 0 = S.1 14 0 ∧ S'.1 25 0 = S.1 25 0
theorem szL_c (h : szE S' S) (i : Nat) : szL S' i = szL S i := by
  unfold szL
  split
  · exact h.1
  · exact h.2.1
  · exact h.2.2
theorem vl_c (h : szE S' S) (t i : Nat) : vl S' t i ↔ vl S t i := by
  unfold vl
  split <;> first | exact Iff.rfl | (rw [szL_c h]; done) | (rw [h.1]; done) | (rw [h.2.1]; done) | (rw [h.2.2]; done)
theorem own_c (h : szE S' S) (b : Nat) : own ad S' b ↔ own ad S b := by
  unfold own
  constructor
  · rintro ⟨t, i, h1, h2⟩; exact ⟨t, i, (vl_c h t i).mp h1, h2⟩
  · rintro ⟨t, i, h1, h2⟩; exact ⟨t, i, (vl_c h t i).mpr h1, h2⟩
/-- one of the class' cells -/
theorem CpF.put (h : CpF γ ad0 S0 X0 ad fe X S c k) (t i : Nat) (hv : vl S t i) {e : va_E} (hX : X1 = X.set (ad t i) e) (hs : szE S' S) (he : e = cel γ ad fe S' t i) (ho : ∀ u j, vl S u j → (u ≠ t ∨ j ≠ i) → cel γ ad fe S' u j = cel γ ad fe S u j) : CpF γ ad0 S0 X0 ad fe X1 S' c k := by
  subst hX; subst he
  obtain ⟨h1, h2, h6, h7⟩ := h
  have hl := h1.adlt hv
  refine ⟨⟨fun u j hu => ?_, fun a b a' b' q1 q2 => h1.2.1 a b a' b' ((vl_c hs _ _).mp q1) ((vl_c hs _ _).mp q2), fun b hb => ?_⟩, h2, fun b hb hn => ?_, fun b hb => h7 b ((own_c hs b).mp hb)⟩
  · have hu' := (vl_c hs u j).mp hu
    by_cases q : u = t ∧ j = i
    · obtain ⟨rfl, rfl⟩ := q; exact Sh.set_eq _ _ _
    · rw [Sh.set_ne _ _ (fun z => q (h1.2.1 u j t i hu' hv z)), ho u j hu' (by
        by_cases z : u = t
        · exact Or.inr (fun w => q ⟨z, w⟩)
        · exact Or.inl z)]
      exact h1.1 u j hu'
  · rw [Sh.set_ne _ _ (by have : X.1 ≤ b := hb; omega)]; exact h1.2.2 b hb
  · rw [Sh.set_ne _ _ (fun z => ?_)]
    · exact h6 b hb hn
    · rcases h7 _ ⟨t, i, hv, z⟩ with w | w
      · exact hn w
      · omega
/-- only what the class does not keep has changed -/
theorem CpF.oth (h : CpF γ ad0 S0 X0 ad fe X S c k) (hs : szE S' S) (he : ∀ t i, vl S t i → cel γ ad fe S' t i = cel γ ad fe S t i) : CpF γ ad0 S0 X0 ad fe X S' c k := by
  obtain ⟨h1, h2, h6, h7⟩ := h
  exact ⟨⟨fun u j hu => by rw [he u j ((vl_c hs _ _).mp hu)]; exact h1.1 u j ((vl_c hs _ _).mp hu), fun a b a' b' q1 q2 => h1.2.1 a b a' b' ((vl_c hs _ _).mp q1) ((vl_c hs _ _).mp q2), h1.2.2⟩, h2, h6, fun b hb => h7 b ((own_c hs b).mp hb)⟩
theorem CpF.p5 (h : CpF γ ad0 S0 X0 ad fe X S c k) {b : Nat} {v : Nat} (hv : b < S.1 3 0) (hX : X1 = X.set (ad 7 b) (.inr (2, ([.int (nI b), .int (nI (S.1 4 b)), .long (lN (S.1 5 b)), .int (nI (S.1 6 b)), .int (S.2.1 7 b), .int (nI (S.1 8 b)), .int (S.2.1 9 b), .ref (ad 8 b), .ref (ad 9 b), .ref (ad 10 b), .ref (ad 11 b)] : List Value).set 2 (.long (lN v))))) : CpF γ ad0 S0 X0 ad fe X1 (S.sN 5 b v) c k := by
  refine h.put 7 b hv hX ⟨rfl, rfl, rfl⟩ ?_ (fun u j hu hn => ?_)
  · have e : (S.sN 5 b v).1 5 b = v := sN_eq _ _ _ _
    simp only [cel, List.set_cons_zero, List.set_cons_succ, e]
    rfl
  · unfold vl at hu
    split at hu <;> first | rfl | (cases hu; done) | skip
    · have hj := hn.resolve_left (fun q => q rfl)
      simp only [cel, sN_ne _ 5 v hj]
      rfl
theorem CpF.p6 (h : CpF γ ad0 S0 X0 ad fe X S c k) {b : Nat} {v : Nat} (hv : b < S.1 3 0) (hX : X1 = X.set (ad 7 b) (.inr (2, ([.int (nI b), .int (nI (S.1 4 b)), .long (lN (S.1 5 b)), .int (nI (S.1 6 b)), .int (S.2.1 7 b), .int (nI (S.1 8 b)), .int (S.2.1 9 b), .ref (ad 8 b), .ref (ad 9 b), .ref (ad 10 b), .ref (ad 11 b)] : List Value).set 3 (.int (nI v))))) : CpF γ ad0 S0 X0 ad fe X1 (S.sN 6 b v) c k := by
  refine h.put 7 b hv hX ⟨rfl, rfl, rfl⟩ ?_ (fun u j hu hn => ?_)
  · have e : (S.sN 6 b v).1 6 b = v := sN_eq _ _ _ _
    simp only [cel, List.set_cons_zero, List.set_cons_succ, e]
    rfl
  · unfold vl at hu
    split at hu <;> first | rfl | (cases hu; done) | skip
    · have hj := hn.resolve_left (fun q => q rfl)
      simp only [cel, sN_ne _ 6 v hj]
      rfl
theorem CpF.p7 (h : CpF γ ad0 S0 X0 ad fe X S c k) {b : Nat} {v : Int32} (hv : b < S.1 3 0) (hX : X1 = X.set (ad 7 b) (.inr (2, ([.int (nI b), .int (nI (S.1 4 b)), .long (lN (S.1 5 b)), .int (nI (S.1 6 b)), .int (S.2.1 7 b), .int (nI (S.1 8 b)), .int (S.2.1 9 b), .ref (ad 8 b), .ref (ad 9 b), .ref (ad 10 b), .ref (ad 11 b)] : List Value).set 4 (.int v)))) : CpF γ ad0 S0 X0 ad fe X1 (S.sI 7 b v) c k := by
  refine h.put 7 b hv hX ⟨rfl, rfl, rfl⟩ ?_ (fun u j hu hn => ?_)
  · have e : (S.sI 7 b v).2.1 7 b = v := sI_eq _ _ _ _
    simp only [cel, List.set_cons_zero, List.set_cons_succ, e]
    rfl
  · unfold vl at hu
    split at hu <;> first | rfl | (cases hu; done) | skip
    · have hj := hn.resolve_left (fun q => q rfl)
      simp only [cel, sI_ne _ 7 v hj]
      rfl
theorem CpF.p8 (h : CpF γ ad0 S0 X0 ad fe X S c k) {b : Nat} {v : Nat} (hv : b < S.1 3 0) (hX : X1 = X.set (ad 7 b) (.inr (2, ([.int (nI b), .int (nI (S.1 4 b)), .long (lN (S.1 5 b)), .int (nI (S.1 6 b)), .int (S.2.1 7 b), .int (nI (S.1 8 b)), .int (S.2.1 9 b), .ref (ad 8 b), .ref (ad 9 b), .ref (ad 10 b), .ref (ad 11 b)] : List Value).set 5 (.int (nI v))))) : CpF γ ad0 S0 X0 ad fe X1 (S.sN 8 b v) c k := by
  refine h.put 7 b hv hX ⟨rfl, rfl, rfl⟩ ?_ (fun u j hu hn => ?_)
  · have e : (S.sN 8 b v).1 8 b = v := sN_eq _ _ _ _
    simp only [cel, List.set_cons_zero, List.set_cons_succ, e]
    rfl
  · unfold vl at hu
    split at hu <;> first | rfl | (cases hu; done) | skip
    · have hj := hn.resolve_left (fun q => q rfl)
      simp only [cel, sN_ne _ 8 v hj]
      rfl
theorem CpF.p9 (h : CpF γ ad0 S0 X0 ad fe X S c k) {b : Nat} {v : Int32} (hv : b < S.1 3 0) (hX : X1 = X.set (ad 7 b) (.inr (2, ([.int (nI b), .int (nI (S.1 4 b)), .long (lN (S.1 5 b)), .int (nI (S.1 6 b)), .int (S.2.1 7 b), .int (nI (S.1 8 b)), .int (S.2.1 9 b), .ref (ad 8 b), .ref (ad 9 b), .ref (ad 10 b), .ref (ad 11 b)] : List Value).set 6 (.int v)))) : CpF γ ad0 S0 X0 ad fe X1 (S.sI 9 b v) c k := by
  refine h.put 7 b hv hX ⟨rfl, rfl, rfl⟩ ?_ (fun u j hu hn => ?_)
  · have e : (S.sI 9 b v).2.1 9 b = v := sI_eq _ _ _ _
    simp only [cel, List.set_cons_zero, List.set_cons_succ, e]
    rfl
  · unfold vl at hu
    split at hu <;> first | rfl | (cases hu; done) | skip
    · have hj := hn.resolve_left (fun q => q rfl)
      simp only [cel, sI_ne _ 9 v hj]
      rfl
theorem CpF.p21 (h : CpF γ ad0 S0 X0 ad fe X S c k) {b : Nat} {v : Nat} (hv : b < S.1 14 0) (hX : X1 = X.set (ad 12 b) (.inr (7, ([.int (nI b), .int (nI (S.1 16 b)), .int (S.2.1 18 b), .int (nI (S.1 20 b)), .int (nI (S.1 17 b)), .ref (ad 13 b), .ref (ad 14 b), .ref (ad 15 b), .int (nI (S.1 21 b)), .int (nI (S.1 19 b)), .int (S.2.1 15 b)] : List Value).set 8 (.int (nI v))))) : CpF γ ad0 S0 X0 ad fe X1 (S.sN 21 b v) c k := by
  refine h.put 12 b hv hX ⟨rfl, rfl, rfl⟩ ?_ (fun u j hu hn => ?_)
  · have e : (S.sN 21 b v).1 21 b = v := sN_eq _ _ _ _
    simp only [cel, List.set_cons_zero, List.set_cons_succ, e]
    rfl
  · unfold vl at hu
    split at hu <;> first | rfl | (cases hu; done) | skip
    · have hj := hn.resolve_left (fun q => q rfl)
      simp only [cel, sN_ne _ 21 v hj]
      rfl
theorem CpF.p19 (h : CpF γ ad0 S0 X0 ad fe X S c k) {b : Nat} {v : Nat} (hv : b < S.1 14 0) (hX : X1 = X.set (ad 12 b) (.inr (7, ([.int (nI b), .int (nI (S.1 16 b)), .int (S.2.1 18 b), .int (nI (S.1 20 b)), .int (nI (S.1 17 b)), .ref (ad 13 b), .ref (ad 14 b), .ref (ad 15 b), .int (nI (S.1 21 b)), .int (nI (S.1 19 b)), .int (S.2.1 15 b)] : List Value).set 9 (.int (nI v))))) : CpF γ ad0 S0 X0 ad fe X1 (S.sN 19 b v) c k := by
  refine h.put 12 b hv hX ⟨rfl, rfl, rfl⟩ ?_ (fun u j hu hn => ?_)
  · have e : (S.sN 19 b v).1 19 b = v := sN_eq _ _ _ _
    simp only [cel, List.set_cons_zero, List.set_cons_succ, e]
    rfl
  · unfold vl at hu
    split at hu <;> first | rfl | (cases hu; done) | skip
    · have hj := hn.resolve_left (fun q => q rfl)
      simp only [cel, sN_ne _ 19 v hj]
      rfl
theorem CpF.p15 (h : CpF γ ad0 S0 X0 ad fe X S c k) {b : Nat} {v : Int32} (hv : b < S.1 14 0) (hX : X1 = X.set (ad 12 b) (.inr (7, ([.int (nI b), .int (nI (S.1 16 b)), .int (S.2.1 18 b), .int (nI (S.1 20 b)), .int (nI (S.1 17 b)), .ref (ad 13 b), .ref (ad 14 b), .ref (ad 15 b), .int (nI (S.1 21 b)), .int (nI (S.1 19 b)), .int (S.2.1 15 b)] : List Value).set 10 (.int v)))) : CpF γ ad0 S0 X0 ad fe X1 (S.sI 15 b v) c k := by
  refine h.put 12 b hv hX ⟨rfl, rfl, rfl⟩ ?_ (fun u j hu hn => ?_)
  · have e : (S.sI 15 b v).2.1 15 b = v := sI_eq _ _ _ _
    simp only [cel, List.set_cons_zero, List.set_cons_succ, e]
    rfl
  · unfold vl at hu
    split at hu <;> first | rfl | (cases hu; done) | skip
    · have hj := hn.resolve_left (fun q => q rfl)
      simp only [cel, sI_ne _ 15 v hj]
      rfl
theorem CpF.p30 (h : CpF γ ad0 S0 X0 ad fe X S c k) {b : Nat} {v : Int32} (hv : b < S.1 25 0) (hX : X1 = X.set (ad 16 b) (.inr (8, ([.ref (ad 7 (S.1 27 b)), .ref (ad 7 (S.1 28 b)), .int (nI (S.1 26 b)), .int (nI (S.1 29 b)), .int (S.2.1 30 b)] : List Value).set 4 (.int v)))) : CpF γ ad0 S0 X0 ad fe X1 (S.sI 30 b v) c k := by
  refine h.put 16 b hv hX ⟨rfl, rfl, rfl⟩ ?_ (fun u j hu hn => ?_)
  · have e : (S.sI 30 b v).2.1 30 b = v := sI_eq _ _ _ _
    simp only [cel, List.set_cons_zero, List.set_cons_succ, e]
    rfl
  · unfold vl at hu
    split at hu <;> first | rfl | (cases hu; done) | skip
    · have hj := hn.resolve_left (fun q => q rfl)
      simp only [cel, sI_ne _ 30 v hj]
      rfl
theorem CpF.p2 (h : CpF γ ad0 S0 X0 ad fe X S c k) {v : Int32}  (hX : X1 = X.set (ad 0 0) (.inr (0, ([.ref (ad 1 0), .ref (ad 1 1), .ref (ad 1 2), .ref (ad 3 0), .ref (ad 4 0), .ref (ad 5 0), .ref (ad 6 0), .int (S.2.1 2 0), .int (nI (S.1 1 0))] : List Value).set 7 (.int v)))) : CpF γ ad0 S0 X0 ad fe X1 (S.sI 2 0 v) c k := by
  refine h.put 0 0 rfl hX ⟨rfl, rfl, rfl⟩ ?_ (fun u j hu hn => ?_)
  · have e : (S.sI 2 0 v).2.1 2 0 = v := sI_eq _ _ _ _
    simp only [cel, List.set_cons_zero, List.set_cons_succ, e]
    rfl
  · unfold vl at hu
    split at hu <;> first | rfl | (cases hu; done) | skip
    · exact absurd hu (hn.resolve_left (fun q => q rfl))
theorem CpF.p1 (h : CpF γ ad0 S0 X0 ad fe X S c k) {v : Nat}  (hX : X1 = X.set (ad 0 0) (.inr (0, ([.ref (ad 1 0), .ref (ad 1 1), .ref (ad 1 2), .ref (ad 3 0), .ref (ad 4 0), .ref (ad 5 0), .ref (ad 6 0), .int (S.2.1 2 0), .int (nI (S.1 1 0))] : List Value).set 8 (.int (nI v))))) : CpF γ ad0 S0 X0 ad fe X1 (S.sN 1 0 v) c k := by
  refine h.put 0 0 rfl hX ⟨rfl, rfl, rfl⟩ ?_ (fun u j hu hn => ?_)
  · have e : (S.sN 1 0 v).1 1 0 = v := sN_eq _ _ _ _
    simp only [cel, List.set_cons_zero, List.set_cons_succ, e]
    rfl
  · unfold vl at hu
    split at hu <;> first | rfl | (cases hu; done) | skip
    · exact absurd hu (hn.resolve_left (fun q => q rfl))
theorem CpF.p31 (h : CpF γ ad0 S0 X0 ad fe X S c k) {i : Nat} {v : Int32} (hX : X1 = X.set (ad 3 0) (eI γ 8 (va_up (fun j => S.2.1 31 j) i v))) : CpF γ ad0 S0 X0 ad fe X1 (S.sI 31 i v) c k := by
  refine h.put 3 0 rfl hX ⟨rfl, rfl, rfl⟩ ?_ (fun u j hu hn => ?_)
  · rw [up_P]
    simp [cel, TS.sI]
  · unfold vl at hu
    split at hu <;> first | rfl | (cases hu; done) | skip
    · exact absurd hu (hn.resolve_left (fun q => q rfl))
theorem CpF.p32 (h : CpF γ ad0 S0 X0 ad fe X S c k) {i : Nat} {v : Int32} (hX : X1 = X.set (ad 4 0) (eI γ 8 (va_up (fun j => S.2.1 32 j) i v))) : CpF γ ad0 S0 X0 ad fe X1 (S.sI 32 i v) c k := by
  refine h.put 4 0 rfl hX ⟨rfl, rfl, rfl⟩ ?_ (fun u j hu hn => ?_)
  · rw [up_P]
    simp [cel, TS.sI]
  · unfold vl at hu
    split at hu <;> first | rfl | (cases hu; done) | skip
    · exact absurd hu (hn.resolve_left (fun q => q rfl))
theorem CpF.p33 (h : CpF γ ad0 S0 X0 ad fe X S c k) {i : Nat} {v : Int32} (hX : X1 = X.set (ad 5 0) (eZ γ 20 (va_up (fun j => S.2.1 33 j) i v))) : CpF γ ad0 S0 X0 ad fe X1 (S.sI 33 i v) c k := by
  refine h.put 5 0 rfl hX ⟨rfl, rfl, rfl⟩ ?_ (fun u j hu hn => ?_)
  · rw [up_P]
    simp [cel, TS.sI]
  · unfold vl at hu
    split at hu <;> first | rfl | (cases hu; done) | skip
    · exact absurd hu (hn.resolve_left (fun q => q rfl))
theorem CpF.p34 (h : CpF γ ad0 S0 X0 ad fe X S c k) {i : Nat} {v : Int64} (hX : X1 = X.set (ad 6 0) (eL γ 5 (va_up (fun j => S.2.2 34 j) i v))) : CpF γ ad0 S0 X0 ad fe X1 (S.sL 34 i v) c k := by
  refine h.put 6 0 rfl hX ⟨rfl, rfl, rfl⟩ ?_ (fun u j hu hn => ?_)
  · rw [up_P]
    simp [cel, TS.sL]
  · unfold vl at hu
    split at hu <;> first | rfl | (cases hu; done) | skip
    · exact absurd hu (hn.resolve_left (fun q => q rfl))
theorem CpF.p12 (h : CpF γ ad0 S0 X0 ad fe X S c k) {b i : Nat} {v : Int64} (hv : b < S.1 3 0) (hi : i < 12) (hX : X1 = X.set (ad 8 b) (eL γ 12 (va_up (ctr 0 12 (fun j => S.2.2 12 (12 * b + j))) i (v)))) : CpF γ ad0 S0 X0 ad fe X1 (S.sL 12 (12 * b + i) v) c k := by
  refine h.put 8 b hv hX ⟨rfl, rfl, rfl⟩ ?_ (fun u j hu hn => ?_)
  · rw [tr_up hi]
    refine congrArg (fun f => eL γ 12 f) (tr_c fun q hq => ?_)
    unfold va_up
    by_cases e : q = i
    · subst e; rw [if_pos rfl]; first | exact (sL_eq _ _ _ _).symm | exact congrArg nI (sL_eq _ _ _ _).symm
    · rw [if_neg e]; first | exact (sL_ne _ _ _ (by omega)).symm | exact congrArg nI (sL_ne _ _ _ (by omega)).symm
  · unfold vl at hu
    split at hu <;> first | rfl | (cases hu; done) | skip
    · have hj := hn.resolve_left (fun q => q rfl)
      refine congrArg (fun f => eL γ 12 f) (tr_c fun q hq => ?_)
      first | exact sL_ne _ _ _ (by omega) | exact congrArg nI (sL_ne _ _ _ (by omega))
theorem CpF.p13 (h : CpF γ ad0 S0 X0 ad fe X S c k) {b i : Nat} {v : Int64} (hv : b < S.1 3 0) (hi : i < 12) (hX : X1 = X.set (ad 9 b) (eL γ 12 (va_up (ctr 0 12 (fun j => S.2.2 13 (12 * b + j))) i (v)))) : CpF γ ad0 S0 X0 ad fe X1 (S.sL 13 (12 * b + i) v) c k := by
  refine h.put 9 b hv hX ⟨rfl, rfl, rfl⟩ ?_ (fun u j hu hn => ?_)
  · rw [tr_up hi]
    refine congrArg (fun f => eL γ 12 f) (tr_c fun q hq => ?_)
    unfold va_up
    by_cases e : q = i
    · subst e; rw [if_pos rfl]; first | exact (sL_eq _ _ _ _).symm | exact congrArg nI (sL_eq _ _ _ _).symm
    · rw [if_neg e]; first | exact (sL_ne _ _ _ (by omega)).symm | exact congrArg nI (sL_ne _ _ _ (by omega)).symm
  · unfold vl at hu
    split at hu <;> first | rfl | (cases hu; done) | skip
    · have hj := hn.resolve_left (fun q => q rfl)
      refine congrArg (fun f => eL γ 12 f) (tr_c fun q hq => ?_)
      first | exact sL_ne _ _ _ (by omega) | exact congrArg nI (sL_ne _ _ _ (by omega))
theorem CpF.p10 (h : CpF γ ad0 S0 X0 ad fe X S c k) {b i : Nat} {v : Nat} (hv : b < S.1 3 0) (hi : i < 12) (hX : X1 = X.set (ad 10 b) (eI γ 12 (va_up (ctr 0 12 (fun j => nI (S.1 10 (12 * b + j)))) i (nI v)))) : CpF γ ad0 S0 X0 ad fe X1 (S.sN 10 (12 * b + i) v) c k := by
  refine h.put 10 b hv hX ⟨rfl, rfl, rfl⟩ ?_ (fun u j hu hn => ?_)
  · rw [tr_up hi]
    refine congrArg (fun f => eI γ 12 f) (tr_c fun q hq => ?_)
    unfold va_up
    by_cases e : q = i
    · subst e; rw [if_pos rfl]; first | exact (sN_eq _ _ _ _).symm | exact congrArg nI (sN_eq _ _ _ _).symm
    · rw [if_neg e]; first | exact (sN_ne _ _ _ (by omega)).symm | exact congrArg nI (sN_ne _ _ _ (by omega)).symm
  · unfold vl at hu
    split at hu <;> first | rfl | (cases hu; done) | skip
    · have hj := hn.resolve_left (fun q => q rfl)
      refine congrArg (fun f => eI γ 12 f) (tr_c fun q hq => ?_)
      first | exact sN_ne _ _ _ (by omega) | exact congrArg nI (sN_ne _ _ _ (by omega))
theorem CpF.p11 (h : CpF γ ad0 S0 X0 ad fe X S c k) {b i : Nat} {v : Int32} (hv : b < S.1 3 0) (hi : i < 12) (hX : X1 = X.set (ad 11 b) (eZ γ 12 (va_up (ctr 0 12 (fun j => S.2.1 11 (12 * b + j))) i (v)))) : CpF γ ad0 S0 X0 ad fe X1 (S.sI 11 (12 * b + i) v) c k := by
  refine h.put 11 b hv hX ⟨rfl, rfl, rfl⟩ ?_ (fun u j hu hn => ?_)
  · rw [tr_up hi]
    refine congrArg (fun f => eZ γ 12 f) (tr_c fun q hq => ?_)
    unfold va_up
    by_cases e : q = i
    · subst e; rw [if_pos rfl]; first | exact (sI_eq _ _ _ _).symm | exact congrArg nI (sI_eq _ _ _ _).symm
    · rw [if_neg e]; first | exact (sI_ne _ _ _ (by omega)).symm | exact congrArg nI (sI_ne _ _ _ (by omega)).symm
  · unfold vl at hu
    split at hu <;> first | rfl | (cases hu; done) | skip
    · have hj := hn.resolve_left (fun q => q rfl)
      refine congrArg (fun f => eZ γ 12 f) (tr_c fun q hq => ?_)
      first | exact sI_ne _ _ _ (by omega) | exact congrArg nI (sI_ne _ _ _ (by omega))
end Cp
