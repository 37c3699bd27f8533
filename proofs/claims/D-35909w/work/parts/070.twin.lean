/-! THE STORE of numbers (natural numbers, ints, longs by tag and place), and the reference's cells that hold it: written by prog/gen_twin.py -/
set_option maxRecDepth 100000
abbrev TS : Type := (Nat → Nat → Nat) × (Nat → Nat → Int32) × (Nat → Nat → Int64)
abbrev TS.N (S : TS) : Nat → Nat → Nat := S.1
abbrev TS.I (S : TS) : Nat → Nat → Int32 := S.2.1
abbrev TS.L (S : TS) : Nat → Nat → Int64 := S.2.2
def TS.sN (S : TS) (k j v : Nat) : TS := (fun a b => if a = k ∧ b = j then v else S.1 a b, S.2.1, S.2.2)
def TS.sI (S : TS) (k j : Nat) (v : Int32) : TS := (S.1, fun a b => if a = k ∧ b = j then v else S.2.1 a b, S.2.2)
def TS.sL (S : TS) (k j : Nat) (v : Int64) : TS := (S.1, S.2.1, fun a b => if a = k ∧ b = j then v else S.2.2 a b)
theorem up_N {f : Nat → Nat} {j v : Nat} : va_up (fun i => nI (f i)) j (nI v) = fun i => nI (if i = j then v else f i) := by
  funext i; by_cases h : i = j <;> simp [va_up, h]
theorem up_M {f : Nat → Nat} {j v : Nat} : va_up (fun i => lN (f i)) j (lN v) = fun i => lN (if i = j then v else f i) := by
  funext i; by_cases h : i = j <;> simp [va_up, h]
theorem up_P {α : Type} {f : Nat → α} {j : Nat} {v : α} : va_up f j v = fun i => if i = j then v else f i := rfl
def isT : Nat → Bool
  | 4 => true
  | 5 => true
  | 6 => true
  | 7 => true
  | 8 => true
  | 9 => true
  | 10 => true
  | 11 => true
  | 12 => true
  | 13 => true
  | 15 => true
  | 16 => true
  | 17 => true
  | 18 => true
  | 19 => true
  | 20 => true
  | 21 => true
  | 22 => true
  | 23 => true
  | 24 => true
  | 26 => true
  | 27 => true
  | 28 => true
  | 29 => true
  | 30 => true
  | 31 => true
  | 32 => true
  | 33 => true
  | 34 => true
  | 35 => true
  | 36 => true
  | 37 => true
  | _ => false
/-- the reference's object -/
def twFs (aT : Nat → Nat) (S : TS) : List Value := [.int (S.2.1 0 0), .int (nI (S.1 1 0)), .int (S.2.1 2 0), .int (nI (S.1 3 0)), .ref (aT 4), .ref (aT 5), .ref (aT 6), .ref (aT 7), .ref (aT 8), .ref (aT 9), .ref (aT 10), .ref (aT 11), .ref (aT 12), .ref (aT 13), .int (nI (S.1 14 0)), .ref (aT 15), .ref (aT 16), .ref (aT 17), .ref (aT 18), .ref (aT 19), .ref (aT 20), .ref (aT 21), .ref (aT 22), .ref (aT 23), .ref (aT 24), .int (nI (S.1 25 0)), .ref (aT 26), .ref (aT 27), .ref (aT 28), .ref (aT 29), .ref (aT 30), .ref (aT 31), .ref (aT 32), .ref (aT 33), .ref (aT 34), .ref (aT 35), .ref (aT 36), .ref (aT 37)]
/-- the reference's arrays -/
def twA (γ : Gm) (S : TS) : Nat → va_E
  | 4 => eI γ 12 (fun j => nI (S.1 4 j))
  | 5 => eL γ 12 (fun j => lN (S.1 5 j))
  | 6 => eI γ 12 (fun j => nI (S.1 6 j))
  | 7 => eI γ 12 (fun j => S.2.1 7 j)
  | 8 => eI γ 12 (fun j => nI (S.1 8 j))
  | 9 => eZ γ 12 (fun j => S.2.1 9 j)
  | 10 => eI γ 144 (fun j => nI (S.1 10 j))
  | 11 => eZ γ 144 (fun j => S.2.1 11 j)
  | 12 => eL γ 144 (fun j => S.2.2 12 j)
  | 13 => eL γ 144 (fun j => S.2.2 13 j)
  | 15 => eI γ 40 (fun j => S.2.1 15 j)
  | 16 => eI γ 40 (fun j => nI (S.1 16 j))
  | 17 => eI γ 40 (fun j => nI (S.1 17 j))
  | 18 => eI γ 40 (fun j => S.2.1 18 j)
  | 19 => eI γ 40 (fun j => nI (S.1 19 j))
  | 20 => eI γ 40 (fun j => nI (S.1 20 j))
  | 21 => eI γ 40 (fun j => nI (S.1 21 j))
  | 22 => eI γ 40 (fun j => nI (S.1 22 j))
  | 23 => eI γ 480 (fun j => nI (S.1 23 j))
  | 24 => eI γ 480 (fun j => nI (S.1 24 j))
  | 26 => eI γ 41 (fun j => nI (S.1 26 j))
  | 27 => eI γ 41 (fun j => nI (S.1 27 j))
  | 28 => eI γ 41 (fun j => nI (S.1 28 j))
  | 29 => eI γ 41 (fun j => nI (S.1 29 j))
  | 30 => eZ γ 41 (fun j => S.2.1 30 j)
  | 31 => eI γ 8 (fun j => S.2.1 31 j)
  | 32 => eI γ 8 (fun j => S.2.1 32 j)
  | 33 => eZ γ 20 (fun j => S.2.1 33 j)
  | 34 => eL γ 5 (fun j => S.2.2 34 j)
  | 35 => eL γ 12 (fun j => lN (S.1 35 j))
  | 36 => eI γ 12 (fun j => nI (S.1 36 j))
  | 37 => eI γ 12 (fun j => nI (S.1 37 j))
  | _ => .inr (0, [])
def twOwn (Mo : Nat) (aT : Nat → Nat) (b : Nat) : Prop := b = Mo ∨ ∃ k, isT k = true ∧ b = aT k
/-- the addresses are apart -/
def twD (Mo : Nat) (aT : Nat → Nat) : Prop := (∀ j k, isT j = true → isT k = true → aT j = aT k → j = k) ∧ ∀ k, isT k = true → aT k ≠ Mo
/-- the reference's cells hold S -/
def TwR (γ : Gm) (Mo : Nat) (aT : Nat → Nat) (X : Sh) (S : TS) : Prop := X.2.2 Mo = some (.inr (1, twFs aT S)) ∧ (∀ k, isT k = true → X.2.2 (aT k) = some (twA γ S k)) ∧ twD Mo aT
/-- .. and since X0 nothing else has changed -/
def TwF (γ : Gm) (Mo : Nat) (aT : Nat → Nat) (X0 X : Sh) (S : TS) : Prop := TwR γ Mo aT X S ∧ X.1 = X0.1 ∧ X.2.1 = X0.2.1 ∧ ∀ b, ¬ twOwn Mo aT b → X.2.2 b = X0.2.2 b
section Tw
variable {γ : Gm} {Mo : Nat} {aT : Nat → Nat} {X0 X X1 X2 : Sh} {S S' : TS}
theorem TwF.obj (h : TwF γ Mo aT X0 X S) : X.2.2 Mo = some (.inr (1, twFs aT S)) := h.1.1
theorem TwF.arr (h : TwF γ Mo aT X0 X S) (k : Nat) (hk : isT k = true) : X.2.2 (aT k) = some (twA γ S k) := h.1.2.1 k hk
theorem TwF.rf (h : TwR γ Mo aT X S) : TwF γ Mo aT X X S := ⟨h, rfl, rfl, fun _ _ => rfl⟩
theorem TwF.tr (h : TwF γ Mo aT X0 X S) (h2 : TwF γ Mo aT X X1 S') : TwF γ Mo aT X0 X1 S' := ⟨h2.1, h2.2.1.trans h.2.1, h2.2.2.1.trans h.2.2.1, fun b hb => (h2.2.2.2 b hb).trans (h.2.2.2 b hb)⟩
theorem TwF.st (h : TwF γ Mo aT X0 X S) (e : S = S') : TwF γ Mo aT X0 X S' := e ▸ h
theorem TwF.putO (h : TwF γ Mo aT X0 X S) {fs : List Value} (hX : X1 = X.set Mo (.inr (1, fs))) (hf : fs = twFs aT S') (ha : ∀ k, isT k = true → twA γ S' k = twA γ S k) : TwF γ Mo aT X0 X1 S' := by
  subst hX; subst hf
  obtain ⟨⟨h1, h2, h3⟩, h4, h5, h6⟩ := h
  refine ⟨⟨Sh.set_eq _ _ _, fun k hk => ?_, h3⟩, h4, h5, fun b hb => ?_⟩
  · rw [Sh.set_ne _ _ (h3.2 k hk), ha k hk]; exact h2 k hk
  · rw [Sh.set_ne _ _ (fun e => hb (Or.inl e))]; exact h6 b hb
theorem TwF.putA (h : TwF γ Mo aT X0 X S) (k : Nat) (hk : isT k = true) {e : va_E} (hX : X1 = X.set (aT k) e) (he : e = twA γ S' k) (hf : twFs aT S' = twFs aT S) (ha : ∀ j, isT j = true → j ≠ k → twA γ S' j = twA γ S j) : TwF γ Mo aT X0 X1 S' := by
  subst hX; subst he
  obtain ⟨⟨h1, h2, h3⟩, h4, h5, h6⟩ := h
  refine ⟨⟨?_, fun j hj => ?_, h3⟩, h4, h5, fun b hb => ?_⟩
  · rw [Sh.set_ne _ _ (Ne.symm (h3.2 k hk)), hf]; exact h1
  · by_cases e : j = k
    · subst e; exact Sh.set_eq _ _ _
    · rw [Sh.set_ne _ _ (fun q => e (h3.1 j k hj hk q)), ha j hj e]; exact h2 j hj
  · rw [Sh.set_ne _ _ (fun e => hb (Or.inr ⟨k, hk, e⟩))]; exact h6 b hb
theorem TwF.p0 (h : TwF γ Mo aT X0 X S) {v : Int32} (hX : X1 = X.set Mo (.inr (1, (twFs aT S).set 0 (.int v)))) : TwF γ Mo aT X0 X1 (S.sI 0 0 v) := by
  refine h.putO hX ?_ ?_
  · rfl
  · intro k hk
    unfold isT at hk
    split at hk <;> first | rfl | cases hk
theorem TwF.p1 (h : TwF γ Mo aT X0 X S) {v : Nat} (hX : X1 = X.set Mo (.inr (1, (twFs aT S).set 1 (.int (nI v))))) : TwF γ Mo aT X0 X1 (S.sN 1 0 v) := by
  refine h.putO hX ?_ ?_
  · rfl
  · intro k hk
    unfold isT at hk
    split at hk <;> first | rfl | cases hk
theorem TwF.p2 (h : TwF γ Mo aT X0 X S) {v : Int32} (hX : X1 = X.set Mo (.inr (1, (twFs aT S).set 2 (.int v)))) : TwF γ Mo aT X0 X1 (S.sI 2 0 v) := by
  refine h.putO hX ?_ ?_
  · rfl
  · intro k hk
    unfold isT at hk
    split at hk <;> first | rfl | cases hk
theorem TwF.p3 (h : TwF γ Mo aT X0 X S) {v : Nat} (hX : X1 = X.set Mo (.inr (1, (twFs aT S).set 3 (.int (nI v))))) : TwF γ Mo aT X0 X1 (S.sN 3 0 v) := by
  refine h.putO hX ?_ ?_
  · rfl
  · intro k hk
    unfold isT at hk
    split at hk <;> first | rfl | cases hk
theorem TwF.p4 (h : TwF γ Mo aT X0 X S) {j : Nat} {v : Nat} (hX : X1 = X.set (aT 4) (eI γ 12 (va_up (fun j => nI (S.1 4 j)) j (nI v)))) : TwF γ Mo aT X0 X1 (S.sN 4 j v) := by
  refine h.putA 4 rfl hX ?_ ?_ ?_
  · rw [up_N]
    simp [twA, TS.sN]
  · rfl
  · intro k hk hn
    unfold isT at hk
    split at hk <;> first | rfl | exact absurd rfl hn | cases hk
theorem TwF.p5 (h : TwF γ Mo aT X0 X S) {j : Nat} {v : Nat} (hX : X1 = X.set (aT 5) (eL γ 12 (va_up (fun j => lN (S.1 5 j)) j (lN v)))) : TwF γ Mo aT X0 X1 (S.sN 5 j v) := by
  refine h.putA 5 rfl hX ?_ ?_ ?_
  · rw [up_M]
    simp [twA, TS.sN]
  · rfl
  · intro k hk hn
    unfold isT at hk
    split at hk <;> first | rfl | exact absurd rfl hn | cases hk
theorem TwF.p6 (h : TwF γ Mo aT X0 X S) {j : Nat} {v : Nat} (hX : X1 = X.set (aT 6) (eI γ 12 (va_up (fun j => nI (S.1 6 j)) j (nI v)))) : TwF γ Mo aT X0 X1 (S.sN 6 j v) := by
  refine h.putA 6 rfl hX ?_ ?_ ?_
  · rw [up_N]
    simp [twA, TS.sN]
  · rfl
  · intro k hk hn
    unfold isT at hk
    split at hk <;> first | rfl | exact absurd rfl hn | cases hk
theorem TwF.p7 (h : TwF γ Mo aT X0 X S) {j : Nat} {v : Int32} (hX : X1 = X.set (aT 7) (eI γ 12 (va_up (fun j => S.2.1 7 j) j v))) : TwF γ Mo aT X0 X1 (S.sI 7 j v) := by
  refine h.putA 7 rfl hX ?_ ?_ ?_
  · rw [up_P]
    simp [twA, TS.sI]
  · rfl
  · intro k hk hn
    unfold isT at hk
    split at hk <;> first | rfl | exact absurd rfl hn | cases hk
theorem TwF.p8 (h : TwF γ Mo aT X0 X S) {j : Nat} {v : Nat} (hX : X1 = X.set (aT 8) (eI γ 12 (va_up (fun j => nI (S.1 8 j)) j (nI v)))) : TwF γ Mo aT X0 X1 (S.sN 8 j v) := by
  refine h.putA 8 rfl hX ?_ ?_ ?_
  · rw [up_N]
    simp [twA, TS.sN]
  · rfl
  · intro k hk hn
    unfold isT at hk
    split at hk <;> first | rfl | exact absurd rfl hn | cases hk
theorem TwF.p9 (h : TwF γ Mo aT X0 X S) {j : Nat} {v : Int32} (hX : X1 = X.set (aT 9) (eZ γ 12 (va_up (fun j => S.2.1 9 j) j v))) : TwF γ Mo aT X0 X1 (S.sI 9 j v) := by
  refine h.putA 9 rfl hX ?_ ?_ ?_
  · rw [up_P]
    simp [twA, TS.sI]
  · rfl
  · intro k hk hn
    unfold isT at hk
    split at hk <;> first | rfl | exact absurd rfl hn | cases hk
theorem TwF.p10 (h : TwF γ Mo aT X0 X S) {j : Nat} {v : Nat} (hX : X1 = X.set (aT 10) (eI γ 144 (va_up (fun j => nI (S.1 10 j)) j (nI v)))) : TwF γ Mo aT X0 X1 (S.sN 10 j v) := by
  refine h.putA 10 rfl hX ?_ ?_ ?_
  · rw [up_N]
    simp [twA, TS.sN]
  · rfl
  · intro k hk hn
    unfold isT at hk
    split at hk <;> first | rfl | exact absurd rfl hn | cases hk
theorem TwF.p11 (h : TwF γ Mo aT X0 X S) {j : Nat} {v : Int32} (hX : X1 = X.set (aT 11) (eZ γ 144 (va_up (fun j => S.2.1 11 j) j v))) : TwF γ Mo aT X0 X1 (S.sI 11 j v) := by
  refine h.putA 11 rfl hX ?_ ?_ ?_
  · rw [up_P]
    simp [twA, TS.sI]
  · rfl
  · intro k hk hn
    unfold isT at hk
    split at hk <;> first | rfl | exact absurd rfl hn | cases hk
theorem TwF.p12 (h : TwF γ Mo aT X0 X S) {j : Nat} {v : Int64} (hX : X1 = X.set (aT 12) (eL γ 144 (va_up (fun j => S.2.2 12 j) j v))) : TwF γ Mo aT X0 X1 (S.sL 12 j v) := by
  refine h.putA 12 rfl hX ?_ ?_ ?_
  · rw [up_P]
    simp [twA, TS.sL]
  · rfl
  · intro k hk hn
    unfold isT at hk
    split at hk <;> first | rfl | exact absurd rfl hn | cases hk
theorem TwF.p13 (h : TwF γ Mo aT X0 X S) {j : Nat} {v : Int64} (hX : X1 = X.set (aT 13) (eL γ 144 (va_up (fun j => S.2.2 13 j) j v))) : TwF γ Mo aT X0 X1 (S.sL 13 j v) := by
  refine h.putA 13 rfl hX ?_ ?_ ?_
  · rw [up_P]
    simp [twA, TS.sL]
  · rfl
  · intro k hk hn
    unfold isT at hk
    split at hk <;> first | rfl | exact absurd rfl hn | cases hk
theorem TwF.p14 (h : TwF γ Mo aT X0 X S) {v : Nat} (hX : X1 = X.set Mo (.inr (1, (twFs aT S).set 14 (.int (nI v))))) : TwF γ Mo aT X0 X1 (S.sN 14 0 v) := by
  refine h.putO hX ?_ ?_
  · rfl
  · intro k hk
    unfold isT at hk
    split at hk <;> first | rfl | cases hk
theorem TwF.p15 (h : TwF γ Mo aT X0 X S) {j : Nat} {v : Int32} (hX : X1 = X.set (aT 15) (eI γ 40 (va_up (fun j => S.2.1 15 j) j v))) : TwF γ Mo aT X0 X1 (S.sI 15 j v) := by
  refine h.putA 15 rfl hX ?_ ?_ ?_
  · rw [up_P]
    simp [twA, TS.sI]
  · rfl
  · intro k hk hn
    unfold isT at hk
    split at hk <;> first | rfl | exact absurd rfl hn | cases hk
theorem TwF.p16 (h : TwF γ Mo aT X0 X S) {j : Nat} {v : Nat} (hX : X1 = X.set (aT 16) (eI γ 40 (va_up (fun j => nI (S.1 16 j)) j (nI v)))) : TwF γ Mo aT X0 X1 (S.sN 16 j v) := by
  refine h.putA 16 rfl hX ?_ ?_ ?_
  · rw [up_N]
    simp [twA, TS.sN]
  · rfl
  · intro k hk hn
    unfold isT at hk
    split at hk <;> first | rfl | exact absurd rfl hn | cases hk
theorem TwF.p17 (h : TwF γ Mo aT X0 X S) {j : Nat} {v : Nat} (hX : X1 = X.set (aT 17) (eI γ 40 (va_up (fun j => nI (S.1 17 j)) j (nI v)))) : TwF γ Mo aT X0 X1 (S.sN 17 j v) := by
  refine h.putA 17 rfl hX ?_ ?_ ?_
  · rw [up_N]
    simp [twA, TS.sN]
  · rfl
  · intro k hk hn
    unfold isT at hk
    split at hk <;> first | rfl | exact absurd rfl hn | cases hk
theorem TwF.p18 (h : TwF γ Mo aT X0 X S) {j : Nat} {v : Int32} (hX : X1 = X.set (aT 18) (eI γ 40 (va_up (fun j => S.2.1 18 j) j v))) : TwF γ Mo aT X0 X1 (S.sI 18 j v) := by
  refine h.putA 18 rfl hX ?_ ?_ ?_
  · rw [up_P]
    simp [twA, TS.sI]
  · rfl
  · intro k hk hn
    unfold isT at hk
    split at hk <;> first | rfl | exact absurd rfl hn | cases hk
theorem TwF.p19 (h : TwF γ Mo aT X0 X S) {j : Nat} {v : Nat} (hX : X1 = X.set (aT 19) (eI γ 40 (va_up (fun j => nI (S.1 19 j)) j (nI v)))) : TwF γ Mo aT X0 X1 (S.sN 19 j v) := by
  refine h.putA 19 rfl hX ?_ ?_ ?_
  · rw [up_N]
    simp [twA, TS.sN]
  · rfl
  · intro k hk hn
    unfold isT at hk
    split at hk <;> first | rfl | exact absurd rfl hn | cases hk
theorem TwF.p20 (h : TwF γ Mo aT X0 X S) {j : Nat} {v : Nat} (hX : X1 = X.set (aT 20) (eI γ 40 (va_up (fun j => nI (S.1 20 j)) j (nI v)))) : TwF γ Mo aT X0 X1 (S.sN 20 j v) := by
  refine h.putA 20 rfl hX ?_ ?_ ?_
  · rw [up_N]
    simp [twA, TS.sN]
  · rfl
  · intro k hk hn
    unfold isT at hk
    split at hk <;> first | rfl | exact absurd rfl hn | cases hk
theorem TwF.p21 (h : TwF γ Mo aT X0 X S) {j : Nat} {v : Nat} (hX : X1 = X.set (aT 21) (eI γ 40 (va_up (fun j => nI (S.1 21 j)) j (nI v)))) : TwF γ Mo aT X0 X1 (S.sN 21 j v) := by
  refine h.putA 21 rfl hX ?_ ?_ ?_
  · rw [up_N]
    simp [twA, TS.sN]
  · rfl
  · intro k hk hn
    unfold isT at hk
    split at hk <;> first | rfl | exact absurd rfl hn | cases hk
theorem TwF.p22 (h : TwF γ Mo aT X0 X S) {j : Nat} {v : Nat} (hX : X1 = X.set (aT 22) (eI γ 40 (va_up (fun j => nI (S.1 22 j)) j (nI v)))) : TwF γ Mo aT X0 X1 (S.sN 22 j v) := by
  refine h.putA 22 rfl hX ?_ ?_ ?_
  · rw [up_N]
    simp [twA, TS.sN]
  · rfl
  · intro k hk hn
    unfold isT at hk
    split at hk <;> first | rfl | exact absurd rfl hn | cases hk
theorem TwF.p23 (h : TwF γ Mo aT X0 X S) {j : Nat} {v : Nat} (hX : X1 = X.set (aT 23) (eI γ 480 (va_up (fun j => nI (S.1 23 j)) j (nI v)))) : TwF γ Mo aT X0 X1 (S.sN 23 j v) := by
  refine h.putA 23 rfl hX ?_ ?_ ?_
  · rw [up_N]
    simp [twA, TS.sN]
  · rfl
  · intro k hk hn
    unfold isT at hk
    split at hk <;> first | rfl | exact absurd rfl hn | cases hk
theorem TwF.p24 (h : TwF γ Mo aT X0 X S) {j : Nat} {v : Nat} (hX : X1 = X.set (aT 24) (eI γ 480 (va_up (fun j => nI (S.1 24 j)) j (nI v)))) : TwF γ Mo aT X0 X1 (S.sN 24 j v) := by
  refine h.putA 24 rfl hX ?_ ?_ ?_
  · rw [up_N]
    simp [twA, TS.sN]
  · rfl
  · intro k hk hn
    unfold isT at hk
    split at hk <;> first | rfl | exact absurd rfl hn | cases hk
theorem TwF.p25 (h : TwF γ Mo aT X0 X S) {v : Nat} (hX : X1 = X.set Mo (.inr (1, (twFs aT S).set 25 (.int (nI v))))) : TwF γ Mo aT X0 X1 (S.sN 25 0 v) := by
  refine h.putO hX ?_ ?_
  · rfl
  · intro k hk
    unfold isT at hk
    split at hk <;> first | rfl | cases hk
theorem TwF.p26 (h : TwF γ Mo aT X0 X S) {j : Nat} {v : Nat} (hX : X1 = X.set (aT 26) (eI γ 41 (va_up (fun j => nI (S.1 26 j)) j (nI v)))) : TwF γ Mo aT X0 X1 (S.sN 26 j v) := by
  refine h.putA 26 rfl hX ?_ ?_ ?_
  · rw [up_N]
    simp [twA, TS.sN]
  · rfl
  · intro k hk hn
    unfold isT at hk
    split at hk <;> first | rfl | exact absurd rfl hn | cases hk
theorem TwF.p27 (h : TwF γ Mo aT X0 X S) {j : Nat} {v : Nat} (hX : X1 = X.set (aT 27) (eI γ 41 (va_up (fun j => nI (S.1 27 j)) j (nI v)))) : TwF γ Mo aT X0 X1 (S.sN 27 j v) := by
  refine h.putA 27 rfl hX ?_ ?_ ?_
  · rw [up_N]
    simp [twA, TS.sN]
  · rfl
  · intro k hk hn
    unfold isT at hk
    split at hk <;> first | rfl | exact absurd rfl hn | cases hk
theorem TwF.p28 (h : TwF γ Mo aT X0 X S) {j : Nat} {v : Nat} (hX : X1 = X.set (aT 28) (eI γ 41 (va_up (fun j => nI (S.1 28 j)) j (nI v)))) : TwF γ Mo aT X0 X1 (S.sN 28 j v) := by
  refine h.putA 28 rfl hX ?_ ?_ ?_
  · rw [up_N]
    simp [twA, TS.sN]
  · rfl
  · intro k hk hn
    unfold isT at hk
    split at hk <;> first | rfl | exact absurd rfl hn | cases hk
theorem TwF.p29 (h : TwF γ Mo aT X0 X S) {j : Nat} {v : Nat} (hX : X1 = X.set (aT 29) (eI γ 41 (va_up (fun j => nI (S.1 29 j)) j (nI v)))) : TwF γ Mo aT X0 X1 (S.sN 29 j v) := by
  refine h.putA 29 rfl hX ?_ ?_ ?_
  · rw [up_N]
    simp [twA, TS.sN]
  · rfl
  · intro k hk hn
    unfold isT at hk
    split at hk <;> first | rfl | exact absurd rfl hn | cases hk
theorem TwF.p30 (h : TwF γ Mo aT X0 X S) {j : Nat} {v : Int32} (hX : X1 = X.set (aT 30) (eZ γ 41 (va_up (fun j => S.2.1 30 j) j v))) : TwF γ Mo aT X0 X1 (S.sI 30 j v) := by
  refine h.putA 30 rfl hX ?_ ?_ ?_
  · rw [up_P]
    simp [twA, TS.sI]
  · rfl
  · intro k hk hn
    unfold isT at hk
    split at hk <;> first | rfl | exact absurd rfl hn | cases hk
theorem TwF.p31 (h : TwF γ Mo aT X0 X S) {j : Nat} {v : Int32} (hX : X1 = X.set (aT 31) (eI γ 8 (va_up (fun j => S.2.1 31 j) j v))) : TwF γ Mo aT X0 X1 (S.sI 31 j v) := by
  refine h.putA 31 rfl hX ?_ ?_ ?_
  · rw [up_P]
    simp [twA, TS.sI]
  · rfl
  · intro k hk hn
    unfold isT at hk
    split at hk <;> first | rfl | exact absurd rfl hn | cases hk
theorem TwF.p32 (h : TwF γ Mo aT X0 X S) {j : Nat} {v : Int32} (hX : X1 = X.set (aT 32) (eI γ 8 (va_up (fun j => S.2.1 32 j) j v))) : TwF γ Mo aT X0 X1 (S.sI 32 j v) := by
  refine h.putA 32 rfl hX ?_ ?_ ?_
  · rw [up_P]
    simp [twA, TS.sI]
  · rfl
  · intro k hk hn
    unfold isT at hk
    split at hk <;> first | rfl | exact absurd rfl hn | cases hk
theorem TwF.p33 (h : TwF γ Mo aT X0 X S) {j : Nat} {v : Int32} (hX : X1 = X.set (aT 33) (eZ γ 20 (va_up (fun j => S.2.1 33 j) j v))) : TwF γ Mo aT X0 X1 (S.sI 33 j v) := by
  refine h.putA 33 rfl hX ?_ ?_ ?_
  · rw [up_P]
    simp [twA, TS.sI]
  · rfl
  · intro k hk hn
    unfold isT at hk
    split at hk <;> first | rfl | exact absurd rfl hn | cases hk
theorem TwF.p34 (h : TwF γ Mo aT X0 X S) {j : Nat} {v : Int64} (hX : X1 = X.set (aT 34) (eL γ 5 (va_up (fun j => S.2.2 34 j) j v))) : TwF γ Mo aT X0 X1 (S.sL 34 j v) := by
  refine h.putA 34 rfl hX ?_ ?_ ?_
  · rw [up_P]
    simp [twA, TS.sL]
  · rfl
  · intro k hk hn
    unfold isT at hk
    split at hk <;> first | rfl | exact absurd rfl hn | cases hk
theorem TwF.p35 (h : TwF γ Mo aT X0 X S) {j : Nat} {v : Nat} (hX : X1 = X.set (aT 35) (eL γ 12 (va_up (fun j => lN (S.1 35 j)) j (lN v)))) : TwF γ Mo aT X0 X1 (S.sN 35 j v) := by
  refine h.putA 35 rfl hX ?_ ?_ ?_
  · rw [up_M]
    simp [twA, TS.sN]
  · rfl
  · intro k hk hn
    unfold isT at hk
    split at hk <;> first | rfl | exact absurd rfl hn | cases hk
theorem TwF.p36 (h : TwF γ Mo aT X0 X S) {j : Nat} {v : Nat} (hX : X1 = X.set (aT 36) (eI γ 12 (va_up (fun j => nI (S.1 36 j)) j (nI v)))) : TwF γ Mo aT X0 X1 (S.sN 36 j v) := by
  refine h.putA 36 rfl hX ?_ ?_ ?_
  · rw [up_N]
    simp [twA, TS.sN]
  · rfl
  · intro k hk hn
    unfold isT at hk
    split at hk <;> first | rfl | exact absurd rfl hn | cases hk
theorem TwF.p37 (h : TwF γ Mo aT X0 X S) {j : Nat} {v : Nat} (hX : X1 = X.set (aT 37) (eI γ 12 (va_up (fun j => nI (S.1 37 j)) j (nI v)))) : TwF γ Mo aT X0 X1 (S.sN 37 j v) := by
  refine h.putA 37 rfl hX ?_ ?_ ?_
  · rw [up_N]
    simp [twA, TS.sN]
  · rfl
  · intro k hk hn
    unfold isT at hk
    split at hk <;> first | rfl | exact absurd rfl hn | cases hk
end Tw
