/-! what the reference's methods do to the store -/
/-- f k, f (k+1), .., n of them -/
def rep : Nat → Nat → (Nat → TS → TS) → TS → TS
  | 0, _, _, S => S
  | n + 1, k, f, S => rep n (k + 1) f (f k S)
theorem rep_inv {P : TS → Prop} {f : Nat → TS → TS} : ∀ (n k : Nat) (S : TS), P S → (∀ i S, k ≤ i → i < k + n → P S → P (f i S)) → P (rep n k f S)
  | 0, _, _, h, _ => h
  | n + 1, k, S, h, hs => rep_inv n (k + 1) (f k S) (hs k S (Nat.le_refl _) (by omega) h) (fun i S h1 h2 => hs i S (by omega) (by omega))
/-- .. with the place in the invariant -/
theorem rep_inv2 {P : Nat → TS → Prop} {f : Nat → TS → TS} : ∀ (n k : Nat) (S : TS), P k S → (∀ i S, k ≤ i → i < k + n → P i S → P (i + 1) (f i S)) → P (k + n) (rep n k f S)
  | 0, _, _, h, _ => h
  | n + 1, k, S, h, hs => by
    have := rep_inv2 n (k + 1) (f k S) (hs k S (Nat.le_refl _) (by omega) h) (fun i S h1 h2 => hs i S (by omega) (by omega))
    rw [show k + 1 + n = k + (n + 1) by omega] at this
    exact this
theorem rep_last {f : Nat → TS → TS} : ∀ (n k : Nat) (S : TS), rep (n + 1) k f S = f (k + n) (rep n k f S)
  | 0, _, _ => rfl
  | n + 1, k, S => by
    show rep (n + 1) (k + 1) f (f k S) = f (k + (n + 1)) (rep n (k + 1) f (f k S))
    rw [rep_last n (k + 1) (f k S), show k + 1 + n = k + (n + 1) by omega]
def pOwe (S : TS) (k i : Nat) (more : Int64) : TS := S.sL k i (S.2.2 k i + more)
def pOweBoth (S : TS) (a b : Nat) (more : Int64) : TS := pOwe (pOwe (pOwe (pOwe S 12 (12 * a + b) more) 12 (12 * b + a) (-more)) 13 (12 * a + b) more) 13 (12 * b + a) (-more)
/-- three of the four: the owing one knows, the other perhaps -/
def pOwe3 (S : TS) (a b : Nat) (more : Int64) : TS := pOwe (pOwe (pOwe S 12 (12 * a + b) more) 12 (12 * b + a) (-more)) 13 (12 * a + b) more
def pOweOn (S : TS) (o k : Nat) (sg : Int32) : TS :=
  if k < S.1 21 o then pOwe (pOwe3 S (S.1 23 (12 * o + k)) (S.1 23 (12 * o + k + 1)) (sg.toInt64 * lN (S.1 24 (12 * o + k)))) 13 (12 * S.1 23 (12 * o + k + 1) + S.1 23 (12 * o + k)) (-(sg.toInt64 * lN (S.1 24 (12 * o + k))))
  else pOwe3 S (S.1 23 (12 * o + k)) (S.1 23 (12 * o + k + 1)) (sg.toInt64 * lN (S.1 24 (12 * o + k)))
theorem pOweOn_N (S : TS) (o k : Nat) (sg : Int32) : (pOweOn S o k sg).1 = S.1 := by unfold pOweOn; split <;> rfl
theorem pOweOn_I (S : TS) (o k : Nat) (sg : Int32) : (pOweOn S o k sg).2.1 = S.2.1 := by unfold pOweOn; split <;> rfl
def pTB (S : TS) (o k : Nat) : TS := rep (S.1 22 o - 1 - k) k (fun j S => pOweOn S o j (-1)) S
theorem pTB_N (S : TS) (o k : Nat) : (pTB S o k).1 = S.1 := rep_inv (P := fun T => T.1 = S.1) _ _ _ rfl (fun i T _ _ h => (pOweOn_N T o i (-1)).trans h)
theorem pTB_I (S : TS) (o k : Nat) : (pTB S o k).2.1 = S.2.1 := rep_inv (P := fun T => T.2.1 = S.2.1) _ _ _ rfl (fun i T _ _ h => (pOweOn_I T o i (-1)).trans h)
def pFee (S : TS) (b amt : Nat) : Nat := amt * S.1 6 b / 1000
noncomputable def pLim (S : TS) (w o : Nat) : Int64 := @ite _ (¬ S.2.1 2 0 = 0 ∧ ¬ S.2.1 11 (12 * w + o) = 0) (Classical.propDecidable _) (2 * lN (S.1 10 (12 * w + o))) (lN (S.1 10 (12 * w + o)))
def pCan (S : TS) (a b amt : Nat) : Prop := a ≠ b ∧ S.1 35 b < 1000000000000 ∧ S.2.2 12 (12 * a + b) + lN amt + lN (S.1 35 b) ≤ pLim S b a
/-- the last place of a broker on a way, as an int; -1 if there is none -/
def pPlace (S : TS) (o b : Nat) : Nat → Int32
  | 0 => -1
  | n + 1 => if S.1 23 (12 * o + n) = b then nI n else pPlace S o b n
def pGoBack (S : TS) (o : Nat) : TS := (pTB S o 0).sI 15 o (if S.2.1 7 (S.1 23 (12 * o)) = nI 2 then nI 5 else nI 3)
def pMove (S : TS) (o : Nat) : TS :=
  ((pOwe (S.sN 21 o (S.1 21 o + 1)) 13 (12 * S.1 23 (12 * o + S.1 21 o + 1) + S.1 23 (12 * o + S.1 21 o)) (-(lN (S.1 24 (12 * o + S.1 21 o)))))).sI 15 o (if S.1 21 o + 2 = S.1 22 o then nI 1 else nI 0)
noncomputable def pCome (c : Nat) (S : TS) : TS :=
  @ite _ (S.2.1 30 c = 0 ∧ S.1 29 c ≤ S.1 1 0) (Classical.propDecidable _)
    (pOweBoth ((S.sI 30 c (nI 1)).sN 5 (S.1 28 c) (S.1 5 (S.1 28 c) + S.1 26 c)) (S.1 27 c) (S.1 28 c) (-(lN (S.1 26 c)))) S
noncomputable def pHeal (b : Nat) (S : TS) : TS := S.sI 7 b (@ite _ (S.2.1 7 b = nI 1 ∧ S.1 8 b ≤ S.1 1 0) (Classical.propDecidable _) (nI 0) (S.2.1 7 b))
def pMoveIf (o : Nat) (S : TS) : TS := if S.2.1 15 o = 0 then pMove S o else S
noncomputable def pOld (o : Nat) (S : TS) : TS := @ite _ ((S.2.1 15 o = 0 ∨ S.2.1 15 o = nI 1) ∧ S.1 20 o + 240 ≤ S.1 1 0) (Classical.propDecidable _) (pGoBack S o) S
noncomputable def pGive (o : Nat) (S : TS) : TS :=
  @ite _ (S.2.1 15 o = nI 3 ∧ S.2.1 7 (S.1 23 (12 * o)) = 0 ∧ S.1 17 o ≤ S.1 5 (S.1 23 (12 * o))) (Classical.propDecidable _)
    (((S.sN 5 (S.1 23 (12 * o)) (S.1 5 (S.1 23 (12 * o)) - S.1 17 o)).sL 34 2 (S.2.2 34 2 + lN (S.1 17 o))).sI 15 o (nI 4)) S
def pH1 (S : TS) : TS := S.sN 1 0 (S.1 1 0 + 1)
noncomputable def pH2 (S : TS) : TS := rep (S.1 3 0) 0 pHeal (pH1 S)
noncomputable def pH3 (S : TS) : TS := rep (S.1 14 0) 0 pMoveIf (pH2 S)
noncomputable def pH4 (S : TS) : TS := rep (S.1 14 0) 0 pOld (pH3 S)
noncomputable def pH5 (S : TS) : TS := rep (S.1 14 0) 0 pGive (pH4 S)
noncomputable def pHour (S : TS) : TS := rep (S.1 25 0) 0 pCome (pH5 S)
noncomputable def pPass (n : Nat) (S : TS) : TS := rep n 0 (fun _ S => pHour S) S
/-- what a broker will get by couriers -/
def pend (f : Nat → Nat → Nat) (g : Nat → Nat → Int32) (b : Nat) : Nat → Nat
  | 0 => 0
  | n + 1 => pend f g b n + (if g 30 n = 0 ∧ f 28 n = b then f 26 n else 0)
/-- an order is in shape -/
def wOrd (f : Nat → Nat → Nat) (g : Nat → Nat → Int32) (o : Nat) : Prop :=
  (2 ≤ f 22 o ∧ f 22 o ≤ 12 ∧ f 21 o < f 22 o) ∧ (1 ≤ f 16 o ∧ f 16 o ≤ 1000000) ∧ f 17 o ≤ 4000000 ∧ f 20 o ≤ f 1 0 ∧
  (∀ k, k < f 22 o → f 23 (12 * o + k) < f 3 0) ∧ (∀ j k, j < f 22 o → k < f 22 o → f 23 (12 * o + j) = f 23 (12 * o + k) → j = k) ∧
  (∀ k, k + 1 < f 22 o → f 16 o ≤ f 24 (12 * o + k) ∧ f 24 (12 * o + k) ≤ 4000000) ∧
  (g 15 o = 0 → f 21 o + 1 < f 22 o) ∧ (g 15 o = nI 1 → f 21 o + 1 = f 22 o) ∧ (g 15 o = 0 ∨ g 15 o = nI 1 → f 19 o ≤ 2) ∧ f 19 o ≤ 3 ∧ ∃ h, h < 6 ∧ g 15 o = nI h
def wCou (f : Nat → Nat → Nat) (c : Nat) : Prop := (1 ≤ f 26 c ∧ f 26 c ≤ 1000000) ∧ f 27 c < f 3 0 ∧ f 28 c < f 3 0 ∧ f 27 c ≠ f 28 c ∧ f 29 c ≤ 40000
def bit01 (x : Int32) : Prop := x = nI 0 ∨ x = nI 1
/-- the store is in shape; no broker has, or will get, more than K -/
def WF (K : Nat) (S : TS) : Prop :=
  (S.1 3 0 ≤ 12 ∧ S.1 14 0 ≤ 40 ∧ S.1 25 0 ≤ 40 ∧ S.1 1 0 ≤ 40000) ∧
  (∀ b, b < 12 → S.1 4 b < 8 ∧ S.1 6 b ≤ 100 ∧ S.1 8 b ≤ 50000 ∧ (∃ h, h < 3 ∧ S.2.1 7 b = nI h) ∧ S.1 5 b + pend S.1 S.2.1 b (S.1 25 0) ≤ K) ∧
  (∀ i, S.1 10 i ≤ 1000000) ∧ (∀ o, o < S.1 14 0 → wOrd S.1 S.2.1 o) ∧ (∀ c, c < S.1 25 0 → wCou S.1 c) ∧
  bit01 (S.2.1 2 0) ∧ (∀ i, bit01 (S.2.1 9 i) ∧ bit01 (S.2.1 11 i) ∧ bit01 (S.2.1 30 i) ∧ bit01 (S.2.1 33 i))
section WFs
variable {K : Nat} {S : TS}
theorem WF.nb (h : WF K S) : S.1 3 0 ≤ 12 := h.1.1
theorem WF.no (h : WF K S) : S.1 14 0 ≤ 40 := h.1.2.1
theorem WF.nc (h : WF K S) : S.1 25 0 ≤ 40 := h.1.2.2.1
theorem WF.hr (h : WF K S) : S.1 1 0 ≤ 40000 := h.1.2.2.2
theorem WF.town (h : WF K S) {b : Nat} (hb : b < 12) : S.1 4 b < 8 := (h.2.1 b hb).1
theorem WF.rate (h : WF K S) {b : Nat} (hb : b < 12) : S.1 6 b ≤ 100 := (h.2.1 b hb).2.1
theorem WF.until' (h : WF K S) {b : Nat} (hb : b < 12) : S.1 8 b ≤ 50000 := (h.2.1 b hb).2.2.1
theorem WF.stt (h : WF K S) {b : Nat} (hb : b < 12) : ∃ q, q < 3 ∧ S.2.1 7 b = nI q := (h.2.1 b hb).2.2.2.1
theorem WF.cashp (h : WF K S) {b : Nat} (hb : b < 12) : S.1 5 b + pend S.1 S.2.1 b (S.1 25 0) ≤ K := (h.2.1 b hb).2.2.2.2
theorem WF.cash (h : WF K S) {b : Nat} (hb : b < 12) : S.1 5 b ≤ K := Nat.le_trans (Nat.le_add_right _ _) (h.cashp hb)
theorem WF.lim (h : WF K S) (i : Nat) : S.1 10 i ≤ 1000000 := h.2.2.1 i
theorem WF.ord (h : WF K S) {o : Nat} (ho : o < S.1 14 0) : wOrd S.1 S.2.1 o := h.2.2.2.1 o ho
theorem WF.cou (h : WF K S) {c : Nat} (hc : c < S.1 25 0) : wCou S.1 c := h.2.2.2.2.1 c hc
theorem WF.fest (h : WF K S) : bit01 (S.2.1 2 0) := h.2.2.2.2.2.1
theorem WF.bits (h : WF K S) (i : Nat) : bit01 (S.2.1 9 i) ∧ bit01 (S.2.1 11 i) ∧ bit01 (S.2.1 30 i) ∧ bit01 (S.2.1 33 i) := h.2.2.2.2.2.2 i
theorem WF.many (h : WF K S) {o : Nat} (ho : o < S.1 14 0) : 2 ≤ S.1 22 o ∧ S.1 22 o ≤ 12 ∧ S.1 21 o < S.1 22 o := (h.ord ho).1
theorem WF.amt (h : WF K S) {o : Nat} (ho : o < S.1 14 0) : 1 ≤ S.1 16 o ∧ S.1 16 o ≤ 1000000 := (h.ord ho).2.1
theorem WF.gave (h : WF K S) {o : Nat} (ho : o < S.1 14 0) : S.1 17 o ≤ 4000000 := (h.ord ho).2.2.1
theorem WF.since (h : WF K S) {o : Nat} (ho : o < S.1 14 0) : S.1 20 o ≤ S.1 1 0 := (h.ord ho).2.2.2.1
theorem WF.way (h : WF K S) {o k : Nat} (ho : o < S.1 14 0) (hk : k < S.1 22 o) : S.1 23 (12 * o + k) < S.1 3 0 := (h.ord ho).2.2.2.2.1 k hk
theorem WF.inj (h : WF K S) {o j k : Nat} (ho : o < S.1 14 0) (hj : j < S.1 22 o) (hk : k < S.1 22 o) (e : S.1 23 (12 * o + j) = S.1 23 (12 * o + k)) : j = k := (h.ord ho).2.2.2.2.2.1 j k hj hk e
theorem WF.aro (h : WF K S) {o k : Nat} (ho : o < S.1 14 0) (hk : k + 1 < S.1 22 o) : S.1 16 o ≤ S.1 24 (12 * o + k) ∧ S.1 24 (12 * o + k) ≤ 4000000 := (h.ord ho).2.2.2.2.2.2.1 k hk
theorem WF.going (h : WF K S) {o : Nat} (ho : o < S.1 14 0) (g : S.2.1 15 o = 0) : S.1 21 o + 1 < S.1 22 o := (h.ord ho).2.2.2.2.2.2.2.1 g
theorem WF.here (h : WF K S) {o : Nat} (ho : o < S.1 14 0) (g : S.2.1 15 o = nI 1) : S.1 21 o + 1 = S.1 22 o := (h.ord ho).2.2.2.2.2.2.2.2.1 g
theorem WF.try2 (h : WF K S) {o : Nat} (ho : o < S.1 14 0) (g : S.2.1 15 o = 0 ∨ S.2.1 15 o = nI 1) : S.1 19 o ≤ 2 := (h.ord ho).2.2.2.2.2.2.2.2.2.1 g
theorem WF.tries (h : WF K S) {o : Nat} (ho : o < S.1 14 0) : S.1 19 o ≤ 3 := (h.ord ho).2.2.2.2.2.2.2.2.2.2.1
theorem WF.how (h : WF K S) {o : Nat} (ho : o < S.1 14 0) : ∃ q, q < 6 ∧ S.2.1 15 o = nI q := (h.ord ho).2.2.2.2.2.2.2.2.2.2.2
theorem WF.wayB (h : WF K S) {o k : Nat} (ho : o < S.1 14 0) (hk : k < S.1 22 o) : S.1 23 (12 * o + k) < 12 := Nat.lt_of_lt_of_le (h.way ho hk) h.nb
/-- only longs have changed -/
theorem WF.long (h : WF K S) {S' : TS} (h1 : S'.1 = S.1) (h2 : S'.2.1 = S.2.1) : WF K S' := by
  unfold WF
  rw [h1, h2]
  exact h
theorem WF.mono (h : WF K S) {K' : Nat} (hk : K ≤ K') : WF K' S := ⟨h.1, fun b hb => ⟨(h.2.1 b hb).1, (h.2.1 b hb).2.1, (h.2.1 b hb).2.2.1, (h.2.1 b hb).2.2.2.1, Nat.le_trans (h.2.1 b hb).2.2.2.2 hk⟩, h.2.2⟩
end WFs
