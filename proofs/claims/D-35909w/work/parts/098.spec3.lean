/-! orders, blows: what they make of the store -/
def pLay1 (o f k : Nat) (T : TS) : TS := T.sN 23 (12 * o + f + k) (T.1 37 k)
def pLay2 (o f k : Nat) (T : TS) : TS := pOweOn (T.sN 24 (12 * o + f + k) (T.1 16 o + T.1 35 (T.1 37 (k + 1)))) o (f + k) 1
def pLay (S : TS) (o f n : Nat) : TS := rep (n - 1) 0 (pLay2 o f) (rep n 0 (pLay1 o f) (S.sN 22 o (f + n)))
def pMask (T : TS) (o : Nat) : Nat → Nat
  | 0 => 0
  | k + 1 => pMask T o k ||| 2 ^ T.1 23 (12 * o + k)
noncomputable def pElsF (o : Nat) (T : TS) : TS := pFind (pTB T o (T.1 21 o)) (T.1 23 (12 * o + T.1 21 o)) (T.1 23 (12 * o + (T.1 22 o - 1))) (T.1 16 o) (pMask T o (T.1 21 o))
noncomputable def pElsN (o : Nat) (T : TS) : Nat := pLen (pTB T o (T.1 21 o)) (T.1 23 (12 * o + T.1 21 o)) (T.1 23 (12 * o + (T.1 22 o - 1))) (T.1 16 o) (pMask T o (T.1 21 o))
noncomputable def pElse (o : Nat) (T : TS) : TS :=
  cif (0 < pElsN o T ∧ (pElsF o T).1 35 ((pElsF o T).1 37 1) ≤ T.1 24 (12 * o + T.1 21 o) - T.1 16 o) (pLay (pElsF o T) o (T.1 21 o) (pElsN o T))
    ((pGoBack ((pElsF o T).sN 22 o (T.1 21 o + 1)) o).sN 22 o (T.1 22 o))
noncomputable def pFail (b o : Nat) (T : TS) : TS := cif (T.2.1 15 o = 0 ∧ nI (T.1 21 o) < pPlace T o b (T.1 22 o)) (pElse o T) T
noncomputable def pFails (b : Nat) (S : TS) : TS := rep (S.1 14 0) 0 (pFail b) S
noncomputable def pBrk (b o : Nat) (T : TS) : TS :=
  cif (T.1 23 (12 * o) = b ∧ (T.2.1 15 o = 0 ∨ T.2.1 15 o = nI 3)) ((((if T.2.1 15 o = 0 then pTB T o 0 else T)).sI 15 o (nI 5)).sN 99 0 (T.1 99 0 + 1)) T
noncomputable def kBrk (S : TS) (b : Int32) : Nat := cif (¬ isN b (S.1 3 0)) 1 (cif (S.2.1 7 (ix b) = nI 2) 2 0)
noncomputable def pBrks (S : TS) (b : Nat) : TS := rep (S.1 14 0) 0 (pBrk b) (((tk S 0).sI 7 b (nI 2)).sN 99 0 0)
noncomputable def sBrk (S : TS) (b : Int32) : TS := cif (kBrk S b = 0) (pFails (ix b) (pBrks S (ix b))) (tk S (kBrk S b))
noncomputable def rBrk (S : TS) (b : Int32) : Int32 := cif (kBrk S b = 0) (nI ((pBrks S (ix b)).1 99 0)) (nI 0)
noncomputable def kRaid (S : TS) (b : Int32) : Nat := cif (¬ isN b (S.1 3 0)) 1 (cif (S.2.1 7 (ix b) = 0) 0 2)
def pRaid (S : TS) (b : Nat) : TS := ((((((tk S 0).sN 5 b 0).sL 34 4 (S.2.2 34 4 + lN (S.1 5 b))).sI 7 b (nI 1)).sN 8 b (S.1 1 0 + 720)).sI 9 b (nI 1))
noncomputable def sRaid (S : TS) (b : Int32) : TS := cif (kRaid S b = 0) (pFails (ix b) (pRaid S (ix b))) (tk S (kRaid S b))
noncomputable def rRaid (S : TS) (b : Int32) : Int32 := cif (kRaid S b = 0) (nI (S.1 5 (ix b))) (nI 0)
def oAre (S : TS) (a b nm : Int32) : Prop := (isN a (S.1 3 0) ∧ isN b (S.1 3 0)) ∧ isN nm 20
def oRt (a b m cd : Int32) : Prop := a ≠ b ∧ isR1 m 1000000 ∧ isN cd 10000
def oCan (S : TS) (nm : Int32) : Prop := S.1 14 0 < 40 ∧ S.2.1 33 (ix nm) = 0
noncomputable def kOrd (S : TS) (a b m nm cd : Int32) : Nat := cif (¬ oAre S a b nm) 1 (cif (¬ oRt a b m cd) 2 (cif (oCan S nm ∧ 0 < pLen S (ix a) (ix b) (ix m) 0) 0 3))
noncomputable def pOrd (S : TS) (a m : Nat) (cd : Int32) : TS :=
  (((((((S.sN 14 0 (S.1 14 0 + 1)).sI 15 (S.1 14 0) (nI 0)).sN 16 (S.1 14 0) m).sN 17 (S.1 14 0) (m + S.1 35 a)).sI 18 (S.1 14 0) cd).sN 20 (S.1 14 0) (S.1 1 0)).sN 5 a (S.1 5 a + (m + S.1 35 a))).sL 34 0 (S.2.2 34 0 + lN (m + S.1 35 a))
noncomputable def pTold (S : TS) (a m : Nat) : TS := S.sI 32 (S.1 4 a) (S.2.1 32 (S.1 4 a) + (if nI m ≤ S.2.1 31 (S.1 4 a) then nI 0 else nI 1))
noncomputable def sOrd (S : TS) (a b m nm cd : Int32) : TS :=
  cif (kOrd S a b m nm cd = 0) (pTold (pLay (pOrd (tk (pFind S (ix a) (ix b) (ix m) 0) 0) (ix a) (ix m) cd) (S.1 14 0) 0 (pLen S (ix a) (ix b) (ix m) 0)) (ix a) (ix m))
    (cif (oAre S a b nm ∧ oRt a b m cd ∧ oCan S nm) (tk (pFind S (ix a) (ix b) (ix m) 0) (kOrd S a b m nm cd)) (tk S (kOrd S a b m nm cd)))
noncomputable def rOrd (S : TS) (a b m nm cd : Int32) : Int32 := cif (kOrd S a b m nm cd = 0) (nI (S.1 14 0)) (nI 0)
def oLast (S : TS) (o : Nat) : Nat := S.1 23 (12 * o + (S.1 22 o - 1))
noncomputable def kFet (S : TS) (o c : Int32) : Nat := cif (¬ isN o (S.1 14 0)) 1 (cif (¬ isN c 10000) 2 (cif (S.2.1 15 (ix o) = nI 1 ∧ S.2.1 7 (oLast S (ix o)) = 0 ∧ ¬ S.1 5 (oLast S (ix o)) < S.1 16 (ix o)) 0 3))
noncomputable def pFet (S : TS) (o : Nat) (c : Int32) : TS :=
  cif (c = S.2.1 18 o) (((S.sN 5 (oLast S o) (S.1 5 (oLast S o) - S.1 16 o)).sL 34 1 (S.2.2 34 1 + lN (S.1 16 o))).sI 15 o (nI 2))
    (cif (S.1 19 o + 1 = 3) (pGoBack (S.sN 19 o (S.1 19 o + 1)) o) (S.sN 19 o (S.1 19 o + 1)))
noncomputable def sFet (S : TS) (o c : Int32) : TS := cif (kFet S o c = 0) (pFet (tk S 0) (ix o) c) (tk S (kFet S o c))
noncomputable def rFet (S : TS) (o c : Int32) : Int32 := cif (kFet S o c = 0) ((sFet S o c).2.1 15 (ix o)) (nI 0)
noncomputable def kWay (S : TS) (a b m p : Int32) : Nat := cif (¬ ((isN a (S.1 3 0) ∧ isN b (S.1 3 0)) ∧ ¬ p < 0)) 1 (cif (a ≠ b ∧ isR1 m 1000000) 0 2)
noncomputable def sWay (S : TS) (a b m p : Int32) : TS := cif (kWay S a b m p = 0) (pFind (tk S 0) (ix a) (ix b) (ix m) 0) (tk S (kWay S a b m p))
noncomputable def rWay (S : TS) (a b m p : Int32) : Int32 := cif (kWay S a b m p = 0) (cif (ix p < pLen (tk S 0) (ix a) (ix b) (ix m) 0) (nI ((sWay S a b m p).1 37 (ix p))) (-1)) (nI 0)
/-! bounds of what is owed -/
theorem sN_o (S : TS) {k a : Nat} (j v : Nat) (h : a ≠ k) : (S.sN k j v).1 a = S.1 a := by
  funext i; exact if_neg (fun q => h q.1)
def OW (B : Nat) (S : TS) : Prop := ∀ i, -(B : Int) ≤ (S.2.2 12 i).toInt ∧ (S.2.2 12 i).toInt ≤ B
theorem OW.OB {B : Nat} {S : TS} (h : OW B S) (hB : B ≤ 2 ^ 60) : OB S := fun i => by have := h i; omega
theorem OW.up {B C : Nat} {S : TS} (h : OW B S) (hC : B ≤ C) : OW C S := fun i => by have := h i; omega
theorem OW.eq {B : Nat} {S T : TS} (h : OW B S) (e : T.2.2 12 = S.2.2 12) : OW B T := by unfold OW; rw [e]; exact h
theorem OW.owe {B c : Nat} {S : TS} (h : OW B S) (hB : B + c ≤ 2 ^ 61) (k i : Nat) (m : Int64) (h1 : -(c : Int) ≤ m.toInt) (h2 : m.toInt ≤ c) : OW (B + c) (pOwe S k i m) := by
  intro j
  by_cases e : 12 = k ∧ j = i
  · obtain ⟨rfl, rfl⟩ := e
    have hj := h j
    have : (pOwe S 12 j m).2.2 12 j = S.2.2 12 j + m := sL_eq _ _ _ _
    rw [this, Int64.toInt_add, Int.bmod_def]
    omega
  · have hj := h j
    have : (pOwe S k i m).2.2 12 j = S.2.2 12 j := if_neg e
    rw [this]
    omega
theorem neg_bd {c : Nat} {m : Int64} (hc : c ≤ 2 ^ 61) (h1 : -(c : Int) ≤ m.toInt) (h2 : m.toInt ≤ c) : -(c : Int) ≤ (-m).toInt ∧ (-m).toInt ≤ c := by
  rw [Int64.toInt_neg, Int.bmod_def]
  omega
theorem OW.both {B c : Nat} {S : TS} (h : OW B S) (hB : B + 4 * c ≤ 2 ^ 61) (a b : Nat) (m : Int64) (h1 : -(c : Int) ≤ m.toInt) (h2 : m.toInt ≤ c) : OW (B + 4 * c) (pOweBoth S a b m) := by
  have hn := neg_bd (by omega) h1 h2
  unfold pOweBoth
  refine OW.up ((((h.owe (c := c) ?_ 12 (12 * a + b) m h1 h2).owe (c := c) ?_ 12 (12 * b + a) (-m) hn.1 hn.2).owe (c := c) ?_ 13 (12 * a + b) m h1 h2).owe (c := c) ?_ 13 (12 * b + a) (-m) hn.1 hn.2) ?_ <;> omega
theorem OW.three {B c : Nat} {S : TS} (h : OW B S) (hB : B + 3 * c ≤ 2 ^ 61) (a b : Nat) (m : Int64) (h1 : -(c : Int) ≤ m.toInt) (h2 : m.toInt ≤ c) : OW (B + 3 * c) (pOwe3 S a b m) := by
  have hn := neg_bd (by omega) h1 h2
  unfold pOwe3
  refine OW.up (((h.owe (c := c) ?_ 12 (12 * a + b) m h1 h2).owe (c := c) ?_ 12 (12 * b + a) (-m) hn.1 hn.2).owe (c := c) ?_ 13 (12 * a + b) m h1 h2) ?_ <;> omega
theorem sg_bd {sg : Int32} (hs : sg = nI 1 ∨ sg = -1) {m c : Nat} (hc : c ≤ 2 ^ 40) (hm : m ≤ c) : -(c : Int) ≤ (sg.toInt64 * lN m).toInt ∧ (sg.toInt64 * lN m).toInt ≤ c := by
  have h2 : (lN m).toInt = (m : Int) := pk_lT (by omega)
  have h3 : ((sg.toInt64).toInt = 1) ∨ ((sg.toInt64).toInt = -1) := by
    rcases hs with rfl | rfl
    · exact Or.inl (by decide)
    · exact Or.inr (by decide)
  rw [Int64.toInt_mul, h2]
  rcases h3 with h3 | h3 <;> (rw [h3, Int.bmod_def]; omega)
theorem OW.oweOnc {B c : Nat} {S : TS} (h : OW B S) (hc : c ≤ 2 ^ 40) (hB : B + 4 * c ≤ 2 ^ 61) (o k : Nat) {sg : Int32} (hs : sg = nI 1 ∨ sg = -1) (hm : S.1 24 (12 * o + k) ≤ c) : OW (B + 4 * c) (pOweOn S o k sg) := by
  obtain ⟨h1, h2⟩ := sg_bd hs hc hm
  have hn := neg_bd (by omega) h1 h2
  unfold pOweOn
  split
  · exact OW.up ((h.three (c := c) (by omega) _ _ _ h1 h2).owe (c := c) (by omega) 13 _ _ hn.1 hn.2) (by omega)
  · exact OW.up (h.three (c := c) (by omega) _ _ _ h1 h2) (by omega)
theorem OW.oweOn {B : Nat} {S : TS} (h : OW B S) (hB : B + 16000000 ≤ 2 ^ 61) (o k : Nat) {sg : Int32} (hs : sg = nI 1 ∨ sg = -1) (hm : S.1 24 (12 * o + k) ≤ 4000000) : OW (B + 16000000) (pOweOn S o k sg) :=
  (h.oweOnc (c := 4000000) (by omega) (by omega) o k hs hm).up (by omega)
theorem OW.tb {B : Nat} {S : TS} (h : OW B S) (hB : B + 192000000 ≤ 2 ^ 61) (o k : Nat) (hn : S.1 22 o ≤ 12) (hm : ∀ j, j + 1 < S.1 22 o → S.1 24 (12 * o + j) ≤ 4000000) : OW (B + 192000000) (pTB S o k) := by
  unfold pTB
  by_cases q : k ≤ S.1 22 o - 1
  · have := rep_inv2 (P := fun i T => T.1 = S.1 ∧ OW (B + 16000000 * (i - k)) T) (f := fun j S => pOweOn S o j (-1)) (S.1 22 o - 1 - k) k S ⟨rfl, h.up (by omega)⟩ (fun i T h1 h2 h3 => by
      refine ⟨(pOweOn_N T o i (-1)).trans h3.1, ?_⟩
      exact OW.up (h3.2.oweOn (by omega) o i (Or.inr rfl) (by rw [h3.1]; exact hm i (by omega))) (by omega))
    exact this.2.up (by omega)
  · rw [show S.1 22 o - 1 - k = 0 by omega]
    exact h.up (by omega)
theorem OW.goBack {B : Nat} {S : TS} (h : OW B S) (hB : B + 192000000 ≤ 2 ^ 61) (o : Nat) (hn : S.1 22 o ≤ 12) (hm : ∀ j, j + 1 < S.1 22 o → S.1 24 (12 * o + j) ≤ 4000000) : OW (B + 192000000) (pGoBack S o) :=
  (h.tb hB o 0 hn hm).eq rfl
theorem OW.lay {B : Nat} {S : TS} (h : OW B S) (hB : B + 192000000 ≤ 2 ^ 61) (o f n : Nat) (hn : n ≤ 12) (hm : ∀ k, k + 1 < n → S.1 16 o + S.1 35 (S.1 37 (k + 1)) ≤ 4000000) : OW (B + 192000000) (pLay S o f n) := by
  unfold pLay
  have e0 : ∀ m k U, (∀ j, j ≠ 23 → (rep m k (pLay1 o f) U).1 j = U.1 j) ∧ (rep m k (pLay1 o f) U).2 = U.2 := by
    intro m
    induction m with
    | zero => exact fun _ _ => ⟨fun _ _ => rfl, rfl⟩
    | succ m ih => exact fun k U => ⟨fun j hj => ((ih (k + 1) _).1 j hj).trans (by funext i; exact if_neg (fun q => hj q.1)), (ih (k + 1) _).2⟩
  obtain ⟨e1, e2⟩ := e0 n 0 (S.sN 22 o (f + n))
  have hU : OW B (rep n 0 (pLay1 o f) (S.sN 22 o (f + n))) := h.eq (by rw [e2]; rfl)
  have g16 : (rep n 0 (pLay1 o f) (S.sN 22 o (f + n))).1 16 = S.1 16 := by rw [e1 16 (by omega)]; exact sN_o _ _ _ (by omega)
  have g35 : (rep n 0 (pLay1 o f) (S.sN 22 o (f + n))).1 35 = S.1 35 := by rw [e1 35 (by omega)]; exact sN_o _ _ _ (by omega)
  have g37 : (rep n 0 (pLay1 o f) (S.sN 22 o (f + n))).1 37 = S.1 37 := by rw [e1 37 (by omega)]; exact sN_o _ _ _ (by omega)
  have := rep_inv2 (P := fun i T => (T.1 16 = S.1 16 ∧ T.1 35 = S.1 35 ∧ T.1 37 = S.1 37) ∧ OW (B + 16000000 * i) T) (f := pLay2 o f) (n - 1) 0 _ ⟨⟨g16, g35, g37⟩, hU.up (by omega)⟩ (fun i T h1 h2 h3 => by
    obtain ⟨⟨a1, a2, a3⟩, a4⟩ := h3
    have hv : (T.sN 24 (12 * o + f + i) (T.1 16 o + T.1 35 (T.1 37 (i + 1)))).1 24 (12 * o + (f + i)) ≤ 4000000 := by
      rw [show 12 * o + (f + i) = 12 * o + f + i by omega, sN_eq, a1, a2, a3]
      exact hm i (by omega)
    refine ⟨?_, OW.up ((a4.eq (T := T.sN 24 (12 * o + f + i) (T.1 16 o + T.1 35 (T.1 37 (i + 1)))) rfl).oweOn (by omega) o (f + i) (Or.inl rfl) hv) (by omega)⟩
    unfold pLay2
    rw [pOweOn_N]
    exact ⟨(sN_o _ _ _ (by omega)).trans a1, (sN_o _ _ _ (by omega)).trans a2, (sN_o _ _ _ (by omega)).trans a3⟩)
  exact this.2.up (by omega)
