/-! what the calls answer (k: the place of what is thrown, 0 for none), and what they make of the store -/
noncomputable def cif {α : Type} (P : Prop) (a b : α) : α := @ite _ P (Classical.propDecidable P) a b
theorem cif_t {α : Type} {P : Prop} {a b : α} (h : P) : cif P a b = a := if_pos h
theorem cif_f {α : Type} {P : Prop} {a b : α} (h : ¬ P) : cif P a b = b := if_neg h
def ix (x : Int32) : Nat := x.toNatClampNeg
theorem ix_nI {n : Nat} (h : n < 2 ^ 31) : ix (nI n) = n := nI_clamp h
theorem WF.thrown {K : Nat} {S : TS} (h : WF K S) (v : Int32) : WF K (S.sI 0 0 v) := by
  refine ⟨h.1, fun b hb => ?_, h.2.2.1, fun o ho => wOrd_g rfl (h.2.2.2.1 o ho), h.2.2.2.2.1, h.2.2.2.2.2.1, h.2.2.2.2.2.2⟩
  obtain ⟨a1, a2, a3, a4, a5⟩ := h.2.1 b hb
  exact ⟨a1, a2, a3, a4, cashp_c (S := S) a5 (Nat.le_refl _) rfl (fun c _ => ⟨rfl, rfl, rfl⟩)⟩
/-- the mark of what is thrown -/
def tk (S : TS) (k : Nat) : TS := S.sI 0 0 (nI k)
noncomputable def kPass (h : Int32) : Nat := cif (isR1 h 500) 0 1
noncomputable def sPass (S : TS) (h : Int32) : TS := cif (kPass h = 0) (pPass (ix h) (tk S 0)) (tk S (kPass h))
noncomputable def rPass (S : TS) (h : Int32) : Int32 := cif (kPass h = 0) (nI (S.1 1 0 + ix h)) (nI 0)
noncomputable def kBroker (S : TS) (a b c : Int32) : Nat := cif (¬ isN a 8) 1 (cif (¬ (isN b 1000001 ∧ isN c 101)) 2 (cif (S.1 3 0 = 12) 3 0))
noncomputable def sBroker (S : TS) (a b c : Int32) : TS := cif (kBroker S a b c = 0) (((((tk S 0).sN 4 (S.1 3 0) (ix a)).sN 5 (S.1 3 0) (ix b)).sN 6 (S.1 3 0) (ix c)).sN 3 0 (S.1 3 0 + 1)) (tk S (kBroker S a b c))
noncomputable def rBroker (S : TS) (a b c : Int32) : Int32 := cif (kBroker S a b c = 0) (nI (S.1 3 0)) (nI 0)
noncomputable def kRate (S : TS) (b c : Int32) : Nat := cif (¬ isN b (S.1 3 0)) 1 (cif (isN c 101) 0 2)
noncomputable def sRate (S : TS) (b c : Int32) : TS := cif (kRate S b c = 0) ((tk S 0).sN 6 (ix b) (ix c)) (tk S (kRate S b c))
noncomputable def rRate (S : TS) (b c : Int32) : Int32 := cif (kRate S b c = 0) (nI (S.1 6 (ix b))) (nI 0)
noncomputable def kTrust (S : TS) (a b c : Int32) : Nat := cif (¬ (isN a (S.1 3 0) ∧ isN b (S.1 3 0))) 1 (cif (a ≠ b ∧ isN c 1000001) 0 2)
noncomputable def sTrust (S : TS) (a b c d : Int32) : TS := cif (kTrust S a b c = 0) (((tk S 0).sN 10 (12 * ix a + ix b) (ix c)).sI 11 (12 * ix a + ix b) d) (tk S (kTrust S a b c))
def rFest (S : TS) : Int32 := if S.2.1 2 0 = 0 then nI 1 else nI 0
def sFest (S : TS) : TS := (tk S 0).sI 2 0 (rFest S)
noncomputable def kLaw (a b : Int32) : Nat := cif (¬ isN a 8) 1 (cif (isN b 1000001) 0 2)
noncomputable def sLaw (S : TS) (a b : Int32) : TS := cif (kLaw a b = 0) ((tk S 0).sI 31 (ix a) b) (tk S (kLaw a b))
noncomputable def rLaw (S : TS) (a b : Int32) : Int32 := cif (kLaw a b = 0) (S.2.1 32 (ix a)) (nI 0)
noncomputable def kList (a : Int32) : Nat := cif (isN a 20) 0 1
noncomputable def rList (S : TS) (a : Int32) : Int32 := cif (kList a = 0) (if S.2.1 33 (ix a) = 0 then nI 1 else nI 0) (nI 0)
noncomputable def sList (S : TS) (a : Int32) : TS := cif (kList a = 0) ((tk S 0).sI 33 (ix a) (rList S a)) (tk S (kList a))
noncomputable def kTwo (S : TS) (a b : Int32) : Nat := cif (isN a (S.1 3 0) ∧ isN b (S.1 3 0)) 0 1
noncomputable def rDebt (S : TS) (a b d : Int32) : Int64 := cif (kTwo S a b = 0) (if d = 0 then S.2.2 12 (12 * ix a + ix b) else S.2.2 13 (12 * ix a + ix b)) 0
noncomputable def rAgree (S : TS) (a b : Int32) : Int32 := b2 (kTwo S a b = 0 ∧ S.2.2 13 (12 * ix a + ix b) = -(S.2.2 13 (12 * ix b + ix a)))
def pNet (S : TS) (b : Nat) : Nat → Int64
  | 0 => lN (S.1 5 b)
  | n + 1 => pNet S b n - S.2.2 12 (12 * b + n)
noncomputable def kOf (S : TS) (b w : Int32) : Nat := cif (¬ isN b (S.1 3 0)) 1 (cif (isN w 4) 0 2)
noncomputable def rOf (S : TS) (b w : Int32) : Int64 := cif (kOf S b w = 0) (if w = 0 then (S.2.1 7 (ix b)).toInt64 else if w = nI 1 then lN (S.1 5 (ix b)) else if w = nI 2 then lN (S.1 4 (ix b)) else pNet S (ix b) (S.1 3 0)) 0
noncomputable def kWayOf (S : TS) (o p : Int32) : Nat := cif (isN o (S.1 14 0) ∧ ¬ p < 0) 0 1
noncomputable def rWayOf (S : TS) (o p : Int32) : Int32 := cif (kWayOf S o p = 0) (if S.1 22 (ix o) ≤ ix p then -1 else nI (S.1 23 (12 * ix o + ix p))) (nI 0)
noncomputable def kOrderOf (S : TS) (o w : Int32) : Nat := cif (¬ isN o (S.1 14 0)) 1 (cif (isN w 6) 0 2)
noncomputable def rOrderOf (S : TS) (o w : Int32) : Int32 := cif (kOrderOf S o w = 0) (if w = nI 0 then S.2.1 15 (ix o) else if w = nI 1 then nI (S.1 16 (ix o)) else if w = nI 2 then nI (S.1 17 (ix o)) else if w = nI 3 then nI (S.1 21 (ix o)) else if w = nI 4 then nI (S.1 19 (ix o)) else nI (S.1 20 (ix o))) (nI 0)
noncomputable def kPay (S : TS) (a b m : Int32) : Nat := cif (¬ (isN a (S.1 3 0) ∧ isN b (S.1 3 0))) 1 (cif (¬ (¬ a = b ∧ isR1 m 1000000)) 2 (cif (S.2.1 7 (ix a) = 0 ∧ S.2.1 7 (ix b) = 0 ∧ ¬ S.2.2 12 (12 * ix a + ix b) < lN (ix m) ∧ ¬ S.1 5 (ix a) < ix m) 0 3))
noncomputable def sPay (S : TS) (a b m : Int32) : TS := cif (kPay S a b m = 0) (pOweBoth (((tk S 0).sN 5 (ix a) (S.1 5 (ix a) - ix m)).sN 5 (ix b) (S.1 5 (ix b) + ix m)) (ix a) (ix b) (-(lN (ix m)))) (tk S (kPay S a b m))
noncomputable def rPay (S : TS) (a b m : Int32) : Int32 := cif (kPay S a b m = 0) ((sPay S a b m).2.2 12 (12 * ix a + ix b)).toInt32 (nI 0)
noncomputable def kDel (S : TS) (a b m : Int32) : Nat := cif (¬ (isN a (S.1 3 0) ∧ isN b (S.1 3 0))) 1 (cif (¬ (¬ a = b ∧ isR1 m 1000000)) 2 (cif (¬ S.2.1 7 (ix a) = nI 2 ∧ ¬ S.2.1 7 (ix b) = nI 2 ∧ ¬ S.2.2 12 (12 * ix a + ix b) < lN (ix m)) 0 3))
noncomputable def sDel (S : TS) (a b m : Int32) : TS := cif (kDel S a b m = 0) (pOweBoth (tk S 0) (ix a) (ix b) (-(lN (ix m)))) (tk S (kDel S a b m))
noncomputable def rDel (S : TS) (a b m : Int32) : Int32 := cif (kDel S a b m = 0) ((sDel S a b m).2.2 12 (12 * ix a + ix b)).toInt32 (nI 0)
noncomputable def kCou (S : TS) (a b m h : Int32) : Nat := cif (¬ (isN a (S.1 3 0) ∧ isN b (S.1 3 0))) 1 (cif (¬ (¬ a = b ∧ isR1 m 1000000 ∧ isR1 h 500)) 2 (cif (¬ 40 ≤ S.1 25 0 ∧ S.2.1 7 (ix a) = 0 ∧ ¬ S.1 5 (ix a) < ix m) 0 3))
noncomputable def sCou (S : TS) (a b m h : Int32) : TS := cif (kCou S a b m h = 0) (((((((tk S 0).sN 5 (ix a) (S.1 5 (ix a) - ix m)).sN 26 (S.1 25 0) (ix m)).sN 27 (S.1 25 0) (ix a)).sN 28 (S.1 25 0) (ix b)).sN 29 (S.1 25 0) (S.1 1 0 + ix h)).sN 25 0 (S.1 25 0 + 1)) (tk S (kCou S a b m h))
noncomputable def rCou (S : TS) (a b m h : Int32) : Int32 := cif (kCou S a b m h = 0) (nI (S.1 25 0)) (nI 0)
noncomputable def kRob (S : TS) (c : Int32) : Nat := cif (¬ isN c (S.1 25 0)) 1 (cif (S.2.1 30 (ix c) = 0) 0 2)
noncomputable def sRob (S : TS) (c : Int32) : TS := cif (kRob S c = 0) (((tk S 0).sI 30 (ix c) (nI 1)).sL 34 3 (S.2.2 34 3 + lN (S.1 26 (ix c)))) (tk S (kRob S c))
noncomputable def rRob (S : TS) (c : Int32) : Int32 := cif (kRob S c = 0) (nI (S.1 26 (ix c))) (nI 0)
