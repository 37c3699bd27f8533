/-! the calls with loops of their own; what they add up is kept in the store's tag 99 -/
theorem pNet_c {S S' : TS} {b : Nat} (h1 : S'.1 5 b = S.1 5 b) (h2 : ∀ j, S'.2.2 12 j = S.2.2 12 j) : ∀ n, pNet S' b n = pNet S b n
  | 0 => by simp only [pNet]; rw [h1]
  | n + 1 => by simp only [pNet]; rw [pNet_c h1 h2 n, h2]
def pSumC (S : TS) : Nat → Int64
  | 0 => 0
  | n + 1 => pSumC S n + (if S.2.1 30 n = 0 then lN (S.1 26 n) else 0)
def pSumB (S : TS) : Nat → Int64
  | 0 => 0
  | n + 1 => pSumB S n + lN (S.1 5 n)
def pSumO (S : TS) : Nat → Int64
  | 0 => 0
  | n + 1 => pSumO S n + (if S.2.1 15 n = nI 5 then lN (S.1 17 n) else 0)
noncomputable def kSum (w : Int32) : Nat := cif (isN w 8) 0 1
noncomputable def rSum (S : TS) (w : Int32) : Int64 := cif (kSum w = 0) (if ix w < 5 then S.2.2 34 (ix w) else if ix w = 5 then pSumC S (S.1 25 0) else if ix w = 6 then pSumB S (S.1 3 0) else pSumO S (S.1 14 0)) 0
def pLeast (S : TS) (a b c : Nat) : Int64 :=
  if S.2.2 12 (12 * c + a) < (if S.2.2 12 (12 * a + b) < S.2.2 12 (12 * b + c) then S.2.2 12 (12 * a + b) else S.2.2 12 (12 * b + c)) then S.2.2 12 (12 * c + a) else (if S.2.2 12 (12 * a + b) < S.2.2 12 (12 * b + c) then S.2.2 12 (12 * a + b) else S.2.2 12 (12 * b + c))
def pClearS (S : TS) (a b c : Nat) : TS := if 0 < pLeast S a b c then pOweBoth (pOweBoth (pOweBoth S a b (-(pLeast S a b c))) b c (-(pLeast S a b c))) c a (-(pLeast S a b c)) else S
def pClearV (S : TS) (a b c : Nat) : Int64 := if 0 < pLeast S a b c then pLeast S a b c else 0
theorem pClearS_N (S : TS) (a b c : Nat) : (pClearS S a b c).1 = S.1 := by unfold pClearS; split <;> rfl
theorem pClearS_I (S : TS) (a b c : Nat) : (pClearS S a b c).2.1 = S.2.1 := by unfold pClearS; split <;> rfl
def pRing3 (a b c : Nat) (T : TS) : TS := if a = b ∨ b = c ∨ a = c then T else (pClearS T a b c).sL 99 0 (T.2.2 99 0 + pClearV T a b c)
def pRing2 (n a b : Nat) (T : TS) : TS := rep n 0 (pRing3 a b) T
def pRing1 (n a : Nat) (T : TS) : TS := rep n 0 (pRing2 n a) T
def sRing (S : TS) : TS := rep (S.1 3 0) 0 (pRing1 (S.1 3 0)) ((tk S 0).sL 99 0 0)
def rRing (S : TS) : Int64 := (sRing S).2.2 99 0
theorem pRing3_N (a b c : Nat) (T : TS) : (pRing3 a b c T).1 = T.1 := by
  unfold pRing3; split
  · rfl
  · exact pClearS_N T a b c
theorem pRing3_I (a b c : Nat) (T : TS) : (pRing3 a b c T).2.1 = T.2.1 := by
  unfold pRing3; split
  · rfl
  · exact pClearS_I T a b c
theorem rep_N {f : Nat → TS → TS} (hf : ∀ i T, (f i T).1 = T.1) (n k : Nat) (S : TS) : (rep n k f S).1 = S.1 := rep_inv (P := fun T => T.1 = S.1) n k S rfl (fun i T _ _ h => (hf i T).trans h)
theorem rep_I {f : Nat → TS → TS} (hf : ∀ i T, (f i T).2.1 = T.2.1) (n k : Nat) (S : TS) : (rep n k f S).2.1 = S.2.1 := rep_inv (P := fun T => T.2.1 = S.2.1) n k S rfl (fun i T _ _ h => (hf i T).trans h)
theorem pRing2_N (n a b : Nat) (T : TS) : (pRing2 n a b T).1 = T.1 := rep_N (pRing3_N a b) n 0 T
theorem pRing2_I (n a b : Nat) (T : TS) : (pRing2 n a b T).2.1 = T.2.1 := rep_I (pRing3_I a b) n 0 T
theorem pRing1_N (n a : Nat) (T : TS) : (pRing1 n a T).1 = T.1 := rep_N (pRing2_N n a) n 0 T
theorem pRing1_I (n a : Nat) (T : TS) : (pRing1 n a T).2.1 = T.2.1 := rep_I (pRing2_I n a) n 0 T
/-- a bit of a set of brokers -/
def bitOf (w b : Nat) : Nat := w / 2 ^ b % 2
def pInq0 (b : Nat) (T : TS) : TS := T.sN 99 0 (T.1 99 0 ||| (if T.2.1 9 b = 0 then 0 else 2 ^ b))
def pInq3 (b o : Nat) (T : TS) : TS := T.sN 99 0 (T.1 99 0 ||| (if bitOf (T.1 99 0) b = 1 ∧ ¬ T.2.2 13 (12 * b + o) = 0 then 2 ^ o else 0))
def pInq2 (n b : Nat) (T : TS) : TS := rep n 0 (pInq3 b) T
def pInq1 (n : Nat) (_ : Nat) (T : TS) : TS := rep n 0 (pInq2 n) T
def sInq (S : TS) : TS := rep (S.1 3 0) 0 (pInq1 (S.1 3 0)) (rep (S.1 3 0) 0 pInq0 ((tk S 0).sN 99 0 0))
def rInq (S : TS) : Int32 := nI ((sInq S).1 99 0)
/-- the store but for the marks of tag 99 -/
def eq99 (A B : TS) : Prop := (∀ k, k ≠ 99 → A.1 k = B.1 k) ∧ A.2.1 = B.2.1 ∧ (∀ k, k ≠ 99 → A.2.2 k = B.2.2 k)
theorem eq99.rf (A : TS) : eq99 A A := ⟨fun _ _ => rfl, rfl, fun _ _ => rfl⟩
theorem eq99.tr {A B C : TS} (h : eq99 A B) (g : eq99 B C) : eq99 A C := ⟨fun k hk => (h.1 k hk).trans (g.1 k hk), h.2.1.trans g.2.1, fun k hk => (h.2.2 k hk).trans (g.2.2 k hk)⟩
theorem eq99.sy {A B : TS} (h : eq99 A B) : eq99 B A := ⟨fun k hk => (h.1 k hk).symm, h.2.1.symm, fun k hk => (h.2.2 k hk).symm⟩
theorem eq99.sN (A : TS) (v : Nat) : eq99 (A.sN 99 0 v) A := ⟨fun k hk => by funext i; exact if_neg (fun q => hk q.1), rfl, fun _ _ => rfl⟩
theorem eq99.sL (A : TS) (v : Int64) : eq99 (A.sL 99 0 v) A := ⟨fun _ _ => rfl, rfl, fun k hk => by funext i; exact if_neg (fun q => hk q.1)⟩
theorem pInq3_99 (b o : Nat) (T : TS) : eq99 (pInq3 b o T) T := eq99.sN _ _
theorem eq99.rep {f : Nat → TS → TS} (hf : ∀ i T, eq99 (f i T) T) (n k : Nat) (S : TS) : eq99 (rep n k f S) S := rep_inv (P := fun T => eq99 T S) n k S (eq99.rf S) (fun i T _ _ h => (hf i T).tr h)
theorem pInq2_99 (n b : Nat) (T : TS) : eq99 (pInq2 n b T) T := eq99.rep (pInq3_99 b) n 0 T
theorem pInq1_99 (n b : Nat) (T : TS) : eq99 (pInq1 n b T) T := eq99.rep (pInq2_99 n) n 0 T
theorem WF.eq99 {K : Nat} {S T : TS} (h : WF K S) (e : eq99 T S) : WF K T := by
  obtain ⟨e1, e2, -⟩ := e
  refine ⟨?_, fun b hb => ?_, ?_, fun o ho => ?_, fun c hc => ?_, by rw [e2]; exact h.fest, by rw [e2]; exact h.bits⟩
  · rw [e1 3 (by omega), e1 14 (by omega), e1 25 (by omega), e1 1 (by omega)]; exact h.1
  · obtain ⟨a1, a2, a3, a4, a5⟩ := h.2.1 b hb
    rw [e1 4 (by omega), e1 6 (by omega), e1 8 (by omega), e2]
    exact ⟨a1, a2, a3, a4, by rw [← e2]; exact cashp_c (S := S) a5 (by rw [e1 5 (by omega)]; exact Nat.le_refl _) (by rw [e1 25 (by omega)]) (fun c _ => ⟨by rw [e2], by rw [e1 28 (by omega)], by rw [e1 26 (by omega)]⟩)⟩
  · rw [e1 10 (by omega)]; exact h.2.2.1
  · rw [e1 14 (by omega)] at ho
    have hw := h.2.2.2.1 o ho
    unfold wOrd at hw ⊢
    rw [e1 22 (by omega), e1 21 (by omega), e1 16 (by omega), e1 17 (by omega), e1 20 (by omega), e1 1 (by omega), e1 23 (by omega), e1 3 (by omega), e1 24 (by omega), e1 19 (by omega), e2]
    exact hw
  · rw [e1 25 (by omega)] at hc
    have hw := h.2.2.2.2.1 c hc
    unfold wCou at hw ⊢
    rw [e1 26 (by omega), e1 27 (by omega), e1 28 (by omega), e1 3 (by omega), e1 29 (by omega)]
    exact hw
section Tw99
variable {γ : Gm} {Mo : Nat} {aT : Nat → Nat} {X0 X : Sh} {S T : TS}
theorem twFs_99 (e : eq99 T S) : twFs aT T = twFs aT S := by
  obtain ⟨e1, e2, -⟩ := e
  unfold twFs
  rw [e1 1 (by omega), e1 3 (by omega), e1 14 (by omega), e1 25 (by omega), e2]
theorem twA_99 (e : eq99 T S) (k : Nat) (hk : isT k = true) : twA γ T k = twA γ S k := by
  obtain ⟨e1, e2, e3⟩ := e
  unfold isT at hk
  split at hk <;> first | (cases hk; done) | (simp only [twA]; first | rw [e1 _ (by omega)] | rw [e2] | rw [e3 _ (by omega)])
theorem TwF.to99 (h : TwF γ Mo aT X0 X S) (e : eq99 T S) : TwF γ Mo aT X0 X T := by
  obtain ⟨⟨h1, h2, h3⟩, h4⟩ := h
  exact ⟨⟨by rw [twFs_99 e]; exact h1, fun k hk => by rw [twA_99 e k hk]; exact h2 k hk, h3⟩, h4⟩
end Tw99
