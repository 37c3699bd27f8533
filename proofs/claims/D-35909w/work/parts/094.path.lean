/-! the way along the least labels -/
noncomputable def pFst (P : Nat → Prop) : Nat → Nat → Int32
  | _, 0 => -1
  | k, m + 1 => cif (P k) (nI k) (pFst P (k + 1) m)
theorem pFst_ex {P : Nat → Prop} : ∀ (m k : Nat), (∃ b, k ≤ b ∧ b < k + m ∧ P b) → ∃ b, k ≤ b ∧ b < k + m ∧ P b ∧ (∀ j, k ≤ j → j < b → ¬ P j) ∧ pFst P k m = nI b
  | 0, k, h => by obtain ⟨b, h1, h2, -⟩ := h; omega
  | m + 1, k, h => by
    by_cases q : P k
    · exact ⟨k, Nat.le_refl _, by omega, q, fun j a b => by omega, cif_t q⟩
    · obtain ⟨b, h1, h2, h3⟩ := h
      have : k ≠ b := fun e => q (e ▸ h3)
      obtain ⟨c, a1, a2, a3, a4, a5⟩ := pFst_ex m (k + 1) ⟨b, by omega, by omega, h3⟩
      refine ⟨c, by omega, by omega, a3, fun j b1 b2 => ?_, (cif_f q).trans a5⟩
      by_cases e : j = k
      · subst e; exact q
      · exact a4 j (by omega) b2
def wNext (T : TS) (amt a b : Nat) : Prop := pCan T a b amt ∧ pFee T a amt + T.1 35 b = T.1 35 a ∧ T.1 36 b + 1 = T.1 36 a
noncomputable def pNode (T : TS) (first amt n : Nat) : Nat → Nat
  | 0 => first
  | k + 1 => ix (pFst (wNext T amt (pNode T first amt n k)) 0 n)
section Path
variable {S T : TS} {last amt w K : Nat}
theorem CV.fin (h : CV S last amt w T) {a : Nat} (ha : a < S.1 3 0) (hf : T.1 35 a < FARn) : Ds (wOf S last amt w) a (kp T a) ∧ 1 ≤ T.1 36 a ∧ T.1 36 a ≤ S.1 3 0 ∧ T.1 35 a ≤ 100000 * T.1 36 a := by
  rcases h.2 a ha with ⟨h1, -, -⟩ | h
  · omega
  · exact h
theorem CV.fin' (hn : S.1 3 0 ≤ 12) (h : CV S last amt w T) {a : Nat} (ha : a < S.1 3 0) : (T.1 35 a = FARn ∧ T.1 36 a = 1) ∨ (T.1 35 a ≤ 1200000 ∧ T.1 35 a < FARn) := by
  rcases h.2 a ha with ⟨h1, h2, -⟩ | ⟨h1, h2, h3, h4⟩
  · exact Or.inl ⟨h1, h2⟩
  · right; unfold FARn; omega
theorem CV.lst (hO : OB S) (hm : amt ≤ 1000000) (hl : last < S.1 3 0) (hn : S.1 3 0 ≤ 12) (h : CV S last amt w T) (hf : T.1 35 last < FARn) : T.1 36 last = 1 ∧ T.1 35 last = pFee S last amt := by
  obtain ⟨h1, h2, h3, h4⟩ := h.fin hl hf
  have := (Ds.lastv (wOf_ok (w := w) hO hm hl) h1).2
  have e : kp T last = pFee S last amt * 4096 + 1 := this
  unfold kp at e
  omega
theorem CV.nxt (hO : OB S) (hm : amt ≤ 1000000) (hl : last < S.1 3 0) (hn : S.1 3 0 ≤ 12) (h : CV S last amt w T) {a : Nat} (ha : a < S.1 3 0) (hf : T.1 35 a < FARn) (hne : a ≠ last) : wGo S last w a ∧ ∃ b, b < S.1 3 0 ∧ wNext T amt a b := by
  obtain ⟨h1, h2, h3, h4⟩ := h.fin ha hf
  rcases Ds.supp (wOf_ok (w := w) hO hm hl) h1 with ⟨-, e, -⟩ | ⟨-, b, u, hb, hu, he, ev⟩
  · exact absurd e hne
  · have hb' : b < S.1 3 0 := hb
    have he' : wFit S last amt w a b (u / 4096) := he
    have ev' : kp T a = u + (pFee S a amt * 4096 + 1) := ev
    refine ⟨he'.1, b, hb', ?_⟩
    rcases h.2 b hb' with ⟨-, -, g⟩ | ⟨g1, g2, g3, g4⟩
    · exact absurd hu (g u)
    · have e9 := Ds.uniq hu g1
      subst e9
      have e8 : kp T b / 4096 = T.1 35 b := by unfold kp; omega
      rw [e8] at he'
      refine ⟨((wFit_of h.1 last amt w a b).mpr he').2, ?_, ?_⟩
      · rw [h.1.fee]; unfold kp at ev'; omega
      · unfold kp at ev'; omega
theorem wNext.fin {a b : Nat} (h : wNext T amt a b) : T.1 35 b < FARn := h.1.2.1
/-- the next broker is the first one that fits -/
theorem CV.step (hO : OB S) (hm : amt ≤ 1000000) (hl : last < S.1 3 0) (hn : S.1 3 0 ≤ 12) (h : CV S last amt w T) {a : Nat} (ha : a < S.1 3 0) (hf : T.1 35 a < FARn) (hne : a ≠ last) : ∃ b, b < S.1 3 0 ∧ pFst (wNext T amt a) 0 (S.1 3 0) = nI b ∧ wNext T amt a b ∧ ∀ j, j < b → ¬ wNext T amt a j := by
  obtain ⟨-, b, hb, h1⟩ := h.nxt hO hm hl hn ha hf hne
  obtain ⟨c, h2, h3, h4, h5, h6⟩ := pFst_ex (P := wNext T amt a) (S.1 3 0) 0 ⟨b, Nat.zero_le _, by omega, h1⟩
  exact ⟨c, by omega, h6, h4, fun j hj => h5 j (Nat.zero_le _) hj⟩
/-- the brokers of the way -/
theorem CV.node (hO : OB S) (hm : amt ≤ 1000000) (hl : last < S.1 3 0) (hn : S.1 3 0 ≤ 12) (h : CV S last amt w T) {first : Nat} (ha : first < S.1 3 0) (hf : T.1 35 first < FARn) :
    ∀ k, k < T.1 36 first → pNode T first amt (S.1 3 0) k < S.1 3 0 ∧ T.1 35 (pNode T first amt (S.1 3 0) k) < FARn ∧ T.1 36 (pNode T first amt (S.1 3 0) k) + k = T.1 36 first ∧
      (k + 1 < T.1 36 first → pNode T first amt (S.1 3 0) k ≠ last ∧ wNext T amt (pNode T first amt (S.1 3 0) k) (pNode T first amt (S.1 3 0) (k + 1)) ∧ pFst (wNext T amt (pNode T first amt (S.1 3 0) k)) 0 (S.1 3 0) = nI (pNode T first amt (S.1 3 0) (k + 1)) ∧ ∀ j, j < pNode T first amt (S.1 3 0) (k + 1) → ¬ wNext T amt (pNode T first amt (S.1 3 0) k) j) ∧
      (k + 1 = T.1 36 first → pNode T first amt (S.1 3 0) k = last) := by
  have tail : ∀ k a, a < S.1 3 0 → T.1 35 a < FARn → T.1 36 a + k = T.1 36 first → a = pNode T first amt (S.1 3 0) k →
      (k + 1 < T.1 36 first → a ≠ last ∧ (pNode T first amt (S.1 3 0) (k + 1) < S.1 3 0 ∧ wNext T amt a (pNode T first amt (S.1 3 0) (k + 1)) ∧ pFst (wNext T amt a) 0 (S.1 3 0) = nI (pNode T first amt (S.1 3 0) (k + 1)) ∧ ∀ j, j < pNode T first amt (S.1 3 0) (k + 1) → ¬ wNext T amt a j)) ∧ (k + 1 = T.1 36 first → a = last) := by
    intro k a ha hf hk e
    refine ⟨fun hlt => ?_, fun he => ?_⟩
    · have hne : a ≠ last := fun q => by
        have := (h.lst hO hm hl hn (q ▸ hf)).1
        rw [← q] at this
        omega
      obtain ⟨b, b1, b2, b3, b4⟩ := h.step hO hm hl hn ha hf hne
      have e2 : pNode T first amt (S.1 3 0) (k + 1) = b := by
        show ix (pFst (wNext T amt (pNode T first amt (S.1 3 0) k)) 0 (S.1 3 0)) = b
        rw [← e, b2, ix_nI (by omega)]
      rw [e2]
      exact ⟨hne, b1, b3, b2, b4⟩
    · refine Classical.byContradiction (fun hne => ?_)
      obtain ⟨-, b, b1, b3⟩ := h.nxt hO hm hl hn ha hf hne
      have := (h.fin b1 b3.fin).2.1
      have := b3.2.2
      omega
  intro k
  induction k with
  | zero =>
    intro hk
    obtain ⟨t1, t2⟩ := tail 0 first ha hf (Nat.add_zero _) rfl
    exact ⟨ha, hf, Nat.add_zero _, fun q => ⟨(t1 q).1, (t1 q).2.2⟩, t2⟩
  | succ k ih =>
    intro hk
    obtain ⟨i1, i2, i3, i4, -⟩ := ih (by omega)
    obtain ⟨j1, j2, -, -⟩ := i4 hk
    have h1 := (tail k _ i1 i2 i3 rfl).1 hk
    have e9 : T.1 36 (pNode T first amt (S.1 3 0) (k + 1)) + (k + 1) = T.1 36 first := by have := j2.2.2; omega
    obtain ⟨t1, t2⟩ := tail (k + 1) _ h1.2.1 j2.fin e9 rfl
    exact ⟨h1.2.1, j2.fin, e9, fun q => ⟨(t1 q).1, (t1 q).2.2⟩, t2⟩
theorem CV.inj (hO : OB S) (hm : amt ≤ 1000000) (hl : last < S.1 3 0) (hn : S.1 3 0 ≤ 12) (h : CV S last amt w T) {first : Nat} (ha : first < S.1 3 0) (hf : T.1 35 first < FARn) {j k : Nat} (hj : j < T.1 36 first) (hk : k < T.1 36 first) (e : pNode T first amt (S.1 3 0) j = pNode T first amt (S.1 3 0) k) : j = k := by
  have h1 := (h.node hO hm hl hn ha hf j hj).2.2.1
  have h2 := (h.node hO hm hl hn ha hf k hk).2.2.1
  rw [e] at h1
  omega
end Path
/-! what findWay leaves and answers -/
noncomputable def pLen (S : TS) (first last amt w : Nat) : Nat := cif ((pFWs S last amt w).1 35 first < FARn) ((pFWs S last amt w).1 36 first) 0
noncomputable def pFound (T : TS) (first amt n k : Nat) (U : TS) : TS := U.sN 37 k (pNode T first amt n k)
noncomputable def pFind (S : TS) (first last amt w : Nat) : TS := rep (pLen S first last amt w) 0 (pFound (pFWs S last amt w) first amt (S.1 3 0)) (pFWs S last amt w)
theorem pFind_W (S : TS) (first last amt w : Nat) : eqW (pFind S first last amt w) S := (eqW.rep (fun _ _ => eqW.n37 _ _ _) _ _ _).tr (pFWs_W _ _ _ _)
theorem pFound_t (T : TS) (first amt n m k : Nat) (U : TS) : (∀ j, j ≠ 37 → (rep m k (pFound T first amt n) U).1 j = U.1 j) ∧ ∀ j, (rep m k (pFound T first amt n) U).1 37 j = if k ≤ j ∧ j < k + m then pNode T first amt n j else U.1 37 j := by
  induction m generalizing k U with
  | zero => exact ⟨fun _ _ => rfl, fun j => by rw [if_neg (by omega)]; rfl⟩
  | succ m ih =>
    obtain ⟨h1, h2⟩ := ih (k + 1) (pFound T first amt n k U)
    refine ⟨fun j hj => (h1 j hj).trans (by funext i; exact if_neg (fun q => hj q.1)), fun j => (h2 j).trans ?_⟩
    by_cases e : j = k
    · subst e
      rw [if_neg (by omega), if_pos (by omega)]
      exact if_pos ⟨rfl, rfl⟩
    · by_cases q : k + 1 ≤ j ∧ j < k + 1 + m
      · rw [if_pos q, if_pos (by omega)]
      · rw [if_neg q, if_neg (by omega)]
        exact if_neg (fun z => e z.2)
theorem pFind_37 {S : TS} {first last amt w k : Nat} (hk : k < pLen S first last amt w) : (pFind S first last amt w).1 37 k = pNode (pFWs S last amt w) first amt (S.1 3 0) k := by
  unfold pFind
  rw [(pFound_t _ _ _ _ _ _ _).2, if_pos (by omega)]
theorem pFind_35 {S : TS} {first last amt w : Nat} : (pFind S first last amt w).1 35 = (pFWs S last amt w).1 35 := (pFound_t _ _ _ _ _ _ _).1 35 (by omega)
