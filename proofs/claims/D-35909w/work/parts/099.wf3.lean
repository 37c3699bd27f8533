/-! orders keep the store in shape -/
theorem pig {g : Nat → Nat} {n : Nat} : ∀ (m : Nat), (∀ k, k < m → g k < n) → (∀ j k, j < m → k < m → g j = g k → j = k) → m ≤ cnt (fun b => ∃ k, k < m ∧ g k = b) n
  | 0, _, _ => Nat.zero_le _
  | m + 1, h1, h2 => by
    have h3 := pig (g := g) (n := n) m (fun k hk => h1 k (by omega)) (fun j k hj hk e => h2 j k (by omega) (by omega) e)
    have h4 : cnt (fun b => ∃ k, k < m ∧ g k = b) n < cnt (fun b => ∃ k, k < m + 1 ∧ g k = b) n :=
      cnt_lt (fun _ ⟨k, a, b⟩ => ⟨k, by omega, b⟩) (j := g m) ⟨m, by omega, rfl⟩ (fun ⟨k, a, b⟩ => by have := h2 k m (by omega) (by omega) b; omega) n (h1 m (by omega))
    omega
theorem pigeon {g : Nat → Nat} {m n : Nat} (h1 : ∀ k, k < m → g k < n) (h2 : ∀ j k, j < m → k < m → g j = g k → j = k) : m ≤ n := Nat.le_trans (pig m h1 h2) (cnt_n n)
theorem bitOf_or {a c b : Nat} : bitOf (a ||| c) b = 1 ↔ bitOf a b = 1 ∨ bitOf c b = 1 := by
  have h : ∀ w, bitOf w b = 1 ↔ w.testBit b = true := fun w => by unfold bitOf; rw [Nat.testBit_eq_decide_div_mod_eq]; exact (decide_eq_true_iff).symm
  rw [h, h, h, Nat.testBit_or, Bool.or_eq_true]
theorem bitOf_pow (b : Nat) : bitOf (2 ^ b) b = 1 := by
  unfold bitOf
  rw [Nat.div_self (Nat.two_pow_pos b)]
theorem pMask_ok {T : TS} {o : Nat} : ∀ (f : Nat), (∀ k, k < f → T.1 23 (12 * o + k) < 12) → pMask T o f < 4096 ∧ ∀ k, k < f → bitOf (pMask T o f) (T.1 23 (12 * o + k)) = 1
  | 0, _ => ⟨by show (0 : Nat) < 4096; omega, fun k hk => by omega⟩
  | f + 1, h => by
    obtain ⟨h1, h2⟩ := pMask_ok f (fun k hk => h k (by omega))
    refine ⟨or_4096 h1 (tp_4096 (h f (by omega))), fun k hk => bitOf_or.mpr ?_⟩
    by_cases e : k = f
    · subst e; exact Or.inr (bitOf_pow _)
    · exact Or.inl (h2 k (by omega))
theorem pFind_ok {S : TS} {K first last amt w : Nat} (hw : WF K S) (hO : OB S) (hm : amt ≤ 1000000) (hf : first < S.1 3 0) (hl : last < S.1 3 0) (hne : first ≠ last) (h0 : 0 < pLen S first last amt w) :
    (2 ≤ pLen S first last amt w ∧ pLen S first last amt w ≤ 12) ∧
    (∀ k, k < pLen S first last amt w → (pFind S first last amt w).1 37 k < S.1 3 0 ∧ (pFind S first last amt w).1 35 ((pFind S first last amt w).1 37 k) ≤ 1200000) ∧
    (∀ j k, j < pLen S first last amt w → k < pLen S first last amt w → (pFind S first last amt w).1 37 j = (pFind S first last amt w).1 37 k → j = k) ∧
    (∀ k, k + 1 < pLen S first last amt w → bitOf w ((pFind S first last amt w).1 37 k) = 0) ∧
    (pFind S first last amt w).1 37 (pLen S first last amt w - 1) = last ∧ (pFind S first last amt w).1 37 0 = first ∧ (pFind S first last amt w).1 35 first ≤ 1200000 := by
  have hn := hw.nb
  have hcv := pFWs_CV (w := w) hw hO hm hl
  have hfin : (pFWs S last amt w).1 35 first < FARn := Classical.byContradiction (fun q => by rw [show pLen S first last amt w = 0 from cif_f q] at h0; omega)
  have el : pLen S first last amt w = (pFWs S last amt w).1 36 first := cif_t hfin
  have h37 := fun k => pFind_37 (S := S) (first := first) (last := last) (amt := amt) (w := w) (k := k)
  rw [pFind_35]
  rw [el] at h37 ⊢
  have hnd := hcv.node hO hm hl hn hf hfin
  obtain ⟨a1, a2, a3, a4⟩ := hcv.fin hf hfin
  have e0 : (pFind S first last amt w).1 37 0 = first := by rw [h37 0 (by omega)]; rfl
  have h2 : 2 ≤ (pFWs S last amt w).1 36 first := Classical.byContradiction (fun q => by
    have := (hnd 0 (by omega)).2.2.2.2 (by omega)
    exact hne this)
  refine ⟨⟨h2, by omega⟩, fun k hk => ?_, fun j k hj hk e => ?_, fun k hk => ?_, ?_, e0, by omega⟩
  · rw [h37 k hk]
    obtain ⟨b1, b2, -⟩ := hnd k hk
    refine ⟨b1, ?_⟩
    rcases hcv.fin' hn b1 with z | z
    · omega
    · exact z.1
  · rw [h37 j hj, h37 k hk] at e
    exact hcv.inj hO hm hl hn hf hfin hj hk e
  · rw [h37 k (by omega)]
    obtain ⟨b1, b2, b3, b4, -⟩ := hnd k (by omega)
    exact (hcv.nxt hO hm hl hn b1 b2 (b4 hk).1).1.2.2
  · rw [h37 _ (by omega)]
    exact (hnd _ (by omega)).2.2.2.2 (by omega)
/-- in shape but for an order -/
def WFe (K : Nat) (S : TS) (e : Nat) : Prop :=
  (S.1 3 0 ≤ 12 ∧ S.1 14 0 ≤ 40 ∧ S.1 25 0 ≤ 40 ∧ S.1 1 0 ≤ 40000) ∧
  (∀ b, b < 12 → S.1 4 b < 8 ∧ S.1 6 b ≤ 100 ∧ S.1 8 b ≤ 50000 ∧ (∃ h, h < 3 ∧ S.2.1 7 b = nI h) ∧ S.1 5 b + pend S.1 S.2.1 b (S.1 25 0) ≤ K) ∧
  (∀ i, S.1 10 i ≤ 1000000) ∧ (∀ o, o < S.1 14 0 → o ≠ e → wOrd S.1 S.2.1 o) ∧ (∀ c, c < S.1 25 0 → wCou S.1 c) ∧
  bit01 (S.2.1 2 0) ∧ (∀ i, bit01 (S.2.1 9 i) ∧ bit01 (S.2.1 11 i) ∧ bit01 (S.2.1 30 i) ∧ bit01 (S.2.1 33 i))
theorem WF.wfe {K : Nat} {S : TS} (h : WF K S) (e : Nat) : WFe K S e := ⟨h.1, h.2.1, h.2.2.1, fun o ho _ => h.2.2.2.1 o ho, h.2.2.2.2⟩
theorem lay1_v {o f : Nat} : ∀ (n k : Nat) (U : TS), (∀ j, j ≠ 23 → (rep n k (pLay1 o f) U).1 j = U.1 j) ∧ (rep n k (pLay1 o f) U).2 = U.2 ∧ ∀ i, (rep n k (pLay1 o f) U).1 23 i = if 12 * o + f + k ≤ i ∧ i < 12 * o + f + k + n then U.1 37 (i - (12 * o + f)) else U.1 23 i
  | 0, k, U => ⟨fun _ _ => rfl, rfl, fun i => by rw [if_neg (by omega)]; rfl⟩
  | n + 1, k, U => by
    obtain ⟨h1, h2, h3⟩ := lay1_v (o := o) (f := f) n (k + 1) (pLay1 o f k U)
    have g : ∀ j, j ≠ 23 → (pLay1 o f k U).1 j = U.1 j := fun j hj => sN_o _ _ _ hj
    refine ⟨fun j hj => (h1 j hj).trans (g j hj), h2, fun i => (h3 i).trans ?_⟩
    rw [g 37 (by omega)]
    by_cases e : i = 12 * o + f + k
    · subst e
      rw [if_neg (by omega), if_pos (by omega), show 12 * o + f + k - (12 * o + f) = k by omega]
      exact sN_eq _ _ _ _
    · by_cases q : 12 * o + f + (k + 1) ≤ i ∧ i < 12 * o + f + (k + 1) + n
      · rw [if_pos q, if_pos (by omega)]
      · rw [if_neg q, if_neg (by omega)]
        exact sN_ne _ _ _ e
theorem lay2_v {o f : Nat} : ∀ (n k : Nat) (U : TS), (∀ j, j ≠ 24 → (rep n k (pLay2 o f) U).1 j = U.1 j) ∧ (rep n k (pLay2 o f) U).2.1 = U.2.1 ∧ ∀ i, (rep n k (pLay2 o f) U).1 24 i = if 12 * o + f + k ≤ i ∧ i < 12 * o + f + k + n then U.1 16 o + U.1 35 (U.1 37 (i - (12 * o + f) + 1)) else U.1 24 i
  | 0, k, U => ⟨fun _ _ => rfl, rfl, fun i => by rw [if_neg (by omega)]; rfl⟩
  | n + 1, k, U => by
    obtain ⟨h1, h2, h3⟩ := lay2_v (o := o) (f := f) n (k + 1) (pLay2 o f k U)
    have g0 : (pLay2 o f k U).1 = (U.sN 24 (12 * o + f + k) (U.1 16 o + U.1 35 (U.1 37 (k + 1)))).1 := pOweOn_N _ _ _ _
    have g : ∀ j, j ≠ 24 → (pLay2 o f k U).1 j = U.1 j := fun j hj => by rw [g0]; exact sN_o _ _ _ hj
    refine ⟨fun j hj => (h1 j hj).trans (g j hj), h2.trans (pOweOn_I _ _ _ _), fun i => (h3 i).trans ?_⟩
    rw [g 37 (by omega), g 16 (by omega), g 35 (by omega)]
    by_cases e : i = 12 * o + f + k
    · subst e
      rw [if_neg (by omega), if_pos (by omega), show 12 * o + f + k - (12 * o + f) = k by omega, g0]
      exact sN_eq _ _ _ _
    · by_cases q : 12 * o + f + (k + 1) ≤ i ∧ i < 12 * o + f + (k + 1) + n
      · rw [if_pos q, if_pos (by omega)]
      · rw [if_neg q, if_neg (by omega), g0]
        exact sN_ne _ _ _ e
theorem pLay_v (S : TS) (o f n : Nat) : (∀ j, j ≠ 22 → j ≠ 23 → j ≠ 24 → (pLay S o f n).1 j = S.1 j) ∧ (pLay S o f n).2.1 = S.2.1 ∧
    (∀ i, (pLay S o f n).1 22 i = if i = o then f + n else S.1 22 i) ∧
    (∀ i, (pLay S o f n).1 23 i = if 12 * o + f ≤ i ∧ i < 12 * o + f + n then S.1 37 (i - (12 * o + f)) else S.1 23 i) ∧
    (∀ i, (pLay S o f n).1 24 i = if 12 * o + f ≤ i ∧ i < 12 * o + f + (n - 1) then S.1 16 o + S.1 35 (S.1 37 (i - (12 * o + f) + 1)) else S.1 24 i) := by
  unfold pLay
  obtain ⟨a1, a2, a3⟩ := lay1_v (o := o) (f := f) n 0 (S.sN 22 o (f + n))
  obtain ⟨b1, b2, b3⟩ := lay2_v (o := o) (f := f) (n - 1) 0 (rep n 0 (pLay1 o f) (S.sN 22 o (f + n)))
  refine ⟨fun j h1 h2 h3 => ?_, ?_, fun i => ?_, fun i => ?_, fun i => ?_⟩
  · rw [b1 j h3, a1 j h2]; exact sN_o _ _ _ h1
  · rw [b2, a2]; rfl
  · rw [b1 22 (by omega), a1 22 (by omega)]
    by_cases e : i = o
    · rw [e, if_pos rfl]; exact sN_eq _ _ _ _
    · rw [if_neg e]; exact sN_ne _ _ _ e
  · rw [b1 23 (by omega), a3, sN_o _ _ _ (show (37 : Nat) ≠ 22 by omega), sN_o _ _ _ (show (23 : Nat) ≠ 22 by omega), Nat.add_zero]
  · rw [b3, a1 16 (by omega), a1 35 (by omega), a1 37 (by omega), a1 24 (by omega), sN_o _ _ _ (show (37 : Nat) ≠ 22 by omega), sN_o _ _ _ (show (16 : Nat) ≠ 22 by omega), sN_o _ _ _ (show (35 : Nat) ≠ 22 by omega), sN_o _ _ _ (show (24 : Nat) ≠ 22 by omega), Nat.add_zero]
theorem WFe.lay {V : TS} {K o f n : Nat} (h : WFe K V o) (ho : o < V.1 14 0) (hf : V.1 21 o = f) (hn : 2 ≤ n) (hfn : f + n ≤ 12)
    (hnd : ∀ k, k < n → V.1 37 k < V.1 3 0 ∧ V.1 35 (V.1 37 k) ≤ 1200000) (hin : ∀ j k, j < n → k < n → V.1 37 j = V.1 37 k → j = k)
    (hdis : ∀ j k, j < f → k < n → V.1 23 (12 * o + j) ≠ V.1 37 k) (hh : V.2.1 15 o = 0)
    (ham : 1 ≤ V.1 16 o ∧ V.1 16 o ≤ 1000000) (hg : V.1 17 o ≤ 4000000) (hs : V.1 20 o ≤ V.1 1 0) (ht : V.1 19 o ≤ 2)
    (hold : ∀ k, k < f → V.1 23 (12 * o + k) < V.1 3 0) (hoin : ∀ j k, j < f → k < f → V.1 23 (12 * o + j) = V.1 23 (12 * o + k) → j = k)
    (har : ∀ k, k < f → V.1 16 o ≤ V.1 24 (12 * o + k) ∧ V.1 24 (12 * o + k) ≤ 4000000) : WF K (pLay V o f n) := by
  obtain ⟨e1, e2, e22, e23, e24⟩ := pLay_v V o f n
  generalize pLay V o f n = T at e1 e2 e22 e23 e24
  have g := fun j h1 h2 h3 => e1 j h1 h2 h3
  refine ⟨?_, fun b hb => ?_, ?_, fun q hq => ?_, fun c hc => ?_, by rw [e2]; exact h.2.2.2.2.2.1, by rw [e2]; exact h.2.2.2.2.2.2⟩
  · rw [g 3 (by omega) (by omega) (by omega), g 14 (by omega) (by omega) (by omega), g 25 (by omega) (by omega) (by omega), g 1 (by omega) (by omega) (by omega)]; exact h.1
  · obtain ⟨a1, a2, a3, a4, a5⟩ := h.2.1 b hb
    rw [g 4 (by omega) (by omega) (by omega), g 6 (by omega) (by omega) (by omega), g 8 (by omega) (by omega) (by omega), e2]
    exact ⟨a1, a2, a3, a4, by rw [← e2]; exact cashp_c (S := V) a5 (by rw [g 5 (by omega) (by omega) (by omega)]; exact Nat.le_refl _) (by rw [g 25 (by omega) (by omega) (by omega)]) (fun c _ => ⟨by rw [e2], by rw [g 28 (by omega) (by omega) (by omega)], by rw [g 26 (by omega) (by omega) (by omega)]⟩)⟩
  · rw [g 10 (by omega) (by omega) (by omega)]; exact h.2.2.1
  · rw [g 14 (by omega) (by omega) (by omega)] at hq
    unfold wOrd
    rw [g 21 (by omega) (by omega) (by omega), g 16 (by omega) (by omega) (by omega), g 17 (by omega) (by omega) (by omega), g 20 (by omega) (by omega) (by omega), g 1 (by omega) (by omega) (by omega), g 3 (by omega) (by omega) (by omega), g 19 (by omega) (by omega) (by omega), e2, e22]
    by_cases e : q = o
    · subst e
      rw [if_pos rfl]
      refine ⟨⟨by omega, hfn, by omega⟩, ham, hg, hs, fun k hk => ?_, fun j k hj hk he => ?_, fun k hk => ?_, fun _ => by omega, fun z => by rw [hh] at z; exact absurd z (by decide), fun _ => ht, by omega, 0, by omega, hh⟩
      · rw [e23]
        by_cases q1 : k < f
        · rw [if_neg (by omega)]; exact hold k q1
        · rw [if_pos (by omega)]; exact (hnd _ (by omega)).1
      · rw [e23, e23] at he
        by_cases q1 : j < f <;> by_cases q2 : k < f
        · rw [if_neg (by omega), if_neg (by omega)] at he; exact hoin j k q1 q2 he
        · rw [if_neg (by omega), if_pos (by omega)] at he; exact absurd he (hdis j _ q1 (by omega))
        · rw [if_pos (by omega), if_neg (by omega)] at he; exact absurd he.symm (hdis k _ q2 (by omega))
        · rw [if_pos (by omega), if_pos (by omega)] at he
          have := hin _ _ (by omega) (by omega) he
          omega
      · rw [e24]
        by_cases q1 : k < f
        · rw [if_neg (by omega)]; exact har k q1
        · rw [if_pos (by omega)]
          have := (hnd (12 * q + k - (12 * q + f) + 1) (by omega)).2
          omega
    · have hw := h.2.2.2.1 q hq e
      obtain ⟨b1, b2, b3, b4, b5, b6, b7, b8⟩ := hw
      rw [if_neg e]
      refine ⟨b1, b2, b3, b4, fun k hk => ?_, fun j k hj hk he => ?_, fun k hk => ?_, b8⟩
      · rw [e23, if_neg (by omega)]; exact b5 k hk
      · rw [e23, e23, if_neg (by omega), if_neg (by omega)] at he; exact b6 j k hj hk he
      · rw [e24, if_neg (by omega)]; exact b7 k hk
  · rw [g 25 (by omega) (by omega) (by omega)] at hc
    have hw := h.2.2.2.2.1 c hc
    unfold wCou at hw ⊢
    rw [g 26 (by omega) (by omega) (by omega), g 27 (by omega) (by omega) (by omega), g 28 (by omega) (by omega) (by omega), g 3 (by omega) (by omega) (by omega), g 29 (by omega) (by omega) (by omega)]
    exact hw
/-- what a search for the rest of a way is made of -/
theorem pElse_in {T : TS} {K o : Nat} (h : WF K T) (ho : o < T.1 14 0) (hh : T.2.1 15 o = 0) :
    WF K (pTB T o (T.1 21 o)) ∧ T.1 21 o + 1 < T.1 22 o ∧ T.1 22 o ≤ 12 ∧ T.1 16 o ≤ 1000000 ∧ T.1 23 (12 * o + T.1 21 o) < T.1 3 0 ∧ T.1 23 (12 * o + (T.1 22 o - 1)) < T.1 3 0 ∧ T.1 23 (12 * o + T.1 21 o) ≠ T.1 23 (12 * o + (T.1 22 o - 1)) ∧ pMask T o (T.1 21 o) < 4096 := by
  have hm := h.many ho
  have hg := h.going ho hh
  refine ⟨h.long (pTB_N _ _ _) (pTB_I _ _ _), hg, hm.2.1, (h.amt ho).2, h.way ho hm.2.2, h.way ho (by omega), fun e => ?_, (pMask_ok _ (fun k hk => h.wayB ho (by omega))).1⟩
  have := h.inj ho hm.2.2 (show T.1 22 o - 1 < T.1 22 o by omega) e
  omega
theorem pElsF_W (o : Nat) (T : TS) : eqW (pElsF o T) (pTB T o (T.1 21 o)) := pFind_W _ _ _ _ _
theorem WF.els {T : TS} {K B o : Nat} (h : WF K T) (hO : OW B T) (hB : B + 192000000 ≤ 2 ^ 60) (ho : o < T.1 14 0) (hh : T.2.1 15 o = 0) : WF K (pElse o T) ∧ OW (B + 600000000) (pElse o T) ∧ (pElse o T).1 14 = T.1 14 ∧ (pElse o T).1 3 = T.1 3 := by
  obtain ⟨i1, i2, i3, i4, i5, i6, i7, i8⟩ := pElse_in h ho hh
  have hU := hO.tb (show B + 192000000 ≤ 2 ^ 61 by omega) o (T.1 21 o) i3 (fun j hj => (h.aro ho hj).2)
  have hOB := hU.OB hB
  have eN : (pTB T o (T.1 21 o)).1 = T.1 := pTB_N _ _ _
  have eI : (pTB T o (T.1 21 o)).2.1 = T.2.1 := pTB_I _ _ _
  have hV := eqW.wf i1 (pElsF_W o T)
  have eW := pElsF_W o T
  have eV : ∀ j, j ≠ 35 → j ≠ 36 → j ≠ 37 → (pElsF o T).1 j = T.1 j := fun j a b c => (eW.1 j a b c).trans (by rw [eN])
  have eVI : (pElsF o T).2.1 = T.2.1 := eW.2.1.trans eI
  have hVO : OW (B + 192000000) (pElsF o T) := hU.eq (by rw [eW.2.2])
  unfold pElse
  by_cases q : 0 < pElsN o T ∧ (pElsF o T).1 35 ((pElsF o T).1 37 1) ≤ T.1 24 (12 * o + T.1 21 o) - T.1 16 o
  · rw [cif_t q]
    have hk := pFind_ok i1 hOB i4 (by rw [eN]; exact i5) (by rw [eN]; exact i6) i7 q.1
    rw [show pLen (pTB T o (T.1 21 o)) (T.1 23 (12 * o + T.1 21 o)) (T.1 23 (12 * o + (T.1 22 o - 1))) (T.1 16 o) (pMask T o (T.1 21 o)) = pElsN o T from rfl, show pFind (pTB T o (T.1 21 o)) (T.1 23 (12 * o + T.1 21 o)) (T.1 23 (12 * o + (T.1 22 o - 1))) (T.1 16 o) (pMask T o (T.1 21 o)) = pElsF o T from rfl, eN] at hk
    obtain ⟨⟨k1, k2⟩, k3, k4, k5, k6, k7, k8⟩ := hk
    obtain ⟨-, m2⟩ := pMask_ok (T := T) (o := o) (T.1 21 o) (fun k hk => h.wayB ho (by omega))
    have hdis : ∀ j k, j < T.1 21 o → k < pElsN o T → T.1 23 (12 * o + j) ≠ (pElsF o T).1 37 k := by
      intro j k hj hk e
      by_cases z : k + 1 < pElsN o T
      · have a := k5 k z
        rw [← e, m2 j hj] at a
        omega
      · rw [show k = pElsN o T - 1 by omega, k6] at e
        have := h.inj ho (show j < T.1 22 o by omega) (show T.1 22 o - 1 < T.1 22 o by omega) e
        omega
    have h12 : T.1 21 o + pElsN o T ≤ 12 := by
      refine Nat.le_trans (pigeon (g := fun k => if k < T.1 21 o then T.1 23 (12 * o + k) else (pElsF o T).1 37 (k - T.1 21 o)) (n := T.1 3 0) (fun k hk => ?_) (fun j k hj hk e => ?_)) h.nb
      · show (if k < T.1 21 o then T.1 23 (12 * o + k) else (pElsF o T).1 37 (k - T.1 21 o)) < T.1 3 0
        by_cases z : k < T.1 21 o
        · rw [if_pos z]; exact h.way ho (by omega)
        · rw [if_neg z]; exact (k3 _ (by omega)).1
      · have e : (if j < T.1 21 o then T.1 23 (12 * o + j) else (pElsF o T).1 37 (j - T.1 21 o)) = (if k < T.1 21 o then T.1 23 (12 * o + k) else (pElsF o T).1 37 (k - T.1 21 o)) := e
        by_cases z1 : j < T.1 21 o <;> by_cases z2 : k < T.1 21 o
        · rw [if_pos z1, if_pos z2] at e; exact h.inj ho (by omega) (by omega) e
        · rw [if_pos z1, if_neg z2] at e; exact absurd e (hdis j _ z1 (by omega))
        · rw [if_neg z1, if_pos z2] at e; exact absurd e.symm (hdis k _ z2 (by omega))
        · rw [if_neg z1, if_neg z2] at e
          have := k4 _ _ (by omega) (by omega) e
          omega
    refine ⟨WFe.lay (hV.wfe o) (by rw [eV 14 (by omega) (by omega) (by omega)]; exact ho) (by rw [eV 21 (by omega) (by omega) (by omega)]) k1 h12 (by rw [eV 3 (by omega) (by omega) (by omega)]; exact k3) k4 ?_ (by rw [eVI]; exact hh) ?_ ?_ ?_ ?_ ?_ ?_ ?_, ?_, ?_, ?_⟩
    · rw [eV 23 (by omega) (by omega) (by omega)]; exact hdis
    · rw [eV 16 (by omega) (by omega) (by omega)]; exact h.amt ho
    · rw [eV 17 (by omega) (by omega) (by omega)]; exact h.gave ho
    · rw [eV 20 (by omega) (by omega) (by omega), eV 1 (by omega) (by omega) (by omega)]; exact h.since ho
    · rw [eV 19 (by omega) (by omega) (by omega)]; exact h.try2 ho (Or.inl hh)
    · rw [eV 23 (by omega) (by omega) (by omega), eV 3 (by omega) (by omega) (by omega)]; exact fun k hk => h.way ho (by omega)
    · rw [eV 23 (by omega) (by omega) (by omega)]; exact fun j k hj hk e => h.inj ho (by omega) (by omega) e
    · rw [eV 16 (by omega) (by omega) (by omega), eV 24 (by omega) (by omega) (by omega)]; exact fun k hk => h.aro ho (by omega)
    · refine OW.up (hVO.lay (by omega) o _ _ k2 (fun k hk => ?_)) (by omega)
      have := (k3 (k + 1) (by omega)).2
      have := (h.amt ho).2
      rw [eV 16 (by omega) (by omega) (by omega)]
      omega
    · rw [(pLay_v _ _ _ _).1 14 (by omega) (by omega) (by omega), eV 14 (by omega) (by omega) (by omega)]
    · rw [(pLay_v _ _ _ _).1 3 (by omega) (by omega) (by omega), eV 3 (by omega) (by omega) (by omega)]
  · rw [cif_f q]
    have e22 : (pElsF o T).1 22 = T.1 22 := eV 22 (by omega) (by omega) (by omega)
    have eNN : ((pGoBack ((pElsF o T).sN 22 o (T.1 21 o + 1)) o).sN 22 o (T.1 22 o)).1 = (pElsF o T).1 := by
      funext j i
      by_cases e : j = 22 ∧ i = o
      · obtain ⟨rfl, rfl⟩ := e
        rw [sN_eq, e22]
      · refine (if_neg e).trans ?_
        rw [pGoBack_N]
        exact if_neg e
    refine ⟨?_, ?_, by rw [eNN]; exact eV 14 (by omega) (by omega) (by omega), by rw [eNN]; exact eV 3 (by omega) (by omega) (by omega)⟩
    · have hs : ∃ v, v < 6 ∧ 1 < v ∧ ((pGoBack ((pElsF o T).sN 22 o (T.1 21 o + 1)) o).sN 22 o (T.1 22 o)).2.1 = ((pElsF o T).sI 15 o (nI v)).2.1 := by
        unfold pGoBack
        split
        · exact ⟨5, by omega, by omega, by rw [sN_I]; unfold TS.sI; rw [pTB_I]; rfl⟩
        · exact ⟨3, by omega, by omega, by rw [sN_I]; unfold TS.sI; rw [pTB_I]; rfl⟩
      obtain ⟨v, v1, v2, v3⟩ := hs
      exact (hV.sHow (o := o) v v1 (by omega) (by omega) (by omega)).long eNN v3
    · have h3 : OW (B + 192000000) ((pElsF o T).sN 22 o (T.1 21 o + 1)) := hVO.eq rfl
      refine OW.up (OW.eq (h3.goBack (by omega) o ?_ (fun j hj => ?_)) rfl) (by omega)
      · rw [sN_eq]; omega
      · rw [sN_eq] at hj
        rw [sN_o _ _ _ (show (24 : Nat) ≠ 22 by omega), eV 24 (by omega) (by omega) (by omega)]
        exact (h.aro ho (by omega)).2
