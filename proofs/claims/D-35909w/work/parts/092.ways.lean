/-! ways, in plain numbers: the least labels of the ways to a last broker; a label is fee * 4096 + length -/
/-- a search: how many, the last, its label, whether it is allowed, what a step adds, whether a step fits before a label -/
def WP := Nat × Nat × Nat × Prop × (Nat → Nat) × (Nat → Nat → Nat → Prop)
def wpn (W : WP) : Nat := W.1
def wpl (W : WP) : Nat := W.2.1
def wpv (W : WP) : Nat := W.2.2.1
def wpo (W : WP) : Prop := W.2.2.2.1
def wpc (W : WP) : Nat → Nat := W.2.2.2.2.1
def wpe (W : WP) : Nat → Nat → Nat → Prop := W.2.2.2.2.2
def wpOK (W : WP) : Prop := (∀ a b x y, wpe W a b x → y ≤ x → wpe W a b y) ∧ (∀ a, 0 < wpc W a) ∧ (∀ b x, ¬ wpe W (wpl W) b x) ∧ wpl W < wpn W
/-- a label that k steps make -/
def Rc (W : WP) : Nat → Nat → Nat → Prop
  | 0, a, v => wpo W ∧ a = wpl W ∧ v = wpv W
  | k + 1, a, v => a < wpn W ∧ ∃ b u, b < wpn W ∧ Rc W k b u ∧ wpe W a b u ∧ v = u + wpc W a
/-- the least label -/
def Ds (W : WP) (a v : Nat) : Prop := (∃ k, Rc W k a v) ∧ ∀ k u, Rc W k a u → v ≤ u
theorem Ds.uniq {W : WP} {a u v : Nat} (h : Ds W a u) (g : Ds W a v) : u = v := by
  obtain ⟨⟨k, hk⟩, h2⟩ := h
  obtain ⟨⟨j, hj⟩, g2⟩ := g
  have := h2 _ _ hj
  have := g2 _ _ hk
  omega
theorem Ds.ex {W : WP} {a : Nat} : ∀ (m v k : Nat), v ≤ m → Rc W k a v → ∃ u, Ds W a u ∧ u ≤ v := by
  intro m
  induction m with
  | zero =>
    intro v k hv h
    exact ⟨v, ⟨⟨k, h⟩, fun _ u _ => by omega⟩, Nat.le_refl _⟩
  | succ m ih =>
    intro v k hv h
    by_cases q : ∃ k u, Rc W k a u ∧ u < v
    · obtain ⟨k', u, h1, h2⟩ := q
      obtain ⟨w, hw, h3⟩ := ih u k' (by omega) h1
      exact ⟨w, hw, by omega⟩
    · refine ⟨v, ⟨⟨k, h⟩, fun k' u hu => ?_⟩, Nat.le_refl _⟩
      exact Nat.le_of_not_lt (fun z => q ⟨k', u, hu, z⟩)
section Ways
variable {W : WP}
theorem Ds.stab (hW : wpOK W) {a b u x : Nat} (h : Ds W b u) (hb : b < wpn W) (ha : a < wpn W) (he : wpe W a b x) (hx : u ≤ x) : ∃ v, Ds W a v ∧ v ≤ u + wpc W a := by
  obtain ⟨⟨k, hk⟩, -⟩ := h
  exact Ds.ex _ (u + wpc W a) (k + 1) (Nat.le_refl _) ⟨ha, b, u, hb, hk, hW.1 _ _ _ _ he hx, rfl⟩
theorem Ds.supp (hW : wpOK W) {a v : Nat} (h : Ds W a v) : (wpo W ∧ a = wpl W ∧ v = wpv W) ∨ (a < wpn W ∧ ∃ b u, b < wpn W ∧ Ds W b u ∧ wpe W a b u ∧ v = u + wpc W a) := by
  obtain ⟨⟨k, hk⟩, h2⟩ := h
  cases k with
  | zero => exact Or.inl hk
  | succ k =>
    obtain ⟨ha, b, u, hb, h3, he, hv⟩ := hk
    obtain ⟨w, hw, h4⟩ := Ds.ex u u k (Nat.le_refl _) h3
    obtain ⟨⟨j, hj⟩, -⟩ := id hw
    have he' := hW.1 _ _ _ _ he h4
    have h5 := h2 (j + 1) (w + wpc W a) ⟨ha, b, w, hb, hj, he', rfl⟩
    have h6 : w = u := by omega
    subst h6
    exact Or.inr ⟨ha, b, w, hb, hw, he, hv⟩
theorem Ds.last (hW : wpOK W) (ho : wpo W) : Ds W (wpl W) (wpv W) := by
  refine ⟨⟨0, ho, rfl, rfl⟩, fun k u hu => ?_⟩
  cases k with
  | zero => rw [hu.2.2]; exact Nat.le_refl _
  | succ k =>
    obtain ⟨-, b, u', -, -, he, -⟩ := hu
    exact absurd he (hW.2.2.1 _ _)
theorem Ds.lastv (hW : wpOK W) {v : Nat} (h : Ds W (wpl W) v) : wpo W ∧ v = wpv W := by
  rcases Ds.supp hW h with h | ⟨-, b, u, -, -, he, -⟩
  · exact ⟨h.1, h.2.2⟩
  · exact absurd he (hW.2.2.1 _ _)
end Ways
noncomputable def cnt (P : Nat → Prop) : Nat → Nat
  | 0 => 0
  | n + 1 => cnt P n + cif (P n) 1 0
theorem cnt_mono {P Q : Nat → Prop} (h : ∀ i, P i → Q i) : ∀ n, cnt P n ≤ cnt Q n
  | 0 => Nat.le_refl _
  | n + 1 => by
    have := cnt_mono h n
    simp only [cnt]
    by_cases q : P n
    · rw [cif_t q, cif_t (h n q)]; omega
    · rw [cif_f q]; omega
theorem cnt_lt {P Q : Nat → Prop} (h : ∀ i, P i → Q i) {j : Nat} (h1 : Q j) (h2 : ¬ P j) : ∀ n, j < n → cnt P n < cnt Q n
  | 0, hj => by omega
  | n + 1, hj => by
    simp only [cnt]
    by_cases e : j = n
    · subst e
      rw [cif_t h1, cif_f h2]
      have := cnt_mono h j
      omega
    · have := cnt_lt h h1 h2 n (by omega)
      by_cases q : P n
      · rw [cif_t q, cif_t (h n q)]; omega
      · rw [cif_f q]; omega
theorem cnt_n {P : Nat → Prop} : ∀ n, cnt P n ≤ n
  | 0 => Nat.le_refl _
  | n + 1 => by
    have := cnt_n (P := P) n
    simp only [cnt]
    by_cases q : P n
    · rw [cif_t q]; omega
    · rw [cif_f q]; omega
theorem cnt_ltn {P : Nat → Prop} {j n : Nat} (hj : j < n) (h : ¬ P j) : cnt P n < n :=
  Nat.lt_of_lt_of_le (cnt_lt (P := P) (Q := fun _ => True) (fun _ _ => trivial) trivial h n hj) (cnt_n n)
/-- how many brokers have a lesser label -/
noncomputable def rk (W : WP) (v : Nat) : Nat := cnt (fun b => ∃ u, Ds W b u ∧ u < v) (wpn W)
theorem rk_lt {W : WP} {b u v : Nat} (hb : b < wpn W) (h : Ds W b u) (huv : u < v) : rk W u < rk W v :=
  cnt_lt (fun _ ⟨w, h1, h2⟩ => ⟨w, h1, by omega⟩) ⟨u, h, huv⟩ (fun ⟨w, h1, h2⟩ => by rw [Ds.uniq h1 h] at h2; omega) _ hb
theorem rk_n {W : WP} {a v : Nat} (ha : a < wpn W) (h : Ds W a v) : rk W v < wpn W :=
  cnt_ltn ha (fun ⟨w, h1, h2⟩ => by rw [Ds.uniq h1 h] at h2; omega)
section Ways2
variable {W : WP}
theorem Ds.lt (hW : wpOK W) {a v : Nat} (h : Ds W a v) : a < wpn W := by
  rcases Ds.supp hW h with ⟨-, rfl, -⟩ | ⟨h, -⟩
  · exact hW.2.2.2
  · exact h
/-- a label's parts -/
theorem Ds.parts (hW : wpOK W) {g : Nat → Nat} (hc : ∀ a, wpc W a = g a * 4096 + 1) (hv : wpv W = g (wpl W) * 4096 + 1) (hg : ∀ a, a < wpn W → g a ≤ 100000) : ∀ (m a v : Nat), v ≤ m → Ds W a v → ∃ f l, v = f * 4096 + l ∧ 1 ≤ l ∧ l ≤ rk W v + 1 ∧ f ≤ 100000 * l := by
  intro m
  induction m with
  | zero =>
    intro a v hm h
    rcases Ds.supp hW h with ⟨-, -, e⟩ | ⟨-, b, u, -, -, -, e⟩
    · omega
    · have := hc a; omega
  | succ m ih =>
    intro a v hm h
    rcases Ds.supp hW h with ⟨-, -, e⟩ | ⟨ha, b, u, hb, h1, -, e⟩
    · have := hg _ hW.2.2.2
      exact ⟨g (wpl W), 1, by omega, by omega, by omega, by omega⟩
    · have hca := hc a
      obtain ⟨f, l, e1, e2, e3, e4⟩ := ih b u (by omega) h1
      have := rk_lt hb h1 (v := v) (by omega)
      have := hg a ha
      exact ⟨g a + f, l + 1, by omega, by omega, by omega, by omega⟩
end Ways2
theorem rep_hit {P Q : Nat → TS → Prop} {f : Nat → TS → TS} : ∀ (n k b : Nat) (S : TS), k ≤ b → b < k + n → P k S → (∀ i T, k ≤ i → i < k + n → P i T → P (i + 1) (f i T)) → (∀ T, P b T → Q (b + 1) (f b T)) → (∀ i T, k ≤ i → i < k + n → P i T → Q i T → Q (i + 1) (f i T)) → Q (k + n) (rep n k f S)
  | 0, k, b, S, h1, h2, _, _, _, _ => by omega
  | n + 1, k, b, S, h1, h2, hp, hs, hq, hk => by
    by_cases e : k = b
    · subst e
      have := rep_inv2 (P := fun i T => P i T ∧ Q i T) n (k + 1) (f k S) ⟨hs k S (Nat.le_refl _) (by omega) hp, hq S hp⟩ (fun i T a1 a2 a3 => ⟨hs i T (by omega) (by omega) a3.1, hk i T (by omega) (by omega) a3.1 a3.2⟩)
      rw [show k + 1 + n = k + (n + 1) by omega] at this
      exact this.2
    · have := rep_hit (P := P) (Q := Q) n (k + 1) b (f k S) (by omega) (by omega) (hs k S (Nat.le_refl _) (by omega) hp) (fun i T a1 a2 => hs i T (by omega) (by omega)) hq (fun i T a1 a2 => hk i T (by omega) (by omega))
      rw [show k + 1 + n = k + (n + 1) by omega] at this
      exact this
/-! the search of the store -/
def FARn : Nat := 1000000000000
/-- the store but for what a search leaves -/
def eqW (A B : TS) : Prop := (∀ k, k ≠ 35 → k ≠ 36 → k ≠ 37 → A.1 k = B.1 k) ∧ A.2.1 = B.2.1 ∧ A.2.2 = B.2.2
theorem eqW.rf (A : TS) : eqW A A := ⟨fun _ _ _ _ => rfl, rfl, rfl⟩
theorem eqW.tr {A B C : TS} (h : eqW A B) (g : eqW B C) : eqW A C := ⟨fun k a b c => (h.1 k a b c).trans (g.1 k a b c), h.2.1.trans g.2.1, h.2.2.trans g.2.2⟩
theorem eqW.sy {A B : TS} (h : eqW A B) : eqW B A := ⟨fun k a b c => (h.1 k a b c).symm, h.2.1.symm, h.2.2.symm⟩
theorem eqW.n35 (A : TS) (i v : Nat) : eqW (A.sN 35 i v) A := ⟨fun k a b c => by funext j; exact if_neg (fun q => a q.1), rfl, rfl⟩
theorem eqW.n36 (A : TS) (i v : Nat) : eqW (A.sN 36 i v) A := ⟨fun k a b c => by funext j; exact if_neg (fun q => b q.1), rfl, rfl⟩
theorem eqW.n37 (A : TS) (i v : Nat) : eqW (A.sN 37 i v) A := ⟨fun k a b c => by funext j; exact if_neg (fun q => c q.1), rfl, rfl⟩
theorem eqW.rep {f : Nat → TS → TS} (hf : ∀ i T, eqW (f i T) T) (n k : Nat) (S : TS) : eqW (rep n k f S) S := rep_inv (P := fun T => eqW T S) n k S (eqW.rf S) (fun i T _ _ h => (hf i T).tr h)
theorem eqW.wf {K : Nat} {S T : TS} (h : WF K S) (e : eqW T S) : WF K T := by
  obtain ⟨e1, e2, -⟩ := e
  refine ⟨?_, fun b hb => ?_, ?_, fun o ho => ?_, fun c hc => ?_, by rw [e2]; exact h.fest, by rw [e2]; exact h.bits⟩
  · rw [e1 3 (by omega) (by omega) (by omega), e1 14 (by omega) (by omega) (by omega), e1 25 (by omega) (by omega) (by omega), e1 1 (by omega) (by omega) (by omega)]; exact h.1
  · obtain ⟨a1, a2, a3, a4, a5⟩ := h.2.1 b hb
    rw [e1 4 (by omega) (by omega) (by omega), e1 6 (by omega) (by omega) (by omega), e1 8 (by omega) (by omega) (by omega), e2]
    exact ⟨a1, a2, a3, a4, by rw [← e2]; exact cashp_c (S := S) a5 (by rw [e1 5 (by omega) (by omega) (by omega)]; exact Nat.le_refl _) (by rw [e1 25 (by omega) (by omega) (by omega)]) (fun c _ => ⟨by rw [e2], by rw [e1 28 (by omega) (by omega) (by omega)], by rw [e1 26 (by omega) (by omega) (by omega)]⟩)⟩
  · rw [e1 10 (by omega) (by omega) (by omega)]; exact h.2.2.1
  · rw [e1 14 (by omega) (by omega) (by omega)] at ho
    have hw := h.2.2.2.1 o ho
    unfold wOrd at hw ⊢
    rw [e1 22 (by omega) (by omega) (by omega), e1 21 (by omega) (by omega) (by omega), e1 16 (by omega) (by omega) (by omega), e1 17 (by omega) (by omega) (by omega), e1 20 (by omega) (by omega) (by omega), e1 1 (by omega) (by omega) (by omega), e1 23 (by omega) (by omega) (by omega), e1 3 (by omega) (by omega) (by omega), e1 24 (by omega) (by omega) (by omega), e1 19 (by omega) (by omega) (by omega), e2]
    exact hw
  · rw [e1 25 (by omega) (by omega) (by omega)] at hc
    have hw := h.2.2.2.2.1 c hc
    unfold wCou at hw ⊢
    rw [e1 26 (by omega) (by omega) (by omega), e1 27 (by omega) (by omega) (by omega), e1 28 (by omega) (by omega) (by omega), e1 3 (by omega) (by omega) (by omega), e1 29 (by omega) (by omega) (by omega)]
    exact hw
/-- a broker may have a next one -/
def wGo (S : TS) (last w a : Nat) : Prop := a ≠ last ∧ S.2.1 7 a = 0 ∧ bitOf w a = 0
def wFit (S : TS) (last amt w a b f : Nat) : Prop := wGo S last w a ∧ a ≠ b ∧ f < FARn ∧ S.2.2 12 (12 * a + b) + lN amt + lN f ≤ pLim S b a
def wOf (S : TS) (last amt w : Nat) : WP := (S.1 3 0, last, pFee S last amt * 4096 + 1, (S.2.1 7 last = 0 ∧ bitOf w last = 0), fun a => pFee S a amt * 4096 + 1, fun a b x => wFit S last amt w a b (x / 4096))
/-- what is owed is far from the edge of the numbers -/
def OB (S : TS) : Prop := ∀ i, -(2 ^ 60 : Int) ≤ (S.2.2 12 i).toInt ∧ (S.2.2 12 i).toInt ≤ 2 ^ 60
theorem add3 {o : Int64} (h1 : -(2 ^ 60 : Int) ≤ o.toInt) (h2 : o.toInt ≤ 2 ^ 60) {m f : Nat} (hm : m ≤ 1000000) (hf : f ≤ 1000000000000) : (o + lN m + lN f).toInt = o.toInt + m + f := by
  rw [Int64.toInt_add, Int64.toInt_add, pk_lT (by omega), pk_lT (by omega), Int.bmod_def, Int.bmod_def]
  omega
theorem wFit.mono {S : TS} {last amt w a b f g : Nat} (hO : OB S) (hm : amt ≤ 1000000) (h : wFit S last amt w a b f) (hg : g ≤ f) : wFit S last amt w a b g := by
  obtain ⟨h1, h2, h3, h4⟩ := h
  unfold FARn at h3
  refine ⟨h1, h2, Nat.lt_of_le_of_lt hg h3, ?_⟩
  have hb := hO (12 * a + b)
  rw [Int64.le_iff_toInt_le] at h4 ⊢
  rw [add3 hb.1 hb.2 hm (by omega)] at h4 ⊢
  omega
theorem wOf_ok {S : TS} {last amt w : Nat} (hO : OB S) (hm : amt ≤ 1000000) (hl : last < S.1 3 0) : wpOK (wOf S last amt w) :=
  ⟨fun _ _ _ _ h hy => wFit.mono hO hm h (Nat.div_le_div_right hy), fun _ => Nat.succ_pos _, fun _ _ h => h.1.1 rfl, hl⟩
theorem pFee_le {S : TS} {b amt : Nat} (hm : amt ≤ 1000000) (hr : S.1 6 b ≤ 100) : pFee S b amt ≤ 100000 := by
  have : amt * S.1 6 b ≤ 1000000 * 100 := Nat.mul_le_mul hm hr
  unfold pFee
  omega
noncomputable def pFW0 (last amt w b : Nat) (T : TS) : TS := (T.sN 35 b (cif (b = last ∧ T.2.1 7 b = 0 ∧ bitOf w b = 0) (pFee T b amt) FARn)).sN 36 b 1
noncomputable def pFWc (last amt w a b : Nat) (T : TS) : TS :=
  cif ((wGo T last w a ∧ pCan T a b amt) ∧ (pFee T a amt + T.1 35 b < T.1 35 a ∨ pFee T a amt + T.1 35 b = T.1 35 a ∧ T.1 36 b + 1 < T.1 36 a)) ((T.sN 35 a (pFee T a amt + T.1 35 b)).sN 36 a (T.1 36 b + 1)) T
noncomputable def pFWb (n last amt w a : Nat) (T : TS) : TS := rep n 0 (pFWc last amt w a) T
noncomputable def pFWa (n last amt w : Nat) (_ : Nat) (T : TS) : TS := rep n 0 (pFWb n last amt w) T
noncomputable def pFWs (S : TS) (last amt w : Nat) : TS := rep (S.1 3 0) 0 (pFWa (S.1 3 0) last amt w) (rep (S.1 3 0) 0 (pFW0 last amt w) S)
theorem pFW0_W (last amt w b : Nat) (T : TS) : eqW (pFW0 last amt w b T) T := (eqW.n36 _ _ _).tr (eqW.n35 _ _ _)
theorem pFWc_W (last amt w a b : Nat) (T : TS) : eqW (pFWc last amt w a b T) T := by
  unfold pFWc cif
  split
  · exact (eqW.n36 _ _ _).tr (eqW.n35 _ _ _)
  · exact eqW.rf _
theorem pFWb_W (n last amt w a : Nat) (T : TS) : eqW (pFWb n last amt w a T) T := eqW.rep (pFWc_W _ _ _ _) _ _ _
theorem pFWa_W (n last amt w a : Nat) (T : TS) : eqW (pFWa n last amt w a T) T := eqW.rep (pFWb_W _ _ _ _) _ _ _
theorem pFWs_W (S : TS) (last amt w : Nat) : eqW (pFWs S last amt w) S := (eqW.rep (pFWa_W _ _ _ _) _ _ _).tr (eqW.rep (pFW0_W _ _ _) _ _ _)
/-- the key of a broker's label -/
def kp (T : TS) (a : Nat) : Nat := T.1 35 a * 4096 + T.1 36 a
def lab (j f l : Nat) : Prop := 1 ≤ l ∧ l ≤ 1 + j ∧ ((f = FARn ∧ l = 1) ∨ f ≤ 100000 * l)
def IW (S : TS) (last amt w j : Nat) (T : TS) : Prop :=
  eqW T S ∧ (∀ a, a < S.1 3 0 → lab j (T.1 35 a) (T.1 36 a) ∧ (T.1 35 a < FARn → ∃ k, Rc (wOf S last amt w) k a (kp T a))) ∧ ((S.2.1 7 last = 0 ∧ bitOf w last = 0) → kp T last ≤ pFee S last amt * 4096 + 1)
theorem IW.up {S : TS} {last amt w j j' : Nat} {T : TS} (h : IW S last amt w j T) (hj : j ≤ j') : IW S last amt w j' T :=
  ⟨h.1, fun a ha => ⟨⟨(h.2.1 a ha).1.1, by have := (h.2.1 a ha).1.2.1; omega, (h.2.1 a ha).1.2.2⟩, (h.2.1 a ha).2⟩, h.2.2⟩
theorem eqW.fee {S T : TS} (e : eqW T S) (b amt : Nat) : pFee T b amt = pFee S b amt := by unfold pFee; rw [e.1 6 (by omega) (by omega) (by omega)]
theorem eqW.lim {S T : TS} (e : eqW T S) (a b : Nat) : pLim T a b = pLim S a b := by unfold pLim; rw [e.1 10 (by omega) (by omega) (by omega), e.2.1]
theorem eqW.go {S T : TS} (e : eqW T S) (last w a : Nat) : wGo T last w a = wGo S last w a := by unfold wGo; rw [e.2.1]
theorem eqW.nb {S T : TS} (e : eqW T S) : T.1 3 0 = S.1 3 0 := by rw [e.1 3 (by omega) (by omega) (by omega)]
theorem wFit_of {S T : TS} (e : eqW T S) (last amt w a b : Nat) : (wGo T last w a ∧ pCan T a b amt) ↔ wFit S last amt w a b (T.1 35 b) := by
  unfold pCan wFit FARn
  rw [e.go, e.lim, e.2.2]
theorem kp_div {T : TS} {b j : Nat} (h : lab j (T.1 35 b) (T.1 36 b)) (hj : j ≤ 4000) : kp T b / 4096 = T.1 35 b := by
  have := h.2.1
  unfold kp
  omega
theorem pFWc_t {T : TS} {last amt w a b : Nat} (h : (wGo T last w a ∧ pCan T a b amt) ∧ (pFee T a amt + T.1 35 b < T.1 35 a ∨ pFee T a amt + T.1 35 b = T.1 35 a ∧ T.1 36 b + 1 < T.1 36 a)) : pFWc last amt w a b T = (T.sN 35 a (pFee T a amt + T.1 35 b)).sN 36 a (T.1 36 b + 1) := cif_t h
theorem pFWc_f {T : TS} {last amt w a b : Nat} (h : ¬ ((wGo T last w a ∧ pCan T a b amt) ∧ (pFee T a amt + T.1 35 b < T.1 35 a ∨ pFee T a amt + T.1 35 b = T.1 35 a ∧ T.1 36 b + 1 < T.1 36 a))) : pFWc last amt w a b T = T := cif_f h
theorem kp_c {T : TS} {a f l x : Nat} : kp ((T.sN 35 a f).sN 36 a l) x = if x = a then f * 4096 + l else kp T x := by
  unfold kp
  by_cases e : x = a
  · subst e; simp [TS.sN]
  · simp [TS.sN, e]
theorem v35_c {T : TS} {a f l x : Nat} : ((T.sN 35 a f).sN 36 a l).1 35 x = if x = a then f else T.1 35 x := by
  by_cases e : x = a
  · subst e; simp [TS.sN]
  · simp [TS.sN, e]
theorem v36_c {T : TS} {a f l x : Nat} : ((T.sN 35 a f).sN 36 a l).1 36 x = if x = a then l else T.1 36 x := by
  by_cases e : x = a
  · subst e; simp [TS.sN]
  · simp [TS.sN, e]
section Relax
variable {S T : TS} {last amt w j a b K : Nat}
theorem relax (hw : WF K S) (hm : amt ≤ 1000000) (hj : j ≤ 3000) (h : IW S last amt w j T) (ha : a < S.1 3 0) (hb : b < S.1 3 0) :
    IW S last amt w (j + 1) (pFWc last amt w a b T) ∧ (∀ x, x < S.1 3 0 → kp (pFWc last amt w a b T) x ≤ kp T x) ∧ (wFit S last amt w a b (kp T b / 4096) → kp (pFWc last amt w a b T) a ≤ kp T b + (pFee S a amt * 4096 + 1)) := by
  obtain ⟨e, h1, h2⟩ := h
  obtain ⟨la, sa⟩ := h1 a ha
  obtain ⟨lb, sb⟩ := h1 b hb
  have hd := kp_div lb (by omega)
  have hd2 := kp_div la (by omega)
  have hfee := pFee_le (S := S) (b := a) hm (hw.rate (by have := hw.nb; omega))
  rw [hd]
  by_cases q : (wGo T last w a ∧ pCan T a b amt) ∧ (pFee T a amt + T.1 35 b < T.1 35 a ∨ pFee T a amt + T.1 35 b = T.1 35 a ∧ T.1 36 b + 1 < T.1 36 a)
  · rw [pFWc_t q, e.fee]
    rw [e.fee] at q
    have hf := (wFit_of e last amt w a b).mp q.1
    have hF := hf.2.2.1
    have hne : a ≠ b := hf.2.1
    obtain ⟨kb, hkb⟩ := sb hF
    have hlt : (pFee S a amt + T.1 35 b) * 4096 + (T.1 36 b + 1) < kp T a := by
      unfold kp
      have := lb.2.1
      have := la.1
      rcases q.2 with z | ⟨z1, z2⟩ <;> omega
    refine ⟨⟨((eqW.n36 _ _ _).tr (eqW.n35 _ _ _)).tr e, fun x hx => ?_, fun ho => ?_⟩, fun x hx => ?_, fun _ => ?_⟩
    · rw [v35_c, v36_c, kp_c]
      by_cases ex : x = a
      · subst ex
        rw [if_pos rfl, if_pos rfl, if_pos rfl]
        refine ⟨⟨by omega, by have := lb.2.1; omega, Or.inr ?_⟩, fun _ => ⟨kb + 1, ha, b, kp T b, hb, hkb, ?_, ?_⟩⟩
        · have := lb.2.2; rcases this with z | z <;> omega
        · show wFit S last amt w x b (kp T b / 4096); rw [hd]; exact hf
        · show _ = kp T b + (pFee S x amt * 4096 + 1); unfold kp; omega
      · rw [if_neg ex, if_neg ex, if_neg ex]
        obtain ⟨lx, sx⟩ := h1 x hx
        exact ⟨⟨lx.1, by have := lx.2.1; omega, lx.2.2⟩, sx⟩
    · rw [kp_c, if_neg (fun z => hf.1.1 z.symm)]; exact h2 ho
    · rw [kp_c]
      by_cases ex : x = a
      · subst ex; rw [if_pos rfl]; omega
      · rw [if_neg ex]; exact Nat.le_refl _
    · rw [kp_c, if_pos rfl]; unfold kp; omega
  · rw [pFWc_f q]
    refine ⟨IW.up ⟨e, h1, h2⟩ (by omega), fun x _ => Nat.le_refl _, fun hf => ?_⟩
    rw [e.fee] at q
    have q1 := (wFit_of e last amt w a b).mpr hf
    have q2 : ¬ (pFee S a amt + T.1 35 b < T.1 35 a ∨ pFee S a amt + T.1 35 b = T.1 35 a ∧ T.1 36 b + 1 < T.1 36 a) := fun z => q ⟨q1, z⟩
    have := lb.2.1
    have := la.2.1
    have := lb.1
    have := la.1
    unfold kp
    omega
theorem IW.bb (hw : WF K S) (hm : amt ≤ 1000000) (hj : j ≤ 2900) (h : IW S last amt w j T) (ha : a < S.1 3 0) : IW S last amt w (j + 12) (pFWb (S.1 3 0) last amt w a T) := by
  have hn := hw.nb
  have := rep_inv2 (P := fun i T => IW S last amt w (j + i) T) (f := pFWc last amt w a) (S.1 3 0) 0 T h (fun i T h1 h2 h3 => (relax hw hm (by omega) h3 ha (by omega)).1)
  exact this.up (by omega)
theorem IW.aa (hw : WF K S) (hm : amt ≤ 1000000) (hj : j ≤ 2500) (h : IW S last amt w j T) (i : Nat) : IW S last amt w (j + 144) (pFWa (S.1 3 0) last amt w i T) := by
  have hn := hw.nb
  have := rep_inv2 (P := fun i T => IW S last amt w (j + 12 * i) T) (f := pFWb (S.1 3 0) last amt w) (S.1 3 0) 0 T h (fun i T h1 h2 h3 => by
    have := IW.bb hw hm (by omega) h3 (show i < S.1 3 0 by omega)
    rw [show j + 12 * i + 12 = j + 12 * (i + 1) by omega] at this; exact this)
  exact this.up (by omega)
theorem kp_b (hw : WF K S) (hm : amt ≤ 1000000) (hj : j ≤ 2900) (h : IW S last amt w j T) (ha : a < S.1 3 0) {x : Nat} (hx : x < S.1 3 0) : kp (pFWb (S.1 3 0) last amt w a T) x ≤ kp T x := by
  have hn := hw.nb
  have := rep_inv2 (P := fun i U => IW S last amt w (j + i) U ∧ kp U x ≤ kp T x) (f := pFWc last amt w a) (S.1 3 0) 0 T ⟨h, Nat.le_refl _⟩ (fun i U h1 h2 h3 => by
    have r := relax hw hm (by omega) h3.1 ha (show i < S.1 3 0 by omega)
    exact ⟨r.1, Nat.le_trans (r.2.1 x hx) h3.2⟩)
  exact this.2
/-- a round brings the labels of one more rank -/
theorem round (hw : WF K S) (hO : OB S) (hm : amt ≤ 1000000) (hl : last < S.1 3 0) (hj : j ≤ 2500) (h : IW S last amt w j T) (i k : Nat)
    (hk : ∀ a v, Ds (wOf S last amt w) a v → rk (wOf S last amt w) v < k → kp T a ≤ v) :
    ∀ a v, Ds (wOf S last amt w) a v → rk (wOf S last amt w) v < k + 1 → kp (pFWa (S.1 3 0) last amt w i T) a ≤ v := by
  intro a v hd hr
  have hok := wOf_ok (w := w) hO hm hl
  have hn := hw.nb
  rcases Ds.supp hok hd with ⟨ho, ea, ev⟩ | ⟨ha, b, u, hb, hdb, he, ev⟩
  · have := (IW.aa hw hm hj h i).2.2 ho
    rw [ea, ev]; exact this
  · have hub := hk b u hdb (by have := rk_lt hb hdb (v := v) (by rw [ev]; have := hok.2.1 a; omega); omega)
    have := rep_hit (P := fun i U => IW S last amt w (j + 12 * i) U ∧ kp U b ≤ u) (Q := fun _ U => kp U a ≤ u + (pFee S a amt * 4096 + 1)) (f := pFWb (S.1 3 0) last amt w) (S.1 3 0) 0 a T (Nat.zero_le _) (by rw [Nat.zero_add]; exact ha) ⟨h, hub⟩
      (fun i U h1 h2 h3 => by
        have r := IW.bb hw hm (by omega) h3.1 (show i < S.1 3 0 by omega)
        rw [show j + 12 * i + 12 = j + 12 * (i + 1) by omega] at r
        exact ⟨r, Nat.le_trans (kp_b hw hm (by omega) h3.1 (by omega) hb) h3.2⟩)
      (fun U h3 => by
        have han : a < S.1 3 0 := ha
        have r := rep_hit (P := fun i V => IW S last amt w (j + 12 * a + i) V ∧ kp V b ≤ u) (Q := fun _ V => kp V a ≤ u + (pFee S a amt * 4096 + 1)) (f := pFWc last amt w a) (S.1 3 0) 0 b U (Nat.zero_le _) (by rw [Nat.zero_add]; exact hb) h3
          (fun i V h1 h2 h4 => by
            have r := relax hw hm (by omega) h4.1 han (show i < S.1 3 0 by omega)
            exact ⟨r.1, Nat.le_trans (r.2.1 b hb) h4.2⟩)
          (fun V h4 => by
            have r := relax hw hm (by have : b < S.1 3 0 := hb; omega) h4.1 han hb
            have := r.2.2 (wFit.mono hO hm he (Nat.div_le_div_right h4.2))
            have := h4.2
            omega)
          (fun i V h1 h2 h4 h5 => by
            have r := relax hw hm (by omega) h4.1 han (show i < S.1 3 0 by omega)
            exact Nat.le_trans (r.2.1 a han) h5)
        exact r)
      (fun i U h1 h2 h3 h4 => Nat.le_trans (kp_b hw hm (by omega) h3.1 (by omega) ha) h4)
    rw [ev]; exact this
end Relax
/-- the labels are the least ones -/
def CV (S : TS) (last amt w : Nat) (T : TS) : Prop := eqW T S ∧ ∀ a, a < S.1 3 0 →
  (T.1 35 a = FARn ∧ T.1 36 a = 1 ∧ ∀ v, ¬ Ds (wOf S last amt w) a v) ∨ (Ds (wOf S last amt w) a (kp T a) ∧ 1 ≤ T.1 36 a ∧ T.1 36 a ≤ S.1 3 0 ∧ T.1 35 a ≤ 100000 * T.1 36 a)
theorem CV.of {S T : TS} {last amt w j K : Nat} (hw : WF K S) (hO : OB S) (hm : amt ≤ 1000000) (hl : last < S.1 3 0) (hj : j ≤ 4000) (h : IW S last amt w j T)
    (hk : ∀ a v, Ds (wOf S last amt w) a v → kp T a ≤ v) : CV S last amt w T := by
  refine ⟨h.1, fun a ha => ?_⟩
  have hok := wOf_ok (w := w) hO hm hl
  have hn := hw.nb
  obtain ⟨la, sa⟩ := h.2.1 a ha
  have hpt := Ds.parts hok (g := fun a => pFee S a amt) (fun _ => rfl) rfl (fun a ha => pFee_le hm (hw.rate (by have : a < S.1 3 0 := ha; omega)))
  by_cases q : T.1 35 a < FARn
  · obtain ⟨k, hr⟩ := sa q
    obtain ⟨u, hu, hle⟩ := Ds.ex _ _ k (Nat.le_refl _) hr
    have e : kp T a = u := Nat.le_antisymm (hk a u hu) hle
    rw [← e] at hu
    obtain ⟨f, l, e1, e2, e3, e4⟩ := hpt _ a _ (Nat.le_refl _) hu
    have e5 : rk (wOf S last amt w) (kp T a) < S.1 3 0 := rk_n ha hu
    have : T.1 36 a = l ∧ T.1 35 a = f := by
      have := la.2.1
      unfold kp at e1
      omega
    exact Or.inr ⟨hu, by omega, by omega, by omega⟩
  · have hF : T.1 35 a = FARn ∧ T.1 36 a = 1 := by
      rcases la.2.2 with z | z
      · exact z
      · have := la.2.1; unfold FARn at q; omega
    refine Or.inl ⟨hF.1, hF.2, fun v hv => ?_⟩
    obtain ⟨f, l, e1, e2, e3, e4⟩ := hpt _ a _ (Nat.le_refl _) hv
    have e5 : rk (wOf S last amt w) v < S.1 3 0 := rk_n ha hv
    have h9 := hk a v hv
    unfold kp at h9
    rw [hF.1, hF.2] at h9
    unfold FARn at h9
    omega
theorem pFW0_i {T : TS} {last amt w b x : Nat} : (pFW0 last amt w b T).1 35 x = (if x = b then cif (b = last ∧ T.2.1 7 b = 0 ∧ bitOf w b = 0) (pFee T b amt) FARn else T.1 35 x) ∧ (pFW0 last amt w b T).1 36 x = (if x = b then 1 else T.1 36 x) := ⟨v35_c, v36_c⟩
theorem IW.init {S : TS} {last amt w K : Nat} (hw : WF K S) (hm : amt ≤ 1000000) (hl : last < S.1 3 0) : IW S last amt w 0 (rep (S.1 3 0) 0 (pFW0 last amt w) S) := by
  have hn := hw.nb
  have := rep_inv2 (P := fun i T => eqW T S ∧ ∀ x, x < i → T.1 35 x = cif (x = last ∧ S.2.1 7 x = 0 ∧ bitOf w x = 0) (pFee S x amt) FARn ∧ T.1 36 x = 1) (f := pFW0 last amt w) (S.1 3 0) 0 S ⟨eqW.rf S, fun x hx => by omega⟩
    (fun i T h1 h2 h3 => by
      refine ⟨(pFW0_W _ _ _ _ _).tr h3.1, fun x hx => ?_⟩
      rw [pFW0_i.1, pFW0_i.2]
      by_cases e : x = i
      · subst e; rw [if_pos rfl, if_pos rfl, h3.1.fee, h3.1.2.1]; exact ⟨rfl, rfl⟩
      · rw [if_neg e, if_neg e]; exact h3.2 x (by omega))
  rw [Nat.zero_add] at this
  refine ⟨this.1, fun a ha => ?_, fun ho => ?_⟩
  · obtain ⟨e1, e2⟩ := this.2 a ha
    unfold kp
    rw [e1, e2]
    by_cases q : a = last ∧ S.2.1 7 a = 0 ∧ bitOf w a = 0
    · rw [cif_t q]
      have := pFee_le (S := S) (b := a) hm (hw.rate (by omega))
      obtain ⟨rfl, q1, q2⟩ := q
      exact ⟨⟨by omega, by omega, Or.inr (by omega)⟩, fun _ => ⟨0, ⟨q1, q2⟩, rfl, rfl⟩⟩
    · rw [cif_f q]
      exact ⟨⟨by omega, by omega, Or.inl ⟨rfl, rfl⟩⟩, fun z => absurd z (Nat.lt_irrefl _)⟩
  · obtain ⟨e1, e2⟩ := this.2 last hl
    unfold kp
    rw [e1, e2, cif_t ⟨rfl, ho⟩]
    exact Nat.le_refl _
theorem pFWs_CV {S : TS} {last amt w K : Nat} (hw : WF K S) (hO : OB S) (hm : amt ≤ 1000000) (hl : last < S.1 3 0) : CV S last amt w (pFWs S last amt w) := by
  have hn := hw.nb
  have := rep_inv2 (P := fun i T => IW S last amt w (144 * i) T ∧ ∀ a v, Ds (wOf S last amt w) a v → rk (wOf S last amt w) v < i → kp T a ≤ v) (f := pFWa (S.1 3 0) last amt w) (S.1 3 0) 0 _ ⟨IW.init hw hm hl, fun a v _ h => by omega⟩
    (fun i T h1 h2 h3 => by
      have r := IW.aa hw hm (by omega) h3.1 i
      rw [show 144 * i + 144 = 144 * (i + 1) by omega] at r
      exact ⟨r, round hw hO hm hl (by omega) h3.1 i i h3.2⟩)
  rw [Nat.zero_add] at this
  exact CV.of hw hO hm hl (by omega) this.1 (fun a v hd => this.2 a v hd (rk_n (Ds.lt (wOf_ok hO hm hl) hd) hd))
/-- what two searches find is the same -/
theorem CV.uniq {S T U : TS} {last amt w : Nat} (hn : S.1 3 0 ≤ 12) (h : CV S last amt w T) (g : CV S last amt w U) {a : Nat} (ha : a < S.1 3 0) : T.1 35 a = U.1 35 a ∧ T.1 36 a = U.1 36 a := by
  rcases h.2 a ha with ⟨h1, h2, h3⟩ | ⟨h1, h2, h3, h4⟩ <;> rcases g.2 a ha with ⟨g1, g2, g3⟩ | ⟨g1, g2, g3, g4⟩
  · exact ⟨h1.trans g1.symm, h2.trans g2.symm⟩
  · exact absurd g1 (h3 _)
  · exact absurd h1 (g3 _)
  · have := Ds.uniq h1 g1
    unfold kp at this
    omega
