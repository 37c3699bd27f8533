/-! the shape of the store is kept -/
theorem pend_c {f f' : Nat → Nat → Nat} {g g' : Nat → Nat → Int32} {b : Nat} : ∀ (n : Nat), (∀ c, c < n → g' 30 c = g 30 c ∧ f' 28 c = f 28 c ∧ f' 26 c = f 26 c) → pend f' g' b n = pend f g b n
  | 0, _ => rfl
  | n + 1, h => by
    obtain ⟨h1, h2, h3⟩ := h n (Nat.lt_succ_self _)
    simp only [pend]
    rw [pend_c n (fun c hc => h c (Nat.lt_succ_of_lt hc)), h1, h2, h3]
theorem pend_set {f : Nat → Nat → Nat} {g g' : Nat → Nat → Int32} {b c : Nat} (h1 : ¬ g' 30 c = 0) (h2 : ∀ j, j ≠ c → g' 30 j = g 30 j) : ∀ (n : Nat), pend f g' b n + (if c < n ∧ g 30 c = 0 ∧ f 28 c = b then f 26 c else 0) = pend f g b n
  | 0 => by simp [pend]
  | n + 1 => by
    have ih := pend_set (f := f) (b := b) h1 h2 n
    simp only [pend]
    by_cases hc : n = c
    · subst hc
      rw [if_neg (fun q => absurd q.1 (Nat.lt_irrefl _))] at ih
      rw [if_neg (fun q => h1 q.1)]
      by_cases hq : g 30 n = 0 ∧ f 28 n = b
      · rw [if_pos ⟨Nat.lt_succ_self _, hq⟩, if_pos hq]; omega
      · rw [if_neg (fun q => hq q.2), if_neg hq]; omega
    · rw [h2 n hc]
      by_cases hq : c < n ∧ g 30 c = 0 ∧ f 28 c = b
      · rw [if_pos hq] at ih
        rw [if_pos (show c < n + 1 ∧ g 30 c = 0 ∧ f 28 c = b from ⟨Nat.lt_succ_of_lt hq.1, hq.2⟩)]; omega
      · rw [if_neg hq] at ih
        rw [if_neg (show ¬ (c < n + 1 ∧ g 30 c = 0 ∧ f 28 c = b) from fun q => hq ⟨by omega, q.2⟩)]; omega
theorem cashp_c {S S' : TS} {K b : Nat} (h : S.1 5 b + pend S.1 S.2.1 b (S.1 25 0) ≤ K) (hc : S'.1 5 b ≤ S.1 5 b) (hn : S'.1 25 0 = S.1 25 0) (hp : ∀ c, c < S.1 25 0 → S'.2.1 30 c = S.2.1 30 c ∧ S'.1 28 c = S.1 28 c ∧ S'.1 26 c = S.1 26 c) : S'.1 5 b + pend S'.1 S'.2.1 b (S'.1 25 0) ≤ K := by
  rw [hn, pend_c (S.1 25 0) hp]
  exact Nat.le_trans (Nat.add_le_add_right hc _) h
theorem wOrd_g {f : Nat → Nat → Nat} {g g' : Nat → Nat → Int32} {o : Nat} (e : g' 15 o = g 15 o) (h : wOrd f g o) : wOrd f g' o := by
  unfold wOrd at h ⊢
  rw [e]; exact h
section WFk
variable {K : Nat} {S : TS}
theorem sI_eq (S : TS) (k j : Nat) (v : Int32) : (S.sI k j v).2.1 k j = v := if_pos ⟨rfl, rfl⟩
theorem sI_ne (S : TS) (k : Nat) {i j : Nat} (v : Int32) (h : i ≠ j) : (S.sI k j v).2.1 k i = S.2.1 k i := if_neg (fun q => h q.2)
theorem sN_eq (S : TS) (k j : Nat) (v : Nat) : (S.sN k j v).1 k j = v := if_pos ⟨rfl, rfl⟩
theorem sN_ne (S : TS) (k : Nat) {i j : Nat} (v : Nat) (h : i ≠ j) : (S.sN k j v).1 k i = S.1 k i := if_neg (fun q => h q.2)
theorem sL_eq (S : TS) (k j : Nat) (v : Int64) : (S.sL k j v).2.2 k j = v := if_pos ⟨rfl, rfl⟩
theorem sL_ne (S : TS) (k : Nat) {i j : Nat} (v : Int64) (h : i ≠ j) : (S.sL k j v).2.2 k i = S.2.2 k i := if_neg (fun q => h q.2)
theorem sI_N (S : TS) (k j : Nat) (v : Int32) : (S.sI k j v).1 = S.1 := rfl
theorem sI_L (S : TS) (k j : Nat) (v : Int32) : (S.sI k j v).2.2 = S.2.2 := rfl
theorem sN_I (S : TS) (k j : Nat) (v : Nat) : (S.sN k j v).2.1 = S.2.1 := rfl
theorem sN_L (S : TS) (k j : Nat) (v : Nat) : (S.sN k j v).2.2 = S.2.2 := rfl
theorem sL_N (S : TS) (k j : Nat) (v : Int64) : (S.sL k j v).1 = S.1 := rfl
theorem sL_I (S : TS) (k j : Nat) (v : Int64) : (S.sL k j v).2.1 = S.2.1 := rfl
theorem sN_t (S : TS) (k j : Nat) (v a : Nat) : (S.sN k j v).1 a = if a = k then (fun i => if i = j then v else S.1 k i) else S.1 a := by
  funext i; by_cases h : a = k
  · subst h; simp [TS.sN]
  · simp [TS.sN, h]
theorem sI_t (S : TS) (k j : Nat) (v : Int32) (a : Nat) : (S.sI k j v).2.1 a = if a = k then (fun i => if i = j then v else S.2.1 k i) else S.2.1 a := by
  funext i; by_cases h : a = k
  · subst h; simp [TS.sI]
  · simp [TS.sI, h]
theorem sL_t (S : TS) (k j : Nat) (v : Int64) (a : Nat) : (S.sL k j v).2.2 a = if a = k then (fun i => if i = j then v else S.2.2 k i) else S.2.2 a := by
  funext i; by_cases h : a = k
  · subst h; simp [TS.sL]
  · simp [TS.sL, h]
theorem pOwe_N (S : TS) (k j : Nat) (v : Int64) : (pOwe S k j v).1 = S.1 := rfl
theorem pOwe_I (S : TS) (k j : Nat) (v : Int64) : (pOwe S k j v).2.1 = S.2.1 := rfl
theorem pOweBoth_N (S : TS) (k j : Nat) (v : Int64) : (pOweBoth S k j v).1 = S.1 := rfl
theorem pOweBoth_I (S : TS) (k j : Nat) (v : Int64) : (pOweBoth S k j v).2.1 = S.2.1 := rfl
theorem WF.sHow (h : WF K S) {o : Nat} (q : Nat) (hq : q < 6) (h0 : q = 0 → S.1 21 o + 1 < S.1 22 o) (h1 : q = 1 → S.1 21 o + 1 = S.1 22 o) (h2 : q ≤ 1 → S.1 19 o ≤ 2) : WF K (S.sI 15 o (nI q)) := by
  refine ⟨h.1, fun b hb => ?_, h.2.2.1, fun o' ho => ?_, h.2.2.2.2.1, h.2.2.2.2.2.1, h.2.2.2.2.2.2⟩
  · obtain ⟨a1, a2, a3, a4, a5⟩ := h.2.1 b hb
    exact ⟨a1, a2, a3, a4, cashp_c (S := S) a5 (Nat.le_refl _) rfl (fun c _ => ⟨rfl, rfl, rfl⟩)⟩
  · have hw := h.2.2.2.1 o' ho
    by_cases e : o' = o
    · subst e
      obtain ⟨b1, b2, b3, b4, b5, b6, b7, b8, b9, b10, b11, b12⟩ := hw
      refine ⟨b1, b2, b3, b4, b5, b6, b7, ?_, ?_, ?_, b11, ⟨q, hq, sI_eq _ _ _ _⟩⟩
      · rw [sI_eq, show (0 : Int32) = nI 0 from rfl, nI_eq (by omega) (by omega)]; exact h0
      · rw [sI_eq, nI_eq (by omega) (by omega)]; exact h1
      · rw [sI_eq, show (0 : Int32) = nI 0 from rfl, nI_eq (by omega) (by omega), nI_eq (by omega) (by omega)]
        exact fun z => h2 (by omega)
    · exact wOrd_g (sI_ne S 15 _ e) hw
theorem WF.goBack (h : WF K S) (o : Nat) : WF K (pGoBack S o) := by
  unfold pGoBack
  have h1 : WF K (pTB S o 0) := h.long (pTB_N _ _ _) (pTB_I _ _ _)
  split
  · exact h1.sHow 5 (by omega) (by omega) (by omega) (by omega)
  · exact h1.sHow 3 (by omega) (by omega) (by omega) (by omega)
theorem WF.heal (h : WF K S) (b : Nat) : WF K (pHeal b S) := by
  unfold pHeal
  refine ⟨h.1, fun b' hb => ?_, h.2.2.1, fun o' ho => wOrd_g rfl (h.2.2.2.1 o' ho), h.2.2.2.2.1, h.2.2.2.2.2.1, h.2.2.2.2.2.2⟩
  obtain ⟨a1, a2, a3, a4, a5⟩ := h.2.1 b' hb
  refine ⟨a1, a2, a3, ?_, cashp_c (S := S) a5 (Nat.le_refl _) rfl (fun c _ => ⟨rfl, rfl, rfl⟩)⟩
  by_cases e : b' = b
  · subst e
    rw [sI_eq]
    split
    · exact ⟨0, by omega, rfl⟩
    · exact a4
  · rw [sI_ne _ _ _ e]; exact a4
theorem WF.hour (h : WF K S) (hh : S.1 1 0 + 1 ≤ 40000) : WF K (S.sN 1 0 (S.1 1 0 + 1)) := by
  refine ⟨⟨h.nb, h.no, h.nc, hh⟩, fun b hb => ?_, h.2.2.1, fun o' ho => ?_, h.2.2.2.2.1, h.2.2.2.2.2.1, h.2.2.2.2.2.2⟩
  · obtain ⟨a1, a2, a3, a4, a5⟩ := h.2.1 b hb
    exact ⟨a1, a2, a3, a4, cashp_c (S := S) a5 (Nat.le_refl _) rfl (fun c _ => ⟨rfl, rfl, rfl⟩)⟩
  · obtain ⟨b1, b2, b3, b4, b5⟩ := h.2.2.2.1 o' ho
    exact ⟨b1, b2, b3, Nat.le_succ_of_le b4, b5⟩
theorem WF.move (h : WF K S) {o : Nat} (ho : o < S.1 14 0) (hg : S.2.1 15 o = 0) : WF K (pMove S o) := by
  have hgo := h.going ho hg
  have hm := h.many ho
  have ht := h.try2 ho (Or.inl hg)
  have h1 : WF K ((S.sN 21 o (S.1 21 o + 1)).sI 15 o (if S.1 21 o + 2 = S.1 22 o then nI 1 else nI 0)) := by
    refine ⟨h.1, fun b hb => ?_, h.2.2.1, fun o' ho' => ?_, h.2.2.2.2.1, h.2.2.2.2.2.1, h.2.2.2.2.2.2⟩
    · obtain ⟨a1, a2, a3, a4, a5⟩ := h.2.1 b hb
      exact ⟨a1, a2, a3, a4, cashp_c (S := S) a5 (Nat.le_refl _) rfl (fun c _ => ⟨rfl, rfl, rfl⟩)⟩
    · have hw := h.2.2.2.1 o' ho'
      by_cases e : o' = o
      · subst e
        obtain ⟨b1, b2, b3, b4, b5, b6, b7, b8, b9, b10, b11, b12⟩ := hw
        have e1 : ((S.sN 21 o' (S.1 21 o' + 1)).sI 15 o' (if S.1 21 o' + 2 = S.1 22 o' then nI 1 else nI 0)).1 21 o' = S.1 21 o' + 1 := sN_eq _ _ _ _
        refine ⟨⟨b1.1, b1.2.1, ?_⟩, b2, b3, b4, b5, b6, b7, ?_, ?_, fun _ => ht, b11, ?_⟩
        · rw [e1]; exact hgo
        · rw [sI_eq, e1]
          split
          · intro z; exact absurd z (by decide)
          · intro _; show S.1 21 o' + 1 + 1 < S.1 22 o'; omega
        · rw [sI_eq, e1]
          split
          · intro _; show S.1 21 o' + 1 + 1 = S.1 22 o'; omega
          · intro z; exact absurd z (by decide)
        · rw [sI_eq]
          split
          · exact ⟨1, by omega, rfl⟩
          · exact ⟨0, by omega, rfl⟩
      · have hw2 : wOrd (S.sN 21 o (S.1 21 o + 1)).1 S.2.1 o' := by
          unfold wOrd at hw ⊢
          rw [sN_ne S 21 _ e]
          exact hw
        exact wOrd_g (sI_ne (S.sN 21 o (S.1 21 o + 1)) 15 _ e) hw2
  exact h1.long rfl rfl
theorem WF.moveIf (h : WF K S) {o : Nat} (ho : o < S.1 14 0) : WF K (pMoveIf o S) := by
  unfold pMoveIf
  split
  · rename_i q; exact h.move ho q
  · exact h
theorem WF.old (h : WF K S) (o : Nat) : WF K (pOld o S) := by
  unfold pOld
  split
  · exact h.goBack o
  · exact h
theorem WF.cashLe (h : WF K S) {b v : Nat} (hv : v ≤ S.1 5 b) : WF K (S.sN 5 b v) := by
  refine ⟨h.1, fun b' hb => ?_, h.2.2.1, fun o' ho => h.2.2.2.1 o' ho, h.2.2.2.2.1, h.2.2.2.2.2.1, h.2.2.2.2.2.2⟩
  obtain ⟨a1, a2, a3, a4, a5⟩ := h.2.1 b' hb
  refine ⟨a1, a2, a3, a4, cashp_c (S := S) a5 ?_ rfl (fun c _ => ⟨rfl, rfl, rfl⟩)⟩
  by_cases e : b' = b
  · subst e
    rw [sN_eq]; exact hv
  · rw [sN_ne _ _ _ e]; exact Nat.le_refl _
theorem WF.give (h : WF K S) (o : Nat) : WF K (pGive o S) := by
  unfold pGive
  split
  · have h1 := h.cashLe (b := S.1 23 (12 * o)) (v := S.1 5 (S.1 23 (12 * o)) - S.1 17 o) (Nat.sub_le _ _)
    have h2 : WF K ((S.sN 5 (S.1 23 (12 * o)) (S.1 5 (S.1 23 (12 * o)) - S.1 17 o)).sL 34 2 (S.2.2 34 2 + lN (S.1 17 o))) := h1.long rfl rfl
    exact h2.sHow 4 (by omega) (by omega) (by omega) (by omega)
  · exact h
theorem WF.come (h : WF K S) {c : Nat} (hc : c < S.1 25 0) : WF K (pCome c S) := by
  unfold pCome
  split
  · rename_i q
    have h1 : WF K ((S.sI 30 c (nI 1)).sN 5 (S.1 28 c) (S.1 5 (S.1 28 c) + S.1 26 c)) := by
      refine ⟨h.1, fun b' hb => ?_, h.2.2.1, fun o' ho => wOrd_g rfl (h.2.2.2.1 o' ho), h.2.2.2.2.1, h.2.2.2.2.2.1, fun i => ?_⟩
      · obtain ⟨a1, a2, a3, a4, a5⟩ := h.2.1 b' hb
        refine ⟨a1, a2, a3, a4, ?_⟩
        have hp := pend_set (f := S.1) (g := S.2.1) (g' := (S.sI 30 c (nI 1)).2.1) (b := b') (c := c) (by rw [sI_eq]; decide) (fun j hj => sI_ne _ _ _ hj) (S.1 25 0)
        have hq2 : pend ((S.sI 30 c (nI 1)).sN 5 (S.1 28 c) (S.1 5 (S.1 28 c) + S.1 26 c)).1 ((S.sI 30 c (nI 1)).sN 5 (S.1 28 c) (S.1 5 (S.1 28 c) + S.1 26 c)).2.1 b' (S.1 25 0) = pend S.1 (S.sI 30 c (nI 1)).2.1 b' (S.1 25 0) := pend_c _ (fun c _ => ⟨rfl, rfl, rfl⟩)
        show ((S.sI 30 c (nI 1)).sN 5 (S.1 28 c) (S.1 5 (S.1 28 c) + S.1 26 c)).1 5 b' + pend ((S.sI 30 c (nI 1)).sN 5 (S.1 28 c) (S.1 5 (S.1 28 c) + S.1 26 c)).1 ((S.sI 30 c (nI 1)).sN 5 (S.1 28 c) (S.1 5 (S.1 28 c) + S.1 26 c)).2.1 b' (S.1 25 0) ≤ K
        rw [hq2]
        by_cases e : b' = S.1 28 c
        · subst e
          rw [sN_eq]
          rw [if_pos ⟨hc, q.1, rfl⟩] at hp
          omega
        · rw [sN_ne _ _ _ e]
          rw [if_neg (fun z => e z.2.2.symm)] at hp
          show S.1 5 b' + _ ≤ K
          omega
      · obtain ⟨b1, b2, b3, b4⟩ := h.bits i
        refine ⟨b1, b2, ?_, b4⟩
        by_cases e : i = c
        · subst e; exact Or.inr (sI_eq _ _ _ _)
        · rw [show ((S.sI 30 c (nI 1)).sN 5 (S.1 28 c) (S.1 5 (S.1 28 c) + S.1 26 c)).2.1 30 i = S.2.1 30 i from sI_ne S 30 _ e]; exact b3
    exact h1.long rfl rfl
  · exact h
/-- how many there are stays -/
def sameC (S' S : TS) : Prop := S'.1 3 0 = S.1 3 0 ∧ S'.1 14 0 = S.1 14 0 ∧ S'.1 25 0 = S.1 25 0
theorem pGoBack_N (S : TS) (o : Nat) : (pGoBack S o).1 = S.1 := by unfold pGoBack; exact pTB_N S o 0
theorem pMoveIf_C (o : Nat) (S : TS) : sameC (pMoveIf o S) S ∧ (pMoveIf o S).1 1 0 = S.1 1 0 := by
  unfold pMoveIf
  split
  · exact ⟨⟨rfl, rfl, rfl⟩, rfl⟩
  · exact ⟨⟨rfl, rfl, rfl⟩, rfl⟩
theorem pOld_N (o : Nat) (S : TS) : (pOld o S).1 = S.1 := by
  unfold pOld
  split
  · exact pGoBack_N S o
  · rfl
theorem pGive_C (o : Nat) (S : TS) : sameC (pGive o S) S ∧ (pGive o S).1 1 0 = S.1 1 0 := by
  unfold pGive
  split
  · exact ⟨⟨rfl, rfl, rfl⟩, rfl⟩
  · exact ⟨⟨rfl, rfl, rfl⟩, rfl⟩
theorem pCome_C (c : Nat) (S : TS) : sameC (pCome c S) S ∧ (pCome c S).1 1 0 = S.1 1 0 := by
  unfold pCome
  split
  · exact ⟨⟨rfl, rfl, rfl⟩, rfl⟩
  · exact ⟨⟨rfl, rfl, rfl⟩, rfl⟩
theorem sameC.tr {A B C : TS} (h : sameC A B) (g : sameC B C) : sameC A C := ⟨h.1.trans g.1, h.2.1.trans g.2.1, h.2.2.trans g.2.2⟩
/-- in shape, as many of each, at that hour -/
def WH (K h : Nat) (T S : TS) : Prop := WF K T ∧ sameC T S ∧ T.1 1 0 = h
theorem WH.rep {f : Nat → TS → TS} {K h : Nat} {T S : TS} (n : Nat) (hT : WH K h T S) (hs : ∀ i T, i < n → WH K h T S → WF K (f i T) ∧ sameC (f i T) T ∧ (f i T).1 1 0 = T.1 1 0) : WH K h (rep n 0 f T) S :=
  rep_inv (P := fun T => WH K h T S) n 0 T hT (fun i T _ h2 hT => by
    obtain ⟨a1, a2, a3⟩ := hs i T (by omega) hT
    exact ⟨a1, a2.tr hT.2.1, a3.trans hT.2.2⟩)
theorem pH1_W (h : WF K S) (hh : S.1 1 0 + 1 ≤ 40000) : WH K (S.1 1 0 + 1) (pH1 S) S := ⟨h.hour hh, ⟨rfl, rfl, rfl⟩, rfl⟩
theorem pH2_W (h : WF K S) (hh : S.1 1 0 + 1 ≤ 40000) : WH K (S.1 1 0 + 1) (pH2 S) S := (pH1_W h hh).rep _ (fun i _ _ hT => ⟨hT.1.heal i, ⟨rfl, rfl, rfl⟩, rfl⟩)
theorem pH3_W (h : WF K S) (hh : S.1 1 0 + 1 ≤ 40000) : WH K (S.1 1 0 + 1) (pH3 S) S := (pH2_W h hh).rep _ (fun i T hi hT => ⟨hT.1.moveIf (by rw [hT.2.1.2.1]; exact hi), (pMoveIf_C i T).1, (pMoveIf_C i T).2⟩)
theorem pH4_W (h : WF K S) (hh : S.1 1 0 + 1 ≤ 40000) : WH K (S.1 1 0 + 1) (pH4 S) S := (pH3_W h hh).rep _ (fun i T hi hT => ⟨hT.1.old i, by unfold sameC; rw [pOld_N]; exact ⟨rfl, rfl, rfl⟩, by rw [pOld_N]⟩)
theorem pH5_W (h : WF K S) (hh : S.1 1 0 + 1 ≤ 40000) : WH K (S.1 1 0 + 1) (pH5 S) S := (pH4_W h hh).rep _ (fun i T hi hT => ⟨hT.1.give i, (pGive_C i T).1, (pGive_C i T).2⟩)
theorem pHour_W (h : WF K S) (hh : S.1 1 0 + 1 ≤ 40000) : WH K (S.1 1 0 + 1) (pHour S) S := (pH5_W h hh).rep _ (fun i T hi hT => ⟨hT.1.come (by rw [hT.2.1.2.2]; exact hi), (pCome_C i T).1, (pCome_C i T).2⟩)
theorem pPass_W (h : WF K S) : ∀ (n : Nat), S.1 1 0 + n ≤ 40000 → WH K (S.1 1 0 + n) (pPass n S) S := by
  intro n
  induction n with
  | zero => exact fun _ => ⟨h, ⟨rfl, rfl, rfl⟩, rfl⟩
  | succ n ih =>
    intro hh
    obtain ⟨a1, a2, a3⟩ := ih (by omega)
    have e : pPass (n + 1) S = pHour (pPass n S) := rep_last n 0 S
    rw [e]
    obtain ⟨b1, b2, b3⟩ := pHour_W a1 (by rw [a3]; omega)
    exact ⟨b1, b2.tr a2, by rw [b3, a3]; omega⟩
end WFk
