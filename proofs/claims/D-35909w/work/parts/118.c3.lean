/-! the class' calls, the simple ones: written by prog/gen_c3.py -/
set_option maxRecDepth 100000
def Oc (k : Nat) (Es : List String) (v : Option Value) (oc : Ot) : Prop := (k = 0 ∧ oc = .inl v) ∨ ∃ i E, Es[i]? = some E ∧ k = i + 1 ∧ oc = .inr E
theorem Oc.ok {k : Nat} {Es : List String} {v w : Option Value} (h : k = 0) (e : v = w) : Oc k Es w (.inl v) := Or.inl ⟨h, by rw [e]⟩
theorem Oc.thr {k i : Nat} {Es : List String} {v : Option Value} {E : String} (h : k = i + 1) (e : Es[i]? = some E) : Oc k Es v (.inr E) := Or.inr ⟨i, E, e, h, rfl⟩
theorem tkI (S : TS) {k : Nat} (j : Nat) (v w : Int32) (h : k ≠ 0) : (S.sI 0 0 w).sI k j v = (S.sI k j v).sI 0 0 w := by
  refine Prod.ext rfl (Prod.ext ?_ rfl)
  funext a b
  show (if a = k ∧ b = j then v else if a = 0 ∧ b = 0 then w else S.2.1 a b) = if a = 0 ∧ b = 0 then w else if a = k ∧ b = j then v else S.2.1 a b
  by_cases q : a = k ∧ b = j
  · rw [if_pos q, if_neg (by omega), if_pos q]
  · rw [if_neg q, if_neg q]
section C3
variable {γ : Gm} {ad0 ad fe : Nat → Nat → Nat} {X0 X : Sh} {S0 S S' : TS} {K c k : Nat}
theorem CpF.tk (h : CpF γ ad0 S0 X0 ad fe X S c k) (v : Int32) : CpF γ ad0 S0 X0 ad fe X (S.sI 0 0 v) c k :=
  h.oth ⟨rfl, rfl, rfl⟩ (fun t i hv => by unfold vl at hv; split at hv <;> first | rfl | cases hv)
theorem CpF.up' (h : CpF γ ad0 S0 X0 ad fe X S c k) {c' k' : Nat} (hc : c ≤ c') (hk : k ≤ k') (e : S' = S) : CpF γ ad0 S0 X0 ad fe X S' c' k' := by
  subst e; exact h.up hc hk
theorem CpF.thr (h : CpF γ ad0 S0 X0 ad fe X S c k) : CpF γ ad0 S0 X0 ad fe (thX X) S (c + 1) (k + 6) := by
  obtain ⟨h1, ⟨h2, h3, h4, h5⟩, h6, h7⟩ := h
  refine ⟨⟨h1.1, h1.2.1, fun a ha => h1.2.2 a (Nat.le_of_succ_le ha)⟩, ⟨?_, ?_, ?_, ?_⟩, h6, h7⟩
  · show X0.1 ≤ X.1 + 1; omega
  · show X.1 + 1 ≤ _; omega
  · show X0.2.1 ≤ X.2.1 + 6; omega
  · show X.2.1 + 6 ≤ _; omega
set_option maxHeartbeats 4000000 in
theorem cp_rate (hR : CpR γ ad fe X S) (hw : WF K S) (b c : Int32) : Ev γ mX1_rate [.ref (ad 0 0), .int b, .int c] X (fun oc X1 => Oc (kRate S b c) ["java/lang/IndexOutOfBoundsException", "java/lang/IllegalArgumentException"] (some (.int (rRate S b c))) oc ∧ CpF γ ad S X ad fe X1 (sRate S b c) 1 6) := by
  have hT := CpF.rf hR
  have hnb := hw.nb
  have hno := hw.no
  have hnc := hw.nc
  have hhr := hw.hr
  refine Ev.of (lv := [_, _, _, _, _]) 2 ⟨by decide +kernel, rfl, (Nat.le_of_ble_eq_true rfl)⟩ rfl ?_
  refine sw_aload_n 1 rfl rfl rfl dX1_rate_0 ?_
  refine sw_iload_n 2 rfl rfl dX1_rate_1 ?_
  refine sw_callV 5 [] rfl cs_X1_166 rfl (Nat.le_of_ble_eq_true rfl) rfl (hT.at 0 0 rfl) rfl rfl (cl_bro hT.1 hw b) rfl rfl (Nat.le_of_ble_eq_true rfl) dX1_rate_2 (fun v X hq => ?_) (fun E X hq => by rcases hq with ⟨-, hv, -⟩ | ⟨hp, hv, rfl⟩ <;> cases hv; have hk : kRate S b c = 1 := (by simp [kRate, cif, hp]); exact ⟨Oc.thr hk rfl, (hT.thr.tk (nI 1)).up' (by omega) (by omega) (by simp [sRate, hk, cif, tk])⟩)
  rcases hq with ⟨hp, hv, rfl⟩ | ⟨-, hv, -⟩ <;> cases hv
  have e_2 := hp
  obtain ⟨i, hi, rfl⟩ := hp
  have xi : ix (nI i) = i := ix_nI (by omega)
  rw [xi]
  refine sw_astore_n 6 rfl [_, _, _, _, _] (Nat.le_of_ble_eq_true rfl) rfl rfl dX1_rate_5 ?_
  refine sw_iload_n 7 rfl rfl dX1_rate_6 ?_
  refine sw_callS 10 [] rfl cs_X1_152 rfl (Nat.le_of_ble_eq_true rfl) rfl (cl_nRate c) rfl rfl (Nat.le_of_ble_eq_true rfl) dX1_rate_7 (fun v X hq => ?_) (fun E X hq => by rcases hq with ⟨-, hv, -⟩ | ⟨hp, hv, rfl⟩ <;> cases hv; have hk : kRate S (nI i) c = 2 := (by simp [kRate, cif, e_2, hp]); exact ⟨Oc.thr hk rfl, (hT.thr.tk (nI 2)).up' (by omega) (by omega) (by simp [sRate, hk, cif, tk])⟩)
  rcases hq with ⟨hp, hv, rfl⟩ | ⟨-, hv, -⟩ <;> cases hv
  have e_7 := hp
  obtain ⟨j, hj, rfl⟩ := hp
  have xj : ix (nI j) = j := ix_nI (by omega)
  refine sw_aload_n 11 rfl rfl rfl dX1_rate_10 ?_
  refine gf_X1_170 14 rfl (hT.at 7 i hi) rfl rfl dX1_rate_11 ?_
  refine sw_istore 16 rfl [_, _, _, _, _] (Nat.le_of_ble_eq_true rfl) rfl dX1_rate_14 ?_
  refine sw_aload_n 17 rfl rfl rfl dX1_rate_16 ?_
  refine sw_iload_n 18 rfl rfl dX1_rate_17 ?_
  refine pf_X1_170 21 rfl (hT.at 7 i hi) (Nat.le_of_ble_eq_true rfl) rfl dX1_rate_18 (fun X hX => ?_)
  replace hT := hT.p6 hi hX
  clear hX
  refine sw_iload 23 rfl rfl dX1_rate_21 ?_
  refine sw_iret rfl rfl dX1_rate_23 ?_
  have hk : kRate S (nI i) (nI j) = 0 := by simp [kRate, cif, e_2, e_7]
  exact ⟨Oc.ok hk (by simp [rRate, hk, cif, xi, xj]), (hT.tk (nI 0)).up' (by omega) (by omega) (by rw [sRate, cif_t hk, xi, xj]; first | rfl | exact tkI _ _ _ _ (by omega))⟩

set_option maxHeartbeats 4000000 in
theorem cp_festival (hR : CpR γ ad fe X S) (hw : WF K S) : Ev γ mX1_festival [.ref (ad 0 0)] X (fun oc X1 => Oc (0) [] (some (.int (rFest S))) oc ∧ CpF γ ad S X ad fe X1 (sFest S) 0 0) := by
  have hT := CpF.rf hR
  have hnb := hw.nb
  have hno := hw.no
  have hnc := hw.nc
  have hhr := hw.hr
  have hf := hw.fest
  refine Ev.of (lv := [_]) 0 ⟨by decide +kernel, rfl, (Nat.le_of_ble_eq_true rfl)⟩ rfl ?_
  refine sw_aload_n 1 rfl rfl rfl dX1_festival_0 ?_
  refine sw_aload_n 2 rfl rfl rfl dX1_festival_1 ?_
  refine gf_X1_105 5 rfl (hT.at 0 0 rfl) rfl rfl dX1_festival_2 ?_
  refine sw_if_ne 12 8 (by decide) rfl dX1_festival_5 (fun c_5 => ?_) (fun c_5 => ?_)
  · refine sw_iconst 13 rfl (nI 0) rfl dX1_festival_12 ?_
    refine pf_X1_105 16 rfl (hT.at 0 0 rfl) rfl rfl (Nat.le_of_ble_eq_true rfl) rfl dX1_festival_13 (fun X hX => ?_)
    replace hT := hT.p2 hX
    clear hX
    refine sw_aload_n 17 rfl rfl rfl dX1_festival_16 ?_
    refine gf_X1_105 20 rfl (hT.at 0 0 rfl) rfl rfl dX1_festival_17 ?_
    refine sw_iret rfl (by rw [sI_eq]; rfl) dX1_festival_20 ?_
    exact ⟨Or.inl ⟨rfl, by rw [sI_eq, rFest, if_neg c_5]⟩, (hT.tk (nI 0)).up' (by omega) (by omega) (by rw [sFest, rFest, if_neg c_5]; exact tkI _ _ _ _ (by omega))⟩
  · refine sw_iconst 9 rfl (nI 1) rfl dX1_festival_8 ?_
    refine sw_goto 13 (by decide) dX1_festival_9 ?_
    refine pf_X1_105 16 rfl (hT.at 0 0 rfl) rfl rfl (Nat.le_of_ble_eq_true rfl) rfl dX1_festival_13 (fun X hX => ?_)
    replace hT := hT.p2 hX
    clear hX
    refine sw_aload_n 17 rfl rfl rfl dX1_festival_16 ?_
    refine gf_X1_105 20 rfl (hT.at 0 0 rfl) rfl rfl dX1_festival_17 ?_
    refine sw_iret rfl (by rw [sI_eq]; rfl) dX1_festival_20 ?_
    exact ⟨Or.inl ⟨rfl, by rw [sI_eq, rFest, if_pos c_5]⟩, (hT.tk (nI 0)).up' (by omega) (by omega) (by rw [sFest, rFest, if_pos c_5]; exact tkI _ _ _ _ (by omega))⟩

set_option maxHeartbeats 4000000 in
theorem cp_law (hR : CpR γ ad fe X S) (hw : WF K S) (b c : Int32) : Ev γ mX1_law [.ref (ad 0 0), .int b, .int c] X (fun oc X1 => Oc (kLaw b c) ["java/lang/IndexOutOfBoundsException", "java/lang/IllegalArgumentException"] (some (.int (rLaw S b c))) oc ∧ CpF γ ad S X ad fe X1 (sLaw S b c) 1 6) := by
  have hT := CpF.rf hR
  have hnb := hw.nb
  have hno := hw.no
  have hnc := hw.nc
  have hhr := hw.hr
  refine Ev.of (lv := [_, _, _]) 0 ⟨by decide +kernel, rfl, (Nat.le_of_ble_eq_true rfl)⟩ rfl ?_
  refine sw_iload_n 1 rfl rfl dX1_law_0 ?_
  refine sw_callS 4 [] rfl cs_X1_148 rfl (Nat.le_of_ble_eq_true rfl) rfl (cl_nTown b) rfl rfl (Nat.le_of_ble_eq_true rfl) dX1_law_1 (fun v X hq => ?_) (fun E X hq => by rcases hq with ⟨-, hv, -⟩ | ⟨hp, hv, rfl⟩ <;> cases hv; have hk : kLaw b c = 1 := (by simp [kLaw, cif, hp]); exact ⟨Oc.thr hk rfl, (hT.thr.tk (nI 1)).up' (by omega) (by omega) (by simp [sLaw, hk, cif, tk])⟩)
  rcases hq with ⟨hp, hv, rfl⟩ | ⟨-, hv, -⟩ <;> cases hv
  have e_1 := hp
  obtain ⟨i, hi, rfl⟩ := hp
  have xi : ix (nI i) = i := ix_nI (by omega)
  refine sw_iconst 5 rfl (nI 0) rfl dX1_law_4 ?_
  refine sw_ldc 7 rfl q106 dX1_law_5 ?_
  refine sw_topI (show (1000000 : Int32) = nI 1000000 from rfl) ?_
  refine sw_iload_n 8 rfl rfl dX1_law_7 ?_
  refine sw_callS 11 [] rfl cs_X1_21 rfl (Nat.le_of_ble_eq_true rfl) rfl (cl_btw0 c 1000000 (by omega)) rfl rfl (Nat.le_of_ble_eq_true rfl) dX1_law_8 (fun v X hq => ?_) (fun E X hq => by obtain ⟨hv, -⟩ := hq; cases hv)
  obtain ⟨hv, rfl⟩ := hq
  cases hv
  refine sw_callS 14 [] rfl cs_X1_85 rfl (Nat.le_of_ble_eq_true rfl) rfl cl_nArgument rfl rfl (Nat.le_of_ble_eq_true rfl) dX1_law_11 (fun v X hq => ?_) (fun E X hq => by rcases hq with ⟨-, hv, -⟩ | ⟨hp, hv, rfl⟩ <;> cases hv; have hk : kLaw (nI i) c = 2 := (by simp [kLaw, cif, e_1, hp]); exact ⟨Oc.thr hk rfl, (hT.thr.tk (nI 2)).up' (by omega) (by omega) (by simp [sLaw, hk, cif, tk])⟩)
  rcases hq with ⟨hp, hv, rfl⟩ | ⟨-, hv, -⟩ <;> cases hv
  have e_11 := hp
  obtain ⟨j, hj, rfl⟩ := hp
  have xj : ix (nI j) = j := ix_nI (by omega)
  refine sw_aload_n 15 rfl rfl rfl dX1_law_14 ?_
  refine gf_X1_63 18 rfl (hT.at 0 0 rfl) rfl rfl dX1_law_15 ?_
  refine sw_iload_n 19 rfl rfl dX1_law_18 ?_
  refine sw_iload_n 20 rfl rfl dX1_law_19 ?_
  refine sw_iast 21 rfl (hT.at 3 0 rfl) hi (Nat.le_of_ble_eq_true rfl) dX1_law_20 (fun X hX => ?_)
  replace hT := hT.p31 hX
  clear hX
  refine sw_aload_n 22 rfl rfl rfl dX1_law_21 ?_
  refine gf_X1_67 25 rfl (hT.at 0 0 rfl) rfl rfl dX1_law_22 ?_
  refine sw_iload_n 26 rfl rfl dX1_law_25 ?_
  refine sw_iald 27 rfl (hT.at 4 0 rfl) hi (Nat.le_of_ble_eq_true rfl) dX1_law_26 ?_
  rw [show (S.sI 31 i (nI j)).2.1 32 i = S.2.1 32 i from rfl]
  refine sw_iret rfl rfl dX1_law_27 ?_
  have hk : kLaw (nI i) (nI j) = 0 := by simp [kLaw, cif, e_1, e_11]
  exact ⟨Oc.ok hk (by simp [rLaw, hk, cif, xi]), (hT.tk (nI 0)).up' (by omega) (by omega) (by rw [sLaw, cif_t hk, xi]; first | rfl | exact tkI _ _ _ _ (by omega))⟩

set_option maxHeartbeats 4000000 in
theorem cp_list (hR : CpR γ ad fe X S) (hw : WF K S) (b : Int32) : Ev γ mX1_list [.ref (ad 0 0), .int b] X (fun oc X1 => Oc (kList b) ["java/lang/IndexOutOfBoundsException"] (some (.int (rList S b))) oc ∧ CpF γ ad S X ad fe X1 (sList S b) 1 6) := by
  have hT := CpF.rf hR
  have hnb := hw.nb
  have hno := hw.no
  have hnc := hw.nc
  have hhr := hw.hr
  refine Ev.of (lv := [_, _]) 0 ⟨by decide +kernel, rfl, (Nat.le_of_ble_eq_true rfl)⟩ rfl ?_
  refine sw_iload_n 1 rfl rfl dX1_list_0 ?_
  refine sw_callS 4 [] rfl cs_X1_173 rfl (Nat.le_of_ble_eq_true rfl) rfl (cl_nName b) rfl rfl (Nat.le_of_ble_eq_true rfl) dX1_list_1 (fun v X hq => ?_) (fun E X hq => by rcases hq with ⟨-, hv, -⟩ | ⟨hp, hv, rfl⟩ <;> cases hv; have hk : kList b = 1 := (by simp [kList, cif, hp]); exact ⟨Oc.thr hk rfl, (hT.thr.tk (nI 1)).up' (by omega) (by omega) (by simp [sList, hk, cif, tk])⟩)
  rcases hq with ⟨hp, hv, rfl⟩ | ⟨-, hv, -⟩ <;> cases hv
  have e_1 := hp
  obtain ⟨i, hi, rfl⟩ := hp
  have xi : ix (nI i) = i := ix_nI (by omega)
  refine sw_aload_n 5 rfl rfl rfl dX1_list_4 ?_
  refine gf_X1_70 8 rfl (hT.at 0 0 rfl) rfl rfl dX1_list_5 ?_
  refine sw_iload_n 9 rfl rfl dX1_list_8 ?_
  refine sw_aload_n 10 rfl rfl rfl dX1_list_9 ?_
  refine gf_X1_70 13 rfl (hT.at 0 0 rfl) rfl rfl dX1_list_10 ?_
  refine sw_iload_n 14 rfl rfl dX1_list_13 ?_
  refine sw_zald 15 rfl (hT.at 5 0 rfl) hi (Nat.le_of_ble_eq_true rfl) dX1_list_14 ?_
  refine sw_if_ne 22 18 (by decide) rfl dX1_list_15 (fun c_15 => ?_) (fun c_15 => ?_)
  · refine sw_iconst 23 rfl (nI 0) rfl dX1_list_22 ?_
    refine sw_zast 24 rfl (hT.at 5 0 rfl) rfl hi (Nat.le_of_ble_eq_true rfl) dX1_list_23 (fun X hX => ?_)
    replace hT := hT.p33 hX
    clear hX
    refine sw_aload_n 25 rfl rfl rfl dX1_list_24 ?_
    refine gf_X1_70 28 rfl (hT.at 0 0 rfl) rfl rfl dX1_list_25 ?_
    refine sw_iload_n 29 rfl rfl dX1_list_28 ?_
    refine sw_zald 30 rfl (hT.at 5 0 rfl) hi (Nat.le_of_ble_eq_true rfl) dX1_list_29 ?_
    refine sw_iret rfl (by rw [sI_eq]; rfl) dX1_list_30 ?_
    have hk : kList (nI i) = 0 := cif_t e_1
    have hr : rList S (nI i) = nI 0 := by rw [rList, cif_t hk, xi, if_neg c_15]
    exact ⟨Oc.ok hk (by rw [sI_eq, hr]), (hT.tk (nI 0)).up' (by omega) (by omega) (by rw [sList, cif_t hk, hr, xi]; exact tkI _ _ _ _ (by omega))⟩
  · refine sw_iconst 19 rfl (nI 1) rfl dX1_list_18 ?_
    refine sw_goto 23 (by decide) dX1_list_19 ?_
    refine sw_zast 24 rfl (hT.at 5 0 rfl) rfl hi (Nat.le_of_ble_eq_true rfl) dX1_list_23 (fun X hX => ?_)
    replace hT := hT.p33 hX
    clear hX
    refine sw_aload_n 25 rfl rfl rfl dX1_list_24 ?_
    refine gf_X1_70 28 rfl (hT.at 0 0 rfl) rfl rfl dX1_list_25 ?_
    refine sw_iload_n 29 rfl rfl dX1_list_28 ?_
    refine sw_zald 30 rfl (hT.at 5 0 rfl) hi (Nat.le_of_ble_eq_true rfl) dX1_list_29 ?_
    refine sw_iret rfl (by rw [sI_eq]; rfl) dX1_list_30 ?_
    have hk : kList (nI i) = 0 := cif_t e_1
    have hr : rList S (nI i) = nI 1 := by rw [rList, cif_t hk, xi, if_pos c_15]
    exact ⟨Oc.ok hk (by rw [sI_eq, hr]), (hT.tk (nI 0)).up' (by omega) (by omega) (by rw [sList, cif_t hk, hr, xi]; exact tkI _ _ _ _ (by omega))⟩

end C3
