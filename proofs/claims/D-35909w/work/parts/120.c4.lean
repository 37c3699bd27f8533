/-! the class' orders read, more simple calls: written by prog/gen_c4.py -/
set_option maxRecDepth 100000
section C4
variable {γ : Gm} {ad0 ad fe : Nat → Nat → Nat} {X0 X : Sh} {S0 S S' : TS} {K c k : Nat}
set_option maxHeartbeats 4000000 in
theorem cl_first (hR : CpR γ ad fe X S) (hw : WF K S) {o : Nat} (ho : o < S.1 14 0) : Ev γ mX8_first [.ref (ad 12 o)] X (fun oc X1 => oc = .inl (some (.ref (ad 7 (S.1 23 (12 * o))))) ∧ X1 = X) := by
  have hno := hw.no
  have hm := hw.many ho
  refine Ev.of (lv := [_]) 0 ⟨by decide +kernel, rfl, (Nat.le_of_ble_eq_true rfl)⟩ rfl ?_
  refine sw_aload_n 1 rfl rfl rfl dX8_first_0 ?_
  refine gf_X8_27 4 rfl (hR.1 12 o ho) rfl rfl dX8_first_1 ?_
  refine sw_iconst 5 rfl (nI 0) rfl dX8_first_4 ?_
  refine sw_bald 6 rfl (hR.1 13 o ho) (show 0 < S.1 22 o by omega) (by omega) dX8_first_5 ?_
  rw [tr_lt (by omega)]
  refine sw_aret rfl (Or.inl ⟨_, rfl⟩) (isR_rf _) dX8_first_6 ?_
  exact ⟨rfl, rfl⟩

set_option maxHeartbeats 4000000 in
theorem cl_last (hR : CpR γ ad fe X S) (hw : WF K S) {o : Nat} (ho : o < S.1 14 0) : Ev γ mX8_last [.ref (ad 12 o)] X (fun oc X1 => oc = .inl (some (.ref (ad 7 (oLast S o)))) ∧ X1 = X) := by
  have hno := hw.no
  have hm := hw.many ho
  refine Ev.of (lv := [_]) 0 ⟨by decide +kernel, rfl, (Nat.le_of_ble_eq_true rfl)⟩ rfl ?_
  refine sw_aload_n 1 rfl rfl rfl dX8_last_0 ?_
  refine gf_X8_27 4 rfl (hR.1 12 o ho) rfl rfl dX8_last_1 ?_
  refine sw_aload_n 5 rfl rfl rfl dX8_last_4 ?_
  refine gf_X8_27 8 rfl (hR.1 12 o ho) rfl rfl dX8_last_5 ?_
  refine sw_alen 4 9 rfl (hR.1 13 o ho) rfl dX8_last_8 ?_
  refine sw_iconst 10 rfl (nI 1) rfl dX8_last_9 ?_
  refine sw_isubN 11 rfl (by omega) dX8_last_10 ?_
  refine sw_bald 12 rfl (hR.1 13 o ho) (show S.1 22 o - 1 < S.1 22 o by omega) (by omega) dX8_last_11 ?_
  rw [tr_lt (by omega)]
  refine sw_aret rfl (Or.inl ⟨_, rfl⟩) (isR_rf _) dX8_last_12 ?_
  exact ⟨rfl, rfl⟩

set_option maxHeartbeats 4000000 in
theorem cl_isOpen (hR : CpR γ ad fe X S) {o : Nat} (ho : o < S.1 14 0) : Ev γ mX8_isOpen [.ref (ad 12 o)] X (fun oc X1 => oc = .inl (some (.int (b2 (S.2.1 15 o = 0 ∨ S.2.1 15 o = nI 1)))) ∧ X1 = X) := by
  refine Ev.of (lv := [_]) 0 ⟨by decide +kernel, rfl, (Nat.le_of_ble_eq_true rfl)⟩ rfl ?_
  refine sw_aload_n 1 rfl rfl rfl dX8_isOpen_0 ?_
  refine gf_X8_9 4 rfl (hR.1 12 o ho) rfl rfl dX8_isOpen_1 ?_
  refine sw_if_eq 15 7 (by decide) rfl dX8_isOpen_4 (fun c_4 => ?_) (fun c_4 => ?_)
  · refine sw_iconst 16 rfl (nI 1) rfl dX8_isOpen_15 ?_
    refine sw_goto 20 (by decide) dX8_isOpen_16 ?_
    refine sw_iret rfl rfl dX8_isOpen_20 ?_
    exact ⟨by rw [b2_t (Or.inl c_4)], rfl⟩
  · refine sw_aload_n 8 rfl rfl rfl dX8_isOpen_7 ?_
    refine gf_X8_9 11 rfl (hR.1 12 o ho) rfl rfl dX8_isOpen_8 ?_
    refine sw_iconst 12 rfl (nI 1) rfl dX8_isOpen_11 ?_
    refine sw_icmp_ne 19 15 (by decide) rfl dX8_isOpen_12 (fun c_12 => ?_) (fun c_12 => ?_)
    · refine sw_iconst 20 rfl (nI 0) rfl dX8_isOpen_19 ?_
      refine sw_iret rfl rfl dX8_isOpen_20 ?_
      exact ⟨by rw [b2_f (fun q => q.elim c_4 c_12)], rfl⟩
    · refine sw_iconst 16 rfl (nI 1) rfl dX8_isOpen_15 ?_
      refine sw_goto 20 (by decide) dX8_isOpen_16 ?_
      refine sw_iret rfl rfl dX8_isOpen_20 ?_
      exact ⟨by rw [b2_t (Or.inr c_12)], rfl⟩

set_option maxHeartbeats 4000000 in
theorem cp_debt (hR : CpR γ ad fe X S) (hw : WF K S) (b c d : Int32) : Ev γ mX1_debt [.ref (ad 0 0), .int b, .int c, .int d] X (fun oc X1 => Oc (kTwo S b c) ["java/lang/IndexOutOfBoundsException"] (some (.long (rDebt S b c d))) oc ∧ CpF γ ad S X ad fe X1 (tk S (kTwo S b c)) 1 6) := by
  have hT := CpF.rf hR
  have hnb := hw.nb
  have hno := hw.no
  have hnc := hw.nc
  have hhr := hw.hr
  refine Ev.of (lv := [_, _, _, _, _, _]) 2 ⟨by decide +kernel, rfl, (Nat.le_of_ble_eq_true rfl)⟩ rfl ?_
  refine sw_aload_n 1 rfl rfl rfl dX1_debt_0 ?_
  refine sw_iload_n 2 rfl rfl dX1_debt_1 ?_
  refine sw_callV 5 [] rfl cs_X1_166 rfl (Nat.le_of_ble_eq_true rfl) rfl (hT.at 0 0 rfl) rfl rfl (cl_bro hT.1 hw b) rfl rfl (Nat.le_of_ble_eq_true rfl) dX1_debt_2 (fun v X hq => ?_) (fun E X hq => by rcases hq with ⟨-, hv, -⟩ | ⟨hp, hv, rfl⟩ <;> cases hv; have hk : kTwo S b c = 1 := (by simp [kTwo, cif, hp]); exact ⟨Oc.thr hk rfl, (hT.thr.tk (nI 1)).up' (by omega) (by omega) (by rw [hk]; rfl)⟩)
  rcases hq with ⟨hp, hv, rfl⟩ | ⟨-, hv, -⟩ <;> cases hv
  have e_2 := hp
  obtain ⟨i, hi, rfl⟩ := hp
  have xi : ix (nI i) = i := ix_nI (by omega)
  rw [xi]
  refine sw_astore 7 rfl [_, _, _, _, _, _] (Nat.le_of_ble_eq_true rfl) rfl rfl dX1_debt_5 ?_
  refine sw_aload_n 8 rfl rfl rfl dX1_debt_7 ?_
  refine sw_iload_n 9 rfl rfl dX1_debt_8 ?_
  refine sw_callV 12 [] rfl cs_X1_166 rfl (Nat.le_of_ble_eq_true rfl) rfl (hT.at 0 0 rfl) rfl rfl (cl_bro hT.1 hw c) rfl rfl (Nat.le_of_ble_eq_true rfl) dX1_debt_9 (fun v X hq => ?_) (fun E X hq => by rcases hq with ⟨-, hv, -⟩ | ⟨hp, hv, rfl⟩ <;> cases hv; have hk : kTwo S (nI i) c = 1 := (by simp [kTwo, cif, e_2, hp]); exact ⟨Oc.thr hk rfl, (hT.thr.tk (nI 1)).up' (by omega) (by omega) (by rw [hk]; rfl)⟩)
  rcases hq with ⟨hp, hv, rfl⟩ | ⟨-, hv, -⟩ <;> cases hv
  have e_9 := hp
  obtain ⟨j, hj, rfl⟩ := hp
  have xj : ix (nI j) = j := ix_nI (by omega)
  rw [xj]
  refine sw_astore 14 rfl [_, _, _, _, _, _] (Nat.le_of_ble_eq_true rfl) rfl rfl dX1_debt_12 ?_
  refine sw_iload_n 15 rfl rfl dX1_debt_14 ?_
  refine sw_if_eq 32 18 (by decide) rfl dX1_debt_15 (fun c_15 => ?_) (fun c_15 => ?_)
  · refine sw_aload 34 rfl rfl rfl dX1_debt_32 ?_
    refine gf_X1_88 37 rfl (hT.at 7 i hi) rfl rfl dX1_debt_34 ?_
    refine sw_aload 39 rfl rfl rfl dX1_debt_37 ?_
    refine gf_X1_91 42 rfl (hT.at 7 j hj) rfl rfl dX1_debt_39 ?_
    refine sw_lald 43 rfl (hT.at 8 i hi) (show j < 12 by omega) (Nat.le_of_ble_eq_true rfl) dX1_debt_42 ?_
    rw [tr_lt (by omega)]
    refine sw_lret rfl dX1_debt_43 ?_
    have hk : kTwo S (nI i) (nI j) = 0 := by simp [kTwo, cif, e_2, e_9]
    exact ⟨Oc.ok hk (by rw [rDebt, cif_t hk, xi, xj, if_pos c_15]), (hT.tk (nI 0)).up' (by omega) (by omega) (by rw [hk]; rfl)⟩
  · refine sw_aload 20 rfl rfl rfl dX1_debt_18 ?_
    refine gf_X1_95 23 rfl (hT.at 7 i hi) rfl rfl dX1_debt_20 ?_
    refine sw_aload 25 rfl rfl rfl dX1_debt_23 ?_
    refine gf_X1_91 28 rfl (hT.at 7 j hj) rfl rfl dX1_debt_25 ?_
    refine sw_lald 29 rfl (hT.at 9 i hi) (show j < 12 by omega) (Nat.le_of_ble_eq_true rfl) dX1_debt_28 ?_
    rw [tr_lt (by omega)]
    refine sw_goto 43 (by decide) dX1_debt_29 ?_
    refine sw_lret rfl dX1_debt_43 ?_
    have hk : kTwo S (nI i) (nI j) = 0 := by simp [kTwo, cif, e_2, e_9]
    exact ⟨Oc.ok hk (by rw [rDebt, cif_t hk, xi, xj, if_neg c_15]), (hT.tk (nI 0)).up' (by omega) (by omega) (by rw [hk]; rfl)⟩

set_option maxHeartbeats 4000000 in
theorem cp_agree (hR : CpR γ ad fe X S) (hw : WF K S) (b c : Int32) : Ev γ mX1_agree [.ref (ad 0 0), .int b, .int c] X (fun oc X1 => Oc (kTwo S b c) ["java/lang/IndexOutOfBoundsException"] (some (.int (rAgree S b c))) oc ∧ CpF γ ad S X ad fe X1 (tk S (kTwo S b c)) 1 6) := by
  have hT := CpF.rf hR
  have hnb := hw.nb
  have hno := hw.no
  have hnc := hw.nc
  have hhr := hw.hr
  refine Ev.of (lv := [_, _, _, _, _]) 2 ⟨by decide +kernel, rfl, (Nat.le_of_ble_eq_true rfl)⟩ rfl ?_
  refine sw_aload_n 1 rfl rfl rfl dX1_agree_0 ?_
  refine sw_iload_n 2 rfl rfl dX1_agree_1 ?_
  refine sw_callV 5 [] rfl cs_X1_166 rfl (Nat.le_of_ble_eq_true rfl) rfl (hT.at 0 0 rfl) rfl rfl (cl_bro hT.1 hw b) rfl rfl (Nat.le_of_ble_eq_true rfl) dX1_agree_2 (fun v X hq => ?_) (fun E X hq => by rcases hq with ⟨-, hv, -⟩ | ⟨hp, hv, rfl⟩ <;> cases hv; have hk : kTwo S b c = 1 := (by simp [kTwo, cif, hp]); exact ⟨Oc.thr hk rfl, (hT.thr.tk (nI 1)).up' (by omega) (by omega) (by rw [hk]; rfl)⟩)
  rcases hq with ⟨hp, hv, rfl⟩ | ⟨-, hv, -⟩ <;> cases hv
  have e_2 := hp
  obtain ⟨i, hi, rfl⟩ := hp
  have xi : ix (nI i) = i := ix_nI (by omega)
  rw [xi]
  refine sw_astore_n 6 rfl [_, _, _, _, _] (Nat.le_of_ble_eq_true rfl) rfl rfl dX1_agree_5 ?_
  refine sw_aload_n 7 rfl rfl rfl dX1_agree_6 ?_
  refine sw_iload_n 8 rfl rfl dX1_agree_7 ?_
  refine sw_callV 11 [] rfl cs_X1_166 rfl (Nat.le_of_ble_eq_true rfl) rfl (hT.at 0 0 rfl) rfl rfl (cl_bro hT.1 hw c) rfl rfl (Nat.le_of_ble_eq_true rfl) dX1_agree_8 (fun v X hq => ?_) (fun E X hq => by rcases hq with ⟨-, hv, -⟩ | ⟨hp, hv, rfl⟩ <;> cases hv; have hk : kTwo S (nI i) c = 1 := (by simp [kTwo, cif, e_2, hp]); exact ⟨Oc.thr hk rfl, (hT.thr.tk (nI 1)).up' (by omega) (by omega) (by rw [hk]; rfl)⟩)
  rcases hq with ⟨hp, hv, rfl⟩ | ⟨-, hv, -⟩ <;> cases hv
  have e_8 := hp
  obtain ⟨j, hj, rfl⟩ := hp
  have xj : ix (nI j) = j := ix_nI (by omega)
  rw [xj]
  refine sw_astore 13 rfl [_, _, _, _, _] (Nat.le_of_ble_eq_true rfl) rfl rfl dX1_agree_11 ?_
  refine sw_aload_n 14 rfl rfl rfl dX1_agree_13 ?_
  refine gf_X1_95 17 rfl (hT.at 7 i hi) rfl rfl dX1_agree_14 ?_
  refine sw_iload_n 18 rfl rfl dX1_agree_17 ?_
  refine sw_lald 19 rfl (hT.at 9 i hi) (show j < 12 by omega) (Nat.le_of_ble_eq_true rfl) dX1_agree_18 ?_
  rw [tr_lt (by omega)]
  refine sw_aload 21 rfl rfl rfl dX1_agree_19 ?_
  refine gf_X1_95 24 rfl (hT.at 7 j hj) rfl rfl dX1_agree_21 ?_
  refine sw_iload_n 25 rfl rfl dX1_agree_24 ?_
  refine sw_lald 26 rfl (hT.at 9 j hj) (show i < 12 by omega) (Nat.le_of_ble_eq_true rfl) dX1_agree_25 ?_
  rw [tr_lt (by omega)]
  refine sw_lneg 27 rfl dX1_agree_26 ?_
  refine sw_lne 35 28 31 rfl (by decide) rfl dX1_agree_27 dX1_agree_28 (fun c_27 => ?_) (fun c_27 => ?_)
  · refine sw_iconst 36 rfl (nI 0) rfl dX1_agree_35 ?_
    refine sw_iret rfl rfl dX1_agree_36 ?_
    have hk : kTwo S (nI i) (nI j) = 0 := by simp [kTwo, cif, e_2, e_8]
    exact ⟨Oc.ok hk (by rw [rAgree, b2_f (fun q => by rw [xi, xj] at q; exact c_27 q.2)]), (hT.tk (nI 0)).up' (by omega) (by omega) (by rw [hk]; rfl)⟩
  · refine sw_iconst 32 rfl (nI 1) rfl dX1_agree_31 ?_
    refine sw_goto 36 (by decide) dX1_agree_32 ?_
    refine sw_iret rfl rfl dX1_agree_36 ?_
    have hk : kTwo S (nI i) (nI j) = 0 := by simp [kTwo, cif, e_2, e_8]
    exact ⟨Oc.ok hk (by rw [rAgree, b2_t ⟨hk, by rw [xi, xj]; exact c_27⟩]), (hT.tk (nI 0)).up' (by omega) (by omega) (by rw [hk]; rfl)⟩

set_option maxHeartbeats 4000000 in
theorem cp_rob (hR : CpR γ ad fe X S) (hw : WF K S) (b : Int32) : Ev γ mX1_rob [.ref (ad 0 0), .int b] X (fun oc X1 => Oc (kRob S b) ["java/lang/IndexOutOfBoundsException", "java/lang/IllegalStateException"] (some (.int (rRob S b))) oc ∧ CpF γ ad S X ad fe X1 (sRob S b) 1 6) := by
  have hT := CpF.rf hR
  have hnb := hw.nb
  have hno := hw.no
  have hnc := hw.nc
  have hhr := hw.hr
  refine Ev.of (lv := [_, _, _]) 1 ⟨by decide +kernel, rfl, (Nat.le_of_ble_eq_true rfl)⟩ rfl ?_
  refine sw_aload_n 1 rfl rfl rfl dX1_rob_0 ?_
  refine gf_X1_60 4 rfl (hT.at 0 0 rfl) rfl rfl dX1_rob_1 ?_
  refine sw_iload_n 5 rfl rfl dX1_rob_4 ?_
  refine sw_callS 8 [] rfl cs_X1_79 rfl (Nat.le_of_ble_eq_true rfl) rfl (cl_known hT.1 hw (i := 2) (by omega) b) rfl rfl (Nat.le_of_ble_eq_true rfl) dX1_rob_5 (fun v X hq => ?_) (fun E X hq => by rcases hq with ⟨-, hv, -⟩ | ⟨hp, hv, rfl⟩ <;> cases hv; have hk : kRob S b = 1 := (by simp [kRob, cif, show ¬ isN b (S.1 25 0) from hp]); exact ⟨Oc.thr hk rfl, (hT.thr.tk (nI 1)).up' (by omega) (by omega) (by simp [sRob, hk, cif, tk])⟩)
  rcases hq with ⟨hp, hv, rfl⟩ | ⟨-, hv, -⟩ <;> cases hv
  have hp : isN b (S.1 25 0) := hp
  have e_5 := hp
  obtain ⟨i, hi, rfl⟩ := hp
  have xi : ix (nI i) = i := ix_nI (by omega)
  rw [xi]
  obtain ⟨⟨hc1, hc2⟩, -⟩ := hw.cou hi
  refine sw_castS 11 rfl (hT.at 16 i hi) rfl q786 dX1_rob_8 ?_
  refine sw_astore_n 12 rfl [_, _, _] (Nat.le_of_ble_eq_true rfl) rfl rfl dX1_rob_11 ?_
  refine sw_aload_n 13 rfl rfl rfl dX1_rob_12 ?_
  refine gf_X1_251 16 rfl (hT.at 16 i hi) rfl rfl dX1_rob_13 ?_
  refine sw_if_ne 23 19 (by decide) rfl dX1_rob_16 (fun c_16 => ?_) (fun c_16 => ?_)
  · refine sw_iconst 24 rfl (nI 0) rfl dX1_rob_23 ?_
    refine sw_topI (b2_f (P := S.2.1 30 i = 0) c_16).symm ?_
    refine sw_callS 27 [] rfl cs_X1_156 rfl (Nat.le_of_ble_eq_true rfl) rfl (cl_nState (P := S.2.1 30 i = 0)) rfl rfl (Nat.le_of_ble_eq_true rfl) dX1_rob_24 (fun v X hq => ?_) (fun E X hq => by rcases hq with ⟨-, hv, -⟩ | ⟨hp, hv, rfl⟩ <;> cases hv; have hk : kRob S (nI i) = 2 := (by simp [kRob, cif, e_5, xi, hp]); exact ⟨Oc.thr hk rfl, (hT.thr.tk (nI 2)).up' (by omega) (by omega) (by simp [sRob, hk, cif, tk])⟩)
    rcases hq with ⟨hp, hv, rfl⟩ | ⟨-, hv, -⟩ <;> cases hv
    have e_24 := hp
    refine sw_aload_n 28 rfl rfl rfl dX1_rob_27 ?_
    refine sw_iconst 29 rfl (nI 1) rfl dX1_rob_28 ?_
    refine pf_X1_251 32 rfl (hT.at 16 i hi) rfl rfl (Nat.le_of_ble_eq_true rfl) rfl dX1_rob_29 (fun X hX => ?_)
    replace hT := hT.p30 hi hX
    clear hX
    refine sw_aload_n 33 rfl rfl rfl dX1_rob_32 ?_
    refine gf_X1_74 36 rfl (hT.at 0 0 rfl) rfl rfl dX1_rob_33 ?_
    refine sw_iconst 37 rfl (nI 3) rfl dX1_rob_36 ?_
    refine sw_dup2 38 rfl rfl rfl dX1_rob_37 ?_
    refine sw_lald 39 rfl (hT.at 6 0 rfl) (by omega) (Nat.le_of_ble_eq_true rfl) dX1_rob_38 ?_
    try simp only [sI_N, sI_L, sL_N]
    refine sw_aload_n 40 rfl rfl rfl dX1_rob_39 ?_
    refine gf_X1_260 43 rfl (hT.at 16 i hi) rfl rfl dX1_rob_40 ?_
    try simp only [sI_N, sI_L, sL_N]
    refine sw_i2l 44 rfl dX1_rob_43 ?_
    refine sw_topL (nI_l (by omega)) ?_
    refine sw_ladd 45 rfl dX1_rob_44 ?_
    refine sw_last 46 rfl (hT.at 6 0 rfl) (by omega) (Nat.le_of_ble_eq_true rfl) dX1_rob_45 (fun X hX => ?_)
    replace hT := hT.p34 hX
    clear hX
    refine sw_aload_n 47 rfl rfl rfl dX1_rob_46 ?_
    refine gf_X1_260 50 rfl (hT.at 16 i hi) rfl rfl dX1_rob_47 ?_
    refine sw_iret rfl rfl dX1_rob_50 ?_
    exact absurd e_24 c_16
  · refine sw_iconst 20 rfl (nI 1) rfl dX1_rob_19 ?_
    refine sw_topI (b2_t c_16).symm ?_
    refine sw_goto 24 (by decide) dX1_rob_20 ?_
    refine sw_callS 27 [] rfl cs_X1_156 rfl (Nat.le_of_ble_eq_true rfl) rfl (cl_nState (P := S.2.1 30 i = 0)) rfl rfl (Nat.le_of_ble_eq_true rfl) dX1_rob_24 (fun v X hq => ?_) (fun E X hq => by rcases hq with ⟨-, hv, -⟩ | ⟨hp, hv, rfl⟩ <;> cases hv; have hk : kRob S (nI i) = 2 := (by simp [kRob, cif, e_5, xi, hp]); exact ⟨Oc.thr hk rfl, (hT.thr.tk (nI 2)).up' (by omega) (by omega) (by simp [sRob, hk, cif, tk])⟩)
    rcases hq with ⟨hp, hv, rfl⟩ | ⟨-, hv, -⟩ <;> cases hv
    have e_24 := hp
    refine sw_aload_n 28 rfl rfl rfl dX1_rob_27 ?_
    refine sw_iconst 29 rfl (nI 1) rfl dX1_rob_28 ?_
    refine pf_X1_251 32 rfl (hT.at 16 i hi) rfl rfl (Nat.le_of_ble_eq_true rfl) rfl dX1_rob_29 (fun X hX => ?_)
    replace hT := hT.p30 hi hX
    clear hX
    refine sw_aload_n 33 rfl rfl rfl dX1_rob_32 ?_
    refine gf_X1_74 36 rfl (hT.at 0 0 rfl) rfl rfl dX1_rob_33 ?_
    refine sw_iconst 37 rfl (nI 3) rfl dX1_rob_36 ?_
    refine sw_dup2 38 rfl rfl rfl dX1_rob_37 ?_
    refine sw_lald 39 rfl (hT.at 6 0 rfl) (by omega) (Nat.le_of_ble_eq_true rfl) dX1_rob_38 ?_
    try simp only [sI_N, sI_L, sL_N]
    refine sw_aload_n 40 rfl rfl rfl dX1_rob_39 ?_
    refine gf_X1_260 43 rfl (hT.at 16 i hi) rfl rfl dX1_rob_40 ?_
    try simp only [sI_N, sI_L, sL_N]
    refine sw_i2l 44 rfl dX1_rob_43 ?_
    refine sw_topL (nI_l (by omega)) ?_
    refine sw_ladd 45 rfl dX1_rob_44 ?_
    refine sw_last 46 rfl (hT.at 6 0 rfl) (by omega) (Nat.le_of_ble_eq_true rfl) dX1_rob_45 (fun X hX => ?_)
    replace hT := hT.p34 hX
    clear hX
    refine sw_aload_n 47 rfl rfl rfl dX1_rob_46 ?_
    refine gf_X1_260 50 rfl (hT.at 16 i hi) rfl rfl dX1_rob_47 ?_
    refine sw_iret rfl rfl dX1_rob_50 ?_
    have hk : kRob S (nI i) = 0 := by simp [kRob, cif, e_5, xi, e_24]
    exact ⟨Oc.ok hk (by rw [rRob, cif_t hk, xi]; rfl), (hT.tk (nI 0)).up' (by omega) (by omega) (by rw [sRob, cif_t hk, xi]; exact congrArg (fun T : TS => T.sL 34 3 (S.2.2 34 3 + lN (S.1 26 i))) (tkI S i (nI 1) (nI 0) (by omega)))⟩

end C4
