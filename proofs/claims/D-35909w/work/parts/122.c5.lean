/-! the class' payments: written by prog/gen_c5.py -/
set_option maxRecDepth 100000
theorem WF.cashUp {K d b v : Nat} {S : TS} (h : WF K S) (hv : v ≤ S.1 5 b + d) : WF (K + d) (S.sN 5 b v) := by
  refine ⟨h.1, fun b' hb => ?_, h.2.2.1, fun o' ho => h.2.2.2.1 o' ho, h.2.2.2.2.1, h.2.2.2.2.2.1, h.2.2.2.2.2.2⟩
  obtain ⟨a1, a2, a3, a4, a5⟩ := h.2.1 b' hb
  refine ⟨a1, a2, a3, a4, ?_⟩
  have e : pend (S.sN 5 b v).1 (S.sN 5 b v).2.1 b' ((S.sN 5 b v).1 25 0) = pend S.1 S.2.1 b' (S.1 25 0) := pend_c _ (fun c _ => ⟨rfl, rfl, rfl⟩)
  rw [e]
  by_cases q : b' = b
  · subst q
    rw [sN_eq]; omega
  · rw [sN_ne _ _ _ q]; omega
section C5
variable {γ : Gm} {ad0 ad fe : Nat → Nat → Nat} {X0 X : Sh} {S0 S S' : TS} {K c k : Nat}
set_option maxHeartbeats 4000000 in
theorem cp_pay (hR : CpR γ ad fe X S) (hw : WF K S) (hK : K < 2 ^ 31) (b c d : Int32) : Ev γ mX1_pay [.ref (ad 0 0), .int b, .int c, .int d] X (fun oc X1 => Oc (kPay S b c d) ["java/lang/IndexOutOfBoundsException", "java/lang/IllegalArgumentException", "java/lang/IllegalStateException"] (some (.int (rPay S b c d))) oc ∧ CpF γ ad S X ad fe X1 (sPay S b c d) 1 6) := by
  have hT := CpF.rf hR
  have hnb := hw.nb
  have hno := hw.no
  have hnc := hw.nc
  have hhr := hw.hr
  refine Ev.of (lv := [_, _, _, _, _, _]) 2 ⟨by decide +kernel, rfl, (Nat.le_of_ble_eq_true rfl)⟩ rfl ?_
  refine sw_aload_n 1 rfl rfl rfl dX1_pay_0 ?_
  refine sw_iload_n 2 rfl rfl dX1_pay_1 ?_
  refine sw_iload_n 3 rfl rfl dX1_pay_2 ?_
  refine sw_callV 6 [] rfl cs_X1_329 rfl (Nat.le_of_ble_eq_true rfl) rfl (hT.at 0 0 rfl) rfl rfl (cl_nTwo hT.1 hw b c) rfl rfl (Nat.le_of_ble_eq_true rfl) dX1_pay_3 (fun v X hq => ?_) (fun E X hq => by rcases hq with ⟨-, -, hv, -⟩ | ⟨hp, hv, rfl⟩ | ⟨hp, he, hv, rfl⟩ <;> cases hv; (have hk : kPay S b c d = 1 := (by simp [kPay, cif, hp]); exact ⟨Oc.thr hk rfl, (hT.thr.tk (nI 1)).up' (by omega) (by omega) (by simp [sPay, hk, cif, tk])⟩); (subst he; have hk : kPay S b b d = 2 := (by simp [kPay, cif, hp.1]); exact ⟨Oc.thr hk rfl, (hT.thr.tk (nI 2)).up' (by omega) (by omega) (by simp [sPay, hk, cif, tk])⟩))
  rcases hq with ⟨hp, he, hv, rfl⟩ | ⟨-, hv, -⟩ | ⟨-, -, hv, -⟩ <;> cases hv
  have e_3 := hp
  obtain ⟨⟨i, hi, rfl⟩, ⟨j, hj, rfl⟩⟩ := hp
  have xi : ix (nI i) = i := ix_nI (by omega)
  have xj : ix (nI j) = j := ix_nI (by omega)
  have hij : i ≠ j := fun q => he (by rw [q])
  refine sw_iload_n 7 rfl rfl dX1_pay_6 ?_
  refine sw_callS 10 [] rfl cs_X1_176 rfl (Nat.le_of_ble_eq_true rfl) rfl (cl_nAmount d) rfl rfl (Nat.le_of_ble_eq_true rfl) dX1_pay_7 (fun v X hq => ?_) (fun E X hq => by rcases hq with ⟨-, hv, -⟩ | ⟨hp, hv, rfl⟩ <;> cases hv; have hk : kPay S (nI i) (nI j) d = 2 := (by simp [kPay, cif, e_3, he, hp]); exact ⟨Oc.thr hk rfl, (hT.thr.tk (nI 2)).up' (by omega) (by omega) (by simp [sPay, hk, cif, tk])⟩)
  rcases hq with ⟨hp, hv, rfl⟩ | ⟨-, hv, -⟩ <;> cases hv
  have e_7 := hp
  obtain ⟨m, hm1, hm, rfl⟩ := hp
  have xm : ix (nI m) = m := ix_nI (by omega)
  refine sw_aload_n 11 rfl rfl rfl dX1_pay_10 ?_
  refine gf_X1_53 14 rfl (hT.at 0 0 rfl) rfl rfl dX1_pay_11 ?_
  refine sw_iload_n 15 rfl rfl dX1_pay_14 ?_
  refine sw_callV 18 [] rfl cs_X1_332 rfl (Nat.le_of_ble_eq_true rfl) rfl (hT.at 1 0 (by show (0 : Nat) < 3; omega)) rfl rfl (cl_get hT.1 hw (i := 0) (by omega) (show i < S.1 3 0 from hi)) rfl rfl (Nat.le_of_ble_eq_true rfl) dX1_pay_15 (fun v X hq => ?_) (fun E X hq => by obtain ⟨hv, -⟩ := hq; cases hv)
  obtain ⟨hv, rfl⟩ := hq
  cases hv
  refine sw_castS 21 rfl (hT.at 7 i hi) rfl q233 dX1_pay_18 ?_
  refine sw_astore 23 rfl [_, _, _, _, _, _] (Nat.le_of_ble_eq_true rfl) rfl rfl dX1_pay_21 ?_
  refine sw_aload_n 24 rfl rfl rfl dX1_pay_23 ?_
  refine gf_X1_53 27 rfl (hT.at 0 0 rfl) rfl rfl dX1_pay_24 ?_
  refine sw_iload_n 28 rfl rfl dX1_pay_27 ?_
  refine sw_callV 31 [] rfl cs_X1_332 rfl (Nat.le_of_ble_eq_true rfl) rfl (hT.at 1 0 (by show (0 : Nat) < 3; omega)) rfl rfl (cl_get hT.1 hw (i := 0) (by omega) (show j < S.1 3 0 from hj)) rfl rfl (Nat.le_of_ble_eq_true rfl) dX1_pay_28 (fun v X hq => ?_) (fun E X hq => by obtain ⟨hv, -⟩ := hq; cases hv)
  obtain ⟨hv, rfl⟩ := hq
  cases hv
  refine sw_castS 34 rfl (hT.at 7 j hj) rfl q233 dX1_pay_31 ?_
  refine sw_astore 36 rfl [_, _, _, _, _, _] (Nat.le_of_ble_eq_true rfl) rfl rfl dX1_pay_34 ?_
  refine sw_aload 38 rfl rfl rfl dX1_pay_36 ?_
  refine gf_X1_117 41 rfl (hT.at 7 i hi) rfl rfl dX1_pay_38 ?_
  refine sw_if_ne 80 44 (by decide) rfl dX1_pay_41 (fun c_41 => ?_) (fun c_41 => ?_)
  · refine sw_iconst 81 rfl (nI 0) rfl dX1_pay_80 ?_
    refine sw_topI (b2_f (P := S.2.1 7 i = 0 ∧ S.2.1 7 j = 0 ∧ ¬ S.2.2 12 (12 * i + j) < lN m ∧ ¬ S.1 5 i < m) (by rintro ⟨q1, q2, q3, q4⟩; first | exact c_41 q1 | exact c_49 q2 | exact q3 c_61 | exact q4 c_72)).symm ?_
    refine sw_callS 84 [] rfl cs_X1_156 rfl (Nat.le_of_ble_eq_true rfl) rfl (cl_nState (P := S.2.1 7 i = 0 ∧ S.2.1 7 j = 0 ∧ ¬ S.2.2 12 (12 * i + j) < lN m ∧ ¬ S.1 5 i < m)) rfl rfl (Nat.le_of_ble_eq_true rfl) dX1_pay_81 (fun v X hq => ?_) (fun E X hq => by rcases hq with ⟨-, hv, -⟩ | ⟨hp, hv, rfl⟩ <;> cases hv; have hk : kPay S (nI i) (nI j) (nI m) = 3 := (by rw [kPay, cif_f (not_not_intro e_3), cif_f (not_not_intro ⟨he, e_7⟩), xi, xj, xm]; exact cif_f hp); exact ⟨Oc.thr hk rfl, (hT.thr.tk (nI 3)).up' (by omega) (by omega) (by simp [sPay, hk, cif, tk])⟩)
    rcases hq with ⟨hp, hv, rfl⟩ | ⟨-, hv, -⟩ <;> cases hv
    have e_81 := hp
    refine sw_aload 86 rfl rfl rfl dX1_pay_84 ?_
    refine sw_dup 87 rfl rfl dX1_pay_86 ?_
    refine gf_X1_191 90 rfl (hT.at 7 i hi) rfl rfl dX1_pay_87 ?_
    refine sw_iload_n 91 rfl rfl dX1_pay_90 ?_
    refine sw_i2l 92 rfl dX1_pay_91 ?_
    refine sw_topL (nI_l (by omega)) ?_
    refine sw_lsub 93 rfl dX1_pay_92 ?_
    refine sw_topL (lN_sub (Nat.not_lt.mp e_81.2.2.2)) ?_
    refine pf_X1_191 96 rfl (hT.at 7 i hi) (Nat.le_of_ble_eq_true rfl) rfl dX1_pay_93 (fun X hX => ?_)
    replace hT := hT.p5 hi hX
    clear hX
    refine sw_aload 98 rfl rfl rfl dX1_pay_96 ?_
    refine sw_dup 99 rfl rfl dX1_pay_98 ?_
    refine gf_X1_191 102 rfl (hT.at 7 j hj) rfl rfl dX1_pay_99 ?_
    rw [sN_ne _ _ _ (Ne.symm hij)]
    refine sw_iload_n 103 rfl rfl dX1_pay_102 ?_
    refine sw_i2l 104 rfl dX1_pay_103 ?_
    refine sw_topL (nI_l (by omega)) ?_
    refine sw_ladd 105 rfl dX1_pay_104 ?_
    refine sw_topL (lN_add _ _) ?_
    refine pf_X1_191 108 rfl (hT.at 7 j hj) (Nat.le_of_ble_eq_true rfl) rfl dX1_pay_105 (fun X hX => ?_)
    replace hT := hT.p5 hj hX
    clear hX
    have hwX := (hw.cashUp (b := i) (v := S.1 5 i - m) (d := 0) (by omega)).cashUp (b := j) (v := S.1 5 j + m) (d := m) (by rw [sN_ne _ _ _ (Ne.symm hij)]; omega)
    refine sw_aload 110 rfl rfl rfl dX1_pay_108 ?_
    refine sw_aload 112 rfl rfl rfl dX1_pay_110 ?_
    refine sw_iload_n 113 rfl rfl dX1_pay_112 ?_
    refine sw_ineg 114 rfl dX1_pay_113 ?_
    refine sw_i2l 115 rfl dX1_pay_114 ?_
    refine sw_topL (show (-(nI m)).toInt64 = -(lN m) from neg_l (by omega)) ?_
    refine sw_callS 118 [] rfl cs_X1_262 rfl (Nat.le_of_ble_eq_true rfl) rfl (cl_settle hT.1 hwX hi hj (-(lN m))) rfl rfl (Nat.le_of_ble_eq_true rfl) dX1_pay_115 (fun v X hq => ?_) (fun E X hq => by obtain ⟨hv, -⟩ := hq; cases hv)
    obtain ⟨hv, hT1⟩ := hq
    cases hv
    replace hT := hT.tr hT1
    clear hT1
    refine sw_aload 120 rfl rfl rfl dX1_pay_118 ?_
    refine gf_X1_88 123 rfl (hT.at 7 i hi) rfl rfl dX1_pay_120 ?_
    refine sw_iload_n 124 rfl rfl dX1_pay_123 ?_
    refine sw_lald 125 rfl (hT.at 8 i hi) (show j < 12 by omega) (Nat.le_of_ble_eq_true rfl) dX1_pay_124 ?_
    rw [tr_lt (by omega)]
    refine sw_l2i 126 rfl dX1_pay_125 ?_
    refine sw_iret rfl rfl dX1_pay_126 ?_
    exact absurd e_81.1 c_41
  · refine sw_aload 46 rfl rfl rfl dX1_pay_44 ?_
    refine gf_X1_117 49 rfl (hT.at 7 j hj) rfl rfl dX1_pay_46 ?_
    refine sw_if_ne 80 52 (by decide) rfl dX1_pay_49 (fun c_49 => ?_) (fun c_49 => ?_)
    · refine sw_iconst 81 rfl (nI 0) rfl dX1_pay_80 ?_
      refine sw_topI (b2_f (P := S.2.1 7 i = 0 ∧ S.2.1 7 j = 0 ∧ ¬ S.2.2 12 (12 * i + j) < lN m ∧ ¬ S.1 5 i < m) (by rintro ⟨q1, q2, q3, q4⟩; first | exact c_41 q1 | exact c_49 q2 | exact q3 c_61 | exact q4 c_72)).symm ?_
      refine sw_callS 84 [] rfl cs_X1_156 rfl (Nat.le_of_ble_eq_true rfl) rfl (cl_nState (P := S.2.1 7 i = 0 ∧ S.2.1 7 j = 0 ∧ ¬ S.2.2 12 (12 * i + j) < lN m ∧ ¬ S.1 5 i < m)) rfl rfl (Nat.le_of_ble_eq_true rfl) dX1_pay_81 (fun v X hq => ?_) (fun E X hq => by rcases hq with ⟨-, hv, -⟩ | ⟨hp, hv, rfl⟩ <;> cases hv; have hk : kPay S (nI i) (nI j) (nI m) = 3 := (by rw [kPay, cif_f (not_not_intro e_3), cif_f (not_not_intro ⟨he, e_7⟩), xi, xj, xm]; exact cif_f hp); exact ⟨Oc.thr hk rfl, (hT.thr.tk (nI 3)).up' (by omega) (by omega) (by simp [sPay, hk, cif, tk])⟩)
      rcases hq with ⟨hp, hv, rfl⟩ | ⟨-, hv, -⟩ <;> cases hv
      have e_81 := hp
      refine sw_aload 86 rfl rfl rfl dX1_pay_84 ?_
      refine sw_dup 87 rfl rfl dX1_pay_86 ?_
      refine gf_X1_191 90 rfl (hT.at 7 i hi) rfl rfl dX1_pay_87 ?_
      refine sw_iload_n 91 rfl rfl dX1_pay_90 ?_
      refine sw_i2l 92 rfl dX1_pay_91 ?_
      refine sw_topL (nI_l (by omega)) ?_
      refine sw_lsub 93 rfl dX1_pay_92 ?_
      refine sw_topL (lN_sub (Nat.not_lt.mp e_81.2.2.2)) ?_
      refine pf_X1_191 96 rfl (hT.at 7 i hi) (Nat.le_of_ble_eq_true rfl) rfl dX1_pay_93 (fun X hX => ?_)
      replace hT := hT.p5 hi hX
      clear hX
      refine sw_aload 98 rfl rfl rfl dX1_pay_96 ?_
      refine sw_dup 99 rfl rfl dX1_pay_98 ?_
      refine gf_X1_191 102 rfl (hT.at 7 j hj) rfl rfl dX1_pay_99 ?_
      rw [sN_ne _ _ _ (Ne.symm hij)]
      refine sw_iload_n 103 rfl rfl dX1_pay_102 ?_
      refine sw_i2l 104 rfl dX1_pay_103 ?_
      refine sw_topL (nI_l (by omega)) ?_
      refine sw_ladd 105 rfl dX1_pay_104 ?_
      refine sw_topL (lN_add _ _) ?_
      refine pf_X1_191 108 rfl (hT.at 7 j hj) (Nat.le_of_ble_eq_true rfl) rfl dX1_pay_105 (fun X hX => ?_)
      replace hT := hT.p5 hj hX
      clear hX
      have hwX := (hw.cashUp (b := i) (v := S.1 5 i - m) (d := 0) (by omega)).cashUp (b := j) (v := S.1 5 j + m) (d := m) (by rw [sN_ne _ _ _ (Ne.symm hij)]; omega)
      refine sw_aload 110 rfl rfl rfl dX1_pay_108 ?_
      refine sw_aload 112 rfl rfl rfl dX1_pay_110 ?_
      refine sw_iload_n 113 rfl rfl dX1_pay_112 ?_
      refine sw_ineg 114 rfl dX1_pay_113 ?_
      refine sw_i2l 115 rfl dX1_pay_114 ?_
      refine sw_topL (show (-(nI m)).toInt64 = -(lN m) from neg_l (by omega)) ?_
      refine sw_callS 118 [] rfl cs_X1_262 rfl (Nat.le_of_ble_eq_true rfl) rfl (cl_settle hT.1 hwX hi hj (-(lN m))) rfl rfl (Nat.le_of_ble_eq_true rfl) dX1_pay_115 (fun v X hq => ?_) (fun E X hq => by obtain ⟨hv, -⟩ := hq; cases hv)
      obtain ⟨hv, hT1⟩ := hq
      cases hv
      replace hT := hT.tr hT1
      clear hT1
      refine sw_aload 120 rfl rfl rfl dX1_pay_118 ?_
      refine gf_X1_88 123 rfl (hT.at 7 i hi) rfl rfl dX1_pay_120 ?_
      refine sw_iload_n 124 rfl rfl dX1_pay_123 ?_
      refine sw_lald 125 rfl (hT.at 8 i hi) (show j < 12 by omega) (Nat.le_of_ble_eq_true rfl) dX1_pay_124 ?_
      rw [tr_lt (by omega)]
      refine sw_l2i 126 rfl dX1_pay_125 ?_
      refine sw_iret rfl rfl dX1_pay_126 ?_
      exact absurd e_81.2.1 c_49
    · refine sw_aload 54 rfl rfl rfl dX1_pay_52 ?_
      refine gf_X1_88 57 rfl (hT.at 7 i hi) rfl rfl dX1_pay_54 ?_
      refine sw_iload_n 58 rfl rfl dX1_pay_57 ?_
      refine sw_lald 59 rfl (hT.at 8 i hi) (show j < 12 by omega) (Nat.le_of_ble_eq_true rfl) dX1_pay_58 ?_
      rw [tr_lt (by omega)]
      refine sw_iload_n 60 rfl rfl dX1_pay_59 ?_
      refine sw_i2l 61 rfl dX1_pay_60 ?_
      refine sw_topL (nI_l (by omega)) ?_
      refine sw_llt 80 62 65 rfl (by decide) rfl dX1_pay_61 dX1_pay_62 (fun c_61 => ?_) (fun c_61 => ?_)
      · refine sw_iconst 81 rfl (nI 0) rfl dX1_pay_80 ?_
        refine sw_topI (b2_f (P := S.2.1 7 i = 0 ∧ S.2.1 7 j = 0 ∧ ¬ S.2.2 12 (12 * i + j) < lN m ∧ ¬ S.1 5 i < m) (by rintro ⟨q1, q2, q3, q4⟩; first | exact c_41 q1 | exact c_49 q2 | exact q3 c_61 | exact q4 c_72)).symm ?_
        refine sw_callS 84 [] rfl cs_X1_156 rfl (Nat.le_of_ble_eq_true rfl) rfl (cl_nState (P := S.2.1 7 i = 0 ∧ S.2.1 7 j = 0 ∧ ¬ S.2.2 12 (12 * i + j) < lN m ∧ ¬ S.1 5 i < m)) rfl rfl (Nat.le_of_ble_eq_true rfl) dX1_pay_81 (fun v X hq => ?_) (fun E X hq => by rcases hq with ⟨-, hv, -⟩ | ⟨hp, hv, rfl⟩ <;> cases hv; have hk : kPay S (nI i) (nI j) (nI m) = 3 := (by rw [kPay, cif_f (not_not_intro e_3), cif_f (not_not_intro ⟨he, e_7⟩), xi, xj, xm]; exact cif_f hp); exact ⟨Oc.thr hk rfl, (hT.thr.tk (nI 3)).up' (by omega) (by omega) (by simp [sPay, hk, cif, tk])⟩)
        rcases hq with ⟨hp, hv, rfl⟩ | ⟨-, hv, -⟩ <;> cases hv
        have e_81 := hp
        refine sw_aload 86 rfl rfl rfl dX1_pay_84 ?_
        refine sw_dup 87 rfl rfl dX1_pay_86 ?_
        refine gf_X1_191 90 rfl (hT.at 7 i hi) rfl rfl dX1_pay_87 ?_
        refine sw_iload_n 91 rfl rfl dX1_pay_90 ?_
        refine sw_i2l 92 rfl dX1_pay_91 ?_
        refine sw_topL (nI_l (by omega)) ?_
        refine sw_lsub 93 rfl dX1_pay_92 ?_
        refine sw_topL (lN_sub (Nat.not_lt.mp e_81.2.2.2)) ?_
        refine pf_X1_191 96 rfl (hT.at 7 i hi) (Nat.le_of_ble_eq_true rfl) rfl dX1_pay_93 (fun X hX => ?_)
        replace hT := hT.p5 hi hX
        clear hX
        refine sw_aload 98 rfl rfl rfl dX1_pay_96 ?_
        refine sw_dup 99 rfl rfl dX1_pay_98 ?_
        refine gf_X1_191 102 rfl (hT.at 7 j hj) rfl rfl dX1_pay_99 ?_
        rw [sN_ne _ _ _ (Ne.symm hij)]
        refine sw_iload_n 103 rfl rfl dX1_pay_102 ?_
        refine sw_i2l 104 rfl dX1_pay_103 ?_
        refine sw_topL (nI_l (by omega)) ?_
        refine sw_ladd 105 rfl dX1_pay_104 ?_
        refine sw_topL (lN_add _ _) ?_
        refine pf_X1_191 108 rfl (hT.at 7 j hj) (Nat.le_of_ble_eq_true rfl) rfl dX1_pay_105 (fun X hX => ?_)
        replace hT := hT.p5 hj hX
        clear hX
        have hwX := (hw.cashUp (b := i) (v := S.1 5 i - m) (d := 0) (by omega)).cashUp (b := j) (v := S.1 5 j + m) (d := m) (by rw [sN_ne _ _ _ (Ne.symm hij)]; omega)
        refine sw_aload 110 rfl rfl rfl dX1_pay_108 ?_
        refine sw_aload 112 rfl rfl rfl dX1_pay_110 ?_
        refine sw_iload_n 113 rfl rfl dX1_pay_112 ?_
        refine sw_ineg 114 rfl dX1_pay_113 ?_
        refine sw_i2l 115 rfl dX1_pay_114 ?_
        refine sw_topL (show (-(nI m)).toInt64 = -(lN m) from neg_l (by omega)) ?_
        refine sw_callS 118 [] rfl cs_X1_262 rfl (Nat.le_of_ble_eq_true rfl) rfl (cl_settle hT.1 hwX hi hj (-(lN m))) rfl rfl (Nat.le_of_ble_eq_true rfl) dX1_pay_115 (fun v X hq => ?_) (fun E X hq => by obtain ⟨hv, -⟩ := hq; cases hv)
        obtain ⟨hv, hT1⟩ := hq
        cases hv
        replace hT := hT.tr hT1
        clear hT1
        refine sw_aload 120 rfl rfl rfl dX1_pay_118 ?_
        refine gf_X1_88 123 rfl (hT.at 7 i hi) rfl rfl dX1_pay_120 ?_
        refine sw_iload_n 124 rfl rfl dX1_pay_123 ?_
        refine sw_lald 125 rfl (hT.at 8 i hi) (show j < 12 by omega) (Nat.le_of_ble_eq_true rfl) dX1_pay_124 ?_
        rw [tr_lt (by omega)]
        refine sw_l2i 126 rfl dX1_pay_125 ?_
        refine sw_iret rfl rfl dX1_pay_126 ?_
        exact absurd c_61 e_81.2.2.1
      · refine sw_aload 67 rfl rfl rfl dX1_pay_65 ?_
        have hci := hw.cash (show i < 12 by omega)
        refine gf_X1_191 70 rfl (hT.at 7 i hi) rfl rfl dX1_pay_67 ?_
        refine sw_iload_n 71 rfl rfl dX1_pay_70 ?_
        refine sw_i2l 72 rfl dX1_pay_71 ?_
        refine sw_topL (nI_l (by omega)) ?_
        refine sw_llt 80 73 76 rfl (by decide) rfl dX1_pay_72 dX1_pay_73 (fun c_72 => ?_) (fun c_72 => ?_)
        · rw [pk_lLT (by omega) (by omega)] at c_72
          refine sw_iconst 81 rfl (nI 0) rfl dX1_pay_80 ?_
          refine sw_topI (b2_f (P := S.2.1 7 i = 0 ∧ S.2.1 7 j = 0 ∧ ¬ S.2.2 12 (12 * i + j) < lN m ∧ ¬ S.1 5 i < m) (by rintro ⟨q1, q2, q3, q4⟩; first | exact c_41 q1 | exact c_49 q2 | exact q3 c_61 | exact q4 c_72)).symm ?_
          refine sw_callS 84 [] rfl cs_X1_156 rfl (Nat.le_of_ble_eq_true rfl) rfl (cl_nState (P := S.2.1 7 i = 0 ∧ S.2.1 7 j = 0 ∧ ¬ S.2.2 12 (12 * i + j) < lN m ∧ ¬ S.1 5 i < m)) rfl rfl (Nat.le_of_ble_eq_true rfl) dX1_pay_81 (fun v X hq => ?_) (fun E X hq => by rcases hq with ⟨-, hv, -⟩ | ⟨hp, hv, rfl⟩ <;> cases hv; have hk : kPay S (nI i) (nI j) (nI m) = 3 := (by rw [kPay, cif_f (not_not_intro e_3), cif_f (not_not_intro ⟨he, e_7⟩), xi, xj, xm]; exact cif_f hp); exact ⟨Oc.thr hk rfl, (hT.thr.tk (nI 3)).up' (by omega) (by omega) (by simp [sPay, hk, cif, tk])⟩)
          rcases hq with ⟨hp, hv, rfl⟩ | ⟨-, hv, -⟩ <;> cases hv
          have e_81 := hp
          refine sw_aload 86 rfl rfl rfl dX1_pay_84 ?_
          refine sw_dup 87 rfl rfl dX1_pay_86 ?_
          refine gf_X1_191 90 rfl (hT.at 7 i hi) rfl rfl dX1_pay_87 ?_
          refine sw_iload_n 91 rfl rfl dX1_pay_90 ?_
          refine sw_i2l 92 rfl dX1_pay_91 ?_
          refine sw_topL (nI_l (by omega)) ?_
          refine sw_lsub 93 rfl dX1_pay_92 ?_
          refine sw_topL (lN_sub (Nat.not_lt.mp e_81.2.2.2)) ?_
          refine pf_X1_191 96 rfl (hT.at 7 i hi) (Nat.le_of_ble_eq_true rfl) rfl dX1_pay_93 (fun X hX => ?_)
          replace hT := hT.p5 hi hX
          clear hX
          refine sw_aload 98 rfl rfl rfl dX1_pay_96 ?_
          refine sw_dup 99 rfl rfl dX1_pay_98 ?_
          refine gf_X1_191 102 rfl (hT.at 7 j hj) rfl rfl dX1_pay_99 ?_
          rw [sN_ne _ _ _ (Ne.symm hij)]
          refine sw_iload_n 103 rfl rfl dX1_pay_102 ?_
          refine sw_i2l 104 rfl dX1_pay_103 ?_
          refine sw_topL (nI_l (by omega)) ?_
          refine sw_ladd 105 rfl dX1_pay_104 ?_
          refine sw_topL (lN_add _ _) ?_
          refine pf_X1_191 108 rfl (hT.at 7 j hj) (Nat.le_of_ble_eq_true rfl) rfl dX1_pay_105 (fun X hX => ?_)
          replace hT := hT.p5 hj hX
          clear hX
          have hwX := (hw.cashUp (b := i) (v := S.1 5 i - m) (d := 0) (by omega)).cashUp (b := j) (v := S.1 5 j + m) (d := m) (by rw [sN_ne _ _ _ (Ne.symm hij)]; omega)
          refine sw_aload 110 rfl rfl rfl dX1_pay_108 ?_
          refine sw_aload 112 rfl rfl rfl dX1_pay_110 ?_
          refine sw_iload_n 113 rfl rfl dX1_pay_112 ?_
          refine sw_ineg 114 rfl dX1_pay_113 ?_
          refine sw_i2l 115 rfl dX1_pay_114 ?_
          refine sw_topL (show (-(nI m)).toInt64 = -(lN m) from neg_l (by omega)) ?_
          refine sw_callS 118 [] rfl cs_X1_262 rfl (Nat.le_of_ble_eq_true rfl) rfl (cl_settle hT.1 hwX hi hj (-(lN m))) rfl rfl (Nat.le_of_ble_eq_true rfl) dX1_pay_115 (fun v X hq => ?_) (fun E X hq => by obtain ⟨hv, -⟩ := hq; cases hv)
          obtain ⟨hv, hT1⟩ := hq
          cases hv
          replace hT := hT.tr hT1
          clear hT1
          refine sw_aload 120 rfl rfl rfl dX1_pay_118 ?_
          refine gf_X1_88 123 rfl (hT.at 7 i hi) rfl rfl dX1_pay_120 ?_
          refine sw_iload_n 124 rfl rfl dX1_pay_123 ?_
          refine sw_lald 125 rfl (hT.at 8 i hi) (show j < 12 by omega) (Nat.le_of_ble_eq_true rfl) dX1_pay_124 ?_
          rw [tr_lt (by omega)]
          refine sw_l2i 126 rfl dX1_pay_125 ?_
          refine sw_iret rfl rfl dX1_pay_126 ?_
          exact absurd c_72 e_81.2.2.2
        · rw [pk_lLT (by omega) (by omega)] at c_72
          refine sw_iconst 77 rfl (nI 1) rfl dX1_pay_76 ?_
          refine sw_topI (b2_t (P := S.2.1 7 i = 0 ∧ S.2.1 7 j = 0 ∧ ¬ S.2.2 12 (12 * i + j) < lN m ∧ ¬ S.1 5 i < m) ⟨c_41, c_49, c_61, c_72⟩).symm ?_
          refine sw_goto 81 (by decide) dX1_pay_77 ?_
          refine sw_callS 84 [] rfl cs_X1_156 rfl (Nat.le_of_ble_eq_true rfl) rfl (cl_nState (P := S.2.1 7 i = 0 ∧ S.2.1 7 j = 0 ∧ ¬ S.2.2 12 (12 * i + j) < lN m ∧ ¬ S.1 5 i < m)) rfl rfl (Nat.le_of_ble_eq_true rfl) dX1_pay_81 (fun v X hq => ?_) (fun E X hq => by rcases hq with ⟨-, hv, -⟩ | ⟨hp, hv, rfl⟩ <;> cases hv; have hk : kPay S (nI i) (nI j) (nI m) = 3 := (by rw [kPay, cif_f (not_not_intro e_3), cif_f (not_not_intro ⟨he, e_7⟩), xi, xj, xm]; exact cif_f hp); exact ⟨Oc.thr hk rfl, (hT.thr.tk (nI 3)).up' (by omega) (by omega) (by simp [sPay, hk, cif, tk])⟩)
          rcases hq with ⟨hp, hv, rfl⟩ | ⟨-, hv, -⟩ <;> cases hv
          have e_81 := hp
          refine sw_aload 86 rfl rfl rfl dX1_pay_84 ?_
          refine sw_dup 87 rfl rfl dX1_pay_86 ?_
          refine gf_X1_191 90 rfl (hT.at 7 i hi) rfl rfl dX1_pay_87 ?_
          refine sw_iload_n 91 rfl rfl dX1_pay_90 ?_
          refine sw_i2l 92 rfl dX1_pay_91 ?_
          refine sw_topL (nI_l (by omega)) ?_
          refine sw_lsub 93 rfl dX1_pay_92 ?_
          refine sw_topL (lN_sub (Nat.not_lt.mp e_81.2.2.2)) ?_
          refine pf_X1_191 96 rfl (hT.at 7 i hi) (Nat.le_of_ble_eq_true rfl) rfl dX1_pay_93 (fun X hX => ?_)
          replace hT := hT.p5 hi hX
          clear hX
          refine sw_aload 98 rfl rfl rfl dX1_pay_96 ?_
          refine sw_dup 99 rfl rfl dX1_pay_98 ?_
          refine gf_X1_191 102 rfl (hT.at 7 j hj) rfl rfl dX1_pay_99 ?_
          rw [sN_ne _ _ _ (Ne.symm hij)]
          refine sw_iload_n 103 rfl rfl dX1_pay_102 ?_
          refine sw_i2l 104 rfl dX1_pay_103 ?_
          refine sw_topL (nI_l (by omega)) ?_
          refine sw_ladd 105 rfl dX1_pay_104 ?_
          refine sw_topL (lN_add _ _) ?_
          refine pf_X1_191 108 rfl (hT.at 7 j hj) (Nat.le_of_ble_eq_true rfl) rfl dX1_pay_105 (fun X hX => ?_)
          replace hT := hT.p5 hj hX
          clear hX
          have hwX := (hw.cashUp (b := i) (v := S.1 5 i - m) (d := 0) (by omega)).cashUp (b := j) (v := S.1 5 j + m) (d := m) (by rw [sN_ne _ _ _ (Ne.symm hij)]; omega)
          refine sw_aload 110 rfl rfl rfl dX1_pay_108 ?_
          refine sw_aload 112 rfl rfl rfl dX1_pay_110 ?_
          refine sw_iload_n 113 rfl rfl dX1_pay_112 ?_
          refine sw_ineg 114 rfl dX1_pay_113 ?_
          refine sw_i2l 115 rfl dX1_pay_114 ?_
          refine sw_topL (show (-(nI m)).toInt64 = -(lN m) from neg_l (by omega)) ?_
          refine sw_callS 118 [] rfl cs_X1_262 rfl (Nat.le_of_ble_eq_true rfl) rfl (cl_settle hT.1 hwX hi hj (-(lN m))) rfl rfl (Nat.le_of_ble_eq_true rfl) dX1_pay_115 (fun v X hq => ?_) (fun E X hq => by obtain ⟨hv, -⟩ := hq; cases hv)
          obtain ⟨hv, hT1⟩ := hq
          cases hv
          replace hT := hT.tr hT1
          clear hT1
          refine sw_aload 120 rfl rfl rfl dX1_pay_118 ?_
          refine gf_X1_88 123 rfl (hT.at 7 i hi) rfl rfl dX1_pay_120 ?_
          refine sw_iload_n 124 rfl rfl dX1_pay_123 ?_
          refine sw_lald 125 rfl (hT.at 8 i hi) (show j < 12 by omega) (Nat.le_of_ble_eq_true rfl) dX1_pay_124 ?_
          rw [tr_lt (by omega)]
          refine sw_l2i 126 rfl dX1_pay_125 ?_
          refine sw_iret rfl rfl dX1_pay_126 ?_
          have hk : kPay S (nI i) (nI j) (nI m) = 0 := by rw [kPay, cif_f (not_not_intro e_3), cif_f (not_not_intro ⟨he, e_7⟩), xi, xj, xm]; exact cif_t e_81
          have es : sPay S (nI i) (nI j) (nI m) = pOweBoth (((tk S 0).sN 5 i (S.1 5 i - m)).sN 5 j (S.1 5 j + m)) i j (-(lN m)) := by rw [sPay, cif_t hk, xi, xj, xm]
          exact ⟨Oc.ok hk (by rw [rPay, cif_t hk, es, xi, xj]; rfl), (hT.tk (nI 0)).up' (by omega) (by omega) (by rw [es]; rfl)⟩

set_option maxHeartbeats 4000000 in
theorem cp_deliver (hR : CpR γ ad fe X S) (hw : WF K S) (b c d : Int32) : Ev γ mX1_deliver [.ref (ad 0 0), .int b, .int c, .int d] X (fun oc X1 => Oc (kDel S b c d) ["java/lang/IndexOutOfBoundsException", "java/lang/IllegalArgumentException", "java/lang/IllegalStateException"] (some (.int (rDel S b c d))) oc ∧ CpF γ ad S X ad fe X1 (sDel S b c d) 1 6) := by
  have hT := CpF.rf hR
  have hnb := hw.nb
  have hno := hw.no
  have hnc := hw.nc
  have hhr := hw.hr
  refine Ev.of (lv := [_, _, _, _, _, _]) 2 ⟨by decide +kernel, rfl, (Nat.le_of_ble_eq_true rfl)⟩ rfl ?_
  refine sw_aload_n 1 rfl rfl rfl dX1_deliver_0 ?_
  refine sw_iload_n 2 rfl rfl dX1_deliver_1 ?_
  refine sw_iload_n 3 rfl rfl dX1_deliver_2 ?_
  refine sw_callV 6 [] rfl cs_X1_329 rfl (Nat.le_of_ble_eq_true rfl) rfl (hT.at 0 0 rfl) rfl rfl (cl_nTwo hT.1 hw b c) rfl rfl (Nat.le_of_ble_eq_true rfl) dX1_deliver_3 (fun v X hq => ?_) (fun E X hq => by rcases hq with ⟨-, -, hv, -⟩ | ⟨hp, hv, rfl⟩ | ⟨hp, he, hv, rfl⟩ <;> cases hv; (have hk : kDel S b c d = 1 := (by simp [kDel, cif, hp]); exact ⟨Oc.thr hk rfl, (hT.thr.tk (nI 1)).up' (by omega) (by omega) (by simp [sDel, hk, cif, tk])⟩); (subst he; have hk : kDel S b b d = 2 := (by simp [kDel, cif, hp.1]); exact ⟨Oc.thr hk rfl, (hT.thr.tk (nI 2)).up' (by omega) (by omega) (by simp [sDel, hk, cif, tk])⟩))
  rcases hq with ⟨hp, he, hv, rfl⟩ | ⟨-, hv, -⟩ | ⟨-, -, hv, -⟩ <;> cases hv
  have e_3 := hp
  obtain ⟨⟨i, hi, rfl⟩, ⟨j, hj, rfl⟩⟩ := hp
  have xi : ix (nI i) = i := ix_nI (by omega)
  have xj : ix (nI j) = j := ix_nI (by omega)
  have hij : i ≠ j := fun q => he (by rw [q])
  refine sw_iload_n 7 rfl rfl dX1_deliver_6 ?_
  refine sw_callS 10 [] rfl cs_X1_176 rfl (Nat.le_of_ble_eq_true rfl) rfl (cl_nAmount d) rfl rfl (Nat.le_of_ble_eq_true rfl) dX1_deliver_7 (fun v X hq => ?_) (fun E X hq => by rcases hq with ⟨-, hv, -⟩ | ⟨hp, hv, rfl⟩ <;> cases hv; have hk : kDel S (nI i) (nI j) d = 2 := (by simp [kDel, cif, e_3, he, hp]); exact ⟨Oc.thr hk rfl, (hT.thr.tk (nI 2)).up' (by omega) (by omega) (by simp [sDel, hk, cif, tk])⟩)
  rcases hq with ⟨hp, hv, rfl⟩ | ⟨-, hv, -⟩ <;> cases hv
  have e_7 := hp
  obtain ⟨m, hm1, hm, rfl⟩ := hp
  have xm : ix (nI m) = m := ix_nI (by omega)
  refine sw_aload_n 11 rfl rfl rfl dX1_deliver_10 ?_
  refine gf_X1_53 14 rfl (hT.at 0 0 rfl) rfl rfl dX1_deliver_11 ?_
  refine sw_iload_n 15 rfl rfl dX1_deliver_14 ?_
  refine sw_callV 18 [] rfl cs_X1_332 rfl (Nat.le_of_ble_eq_true rfl) rfl (hT.at 1 0 (by show (0 : Nat) < 3; omega)) rfl rfl (cl_get hT.1 hw (i := 0) (by omega) (show i < S.1 3 0 from hi)) rfl rfl (Nat.le_of_ble_eq_true rfl) dX1_deliver_15 (fun v X hq => ?_) (fun E X hq => by obtain ⟨hv, -⟩ := hq; cases hv)
  obtain ⟨hv, rfl⟩ := hq
  cases hv
  refine sw_castS 21 rfl (hT.at 7 i hi) rfl q233 dX1_deliver_18 ?_
  refine sw_astore 23 rfl [_, _, _, _, _, _] (Nat.le_of_ble_eq_true rfl) rfl rfl dX1_deliver_21 ?_
  refine sw_aload_n 24 rfl rfl rfl dX1_deliver_23 ?_
  refine gf_X1_53 27 rfl (hT.at 0 0 rfl) rfl rfl dX1_deliver_24 ?_
  refine sw_iload_n 28 rfl rfl dX1_deliver_27 ?_
  refine sw_callV 31 [] rfl cs_X1_332 rfl (Nat.le_of_ble_eq_true rfl) rfl (hT.at 1 0 (by show (0 : Nat) < 3; omega)) rfl rfl (cl_get hT.1 hw (i := 0) (by omega) (show j < S.1 3 0 from hj)) rfl rfl (Nat.le_of_ble_eq_true rfl) dX1_deliver_28 (fun v X hq => ?_) (fun E X hq => by obtain ⟨hv, -⟩ := hq; cases hv)
  obtain ⟨hv, rfl⟩ := hq
  cases hv
  refine sw_castS 34 rfl (hT.at 7 j hj) rfl q233 dX1_deliver_31 ?_
  refine sw_astore 36 rfl [_, _, _, _, _, _] (Nat.le_of_ble_eq_true rfl) rfl rfl dX1_deliver_34 ?_
  refine sw_aload 38 rfl rfl rfl dX1_deliver_36 ?_
  refine gf_X1_117 41 rfl (hT.at 7 i hi) rfl rfl dX1_deliver_38 ?_
  refine sw_iconst 42 rfl (nI 2) rfl dX1_deliver_41 ?_
  refine sw_icmp_eq 71 45 (by decide) rfl dX1_deliver_42 (fun c_42 => ?_) (fun c_42 => ?_)
  · refine sw_iconst 72 rfl (nI 0) rfl dX1_deliver_71 ?_
    refine sw_topI (b2_f (P := ¬ S.2.1 7 i = nI 2 ∧ ¬ S.2.1 7 j = nI 2 ∧ ¬ S.2.2 12 (12 * i + j) < lN m) (by rintro ⟨q1, q2, q3⟩; first | exact q1 c_42 | exact q2 c_51 | exact q3 c_63)).symm ?_
    refine sw_callS 75 [] rfl cs_X1_156 rfl (Nat.le_of_ble_eq_true rfl) rfl (cl_nState (P := ¬ S.2.1 7 i = nI 2 ∧ ¬ S.2.1 7 j = nI 2 ∧ ¬ S.2.2 12 (12 * i + j) < lN m)) rfl rfl (Nat.le_of_ble_eq_true rfl) dX1_deliver_72 (fun v X hq => ?_) (fun E X hq => by rcases hq with ⟨-, hv, -⟩ | ⟨hp, hv, rfl⟩ <;> cases hv; have hk : kDel S (nI i) (nI j) (nI m) = 3 := (by rw [kDel, cif_f (not_not_intro e_3), cif_f (not_not_intro ⟨he, e_7⟩), xi, xj, xm]; exact cif_f hp); exact ⟨Oc.thr hk rfl, (hT.thr.tk (nI 3)).up' (by omega) (by omega) (by simp [sDel, hk, cif, tk])⟩)
    rcases hq with ⟨hp, hv, rfl⟩ | ⟨-, hv, -⟩ <;> cases hv
    have e_72 := hp
    refine sw_aload 77 rfl rfl rfl dX1_deliver_75 ?_
    refine sw_aload 79 rfl rfl rfl dX1_deliver_77 ?_
    refine sw_iload_n 80 rfl rfl dX1_deliver_79 ?_
    refine sw_ineg 81 rfl dX1_deliver_80 ?_
    refine sw_i2l 82 rfl dX1_deliver_81 ?_
    refine sw_topL (show (-(nI m)).toInt64 = -(lN m) from neg_l (by omega)) ?_
    refine sw_callS 85 [] rfl cs_X1_262 rfl (Nat.le_of_ble_eq_true rfl) rfl (cl_settle hT.1 hw hi hj (-(lN m))) rfl rfl (Nat.le_of_ble_eq_true rfl) dX1_deliver_82 (fun v X hq => ?_) (fun E X hq => by obtain ⟨hv, -⟩ := hq; cases hv)
    obtain ⟨hv, hT1⟩ := hq
    cases hv
    replace hT := hT.tr hT1
    clear hT1
    refine sw_aload 87 rfl rfl rfl dX1_deliver_85 ?_
    refine gf_X1_88 90 rfl (hT.at 7 i hi) rfl rfl dX1_deliver_87 ?_
    refine sw_iload_n 91 rfl rfl dX1_deliver_90 ?_
    refine sw_lald 92 rfl (hT.at 8 i hi) (show j < 12 by omega) (Nat.le_of_ble_eq_true rfl) dX1_deliver_91 ?_
    rw [tr_lt (by omega)]
    refine sw_l2i 93 rfl dX1_deliver_92 ?_
    refine sw_iret rfl rfl dX1_deliver_93 ?_
    exact absurd c_42 e_72.1
  · refine sw_aload 47 rfl rfl rfl dX1_deliver_45 ?_
    refine gf_X1_117 50 rfl (hT.at 7 j hj) rfl rfl dX1_deliver_47 ?_
    refine sw_iconst 51 rfl (nI 2) rfl dX1_deliver_50 ?_
    refine sw_icmp_eq 71 54 (by decide) rfl dX1_deliver_51 (fun c_51 => ?_) (fun c_51 => ?_)
    · refine sw_iconst 72 rfl (nI 0) rfl dX1_deliver_71 ?_
      refine sw_topI (b2_f (P := ¬ S.2.1 7 i = nI 2 ∧ ¬ S.2.1 7 j = nI 2 ∧ ¬ S.2.2 12 (12 * i + j) < lN m) (by rintro ⟨q1, q2, q3⟩; first | exact q1 c_42 | exact q2 c_51 | exact q3 c_63)).symm ?_
      refine sw_callS 75 [] rfl cs_X1_156 rfl (Nat.le_of_ble_eq_true rfl) rfl (cl_nState (P := ¬ S.2.1 7 i = nI 2 ∧ ¬ S.2.1 7 j = nI 2 ∧ ¬ S.2.2 12 (12 * i + j) < lN m)) rfl rfl (Nat.le_of_ble_eq_true rfl) dX1_deliver_72 (fun v X hq => ?_) (fun E X hq => by rcases hq with ⟨-, hv, -⟩ | ⟨hp, hv, rfl⟩ <;> cases hv; have hk : kDel S (nI i) (nI j) (nI m) = 3 := (by rw [kDel, cif_f (not_not_intro e_3), cif_f (not_not_intro ⟨he, e_7⟩), xi, xj, xm]; exact cif_f hp); exact ⟨Oc.thr hk rfl, (hT.thr.tk (nI 3)).up' (by omega) (by omega) (by simp [sDel, hk, cif, tk])⟩)
      rcases hq with ⟨hp, hv, rfl⟩ | ⟨-, hv, -⟩ <;> cases hv
      have e_72 := hp
      refine sw_aload 77 rfl rfl rfl dX1_deliver_75 ?_
      refine sw_aload 79 rfl rfl rfl dX1_deliver_77 ?_
      refine sw_iload_n 80 rfl rfl dX1_deliver_79 ?_
      refine sw_ineg 81 rfl dX1_deliver_80 ?_
      refine sw_i2l 82 rfl dX1_deliver_81 ?_
      refine sw_topL (show (-(nI m)).toInt64 = -(lN m) from neg_l (by omega)) ?_
      refine sw_callS 85 [] rfl cs_X1_262 rfl (Nat.le_of_ble_eq_true rfl) rfl (cl_settle hT.1 hw hi hj (-(lN m))) rfl rfl (Nat.le_of_ble_eq_true rfl) dX1_deliver_82 (fun v X hq => ?_) (fun E X hq => by obtain ⟨hv, -⟩ := hq; cases hv)
      obtain ⟨hv, hT1⟩ := hq
      cases hv
      replace hT := hT.tr hT1
      clear hT1
      refine sw_aload 87 rfl rfl rfl dX1_deliver_85 ?_
      refine gf_X1_88 90 rfl (hT.at 7 i hi) rfl rfl dX1_deliver_87 ?_
      refine sw_iload_n 91 rfl rfl dX1_deliver_90 ?_
      refine sw_lald 92 rfl (hT.at 8 i hi) (show j < 12 by omega) (Nat.le_of_ble_eq_true rfl) dX1_deliver_91 ?_
      rw [tr_lt (by omega)]
      refine sw_l2i 93 rfl dX1_deliver_92 ?_
      refine sw_iret rfl rfl dX1_deliver_93 ?_
      exact absurd c_51 e_72.2.1
    · refine sw_aload 56 rfl rfl rfl dX1_deliver_54 ?_
      refine gf_X1_88 59 rfl (hT.at 7 i hi) rfl rfl dX1_deliver_56 ?_
      refine sw_iload_n 60 rfl rfl dX1_deliver_59 ?_
      refine sw_lald 61 rfl (hT.at 8 i hi) (show j < 12 by omega) (Nat.le_of_ble_eq_true rfl) dX1_deliver_60 ?_
      rw [tr_lt (by omega)]
      refine sw_iload_n 62 rfl rfl dX1_deliver_61 ?_
      refine sw_i2l 63 rfl dX1_deliver_62 ?_
      refine sw_topL (nI_l (by omega)) ?_
      refine sw_llt 71 64 67 rfl (by decide) rfl dX1_deliver_63 dX1_deliver_64 (fun c_63 => ?_) (fun c_63 => ?_)
      · refine sw_iconst 72 rfl (nI 0) rfl dX1_deliver_71 ?_
        refine sw_topI (b2_f (P := ¬ S.2.1 7 i = nI 2 ∧ ¬ S.2.1 7 j = nI 2 ∧ ¬ S.2.2 12 (12 * i + j) < lN m) (by rintro ⟨q1, q2, q3⟩; first | exact q1 c_42 | exact q2 c_51 | exact q3 c_63)).symm ?_
        refine sw_callS 75 [] rfl cs_X1_156 rfl (Nat.le_of_ble_eq_true rfl) rfl (cl_nState (P := ¬ S.2.1 7 i = nI 2 ∧ ¬ S.2.1 7 j = nI 2 ∧ ¬ S.2.2 12 (12 * i + j) < lN m)) rfl rfl (Nat.le_of_ble_eq_true rfl) dX1_deliver_72 (fun v X hq => ?_) (fun E X hq => by rcases hq with ⟨-, hv, -⟩ | ⟨hp, hv, rfl⟩ <;> cases hv; have hk : kDel S (nI i) (nI j) (nI m) = 3 := (by rw [kDel, cif_f (not_not_intro e_3), cif_f (not_not_intro ⟨he, e_7⟩), xi, xj, xm]; exact cif_f hp); exact ⟨Oc.thr hk rfl, (hT.thr.tk (nI 3)).up' (by omega) (by omega) (by simp [sDel, hk, cif, tk])⟩)
        rcases hq with ⟨hp, hv, rfl⟩ | ⟨-, hv, -⟩ <;> cases hv
        have e_72 := hp
        refine sw_aload 77 rfl rfl rfl dX1_deliver_75 ?_
        refine sw_aload 79 rfl rfl rfl dX1_deliver_77 ?_
        refine sw_iload_n 80 rfl rfl dX1_deliver_79 ?_
        refine sw_ineg 81 rfl dX1_deliver_80 ?_
        refine sw_i2l 82 rfl dX1_deliver_81 ?_
        refine sw_topL (show (-(nI m)).toInt64 = -(lN m) from neg_l (by omega)) ?_
        refine sw_callS 85 [] rfl cs_X1_262 rfl (Nat.le_of_ble_eq_true rfl) rfl (cl_settle hT.1 hw hi hj (-(lN m))) rfl rfl (Nat.le_of_ble_eq_true rfl) dX1_deliver_82 (fun v X hq => ?_) (fun E X hq => by obtain ⟨hv, -⟩ := hq; cases hv)
        obtain ⟨hv, hT1⟩ := hq
        cases hv
        replace hT := hT.tr hT1
        clear hT1
        refine sw_aload 87 rfl rfl rfl dX1_deliver_85 ?_
        refine gf_X1_88 90 rfl (hT.at 7 i hi) rfl rfl dX1_deliver_87 ?_
        refine sw_iload_n 91 rfl rfl dX1_deliver_90 ?_
        refine sw_lald 92 rfl (hT.at 8 i hi) (show j < 12 by omega) (Nat.le_of_ble_eq_true rfl) dX1_deliver_91 ?_
        rw [tr_lt (by omega)]
        refine sw_l2i 93 rfl dX1_deliver_92 ?_
        refine sw_iret rfl rfl dX1_deliver_93 ?_
        exact absurd c_63 e_72.2.2
      · refine sw_iconst 68 rfl (nI 1) rfl dX1_deliver_67 ?_
        refine sw_topI (b2_t (P := ¬ S.2.1 7 i = nI 2 ∧ ¬ S.2.1 7 j = nI 2 ∧ ¬ S.2.2 12 (12 * i + j) < lN m) ⟨c_42, c_51, c_63⟩).symm ?_
        refine sw_goto 72 (by decide) dX1_deliver_68 ?_
        refine sw_callS 75 [] rfl cs_X1_156 rfl (Nat.le_of_ble_eq_true rfl) rfl (cl_nState (P := ¬ S.2.1 7 i = nI 2 ∧ ¬ S.2.1 7 j = nI 2 ∧ ¬ S.2.2 12 (12 * i + j) < lN m)) rfl rfl (Nat.le_of_ble_eq_true rfl) dX1_deliver_72 (fun v X hq => ?_) (fun E X hq => by rcases hq with ⟨-, hv, -⟩ | ⟨hp, hv, rfl⟩ <;> cases hv; have hk : kDel S (nI i) (nI j) (nI m) = 3 := (by rw [kDel, cif_f (not_not_intro e_3), cif_f (not_not_intro ⟨he, e_7⟩), xi, xj, xm]; exact cif_f hp); exact ⟨Oc.thr hk rfl, (hT.thr.tk (nI 3)).up' (by omega) (by omega) (by simp [sDel, hk, cif, tk])⟩)
        rcases hq with ⟨hp, hv, rfl⟩ | ⟨-, hv, -⟩ <;> cases hv
        have e_72 := hp
        refine sw_aload 77 rfl rfl rfl dX1_deliver_75 ?_
        refine sw_aload 79 rfl rfl rfl dX1_deliver_77 ?_
        refine sw_iload_n 80 rfl rfl dX1_deliver_79 ?_
        refine sw_ineg 81 rfl dX1_deliver_80 ?_
        refine sw_i2l 82 rfl dX1_deliver_81 ?_
        refine sw_topL (show (-(nI m)).toInt64 = -(lN m) from neg_l (by omega)) ?_
        refine sw_callS 85 [] rfl cs_X1_262 rfl (Nat.le_of_ble_eq_true rfl) rfl (cl_settle hT.1 hw hi hj (-(lN m))) rfl rfl (Nat.le_of_ble_eq_true rfl) dX1_deliver_82 (fun v X hq => ?_) (fun E X hq => by obtain ⟨hv, -⟩ := hq; cases hv)
        obtain ⟨hv, hT1⟩ := hq
        cases hv
        replace hT := hT.tr hT1
        clear hT1
        refine sw_aload 87 rfl rfl rfl dX1_deliver_85 ?_
        refine gf_X1_88 90 rfl (hT.at 7 i hi) rfl rfl dX1_deliver_87 ?_
        refine sw_iload_n 91 rfl rfl dX1_deliver_90 ?_
        refine sw_lald 92 rfl (hT.at 8 i hi) (show j < 12 by omega) (Nat.le_of_ble_eq_true rfl) dX1_deliver_91 ?_
        rw [tr_lt (by omega)]
        refine sw_l2i 93 rfl dX1_deliver_92 ?_
        refine sw_iret rfl rfl dX1_deliver_93 ?_
        have hk : kDel S (nI i) (nI j) (nI m) = 0 := by rw [kDel, cif_f (not_not_intro e_3), cif_f (not_not_intro ⟨he, e_7⟩), xi, xj, xm]; exact cif_t e_72
        have es : sDel S (nI i) (nI j) (nI m) = pOweBoth (tk S 0) i j (-(lN m)) := by rw [sDel, cif_t hk, xi, xj, xm]
        exact ⟨Oc.ok hk (by rw [rDel, cif_t hk, es, xi, xj]; rfl), (hT.tk (nI 0)).up' (by omega) (by omega) (by rw [es]; rfl)⟩

end C5
