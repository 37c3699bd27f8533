/-! the reference's calls (but those that look for ways): written by prog/gen_t3.py -/
set_option maxRecDepth 100000
section T3
variable {γ : Gm} {Mo : Nat} {aT : Nat → Nat} {X X0 : Sh} {S : TS} {K : Nat}
set_option maxHeartbeats 4000000 in
theorem ct_broker (hR : TwR γ Mo aT X S) (hw : WF K S) (a b c : Int32) : Ev γ mX2_broker [.ref Mo, .int a, .int b, .int c] X (fun oc X1 => oc = .inl (some (.int (rBroker S a b c))) ∧ TwF γ Mo aT X X1 (sBroker S a b c)) := by
  have hT := TwF.rf hR
  have hnb := hw.nb
  have hno := hw.no
  have hnc := hw.nc
  have hhr := hw.hr
  refine Ev.of (lv := [_, _, _, _, _]) 1 ⟨by decide +kernel, rfl, (Nat.le_of_ble_eq_true rfl)⟩ rfl ?_
  refine sw_iload_n 1 rfl rfl dX2_broker_0 ?_
  refine sw_iconst 2 rfl (nI 0) rfl dX2_broker_1 ?_
  refine sw_bipush 4 rfl (nI 7) rfl dX2_broker_2 ?_
  refine sw_callS 7 [] rfl cs_X2_116 rfl (Nat.le_of_ble_eq_true rfl) rfl (ct_in0 _ 7 (by omega)) rfl rfl (Nat.le_of_ble_eq_true rfl) dX2_broker_4 (fun v X hq => ?_) (fun E X hq => by obtain ⟨hv, -⟩ := hq; cases hv)
  obtain ⟨hv, rfl⟩ := hq
  cases hv
  refine sw_istore 9 rfl [_, _, _, _, _] (Nat.le_of_ble_eq_true rfl) rfl dX2_broker_7 ?_
  refine sw_aload_n 10 rfl rfl rfl dX2_broker_9 ?_
  refine sw_iload 12 rfl rfl dX2_broker_10 ?_
  refine sw_if_ne 19 15 (by decide) rfl dX2_broker_12 (fun c_12 => ?_) (fun c_12 => ?_)
  · rw [b2_n] at c_12
    have e_12 := c_12
    obtain ⟨i, hi, rfl⟩ := c_12
    have xi : ix (nI i) = i := ix_nI (by omega)
    refine sw_iload_n 20 rfl rfl dX2_broker_19 ?_
    refine sw_iconst 21 rfl (nI 0) rfl dX2_broker_20 ?_
    refine sw_ldc 23 rfl q922 dX2_broker_21 ?_
    refine sw_topI (show (1000000 : Int32) = nI 1000000 from rfl) ?_
    refine sw_callS 26 [_] rfl cs_X2_116 rfl (Nat.le_of_ble_eq_true rfl) rfl (ct_in0 _ 1000000 (by omega)) rfl rfl (Nat.le_of_ble_eq_true rfl) dX2_broker_23 (fun v X hq => ?_) (fun E X hq => by obtain ⟨hv, -⟩ := hq; cases hv)
    obtain ⟨hv, rfl⟩ := hq
    cases hv
    refine sw_if_eq 39 29 (by decide) rfl dX2_broker_26 (fun c_26 => ?_) (fun c_26 => ?_)
    · rw [b2_0] at c_26
      have e_26 := c_26
      refine sw_iconst 40 rfl (nI 2) rfl dX2_broker_39 ?_
      refine sw_goto 57 (by decide) dX2_broker_40 ?_
      refine sw_callV 60 [] rfl cs_X2_124 rfl (Nat.le_of_ble_eq_true rfl) rfl hT.obj rfl rfl (ct_goesWellK hT.1 2 (by omega) (by omega)) rfl rfl (Nat.le_of_ble_eq_true rfl) dX2_broker_57 (fun v X hq => ?_) (fun E X hq => by obtain ⟨hv, -⟩ := hq; cases hv)
      obtain ⟨hv, hT1⟩ := hq
      cases hv
      replace hT := hT.tr hT1
      clear hT1
      refine sw_if_ne 65 63 (by decide) rfl dX2_broker_60 (fun c_60 => absurd (by decide) c_60) (fun c_60 => ?_)
      clear c_60
      refine sw_iconst 64 rfl (nI 0) rfl dX2_broker_63 ?_
      refine sw_iret rfl rfl dX2_broker_64 ?_
      exact ⟨by simp [rBroker, sBroker, kBroker, cif, tk, e_12, xi, e_26], hT.st (by simp [rBroker, sBroker, kBroker, cif, tk, e_12, xi, e_26])⟩
    · rw [b2_n] at c_26
      have e_26 := c_26
      obtain ⟨j, hj, rfl⟩ := c_26
      have xj : ix (nI j) = j := ix_nI (by omega)
      refine sw_iload_n 30 rfl rfl dX2_broker_29 ?_
      refine sw_iconst 31 rfl (nI 0) rfl dX2_broker_30 ?_
      refine sw_bipush 33 rfl (nI 100) rfl dX2_broker_31 ?_
      refine sw_callS 36 [_] rfl cs_X2_116 rfl (Nat.le_of_ble_eq_true rfl) rfl (ct_in0 _ 100 (by omega)) rfl rfl (Nat.le_of_ble_eq_true rfl) dX2_broker_33 (fun v X hq => ?_) (fun E X hq => by obtain ⟨hv, -⟩ := hq; cases hv)
      obtain ⟨hv, rfl⟩ := hq
      cases hv
      refine sw_if_ne 43 39 (by decide) rfl dX2_broker_36 (fun c_36 => ?_) (fun c_36 => ?_)
      · rw [b2_n] at c_36
        have e_36 := c_36
        obtain ⟨q, hq, rfl⟩ := c_36
        have xq : ix (nI q) = q := ix_nI (by omega)
        refine sw_aload_n 44 rfl rfl rfl dX2_broker_43 ?_
        refine gf_X2_113 47 rfl hT.obj rfl rfl dX2_broker_44 ?_
        refine sw_bipush 49 rfl (nI 12) rfl dX2_broker_47 ?_
        refine sw_icmp_ne 56 52 (by decide) rfl dX2_broker_49 (fun c_49 => ?_) (fun c_49 => ?_)
        · rw [nI_eq (by omega) (by omega)] at c_49
          refine sw_iconst 57 rfl (nI 0) rfl dX2_broker_56 ?_
          refine sw_callV 60 [] rfl cs_X2_124 rfl (Nat.le_of_ble_eq_true rfl) rfl hT.obj rfl rfl (ct_goesWell0 hT.1) rfl rfl (Nat.le_of_ble_eq_true rfl) dX2_broker_57 (fun v X hq => ?_) (fun E X hq => by obtain ⟨hv, -⟩ := hq; cases hv)
          obtain ⟨hv, hT1⟩ := hq
          cases hv
          replace hT := hT.tr hT1
          clear hT1
          refine sw_if_ne 65 63 (by decide) rfl dX2_broker_60 (fun c_60 => ?_) (fun c_60 => absurd c_60 (by decide))
          clear c_60
          refine sw_aload_n 66 rfl rfl rfl dX2_broker_65 ?_
          refine gf_X2_7 69 rfl hT.obj rfl rfl dX2_broker_66 ?_
          refine sw_aload_n 70 rfl rfl rfl dX2_broker_69 ?_
          refine gf_X2_113 73 rfl hT.obj rfl rfl dX2_broker_70 ?_
          try simp only [sI_N, sI_L, sN_I, sN_L, sL_N, sL_I, sN_t, sI_t, sL_t, pOwe_N, pOwe_I, pOweBoth_N, pOweBoth_I, pTB_N, pTB_I, pGoBack_N, pOweOn_N, pOweOn_I, reduceIte, Nat.reduceEqDiff]
          refine sw_iload_n 74 rfl rfl dX2_broker_73 ?_
          refine sw_iast 75 rfl (hT.arr 4 rfl) (by omega) (Nat.le_of_ble_eq_true rfl) dX2_broker_74 (fun X hX => ?_)
          replace hT := hT.p4 hX
          clear hX
          refine sw_aload_n 76 rfl rfl rfl dX2_broker_75 ?_
          refine gf_X2_13 79 rfl hT.obj rfl rfl dX2_broker_76 ?_
          refine sw_aload_n 80 rfl rfl rfl dX2_broker_79 ?_
          refine gf_X2_113 83 rfl hT.obj rfl rfl dX2_broker_80 ?_
          try simp only [sI_N, sI_L, sN_I, sN_L, sL_N, sL_I, sN_t, sI_t, sL_t, pOwe_N, pOwe_I, pOweBoth_N, pOweBoth_I, pTB_N, pTB_I, pGoBack_N, pOweOn_N, pOweOn_I, reduceIte, Nat.reduceEqDiff]
          refine sw_iload_n 84 rfl rfl dX2_broker_83 ?_
          refine sw_i2l 85 rfl dX2_broker_84 ?_
          refine sw_topL (nI_l (by omega)) ?_
          refine sw_last 86 rfl (hT.arr 5 rfl) (by omega) (Nat.le_of_ble_eq_true rfl) dX2_broker_85 (fun X hX => ?_)
          replace hT := hT.p5 hX
          clear hX
          refine sw_aload_n 87 rfl rfl rfl dX2_broker_86 ?_
          refine gf_X2_17 90 rfl hT.obj rfl rfl dX2_broker_87 ?_
          refine sw_aload_n 91 rfl rfl rfl dX2_broker_90 ?_
          refine gf_X2_113 94 rfl hT.obj rfl rfl dX2_broker_91 ?_
          try simp only [sI_N, sI_L, sN_I, sN_L, sL_N, sL_I, sN_t, sI_t, sL_t, pOwe_N, pOwe_I, pOweBoth_N, pOweBoth_I, pTB_N, pTB_I, pGoBack_N, pOweOn_N, pOweOn_I, reduceIte, Nat.reduceEqDiff]
          refine sw_iload_n 95 rfl rfl dX2_broker_94 ?_
          refine sw_iast 96 rfl (hT.arr 6 rfl) (by omega) (Nat.le_of_ble_eq_true rfl) dX2_broker_95 (fun X hX => ?_)
          replace hT := hT.p6 hX
          clear hX
          refine sw_aload_n 97 rfl rfl rfl dX2_broker_96 ?_
          refine sw_dup 98 rfl rfl dX2_broker_97 ?_
          refine gf_X2_113 101 rfl hT.obj rfl rfl dX2_broker_98 ?_
          try simp only [sI_N, sI_L, sN_I, sN_L, sL_N, sL_I, sN_t, sI_t, sL_t, pOwe_N, pOwe_I, pOweBoth_N, pOweBoth_I, pTB_N, pTB_I, pGoBack_N, pOweOn_N, pOweOn_I, reduceIte, Nat.reduceEqDiff]
          refine sw_iconst 102 rfl (nI 1) rfl dX2_broker_101 ?_
          refine sw_iaddN 103 rfl dX2_broker_102 ?_
          refine pf_X2_113 106 rfl hT.obj (Nat.le_of_ble_eq_true rfl) rfl dX2_broker_103 (fun X hX => ?_)
          replace hT := hT.p3 hX
          clear hX
          refine sw_aload_n 107 rfl rfl rfl dX2_broker_106 ?_
          refine gf_X2_113 110 rfl hT.obj rfl rfl dX2_broker_107 ?_
          try simp only [sI_N, sI_L, sN_I, sN_L, sL_N, sL_I, sN_t, sI_t, sL_t, pOwe_N, pOwe_I, pOweBoth_N, pOweBoth_I, pTB_N, pTB_I, pGoBack_N, pOweOn_N, pOweOn_I, reduceIte, Nat.reduceEqDiff]
          refine sw_iconst 111 rfl (nI 1) rfl dX2_broker_110 ?_
          refine sw_isubN 112 rfl (by omega) dX2_broker_111 ?_
          refine sw_iret rfl rfl dX2_broker_112 ?_
          exact ⟨by simp [rBroker, sBroker, kBroker, cif, tk, e_12, xi, e_26, xj, e_36, xq, c_49], hT.st (by simp [rBroker, sBroker, kBroker, cif, tk, e_12, xi, e_26, xj, e_36, xq, c_49])⟩
        · rw [nI_eq (by omega) (by omega)] at c_49
          refine sw_iconst 53 rfl (nI 3) rfl dX2_broker_52 ?_
          refine sw_goto 57 (by decide) dX2_broker_53 ?_
          refine sw_callV 60 [] rfl cs_X2_124 rfl (Nat.le_of_ble_eq_true rfl) rfl hT.obj rfl rfl (ct_goesWellK hT.1 3 (by omega) (by omega)) rfl rfl (Nat.le_of_ble_eq_true rfl) dX2_broker_57 (fun v X hq => ?_) (fun E X hq => by obtain ⟨hv, -⟩ := hq; cases hv)
          obtain ⟨hv, hT1⟩ := hq
          cases hv
          replace hT := hT.tr hT1
          clear hT1
          refine sw_if_ne 65 63 (by decide) rfl dX2_broker_60 (fun c_60 => absurd (by decide) c_60) (fun c_60 => ?_)
          clear c_60
          refine sw_iconst 64 rfl (nI 0) rfl dX2_broker_63 ?_
          refine sw_iret rfl rfl dX2_broker_64 ?_
          exact ⟨by simp [rBroker, sBroker, kBroker, cif, tk, e_12, xi, e_26, xj, e_36, xq, c_49], hT.st (by simp [rBroker, sBroker, kBroker, cif, tk, e_12, xi, e_26, xj, e_36, xq, c_49])⟩
      · rw [b2_0] at c_36
        have e_36 := c_36
        refine sw_iconst 40 rfl (nI 2) rfl dX2_broker_39 ?_
        refine sw_goto 57 (by decide) dX2_broker_40 ?_
        refine sw_callV 60 [] rfl cs_X2_124 rfl (Nat.le_of_ble_eq_true rfl) rfl hT.obj rfl rfl (ct_goesWellK hT.1 2 (by omega) (by omega)) rfl rfl (Nat.le_of_ble_eq_true rfl) dX2_broker_57 (fun v X hq => ?_) (fun E X hq => by obtain ⟨hv, -⟩ := hq; cases hv)
        obtain ⟨hv, hT1⟩ := hq
        cases hv
        replace hT := hT.tr hT1
        clear hT1
        refine sw_if_ne 65 63 (by decide) rfl dX2_broker_60 (fun c_60 => absurd (by decide) c_60) (fun c_60 => ?_)
        clear c_60
        refine sw_iconst 64 rfl (nI 0) rfl dX2_broker_63 ?_
        refine sw_iret rfl rfl dX2_broker_64 ?_
        exact ⟨by simp [rBroker, sBroker, kBroker, cif, tk, e_12, xi, e_26, xj, e_36], hT.st (by simp [rBroker, sBroker, kBroker, cif, tk, e_12, xi, e_26, xj, e_36])⟩
  · rw [b2_0] at c_12
    have e_12 := c_12
    refine sw_iconst 16 rfl (nI 1) rfl dX2_broker_15 ?_
    refine sw_goto 57 (by decide) dX2_broker_16 ?_
    refine sw_callV 60 [] rfl cs_X2_124 rfl (Nat.le_of_ble_eq_true rfl) rfl hT.obj rfl rfl (ct_goesWellK hT.1 1 (by omega) (by omega)) rfl rfl (Nat.le_of_ble_eq_true rfl) dX2_broker_57 (fun v X hq => ?_) (fun E X hq => by obtain ⟨hv, -⟩ := hq; cases hv)
    obtain ⟨hv, hT1⟩ := hq
    cases hv
    replace hT := hT.tr hT1
    clear hT1
    refine sw_if_ne 65 63 (by decide) rfl dX2_broker_60 (fun c_60 => absurd (by decide) c_60) (fun c_60 => ?_)
    clear c_60
    refine sw_iconst 64 rfl (nI 0) rfl dX2_broker_63 ?_
    refine sw_iret rfl rfl dX2_broker_64 ?_
    exact ⟨by simp [rBroker, sBroker, kBroker, cif, tk, e_12], hT.st (by simp [rBroker, sBroker, kBroker, cif, tk, e_12])⟩

set_option maxHeartbeats 4000000 in
theorem ct_rate (hR : TwR γ Mo aT X S) (hw : WF K S) (a b : Int32) : Ev γ mX2_rate [.ref Mo, .int a, .int b] X (fun oc X1 => oc = .inl (some (.int (rRate S a b))) ∧ TwF γ Mo aT X X1 (sRate S a b)) := by
  have hT := TwF.rf hR
  have hnb := hw.nb
  have hno := hw.no
  have hnc := hw.nc
  have hhr := hw.hr
  refine Ev.of (lv := [_, _, _, _, _]) 2 ⟨by decide +kernel, rfl, (Nat.le_of_ble_eq_true rfl)⟩ rfl ?_
  refine sw_aload_n 1 rfl rfl rfl dX2_rate_0 ?_
  refine sw_iload_n 2 rfl rfl dX2_rate_1 ?_
  refine sw_callV 5 [] rfl cs_X2_120 rfl (Nat.le_of_ble_eq_true rfl) rfl hT.obj rfl rfl (ct_isBroker hT.1 (by omega) _) rfl rfl (Nat.le_of_ble_eq_true rfl) dX2_rate_2 (fun v X hq => ?_) (fun E X hq => by obtain ⟨hv, -⟩ := hq; cases hv)
  obtain ⟨hv, hT1⟩ := hq
  cases hv
  replace hT := hT.tr hT1
  clear hT1
  refine sw_istore_n 6 rfl [_, _, _, _, _] (Nat.le_of_ble_eq_true rfl) rfl dX2_rate_5 ?_
  refine sw_aload_n 7 rfl rfl rfl dX2_rate_6 ?_
  refine sw_iload_n 8 rfl rfl dX2_rate_7 ?_
  refine sw_if_ne 15 11 (by decide) rfl dX2_rate_8 (fun c_8 => ?_) (fun c_8 => ?_)
  · rw [b2_n] at c_8
    have e_8 := c_8
    obtain ⟨i, hi, rfl⟩ := c_8
    have xi : ix (nI i) = i := ix_nI (by omega)
    refine sw_iload_n 16 rfl rfl dX2_rate_15 ?_
    refine sw_iconst 17 rfl (nI 0) rfl dX2_rate_16 ?_
    refine sw_bipush 19 rfl (nI 100) rfl dX2_rate_17 ?_
    refine sw_callS 22 [_] rfl cs_X2_116 rfl (Nat.le_of_ble_eq_true rfl) rfl (ct_in0 _ 100 (by omega)) rfl rfl (Nat.le_of_ble_eq_true rfl) dX2_rate_19 (fun v X hq => ?_) (fun E X hq => by obtain ⟨hv, -⟩ := hq; cases hv)
    obtain ⟨hv, rfl⟩ := hq
    cases hv
    refine sw_if_eq 29 25 (by decide) rfl dX2_rate_22 (fun c_22 => ?_) (fun c_22 => ?_)
    · rw [b2_0] at c_22
      have e_22 := c_22
      refine sw_iconst 30 rfl (nI 2) rfl dX2_rate_29 ?_
      refine sw_callV 33 [] rfl cs_X2_124 rfl (Nat.le_of_ble_eq_true rfl) rfl hT.obj rfl rfl (ct_goesWellK hT.1 2 (by omega) (by omega)) rfl rfl (Nat.le_of_ble_eq_true rfl) dX2_rate_30 (fun v X hq => ?_) (fun E X hq => by obtain ⟨hv, -⟩ := hq; cases hv)
      obtain ⟨hv, hT1⟩ := hq
      cases hv
      replace hT := hT.tr hT1
      clear hT1
      refine sw_if_ne 38 36 (by decide) rfl dX2_rate_33 (fun c_33 => absurd (by decide) c_33) (fun c_33 => ?_)
      clear c_33
      refine sw_iconst 37 rfl (nI 0) rfl dX2_rate_36 ?_
      refine sw_iret rfl rfl dX2_rate_37 ?_
      exact ⟨by simp [rRate, sRate, kRate, cif, tk, e_8, xi, e_22], hT.st (by simp [rRate, sRate, kRate, cif, tk, e_8, xi, e_22])⟩
    · rw [b2_n] at c_22
      have e_22 := c_22
      obtain ⟨j, hj, rfl⟩ := c_22
      have xj : ix (nI j) = j := ix_nI (by omega)
      refine sw_iconst 26 rfl (nI 0) rfl dX2_rate_25 ?_
      refine sw_goto 30 (by decide) dX2_rate_26 ?_
      refine sw_callV 33 [] rfl cs_X2_124 rfl (Nat.le_of_ble_eq_true rfl) rfl hT.obj rfl rfl (ct_goesWell0 hT.1) rfl rfl (Nat.le_of_ble_eq_true rfl) dX2_rate_30 (fun v X hq => ?_) (fun E X hq => by obtain ⟨hv, -⟩ := hq; cases hv)
      obtain ⟨hv, hT1⟩ := hq
      cases hv
      replace hT := hT.tr hT1
      clear hT1
      refine sw_if_ne 38 36 (by decide) rfl dX2_rate_33 (fun c_33 => ?_) (fun c_33 => absurd c_33 (by decide))
      clear c_33
      refine sw_aload_n 39 rfl rfl rfl dX2_rate_38 ?_
      refine gf_X2_17 42 rfl hT.obj rfl rfl dX2_rate_39 ?_
      refine sw_iload_n 43 rfl rfl dX2_rate_42 ?_
      refine sw_iald 44 rfl (hT.arr 6 rfl) (by omega) (Nat.le_of_ble_eq_true rfl) dX2_rate_43 ?_
      try simp only [sI_N, sI_L, sN_I, sN_L, sL_N, sL_I, sN_t, sI_t, sL_t, pOwe_N, pOwe_I, pOweBoth_N, pOweBoth_I, pTB_N, pTB_I, pGoBack_N, pOweOn_N, pOweOn_I, reduceIte, Nat.reduceEqDiff]
      refine sw_istore 46 rfl [_, _, _, _, _] (Nat.le_of_ble_eq_true rfl) rfl dX2_rate_44 ?_
      refine sw_aload_n 47 rfl rfl rfl dX2_rate_46 ?_
      refine gf_X2_17 50 rfl hT.obj rfl rfl dX2_rate_47 ?_
      refine sw_iload_n 51 rfl rfl dX2_rate_50 ?_
      refine sw_iload_n 52 rfl rfl dX2_rate_51 ?_
      refine sw_iast 53 rfl (hT.arr 6 rfl) (by omega) (Nat.le_of_ble_eq_true rfl) dX2_rate_52 (fun X hX => ?_)
      replace hT := hT.p6 hX
      clear hX
      refine sw_iload 55 rfl rfl dX2_rate_53 ?_
      refine sw_iret rfl rfl dX2_rate_55 ?_
      exact ⟨by simp [rRate, sRate, kRate, cif, tk, e_8, xi, e_22, xj], hT.st (by simp [rRate, sRate, kRate, cif, tk, e_8, xi, e_22, xj])⟩
  · rw [b2_0] at c_8
    have e_8 := c_8
    refine sw_iconst 12 rfl (nI 1) rfl dX2_rate_11 ?_
    refine sw_goto 30 (by decide) dX2_rate_12 ?_
    refine sw_callV 33 [] rfl cs_X2_124 rfl (Nat.le_of_ble_eq_true rfl) rfl hT.obj rfl rfl (ct_goesWellK hT.1 1 (by omega) (by omega)) rfl rfl (Nat.le_of_ble_eq_true rfl) dX2_rate_30 (fun v X hq => ?_) (fun E X hq => by obtain ⟨hv, -⟩ := hq; cases hv)
    obtain ⟨hv, hT1⟩ := hq
    cases hv
    replace hT := hT.tr hT1
    clear hT1
    refine sw_if_ne 38 36 (by decide) rfl dX2_rate_33 (fun c_33 => absurd (by decide) c_33) (fun c_33 => ?_)
    clear c_33
    refine sw_iconst 37 rfl (nI 0) rfl dX2_rate_36 ?_
    refine sw_iret rfl rfl dX2_rate_37 ?_
    exact ⟨by simp [rRate, sRate, kRate, cif, tk, e_8], hT.st (by simp [rRate, sRate, kRate, cif, tk, e_8])⟩

set_option maxHeartbeats 4000000 in
theorem ct_trust (hR : TwR γ Mo aT X S) (hw : WF K S) (a b c d : Int32) (hd : bit01 d) : Ev γ mX2_trust [.ref Mo, .int a, .int b, .int c, .int d] X (fun oc X1 => oc = .inl none ∧ TwF γ Mo aT X X1 (sTrust S a b c d)) := by
  have hT := TwF.rf hR
  have hnb := hw.nb
  have hno := hw.no
  have hnc := hw.nc
  have hhr := hw.hr
  refine Ev.of (lv := [_, _, _, _, _, _]) 1 ⟨by decide +kernel, rfl, (Nat.le_of_ble_eq_true rfl)⟩ rfl ?_
  refine sw_aload_n 1 rfl rfl rfl dX2_trust_0 ?_
  refine sw_iload_n 2 rfl rfl dX2_trust_1 ?_
  refine sw_iload_n 3 rfl rfl dX2_trust_2 ?_
  refine sw_callV 6 [] rfl cs_X2_127 rfl (Nat.le_of_ble_eq_true rfl) rfl hT.obj rfl rfl (ct_areBrokers hT.1 (by omega) _ _) rfl rfl (Nat.le_of_ble_eq_true rfl) dX2_trust_3 (fun v X hq => ?_) (fun E X hq => by obtain ⟨hv, -⟩ := hq; cases hv)
  obtain ⟨hv, hT1⟩ := hq
  cases hv
  replace hT := hT.tr hT1
  clear hT1
  refine sw_istore 8 rfl [_, _, _, _, _, _] (Nat.le_of_ble_eq_true rfl) rfl dX2_trust_6 ?_
  refine sw_aload_n 9 rfl rfl rfl dX2_trust_8 ?_
  refine sw_iload 11 rfl rfl dX2_trust_9 ?_
  refine sw_if_ne 18 14 (by decide) rfl dX2_trust_11 (fun c_11 => ?_) (fun c_11 => ?_)
  · rw [b2_n] at c_11
    have e_11 := c_11
    obtain ⟨⟨i, hi, rfl⟩, ⟨j, hj, rfl⟩⟩ := c_11
    have xi : ix (nI i) = i := ix_nI (by omega)
    have xj : ix (nI j) = j := ix_nI (by omega)
    refine sw_iload_n 19 rfl rfl dX2_trust_18 ?_
    refine sw_iload_n 20 rfl rfl dX2_trust_19 ?_
    refine sw_icmp_eq 37 23 (by decide) rfl dX2_trust_20 (fun c_20 => ?_) (fun c_20 => ?_)
    · refine sw_iconst 38 rfl (nI 2) rfl dX2_trust_37 ?_
      refine sw_callV 41 [] rfl cs_X2_124 rfl (Nat.le_of_ble_eq_true rfl) rfl hT.obj rfl rfl (ct_goesWellK hT.1 2 (by omega) (by omega)) rfl rfl (Nat.le_of_ble_eq_true rfl) dX2_trust_38 (fun v X hq => ?_) (fun E X hq => by obtain ⟨hv, -⟩ := hq; cases hv)
      obtain ⟨hv, hT1⟩ := hq
      cases hv
      replace hT := hT.tr hT1
      clear hT1
      refine sw_if_eq 69 44 (by decide) rfl dX2_trust_41 (fun c_41 => ?_) (fun c_41 => absurd (by decide) c_41)
      clear c_41
      refine sw_vret rfl dX2_trust_69 ?_
      exact ⟨rfl, hT.st (by simp [sTrust, kTrust, cif, tk, e_11, xi, xj, c_20])⟩
    · refine sw_iload_n 24 rfl rfl dX2_trust_23 ?_
      refine sw_iconst 25 rfl (nI 0) rfl dX2_trust_24 ?_
      refine sw_ldc 27 rfl q922 dX2_trust_25 ?_
      refine sw_topI (show (1000000 : Int32) = nI 1000000 from rfl) ?_
      refine sw_callS 30 [_] rfl cs_X2_116 rfl (Nat.le_of_ble_eq_true rfl) rfl (ct_in0 _ 1000000 (by omega)) rfl rfl (Nat.le_of_ble_eq_true rfl) dX2_trust_27 (fun v X hq => ?_) (fun E X hq => by obtain ⟨hv, -⟩ := hq; cases hv)
      obtain ⟨hv, rfl⟩ := hq
      cases hv
      refine sw_if_eq 37 33 (by decide) rfl dX2_trust_30 (fun c_30 => ?_) (fun c_30 => ?_)
      · rw [b2_0] at c_30
        have e_30 := c_30
        refine sw_iconst 38 rfl (nI 2) rfl dX2_trust_37 ?_
        refine sw_callV 41 [] rfl cs_X2_124 rfl (Nat.le_of_ble_eq_true rfl) rfl hT.obj rfl rfl (ct_goesWellK hT.1 2 (by omega) (by omega)) rfl rfl (Nat.le_of_ble_eq_true rfl) dX2_trust_38 (fun v X hq => ?_) (fun E X hq => by obtain ⟨hv, -⟩ := hq; cases hv)
        obtain ⟨hv, hT1⟩ := hq
        cases hv
        replace hT := hT.tr hT1
        clear hT1
        refine sw_if_eq 69 44 (by decide) rfl dX2_trust_41 (fun c_41 => ?_) (fun c_41 => absurd (by decide) c_41)
        clear c_41
        refine sw_vret rfl dX2_trust_69 ?_
        exact ⟨rfl, hT.st (by simp [sTrust, kTrust, cif, tk, e_11, xi, xj, c_20, e_30])⟩
      · rw [b2_n] at c_30
        have e_30 := c_30
        obtain ⟨q, hq, rfl⟩ := c_30
        have xq : ix (nI q) = q := ix_nI (by omega)
        refine sw_iconst 34 rfl (nI 0) rfl dX2_trust_33 ?_
        refine sw_goto 38 (by decide) dX2_trust_34 ?_
        refine sw_callV 41 [] rfl cs_X2_124 rfl (Nat.le_of_ble_eq_true rfl) rfl hT.obj rfl rfl (ct_goesWell0 hT.1) rfl rfl (Nat.le_of_ble_eq_true rfl) dX2_trust_38 (fun v X hq => ?_) (fun E X hq => by obtain ⟨hv, -⟩ := hq; cases hv)
        obtain ⟨hv, hT1⟩ := hq
        cases hv
        replace hT := hT.tr hT1
        clear hT1
        refine sw_if_eq 69 44 (by decide) rfl dX2_trust_41 (fun c_41 => absurd c_41 (by decide)) (fun c_41 => ?_)
        clear c_41
        refine sw_aload_n 45 rfl rfl rfl dX2_trust_44 ?_
        refine gf_X2_30 48 rfl hT.obj rfl rfl dX2_trust_45 ?_
        refine sw_bipush 50 rfl (nI 12) rfl dX2_trust_48 ?_
        refine sw_iload_n 51 rfl rfl dX2_trust_50 ?_
        refine sw_imulN 52 rfl dX2_trust_51 ?_
        refine sw_iload_n 53 rfl rfl dX2_trust_52 ?_
        refine sw_iaddN 54 rfl dX2_trust_53 ?_
        refine sw_iload_n 55 rfl rfl dX2_trust_54 ?_
        refine sw_iast 56 rfl (hT.arr 10 rfl) (by omega) (Nat.le_of_ble_eq_true rfl) dX2_trust_55 (fun X hX => ?_)
        replace hT := hT.p10 hX
        clear hX
        refine sw_aload_n 57 rfl rfl rfl dX2_trust_56 ?_
        refine gf_X2_33 60 rfl hT.obj rfl rfl dX2_trust_57 ?_
        refine sw_bipush 62 rfl (nI 12) rfl dX2_trust_60 ?_
        refine sw_iload_n 63 rfl rfl dX2_trust_62 ?_
        refine sw_imulN 64 rfl dX2_trust_63 ?_
        refine sw_iload_n 65 rfl rfl dX2_trust_64 ?_
        refine sw_iaddN 66 rfl dX2_trust_65 ?_
        refine sw_iload 68 rfl rfl dX2_trust_66 ?_
        refine sw_zast 69 rfl (hT.arr 11 rfl) (bit_nar hd) (by omega) (Nat.le_of_ble_eq_true rfl) dX2_trust_68 (fun X hX => ?_)
        replace hT := hT.p11 hX
        clear hX
        refine sw_vret rfl dX2_trust_69 ?_
        exact ⟨rfl, hT.st (by simp [sTrust, kTrust, cif, tk, e_11, xi, xj, c_20, e_30, xq])⟩
  · rw [b2_0] at c_11
    have e_11 := c_11
    refine sw_iconst 15 rfl (nI 1) rfl dX2_trust_14 ?_
    refine sw_goto 38 (by decide) dX2_trust_15 ?_
    refine sw_callV 41 [] rfl cs_X2_124 rfl (Nat.le_of_ble_eq_true rfl) rfl hT.obj rfl rfl (ct_goesWellK hT.1 1 (by omega) (by omega)) rfl rfl (Nat.le_of_ble_eq_true rfl) dX2_trust_38 (fun v X hq => ?_) (fun E X hq => by obtain ⟨hv, -⟩ := hq; cases hv)
    obtain ⟨hv, hT1⟩ := hq
    cases hv
    replace hT := hT.tr hT1
    clear hT1
    refine sw_if_eq 69 44 (by decide) rfl dX2_trust_41 (fun c_41 => ?_) (fun c_41 => absurd (by decide) c_41)
    clear c_41
    refine sw_vret rfl dX2_trust_69 ?_
    exact ⟨rfl, hT.st (by simp [sTrust, kTrust, cif, tk, e_11])⟩

set_option maxHeartbeats 4000000 in
theorem ct_festival (hR : TwR γ Mo aT X S) (hw : WF K S) : Ev γ mX2_festival [.ref Mo] X (fun oc X1 => oc = .inl (some (.int (rFest S))) ∧ TwF γ Mo aT X X1 (sFest S)) := by
  have hT := TwF.rf hR
  have hnb := hw.nb
  have hno := hw.no
  have hnc := hw.nc
  have hhr := hw.hr
  refine Ev.of (lv := [_]) 0 ⟨by decide +kernel, rfl, (Nat.le_of_ble_eq_true rfl)⟩ rfl ?_
  refine sw_aload_n 1 rfl rfl rfl dX2_festival_0 ?_
  refine sw_iconst 2 rfl (nI 0) rfl dX2_festival_1 ?_
  refine pf_X2_109 5 rfl hT.obj (Nat.le_of_ble_eq_true rfl) rfl dX2_festival_2 (fun X hX => ?_)
  replace hT := hT.p0 hX
  clear hX
  refine sw_aload_n 6 rfl rfl rfl dX2_festival_5 ?_
  refine sw_aload_n 7 rfl rfl rfl dX2_festival_6 ?_
  refine gf_X2_131 10 rfl hT.obj rfl rfl dX2_festival_7 ?_
  try simp only [sI_N, sI_L, sN_I, sN_L, sL_N, sL_I, sN_t, sI_t, sL_t, pOwe_N, pOwe_I, pOweBoth_N, pOweBoth_I, pTB_N, pTB_I, pGoBack_N, pOweOn_N, pOweOn_I, reduceIte, Nat.reduceEqDiff]
  refine sw_if_ne 17 13 (by decide) rfl dX2_festival_10 (fun c_10 => ?_) (fun c_10 => ?_)
  · refine sw_iconst 18 rfl (nI 0) rfl dX2_festival_17 ?_
    refine pf_X2_131 21 rfl hT.obj rfl rfl (Nat.le_of_ble_eq_true rfl) rfl dX2_festival_18 (fun X hX => ?_)
    replace hT := hT.p2 hX
    clear hX
    refine sw_aload_n 22 rfl rfl rfl dX2_festival_21 ?_
    refine gf_X2_131 25 rfl hT.obj rfl rfl dX2_festival_22 ?_
    try simp only [sI_N, sI_L, sN_I, sN_L, sL_N, sL_I, sN_t, sI_t, sL_t, pOwe_N, pOwe_I, pOweBoth_N, pOweBoth_I, pTB_N, pTB_I, pGoBack_N, pOweOn_N, pOweOn_I, reduceIte, Nat.reduceEqDiff]
    refine sw_iret rfl rfl dX2_festival_25 ?_
    exact ⟨by simp [rFest, c_10], hT.st (by simp [sFest, rFest, tk, c_10])⟩
  · refine sw_iconst 14 rfl (nI 1) rfl dX2_festival_13 ?_
    refine sw_goto 18 (by decide) dX2_festival_14 ?_
    refine pf_X2_131 21 rfl hT.obj rfl rfl (Nat.le_of_ble_eq_true rfl) rfl dX2_festival_18 (fun X hX => ?_)
    replace hT := hT.p2 hX
    clear hX
    refine sw_aload_n 22 rfl rfl rfl dX2_festival_21 ?_
    refine gf_X2_131 25 rfl hT.obj rfl rfl dX2_festival_22 ?_
    try simp only [sI_N, sI_L, sN_I, sN_L, sL_N, sL_I, sN_t, sI_t, sL_t, pOwe_N, pOwe_I, pOweBoth_N, pOweBoth_I, pTB_N, pTB_I, pGoBack_N, pOweOn_N, pOweOn_I, reduceIte, Nat.reduceEqDiff]
    refine sw_iret rfl rfl dX2_festival_25 ?_
    exact ⟨by simp [rFest, c_10], hT.st (by simp [sFest, rFest, tk, c_10])⟩

set_option maxHeartbeats 4000000 in
theorem ct_law (hR : TwR γ Mo aT X S) (hw : WF K S) (a b : Int32) : Ev γ mX2_law [.ref Mo, .int a, .int b] X (fun oc X1 => oc = .inl (some (.int (rLaw S a b))) ∧ TwF γ Mo aT X X1 (sLaw S a b)) := by
  have hT := TwF.rf hR
  have hnb := hw.nb
  have hno := hw.no
  have hnc := hw.nc
  have hhr := hw.hr
  refine Ev.of (lv := [_, _, _, _]) 1 ⟨by decide +kernel, rfl, (Nat.le_of_ble_eq_true rfl)⟩ rfl ?_
  refine sw_iload_n 1 rfl rfl dX2_law_0 ?_
  refine sw_iconst 2 rfl (nI 0) rfl dX2_law_1 ?_
  refine sw_bipush 4 rfl (nI 7) rfl dX2_law_2 ?_
  refine sw_callS 7 [] rfl cs_X2_116 rfl (Nat.le_of_ble_eq_true rfl) rfl (ct_in0 _ 7 (by omega)) rfl rfl (Nat.le_of_ble_eq_true rfl) dX2_law_4 (fun v X hq => ?_) (fun E X hq => by obtain ⟨hv, -⟩ := hq; cases hv)
  obtain ⟨hv, rfl⟩ := hq
  cases hv
  refine sw_istore_n 8 rfl [_, _, _, _] (Nat.le_of_ble_eq_true rfl) rfl dX2_law_7 ?_
  refine sw_aload_n 9 rfl rfl rfl dX2_law_8 ?_
  refine sw_iload_n 10 rfl rfl dX2_law_9 ?_
  refine sw_if_ne 17 13 (by decide) rfl dX2_law_10 (fun c_10 => ?_) (fun c_10 => ?_)
  · rw [b2_n] at c_10
    have e_10 := c_10
    obtain ⟨i, hi, rfl⟩ := c_10
    have xi : ix (nI i) = i := ix_nI (by omega)
    refine sw_iload_n 18 rfl rfl dX2_law_17 ?_
    refine sw_iconst 19 rfl (nI 0) rfl dX2_law_18 ?_
    refine sw_ldc 21 rfl q922 dX2_law_19 ?_
    refine sw_topI (show (1000000 : Int32) = nI 1000000 from rfl) ?_
    refine sw_callS 24 [_] rfl cs_X2_116 rfl (Nat.le_of_ble_eq_true rfl) rfl (ct_in0 _ 1000000 (by omega)) rfl rfl (Nat.le_of_ble_eq_true rfl) dX2_law_21 (fun v X hq => ?_) (fun E X hq => by obtain ⟨hv, -⟩ := hq; cases hv)
    obtain ⟨hv, rfl⟩ := hq
    cases hv
    refine sw_if_eq 31 27 (by decide) rfl dX2_law_24 (fun c_24 => ?_) (fun c_24 => ?_)
    · rw [b2_0] at c_24
      have e_24 := c_24
      refine sw_iconst 32 rfl (nI 2) rfl dX2_law_31 ?_
      refine sw_callV 35 [] rfl cs_X2_124 rfl (Nat.le_of_ble_eq_true rfl) rfl hT.obj rfl rfl (ct_goesWellK hT.1 2 (by omega) (by omega)) rfl rfl (Nat.le_of_ble_eq_true rfl) dX2_law_32 (fun v X hq => ?_) (fun E X hq => by obtain ⟨hv, -⟩ := hq; cases hv)
      obtain ⟨hv, hT1⟩ := hq
      cases hv
      replace hT := hT.tr hT1
      clear hT1
      refine sw_if_ne 40 38 (by decide) rfl dX2_law_35 (fun c_35 => absurd (by decide) c_35) (fun c_35 => ?_)
      clear c_35
      refine sw_iconst 39 rfl (nI 0) rfl dX2_law_38 ?_
      refine sw_iret rfl rfl dX2_law_39 ?_
      exact ⟨by simp [rLaw, sLaw, kLaw, cif, tk, e_10, xi, e_24], hT.st (by simp [rLaw, sLaw, kLaw, cif, tk, e_10, xi, e_24])⟩
    · rw [b2_n] at c_24
      have e_24 := c_24
      obtain ⟨j, hj, rfl⟩ := c_24
      have xj : ix (nI j) = j := ix_nI (by omega)
      refine sw_iconst 28 rfl (nI 0) rfl dX2_law_27 ?_
      refine sw_goto 32 (by decide) dX2_law_28 ?_
      refine sw_callV 35 [] rfl cs_X2_124 rfl (Nat.le_of_ble_eq_true rfl) rfl hT.obj rfl rfl (ct_goesWell0 hT.1) rfl rfl (Nat.le_of_ble_eq_true rfl) dX2_law_32 (fun v X hq => ?_) (fun E X hq => by obtain ⟨hv, -⟩ := hq; cases hv)
      obtain ⟨hv, hT1⟩ := hq
      cases hv
      replace hT := hT.tr hT1
      clear hT1
      refine sw_if_ne 40 38 (by decide) rfl dX2_law_35 (fun c_35 => ?_) (fun c_35 => absurd c_35 (by decide))
      clear c_35
      refine sw_aload_n 41 rfl rfl rfl dX2_law_40 ?_
      refine gf_X2_88 44 rfl hT.obj rfl rfl dX2_law_41 ?_
      refine sw_iload_n 45 rfl rfl dX2_law_44 ?_
      refine sw_iload_n 46 rfl rfl dX2_law_45 ?_
      refine sw_iast 47 rfl (hT.arr 31 rfl) (by omega) (Nat.le_of_ble_eq_true rfl) dX2_law_46 (fun X hX => ?_)
      replace hT := hT.p31 hX
      clear hX
      refine sw_aload_n 48 rfl rfl rfl dX2_law_47 ?_
      refine gf_X2_91 51 rfl hT.obj rfl rfl dX2_law_48 ?_
      refine sw_iload_n 52 rfl rfl dX2_law_51 ?_
      refine sw_iald 53 rfl (hT.arr 32 rfl) (by omega) (Nat.le_of_ble_eq_true rfl) dX2_law_52 ?_
      try simp only [sI_N, sI_L, sN_I, sN_L, sL_N, sL_I, sN_t, sI_t, sL_t, pOwe_N, pOwe_I, pOweBoth_N, pOweBoth_I, pTB_N, pTB_I, pGoBack_N, pOweOn_N, pOweOn_I, reduceIte, Nat.reduceEqDiff]
      refine sw_iret rfl rfl dX2_law_53 ?_
      exact ⟨by simp [rLaw, sLaw, kLaw, cif, tk, e_10, xi, e_24, xj], hT.st (by simp [rLaw, sLaw, kLaw, cif, tk, e_10, xi, e_24, xj])⟩
  · rw [b2_0] at c_10
    have e_10 := c_10
    refine sw_iconst 14 rfl (nI 1) rfl dX2_law_13 ?_
    refine sw_goto 32 (by decide) dX2_law_14 ?_
    refine sw_callV 35 [] rfl cs_X2_124 rfl (Nat.le_of_ble_eq_true rfl) rfl hT.obj rfl rfl (ct_goesWellK hT.1 1 (by omega) (by omega)) rfl rfl (Nat.le_of_ble_eq_true rfl) dX2_law_32 (fun v X hq => ?_) (fun E X hq => by obtain ⟨hv, -⟩ := hq; cases hv)
    obtain ⟨hv, hT1⟩ := hq
    cases hv
    replace hT := hT.tr hT1
    clear hT1
    refine sw_if_ne 40 38 (by decide) rfl dX2_law_35 (fun c_35 => absurd (by decide) c_35) (fun c_35 => ?_)
    clear c_35
    refine sw_iconst 39 rfl (nI 0) rfl dX2_law_38 ?_
    refine sw_iret rfl rfl dX2_law_39 ?_
    exact ⟨by simp [rLaw, sLaw, kLaw, cif, tk, e_10], hT.st (by simp [rLaw, sLaw, kLaw, cif, tk, e_10])⟩

set_option maxHeartbeats 4000000 in
theorem ct_list (hR : TwR γ Mo aT X S) (hw : WF K S) (a : Int32) : Ev γ mX2_list [.ref Mo, .int a] X (fun oc X1 => oc = .inl (some (.int (rList S a))) ∧ TwF γ Mo aT X X1 (sList S a)) := by
  have hT := TwF.rf hR
  have hnb := hw.nb
  have hno := hw.no
  have hnc := hw.nc
  have hhr := hw.hr
  refine Ev.of (lv := [_, _]) 0 ⟨by decide +kernel, rfl, (Nat.le_of_ble_eq_true rfl)⟩ rfl ?_
  refine sw_aload_n 1 rfl rfl rfl dX2_list_0 ?_
  refine sw_iload_n 2 rfl rfl dX2_list_1 ?_
  refine sw_iconst 3 rfl (nI 0) rfl dX2_list_2 ?_
  refine sw_bipush 5 rfl (nI 19) rfl dX2_list_3 ?_
  refine sw_callS 8 [_] rfl cs_X2_116 rfl (Nat.le_of_ble_eq_true rfl) rfl (ct_in0 _ 19 (by omega)) rfl rfl (Nat.le_of_ble_eq_true rfl) dX2_list_5 (fun v X hq => ?_) (fun E X hq => by obtain ⟨hv, -⟩ := hq; cases hv)
  obtain ⟨hv, rfl⟩ := hq
  cases hv
  refine sw_if_eq 15 11 (by decide) rfl dX2_list_8 (fun c_8 => ?_) (fun c_8 => ?_)
  · rw [b2_0] at c_8
    have e_8 := c_8
    refine sw_iconst 16 rfl (nI 1) rfl dX2_list_15 ?_
    refine sw_callV 19 [] rfl cs_X2_124 rfl (Nat.le_of_ble_eq_true rfl) rfl hT.obj rfl rfl (ct_goesWellK hT.1 1 (by omega) (by omega)) rfl rfl (Nat.le_of_ble_eq_true rfl) dX2_list_16 (fun v X hq => ?_) (fun E X hq => by obtain ⟨hv, -⟩ := hq; cases hv)
    obtain ⟨hv, hT1⟩ := hq
    cases hv
    replace hT := hT.tr hT1
    clear hT1
    refine sw_if_ne 24 22 (by decide) rfl dX2_list_19 (fun c_19 => absurd (by decide) c_19) (fun c_19 => ?_)
    clear c_19
    refine sw_iconst 23 rfl (nI 0) rfl dX2_list_22 ?_
    refine sw_iret rfl rfl dX2_list_23 ?_
    exact ⟨by simp [rList, sList, kList, cif, tk, e_8], hT.st (by simp [rList, sList, kList, cif, tk, e_8])⟩
  · rw [b2_n] at c_8
    have e_8 := c_8
    obtain ⟨i, hi, rfl⟩ := c_8
    have xi : ix (nI i) = i := ix_nI (by omega)
    refine sw_iconst 12 rfl (nI 0) rfl dX2_list_11 ?_
    refine sw_goto 16 (by decide) dX2_list_12 ?_
    refine sw_callV 19 [] rfl cs_X2_124 rfl (Nat.le_of_ble_eq_true rfl) rfl hT.obj rfl rfl (ct_goesWell0 hT.1) rfl rfl (Nat.le_of_ble_eq_true rfl) dX2_list_16 (fun v X hq => ?_) (fun E X hq => by obtain ⟨hv, -⟩ := hq; cases hv)
    obtain ⟨hv, hT1⟩ := hq
    cases hv
    replace hT := hT.tr hT1
    clear hT1
    refine sw_if_ne 24 22 (by decide) rfl dX2_list_19 (fun c_19 => ?_) (fun c_19 => absurd c_19 (by decide))
    clear c_19
    refine sw_aload_n 25 rfl rfl rfl dX2_list_24 ?_
    refine gf_X2_94 28 rfl hT.obj rfl rfl dX2_list_25 ?_
    refine sw_iload_n 29 rfl rfl dX2_list_28 ?_
    refine sw_aload_n 30 rfl rfl rfl dX2_list_29 ?_
    refine gf_X2_94 33 rfl hT.obj rfl rfl dX2_list_30 ?_
    refine sw_iload_n 34 rfl rfl dX2_list_33 ?_
    refine sw_zald 35 rfl (hT.arr 33 rfl) (by omega) (Nat.le_of_ble_eq_true rfl) dX2_list_34 ?_
    try simp only [sI_N, sI_L, sN_I, sN_L, sL_N, sL_I, sN_t, sI_t, sL_t, pOwe_N, pOwe_I, pOweBoth_N, pOweBoth_I, pTB_N, pTB_I, pGoBack_N, pOweOn_N, pOweOn_I, reduceIte, Nat.reduceEqDiff]
    refine sw_if_ne 42 38 (by decide) rfl dX2_list_35 (fun c_35 => ?_) (fun c_35 => ?_)
    · refine sw_iconst 43 rfl (nI 0) rfl dX2_list_42 ?_
      refine sw_zast 44 rfl (hT.arr 33 rfl) rfl (by omega) (Nat.le_of_ble_eq_true rfl) dX2_list_43 (fun X hX => ?_)
      replace hT := hT.p33 hX
      clear hX
      refine sw_aload_n 45 rfl rfl rfl dX2_list_44 ?_
      refine gf_X2_94 48 rfl hT.obj rfl rfl dX2_list_45 ?_
      refine sw_iload_n 49 rfl rfl dX2_list_48 ?_
      refine sw_zald 50 rfl (hT.arr 33 rfl) (by omega) (Nat.le_of_ble_eq_true rfl) dX2_list_49 ?_
      try simp only [sI_N, sI_L, sN_I, sN_L, sL_N, sL_I, sN_t, sI_t, sL_t, pOwe_N, pOwe_I, pOweBoth_N, pOweBoth_I, pTB_N, pTB_I, pGoBack_N, pOweOn_N, pOweOn_I, reduceIte, Nat.reduceEqDiff]
      refine sw_iret rfl (by first | rfl | (split <;> rfl)) dX2_list_50 ?_
      exact ⟨by simp [rList, sList, kList, cif, tk, e_8, xi, c_35], hT.st (by simp [rList, sList, kList, cif, tk, e_8, xi, c_35])⟩
    · refine sw_iconst 39 rfl (nI 1) rfl dX2_list_38 ?_
      refine sw_goto 43 (by decide) dX2_list_39 ?_
      refine sw_zast 44 rfl (hT.arr 33 rfl) rfl (by omega) (Nat.le_of_ble_eq_true rfl) dX2_list_43 (fun X hX => ?_)
      replace hT := hT.p33 hX
      clear hX
      refine sw_aload_n 45 rfl rfl rfl dX2_list_44 ?_
      refine gf_X2_94 48 rfl hT.obj rfl rfl dX2_list_45 ?_
      refine sw_iload_n 49 rfl rfl dX2_list_48 ?_
      refine sw_zald 50 rfl (hT.arr 33 rfl) (by omega) (Nat.le_of_ble_eq_true rfl) dX2_list_49 ?_
      try simp only [sI_N, sI_L, sN_I, sN_L, sL_N, sL_I, sN_t, sI_t, sL_t, pOwe_N, pOwe_I, pOweBoth_N, pOweBoth_I, pTB_N, pTB_I, pGoBack_N, pOweOn_N, pOweOn_I, reduceIte, Nat.reduceEqDiff]
      refine sw_iret rfl (by first | rfl | (split <;> rfl)) dX2_list_50 ?_
      exact ⟨by simp [rList, sList, kList, cif, tk, e_8, xi, c_35], hT.st (by simp [rList, sList, kList, cif, tk, e_8, xi, c_35])⟩

set_option maxHeartbeats 4000000 in
theorem ct_debt (hR : TwR γ Mo aT X S) (hw : WF K S) (a b d : Int32) : Ev γ mX2_debt [.ref Mo, .int a, .int b, .int d] X (fun oc X1 => oc = .inl (some (.long (rDebt S a b d))) ∧ TwF γ Mo aT X X1 (tk S (kTwo S a b))) := by
  have hT := TwF.rf hR
  have hnb := hw.nb
  have hno := hw.no
  have hnc := hw.nc
  have hhr := hw.hr
  refine Ev.of (lv := [_, _, _, _]) 0 ⟨by decide +kernel, rfl, (Nat.le_of_ble_eq_true rfl)⟩ rfl ?_
  refine sw_aload_n 1 rfl rfl rfl dX2_debt_0 ?_
  refine sw_aload_n 2 rfl rfl rfl dX2_debt_1 ?_
  refine sw_iload_n 3 rfl rfl dX2_debt_2 ?_
  refine sw_iload_n 4 rfl rfl dX2_debt_3 ?_
  refine sw_callV 7 [_] rfl cs_X2_127 rfl (Nat.le_of_ble_eq_true rfl) rfl hT.obj rfl rfl (ct_areBrokers hT.1 (by omega) _ _) rfl rfl (Nat.le_of_ble_eq_true rfl) dX2_debt_4 (fun v X hq => ?_) (fun E X hq => by obtain ⟨hv, -⟩ := hq; cases hv)
  obtain ⟨hv, hT1⟩ := hq
  cases hv
  replace hT := hT.tr hT1
  clear hT1
  refine sw_if_eq 14 10 (by decide) rfl dX2_debt_7 (fun c_7 => ?_) (fun c_7 => ?_)
  · rw [b2_0] at c_7
    have e_7 := c_7
    refine sw_iconst 15 rfl (nI 1) rfl dX2_debt_14 ?_
    refine sw_callV 18 [] rfl cs_X2_124 rfl (Nat.le_of_ble_eq_true rfl) rfl hT.obj rfl rfl (ct_goesWellK hT.1 1 (by omega) (by omega)) rfl rfl (Nat.le_of_ble_eq_true rfl) dX2_debt_15 (fun v X hq => ?_) (fun E X hq => by obtain ⟨hv, -⟩ := hq; cases hv)
    obtain ⟨hv, hT1⟩ := hq
    cases hv
    replace hT := hT.tr hT1
    clear hT1
    refine sw_if_ne 23 21 (by decide) rfl dX2_debt_18 (fun c_18 => absurd (by decide) c_18) (fun c_18 => ?_)
    clear c_18
    refine sw_lconst 22 rfl 0 rfl dX2_debt_21 ?_
    refine sw_lret rfl dX2_debt_22 ?_
    exact ⟨by simp [rDebt, kTwo, cif, e_7], hT.st (by simp [kTwo, cif, tk, e_7])⟩
  · rw [b2_n] at c_7
    have e_7 := c_7
    obtain ⟨⟨i, hi, rfl⟩, ⟨j, hj, rfl⟩⟩ := c_7
    have xi : ix (nI i) = i := ix_nI (by omega)
    have xj : ix (nI j) = j := ix_nI (by omega)
    refine sw_iconst 11 rfl (nI 0) rfl dX2_debt_10 ?_
    refine sw_goto 15 (by decide) dX2_debt_11 ?_
    refine sw_callV 18 [] rfl cs_X2_124 rfl (Nat.le_of_ble_eq_true rfl) rfl hT.obj rfl rfl (ct_goesWell0 hT.1) rfl rfl (Nat.le_of_ble_eq_true rfl) dX2_debt_15 (fun v X hq => ?_) (fun E X hq => by obtain ⟨hv, -⟩ := hq; cases hv)
    obtain ⟨hv, hT1⟩ := hq
    cases hv
    replace hT := hT.tr hT1
    clear hT1
    refine sw_if_ne 23 21 (by decide) rfl dX2_debt_18 (fun c_18 => ?_) (fun c_18 => absurd c_18 (by decide))
    clear c_18
    refine sw_iload_n 24 rfl rfl dX2_debt_23 ?_
    refine sw_if_eq 41 27 (by decide) rfl dX2_debt_24 (fun c_24 => ?_) (fun c_24 => ?_)
    · refine sw_aload_n 42 rfl rfl rfl dX2_debt_41 ?_
      refine gf_X2_36 45 rfl hT.obj rfl rfl dX2_debt_42 ?_
      refine sw_bipush 47 rfl (nI 12) rfl dX2_debt_45 ?_
      refine sw_iload_n 48 rfl rfl dX2_debt_47 ?_
      refine sw_imulN 49 rfl dX2_debt_48 ?_
      refine sw_iload_n 50 rfl rfl dX2_debt_49 ?_
      refine sw_iaddN 51 rfl dX2_debt_50 ?_
      refine sw_lald 52 rfl (hT.arr 12 rfl) (by omega) (Nat.le_of_ble_eq_true rfl) dX2_debt_51 ?_
      try simp only [sI_N, sI_L, sN_I, sN_L, sL_N, sL_I, sN_t, sI_t, sL_t, pOwe_N, pOwe_I, pOweBoth_N, pOweBoth_I, pTB_N, pTB_I, pGoBack_N, pOweOn_N, pOweOn_I, reduceIte, Nat.reduceEqDiff]
      refine sw_lret rfl dX2_debt_52 ?_
      exact ⟨by simp [rDebt, kTwo, cif, e_7, xi, xj, c_24], hT.st (by simp [kTwo, cif, tk, e_7, xi, xj, c_24])⟩
    · refine sw_aload_n 28 rfl rfl rfl dX2_debt_27 ?_
      refine gf_X2_39 31 rfl hT.obj rfl rfl dX2_debt_28 ?_
      refine sw_bipush 33 rfl (nI 12) rfl dX2_debt_31 ?_
      refine sw_iload_n 34 rfl rfl dX2_debt_33 ?_
      refine sw_imulN 35 rfl dX2_debt_34 ?_
      refine sw_iload_n 36 rfl rfl dX2_debt_35 ?_
      refine sw_iaddN 37 rfl dX2_debt_36 ?_
      refine sw_lald 38 rfl (hT.arr 13 rfl) (by omega) (Nat.le_of_ble_eq_true rfl) dX2_debt_37 ?_
      try simp only [sI_N, sI_L, sN_I, sN_L, sL_N, sL_I, sN_t, sI_t, sL_t, pOwe_N, pOwe_I, pOweBoth_N, pOweBoth_I, pTB_N, pTB_I, pGoBack_N, pOweOn_N, pOweOn_I, reduceIte, Nat.reduceEqDiff]
      refine sw_goto 52 (by decide) dX2_debt_38 ?_
      refine sw_lret rfl dX2_debt_52 ?_
      exact ⟨by simp [rDebt, kTwo, cif, e_7, xi, xj, c_24], hT.st (by simp [kTwo, cif, tk, e_7, xi, xj, c_24])⟩

set_option maxHeartbeats 4000000 in
theorem ct_agree (hR : TwR γ Mo aT X S) (hw : WF K S) (a b : Int32) : Ev γ mX2_agree [.ref Mo, .int a, .int b] X (fun oc X1 => oc = .inl (some (.int (rAgree S a b))) ∧ TwF γ Mo aT X X1 (tk S (kTwo S a b))) := by
  have hT := TwF.rf hR
  have hnb := hw.nb
  have hno := hw.no
  have hnc := hw.nc
  have hhr := hw.hr
  refine Ev.of (lv := [_, _, _]) 0 ⟨by decide +kernel, rfl, (Nat.le_of_ble_eq_true rfl)⟩ rfl ?_
  refine sw_aload_n 1 rfl rfl rfl dX2_agree_0 ?_
  refine sw_aload_n 2 rfl rfl rfl dX2_agree_1 ?_
  refine sw_iload_n 3 rfl rfl dX2_agree_2 ?_
  refine sw_iload_n 4 rfl rfl dX2_agree_3 ?_
  refine sw_callV 7 [_] rfl cs_X2_127 rfl (Nat.le_of_ble_eq_true rfl) rfl hT.obj rfl rfl (ct_areBrokers hT.1 (by omega) _ _) rfl rfl (Nat.le_of_ble_eq_true rfl) dX2_agree_4 (fun v X hq => ?_) (fun E X hq => by obtain ⟨hv, -⟩ := hq; cases hv)
  obtain ⟨hv, hT1⟩ := hq
  cases hv
  replace hT := hT.tr hT1
  clear hT1
  refine sw_if_eq 14 10 (by decide) rfl dX2_agree_7 (fun c_7 => ?_) (fun c_7 => ?_)
  · rw [b2_0] at c_7
    have e_7 := c_7
    refine sw_iconst 15 rfl (nI 1) rfl dX2_agree_14 ?_
    refine sw_callV 18 [] rfl cs_X2_124 rfl (Nat.le_of_ble_eq_true rfl) rfl hT.obj rfl rfl (ct_goesWellK hT.1 1 (by omega) (by omega)) rfl rfl (Nat.le_of_ble_eq_true rfl) dX2_agree_15 (fun v X hq => ?_) (fun E X hq => by obtain ⟨hv, -⟩ := hq; cases hv)
    obtain ⟨hv, hT1⟩ := hq
    cases hv
    replace hT := hT.tr hT1
    clear hT1
    refine sw_if_eq 52 21 (by decide) rfl dX2_agree_18 (fun c_18 => ?_) (fun c_18 => absurd (by decide) c_18)
    clear c_18
    refine sw_iconst 53 rfl (nI 0) rfl dX2_agree_52 ?_
    refine sw_iret rfl rfl dX2_agree_53 ?_
    exact ⟨by rw [rAgree, b2_f (fun q => absurd q.1 (by simp [kTwo, cif, e_7]))], hT.st (by simp [kTwo, cif, tk, e_7])⟩
  · rw [b2_n] at c_7
    have e_7 := c_7
    obtain ⟨⟨i, hi, rfl⟩, ⟨j, hj, rfl⟩⟩ := c_7
    have xi : ix (nI i) = i := ix_nI (by omega)
    have xj : ix (nI j) = j := ix_nI (by omega)
    refine sw_iconst 11 rfl (nI 0) rfl dX2_agree_10 ?_
    refine sw_goto 15 (by decide) dX2_agree_11 ?_
    refine sw_callV 18 [] rfl cs_X2_124 rfl (Nat.le_of_ble_eq_true rfl) rfl hT.obj rfl rfl (ct_goesWell0 hT.1) rfl rfl (Nat.le_of_ble_eq_true rfl) dX2_agree_15 (fun v X hq => ?_) (fun E X hq => by obtain ⟨hv, -⟩ := hq; cases hv)
    obtain ⟨hv, hT1⟩ := hq
    cases hv
    replace hT := hT.tr hT1
    clear hT1
    refine sw_if_eq 52 21 (by decide) rfl dX2_agree_18 (fun c_18 => absurd c_18 (by decide)) (fun c_18 => ?_)
    clear c_18
    refine sw_aload_n 22 rfl rfl rfl dX2_agree_21 ?_
    refine gf_X2_39 25 rfl hT.obj rfl rfl dX2_agree_22 ?_
    refine sw_bipush 27 rfl (nI 12) rfl dX2_agree_25 ?_
    refine sw_iload_n 28 rfl rfl dX2_agree_27 ?_
    refine sw_imulN 29 rfl dX2_agree_28 ?_
    refine sw_iload_n 30 rfl rfl dX2_agree_29 ?_
    refine sw_iaddN 31 rfl dX2_agree_30 ?_
    refine sw_lald 32 rfl (hT.arr 13 rfl) (by omega) (Nat.le_of_ble_eq_true rfl) dX2_agree_31 ?_
    try simp only [sI_N, sI_L, sN_I, sN_L, sL_N, sL_I, sN_t, sI_t, sL_t, pOwe_N, pOwe_I, pOweBoth_N, pOweBoth_I, pTB_N, pTB_I, pGoBack_N, pOweOn_N, pOweOn_I, reduceIte, Nat.reduceEqDiff]
    refine sw_aload_n 33 rfl rfl rfl dX2_agree_32 ?_
    refine gf_X2_39 36 rfl hT.obj rfl rfl dX2_agree_33 ?_
    refine sw_bipush 38 rfl (nI 12) rfl dX2_agree_36 ?_
    refine sw_iload_n 39 rfl rfl dX2_agree_38 ?_
    refine sw_imulN 40 rfl dX2_agree_39 ?_
    refine sw_iload_n 41 rfl rfl dX2_agree_40 ?_
    refine sw_iaddN 42 rfl dX2_agree_41 ?_
    refine sw_lald 43 rfl (hT.arr 13 rfl) (by omega) (Nat.le_of_ble_eq_true rfl) dX2_agree_42 ?_
    try simp only [sI_N, sI_L, sN_I, sN_L, sL_N, sL_I, sN_t, sI_t, sL_t, pOwe_N, pOwe_I, pOweBoth_N, pOweBoth_I, pTB_N, pTB_I, pGoBack_N, pOweOn_N, pOweOn_I, reduceIte, Nat.reduceEqDiff]
    refine sw_lneg 44 rfl dX2_agree_43 ?_
    refine sw_lne 52 45 48 rfl (by decide) rfl dX2_agree_44 dX2_agree_45 (fun c_44 => ?_) (fun c_44 => ?_)
    · refine sw_iconst 53 rfl (nI 0) rfl dX2_agree_52 ?_
      refine sw_iret rfl rfl dX2_agree_53 ?_
      exact ⟨by rw [rAgree, b2_f (fun q => c_44 (by simpa [xi, xj] using q.2))], hT.st (by simp [kTwo, cif, tk, e_7, xi, xj, c_44])⟩
    · refine sw_iconst 49 rfl (nI 1) rfl dX2_agree_48 ?_
      refine sw_goto 53 (by decide) dX2_agree_49 ?_
      refine sw_iret rfl rfl dX2_agree_53 ?_
      exact ⟨by rw [rAgree, b2_t ⟨by simp [kTwo, cif, e_7, xi, xj, c_44], by simp [e_7, xi, xj, c_44]⟩], hT.st (by simp [kTwo, cif, tk, e_7, xi, xj, c_44])⟩

set_option maxHeartbeats 4000000 in
theorem ct_wayOf (hR : TwR γ Mo aT X S) (hw : WF K S) (a p : Int32) : Ev γ mX2_wayOf [.ref Mo, .int a, .int p] X (fun oc X1 => oc = .inl (some (.int (rWayOf S a p))) ∧ TwF γ Mo aT X X1 (tk S (kWayOf S a p))) := by
  have hT := TwF.rf hR
  have hnb := hw.nb
  have hno := hw.no
  have hnc := hw.nc
  have hhr := hw.hr
  refine Ev.of (lv := [_, _, _]) 0 ⟨by decide +kernel, rfl, (Nat.le_of_ble_eq_true rfl)⟩ rfl ?_
  refine sw_aload_n 1 rfl rfl rfl dX2_wayOf_0 ?_
  refine sw_aload_n 2 rfl rfl rfl dX2_wayOf_1 ?_
  refine sw_iload_n 3 rfl rfl dX2_wayOf_2 ?_
  refine sw_callV 6 [_] rfl cs_X2_197 rfl (Nat.le_of_ble_eq_true rfl) rfl hT.obj rfl rfl (ct_isOrder hT.1 (by omega) _) rfl rfl (Nat.le_of_ble_eq_true rfl) dX2_wayOf_3 (fun v X hq => ?_) (fun E X hq => by obtain ⟨hv, -⟩ := hq; cases hv)
  obtain ⟨hv, hT1⟩ := hq
  cases hv
  replace hT := hT.tr hT1
  clear hT1
  refine sw_if_eq 17 9 (by decide) rfl dX2_wayOf_6 (fun c_6 => ?_) (fun c_6 => ?_)
  · rw [b2_0] at c_6
    have e_6 := c_6
    refine sw_iconst 18 rfl (nI 1) rfl dX2_wayOf_17 ?_
    refine sw_callV 21 [] rfl cs_X2_124 rfl (Nat.le_of_ble_eq_true rfl) rfl hT.obj rfl rfl (ct_goesWellK hT.1 1 (by omega) (by omega)) rfl rfl (Nat.le_of_ble_eq_true rfl) dX2_wayOf_18 (fun v X hq => ?_) (fun E X hq => by obtain ⟨hv, -⟩ := hq; cases hv)
    obtain ⟨hv, hT1⟩ := hq
    cases hv
    replace hT := hT.tr hT1
    clear hT1
    refine sw_if_ne 26 24 (by decide) rfl dX2_wayOf_21 (fun c_21 => absurd (by decide) c_21) (fun c_21 => ?_)
    clear c_21
    refine sw_iconst 25 rfl (nI 0) rfl dX2_wayOf_24 ?_
    refine sw_iret rfl rfl dX2_wayOf_25 ?_
    exact ⟨by simp [rWayOf, kWayOf, cif, e_6], hT.st (by simp [kWayOf, cif, tk, e_6])⟩
  · rw [b2_n] at c_6
    have e_6 := c_6
    obtain ⟨i, hi, rfl⟩ := c_6
    have xi : ix (nI i) = i := ix_nI (by omega)
    refine sw_iload_n 10 rfl rfl dX2_wayOf_9 ?_
    refine sw_if_lt 17 13 (by decide) rfl dX2_wayOf_10 (fun c_10 => ?_) (fun c_10 => ?_)
    · refine sw_iconst 18 rfl (nI 1) rfl dX2_wayOf_17 ?_
      refine sw_callV 21 [] rfl cs_X2_124 rfl (Nat.le_of_ble_eq_true rfl) rfl hT.obj rfl rfl (ct_goesWellK hT.1 1 (by omega) (by omega)) rfl rfl (Nat.le_of_ble_eq_true rfl) dX2_wayOf_18 (fun v X hq => ?_) (fun E X hq => by obtain ⟨hv, -⟩ := hq; cases hv)
      obtain ⟨hv, hT1⟩ := hq
      cases hv
      replace hT := hT.tr hT1
      clear hT1
      refine sw_if_ne 26 24 (by decide) rfl dX2_wayOf_21 (fun c_21 => absurd (by decide) c_21) (fun c_21 => ?_)
      clear c_21
      refine sw_iconst 25 rfl (nI 0) rfl dX2_wayOf_24 ?_
      refine sw_iret rfl rfl dX2_wayOf_25 ?_
      exact ⟨by simp [rWayOf, kWayOf, cif, e_6, xi, c_10], hT.st (by simp [kWayOf, cif, tk, e_6, xi, c_10])⟩
    · have e_10 := c_10
      obtain ⟨j, hj, rfl⟩ := nI_of c_10
      have xj : ix (nI j) = j := ix_nI (by omega)
      have hmm := hw.many hi
      refine sw_iconst 14 rfl (nI 0) rfl dX2_wayOf_13 ?_
      refine sw_goto 18 (by decide) dX2_wayOf_14 ?_
      refine sw_callV 21 [] rfl cs_X2_124 rfl (Nat.le_of_ble_eq_true rfl) rfl hT.obj rfl rfl (ct_goesWell0 hT.1) rfl rfl (Nat.le_of_ble_eq_true rfl) dX2_wayOf_18 (fun v X hq => ?_) (fun E X hq => by obtain ⟨hv, -⟩ := hq; cases hv)
      obtain ⟨hv, hT1⟩ := hq
      cases hv
      replace hT := hT.tr hT1
      clear hT1
      refine sw_if_ne 26 24 (by decide) rfl dX2_wayOf_21 (fun c_21 => ?_) (fun c_21 => absurd c_21 (by decide))
      clear c_21
      refine sw_iload_n 27 rfl rfl dX2_wayOf_26 ?_
      refine sw_aload_n 28 rfl rfl rfl dX2_wayOf_27 ?_
      refine gf_X2_63 31 rfl hT.obj rfl rfl dX2_wayOf_28 ?_
      refine sw_iload_n 32 rfl rfl dX2_wayOf_31 ?_
      refine sw_iald 33 rfl (hT.arr 22 rfl) (by omega) (Nat.le_of_ble_eq_true rfl) dX2_wayOf_32 ?_
      try simp only [sI_N, sI_L, sN_I, sN_L, sL_N, sL_I, sN_t, sI_t, sL_t, pOwe_N, pOwe_I, pOweBoth_N, pOweBoth_I, pTB_N, pTB_I, pGoBack_N, pOweOn_N, pOweOn_I, reduceIte, Nat.reduceEqDiff]
      refine sw_icmp_ge 50 36 (by decide) rfl dX2_wayOf_33 (fun c_33 => ?_) (fun c_33 => ?_)
      · rw [nI_leI (by omega) (by omega)] at c_33
        refine sw_iconst 51 rfl (-1) rfl dX2_wayOf_50 ?_
        refine sw_iret rfl rfl dX2_wayOf_51 ?_
        exact ⟨by simp [rWayOf, kWayOf, cif, e_6, xi, c_10, xj, e_10, c_33], hT.st (by simp [kWayOf, cif, tk, e_6, xi, c_10, xj, e_10, c_33])⟩
      · rw [nI_leI (by omega) (by omega)] at c_33
        refine sw_aload_n 37 rfl rfl rfl dX2_wayOf_36 ?_
        refine gf_X2_66 40 rfl hT.obj rfl rfl dX2_wayOf_37 ?_
        refine sw_bipush 42 rfl (nI 12) rfl dX2_wayOf_40 ?_
        refine sw_iload_n 43 rfl rfl dX2_wayOf_42 ?_
        refine sw_imulN 44 rfl dX2_wayOf_43 ?_
        refine sw_iload_n 45 rfl rfl dX2_wayOf_44 ?_
        refine sw_iaddN 46 rfl dX2_wayOf_45 ?_
        refine sw_iald 47 rfl (hT.arr 23 rfl) (by omega) (Nat.le_of_ble_eq_true rfl) dX2_wayOf_46 ?_
        try simp only [sI_N, sI_L, sN_I, sN_L, sL_N, sL_I, sN_t, sI_t, sL_t, pOwe_N, pOwe_I, pOweBoth_N, pOweBoth_I, pTB_N, pTB_I, pGoBack_N, pOweOn_N, pOweOn_I, reduceIte, Nat.reduceEqDiff]
        refine sw_goto 51 (by decide) dX2_wayOf_47 ?_
        refine sw_iret rfl rfl dX2_wayOf_51 ?_
        exact ⟨by simp [rWayOf, kWayOf, cif, e_6, xi, c_10, xj, e_10, c_33], hT.st (by simp [kWayOf, cif, tk, e_6, xi, c_10, xj, e_10, c_33])⟩

set_option maxHeartbeats 4000000 in
theorem ct_rob (hR : TwR γ Mo aT X S) (hw : WF K S) (a : Int32) : Ev γ mX2_rob [.ref Mo, .int a] X (fun oc X1 => oc = .inl (some (.int (rRob S a))) ∧ TwF γ Mo aT X X1 (sRob S a)) := by
  have hT := TwF.rf hR
  have hnb := hw.nb
  have hno := hw.no
  have hnc := hw.nc
  have hhr := hw.hr
  have hcc := fun c h => hw.cou (c := c) h
  refine Ev.of (lv := [_, _, _]) 1 ⟨by decide +kernel, rfl, (Nat.le_of_ble_eq_true rfl)⟩ rfl ?_
  refine sw_iload_n 1 rfl rfl dX2_rob_0 ?_
  refine sw_iconst 2 rfl (nI 0) rfl dX2_rob_1 ?_
  refine sw_aload_n 3 rfl rfl rfl dX2_rob_2 ?_
  refine gf_X2_200 6 rfl hT.obj rfl rfl dX2_rob_3 ?_
  refine sw_iconst 7 rfl (nI 1) rfl dX2_rob_6 ?_
  refine sw_isub 8 rfl dX2_rob_7 ?_
  refine sw_callS 11 [] rfl cs_X2_116 rfl (Nat.le_of_ble_eq_true rfl) rfl (ct_inC hnc _) rfl rfl (Nat.le_of_ble_eq_true rfl) dX2_rob_8 (fun v X hq => ?_) (fun E X hq => by obtain ⟨hv, -⟩ := hq; cases hv)
  obtain ⟨hv, rfl⟩ := hq
  cases hv
  refine sw_istore_n 12 rfl [_, _, _] (Nat.le_of_ble_eq_true rfl) rfl dX2_rob_11 ?_
  refine sw_aload_n 13 rfl rfl rfl dX2_rob_12 ?_
  refine sw_iload_n 14 rfl rfl dX2_rob_13 ?_
  refine sw_if_ne 21 17 (by decide) rfl dX2_rob_14 (fun c_14 => ?_) (fun c_14 => ?_)
  · rw [b2_n] at c_14
    have e_14 := c_14
    obtain ⟨i, hi, rfl⟩ := c_14
    have xi : ix (nI i) = i := ix_nI (by omega)
    have hci := hcc i hi
    obtain ⟨⟨hci1, hci2⟩, -⟩ := hci
    refine sw_aload_n 22 rfl rfl rfl dX2_rob_21 ?_
    refine gf_X2_84 25 rfl hT.obj rfl rfl dX2_rob_22 ?_
    refine sw_iload_n 26 rfl rfl dX2_rob_25 ?_
    refine sw_zald 27 rfl (hT.arr 30 rfl) (by omega) (Nat.le_of_ble_eq_true rfl) dX2_rob_26 ?_
    refine sw_if_eq 34 30 (by decide) rfl dX2_rob_27 (fun c_27 => ?_) (fun c_27 => ?_)
    · refine sw_iconst 35 rfl (nI 0) rfl dX2_rob_34 ?_
      refine sw_callV 38 [] rfl cs_X2_124 rfl (Nat.le_of_ble_eq_true rfl) rfl hT.obj rfl rfl (ct_goesWell0 hT.1) rfl rfl (Nat.le_of_ble_eq_true rfl) dX2_rob_35 (fun v X hq => ?_) (fun E X hq => by obtain ⟨hv, -⟩ := hq; cases hv)
      obtain ⟨hv, hT1⟩ := hq
      cases hv
      replace hT := hT.tr hT1
      clear hT1
      refine sw_if_ne 43 41 (by decide) rfl dX2_rob_38 (fun c_38 => ?_) (fun c_38 => absurd c_38 (by decide))
      clear c_38
      refine sw_aload_n 44 rfl rfl rfl dX2_rob_43 ?_
      refine gf_X2_84 47 rfl hT.obj rfl rfl dX2_rob_44 ?_
      refine sw_iload_n 48 rfl rfl dX2_rob_47 ?_
      refine sw_iconst 49 rfl (nI 1) rfl dX2_rob_48 ?_
      refine sw_zast 50 rfl (hT.arr 30 rfl) rfl (by omega) (Nat.le_of_ble_eq_true rfl) dX2_rob_49 (fun X hX => ?_)
      replace hT := hT.p30 hX
      clear hX
      refine sw_aload_n 51 rfl rfl rfl dX2_rob_50 ?_
      refine gf_X2_97 54 rfl hT.obj rfl rfl dX2_rob_51 ?_
      refine sw_iconst 55 rfl (nI 3) rfl dX2_rob_54 ?_
      refine sw_dup2 56 rfl rfl rfl dX2_rob_55 ?_
      refine sw_lald 57 rfl (hT.arr 34 rfl) (by omega) (Nat.le_of_ble_eq_true rfl) dX2_rob_56 ?_
      try simp only [sI_N, sI_L, sN_I, sN_L, sL_N, sL_I, sN_t, sI_t, sL_t, pOwe_N, pOwe_I, pOweBoth_N, pOweBoth_I, pTB_N, pTB_I, pGoBack_N, pOweOn_N, pOweOn_I, reduceIte, Nat.reduceEqDiff]
      refine sw_aload_n 58 rfl rfl rfl dX2_rob_57 ?_
      refine gf_X2_72 61 rfl hT.obj rfl rfl dX2_rob_58 ?_
      refine sw_iload_n 62 rfl rfl dX2_rob_61 ?_
      refine sw_iald 63 rfl (hT.arr 26 rfl) (by omega) (Nat.le_of_ble_eq_true rfl) dX2_rob_62 ?_
      try simp only [sI_N, sI_L, sN_I, sN_L, sL_N, sL_I, sN_t, sI_t, sL_t, pOwe_N, pOwe_I, pOweBoth_N, pOweBoth_I, pTB_N, pTB_I, pGoBack_N, pOweOn_N, pOweOn_I, reduceIte, Nat.reduceEqDiff]
      refine sw_i2l 64 rfl dX2_rob_63 ?_
      refine sw_topL (nI_l (by omega)) ?_
      refine sw_ladd 65 rfl dX2_rob_64 ?_
      refine sw_last 66 rfl (hT.arr 34 rfl) (by omega) (Nat.le_of_ble_eq_true rfl) dX2_rob_65 (fun X hX => ?_)
      replace hT := hT.p34 hX
      clear hX
      refine sw_aload_n 67 rfl rfl rfl dX2_rob_66 ?_
      refine gf_X2_72 70 rfl hT.obj rfl rfl dX2_rob_67 ?_
      refine sw_iload_n 71 rfl rfl dX2_rob_70 ?_
      refine sw_iald 72 rfl (hT.arr 26 rfl) (by omega) (Nat.le_of_ble_eq_true rfl) dX2_rob_71 ?_
      try simp only [sI_N, sI_L, sN_I, sN_L, sL_N, sL_I, sN_t, sI_t, sL_t, pOwe_N, pOwe_I, pOweBoth_N, pOweBoth_I, pTB_N, pTB_I, pGoBack_N, pOweOn_N, pOweOn_I, reduceIte, Nat.reduceEqDiff]
      refine sw_iret rfl rfl dX2_rob_72 ?_
      exact ⟨by simp [rRob, sRob, kRob, cif, tk, e_14, xi, c_27], hT.st (by simp [rRob, sRob, kRob, cif, tk, e_14, xi, c_27])⟩
    · refine sw_iconst 31 rfl (nI 2) rfl dX2_rob_30 ?_
      refine sw_goto 35 (by decide) dX2_rob_31 ?_
      refine sw_callV 38 [] rfl cs_X2_124 rfl (Nat.le_of_ble_eq_true rfl) rfl hT.obj rfl rfl (ct_goesWellK hT.1 2 (by omega) (by omega)) rfl rfl (Nat.le_of_ble_eq_true rfl) dX2_rob_35 (fun v X hq => ?_) (fun E X hq => by obtain ⟨hv, -⟩ := hq; cases hv)
      obtain ⟨hv, hT1⟩ := hq
      cases hv
      replace hT := hT.tr hT1
      clear hT1
      refine sw_if_ne 43 41 (by decide) rfl dX2_rob_38 (fun c_38 => absurd (by decide) c_38) (fun c_38 => ?_)
      clear c_38
      refine sw_iconst 42 rfl (nI 0) rfl dX2_rob_41 ?_
      refine sw_iret rfl rfl dX2_rob_42 ?_
      exact ⟨by simp [rRob, sRob, kRob, cif, tk, e_14, xi, c_27], hT.st (by simp [rRob, sRob, kRob, cif, tk, e_14, xi, c_27])⟩
  · rw [b2_0] at c_14
    have e_14 := c_14
    refine sw_iconst 18 rfl (nI 1) rfl dX2_rob_17 ?_
    refine sw_goto 35 (by decide) dX2_rob_18 ?_
    refine sw_callV 38 [] rfl cs_X2_124 rfl (Nat.le_of_ble_eq_true rfl) rfl hT.obj rfl rfl (ct_goesWellK hT.1 1 (by omega) (by omega)) rfl rfl (Nat.le_of_ble_eq_true rfl) dX2_rob_35 (fun v X hq => ?_) (fun E X hq => by obtain ⟨hv, -⟩ := hq; cases hv)
    obtain ⟨hv, hT1⟩ := hq
    cases hv
    replace hT := hT.tr hT1
    clear hT1
    refine sw_if_ne 43 41 (by decide) rfl dX2_rob_38 (fun c_38 => absurd (by decide) c_38) (fun c_38 => ?_)
    clear c_38
    refine sw_iconst 42 rfl (nI 0) rfl dX2_rob_41 ?_
    refine sw_iret rfl rfl dX2_rob_42 ?_
    exact ⟨by simp [rRob, sRob, kRob, cif, tk, e_14], hT.st (by simp [rRob, sRob, kRob, cif, tk, e_14])⟩

end T3
