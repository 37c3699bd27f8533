/-! the reference's orders: written by prog/gen_t11.py -/
theorem WyO.c' {S T : TS} {o : Nat} (h : WyO S o) (e : ∀ j, j ≠ 5 → j ≠ 19 → T.1 j = S.1 j) : WyO T o := by
  unfold WyO
  rw [e 22 (by omega) (by omega), e 23 (by omega) (by omega), e 24 (by omega) (by omega), e 21 (by omega) (by omega)]
  exact h
theorem le_of_eq_le {a b c : Nat} (h : a = b) (g : b ≤ c) : a ≤ c := h ▸ g
theorem ord_f3 {S : TS} {a b m nm cd : Int32} (eA : oAre S a b nm) (eR : oRt a b m cd) (h : ¬ oCan S nm) : rOrd S a b m nm cd = nI 0 ∧ sOrd S a b m nm cd = S.sI 0 0 (nI 3) := by
  have hk : kOrd S a b m nm cd = 3 := (cif_f (not_not_intro eA)).trans ((cif_f (not_not_intro eR)).trans (cif_f (fun z => h z.1)))
  exact ⟨cif_f (by rw [hk]; omega), (cif_f (by rw [hk]; omega)).trans ((cif_f (fun z => h z.2.2)).trans (by rw [hk]; rfl))⟩
theorem ord_n3 {S : TS} {a b m nm cd : Int32} (eA : oAre S a b nm) (eR : oRt a b m cd) (eC : oCan S nm) (h : pLen S (ix a) (ix b) (ix m) 0 = 0) : rOrd S a b m nm cd = nI 0 ∧ sOrd S a b m nm cd = (pFind S (ix a) (ix b) (ix m) 0).sI 0 0 (nI 3) := by
  have hk : kOrd S a b m nm cd = 3 := (cif_f (not_not_intro eA)).trans ((cif_f (not_not_intro eR)).trans (cif_f (fun z => by rw [h] at z; omega)))
  exact ⟨cif_f (by rw [hk]; omega), (cif_f (by rw [hk]; omega)).trans ((cif_t ⟨eA, eR, eC⟩).trans (by rw [hk]; rfl))⟩
theorem ord_m {S : TS} {a b m nm cd : Int32} (eA : oAre S a b nm) (eR : oRt a b m cd) (eC : oCan S nm) (h : 0 < pLen S (ix a) (ix b) (ix m) 0) : kOrd S a b m nm cd = 0 ∧ rOrd S a b m nm cd = nI (S.1 14 0) ∧ sOrd S a b m nm cd = pTold (pLay (pOrd ((pFind S (ix a) (ix b) (ix m) 0).sI 0 0 (nI 0)) (ix a) (ix m) cd) (S.1 14 0) 0 (pLen S (ix a) (ix b) (ix m) 0)) (ix a) (ix m) := by
  have hk : kOrd S a b m nm cd = 0 := (cif_f (not_not_intro eA)).trans ((cif_f (not_not_intro eR)).trans (cif_t ⟨eC, h⟩))
  exact ⟨hk, cif_t hk, cif_t hk⟩
set_option maxRecDepth 100000
section T11
variable {γ : Gm} {Mo : Nat} {aT : Nat → Nat} {X X0 : Sh} {S : TS} {K B : Nat}
set_option maxHeartbeats 4000000 in
theorem ct_way (hR : TwR γ Mo aT X S) (hw : WF K S) (hOW : OW B S) (hB : B ≤ 2 ^ 60) (a b c d : Int32) : Ev γ mX2_way [.ref Mo, .int a, .int b, .int c, .int d] X (fun oc X1 => oc = .inl (some (.int (rWay S a b c d))) ∧ TwF γ Mo aT X X1 (sWay S a b c d)) := by
  have hT := TwF.rf hR
  have hnb := hw.nb
  have hno := hw.no
  have hnc := hw.nc
  have hhr := hw.hr
  have hO := hOW.OB hB
  refine Ev.of (lv := [_, _, _, _, _, _, _]) 2 ⟨by decide +kernel, rfl, (Nat.le_of_ble_eq_true rfl)⟩ rfl ?_
  refine sw_aload_n 1 rfl rfl rfl dX2_way_0 ?_
  refine sw_iload_n 2 rfl rfl dX2_way_1 ?_
  refine sw_iload_n 3 rfl rfl dX2_way_2 ?_
  refine sw_callV 6 [] rfl cs_X2_127 rfl (Nat.le_of_ble_eq_true rfl) rfl hT.obj rfl rfl (ct_areBrokers hT.1 (by omega) _ _) rfl rfl (Nat.le_of_ble_eq_true rfl) dX2_way_3 (fun v X hq => ?_) (fun E X hq => by obtain ⟨hv, -⟩ := hq; cases hv)
  obtain ⟨hv, hT1⟩ := hq
  cases hv
  replace hT := hT.tr hT1
  clear hT1
  refine sw_if_eq 18 9 (by decide) rfl dX2_way_6 (fun c_6 => ?_) (fun c_6 => ?_)
  · rw [b2_0] at c_6
    have e_6 := c_6
    refine sw_iconst 19 rfl (nI 0) rfl dX2_way_18 ?_
    refine sw_istore 21 rfl [_, _, _, _, _, _, _] (Nat.le_of_ble_eq_true rfl) rfl dX2_way_19 ?_
    refine sw_aload_n 22 rfl rfl rfl dX2_way_21 ?_
    refine sw_iload 24 rfl rfl dX2_way_22 ?_
    refine sw_if_ne 31 27 (by decide) rfl dX2_way_24 (fun c_24 => absurd (by decide) c_24) (fun c_24 => ?_)
    clear c_24
    refine sw_iconst 28 rfl (nI 1) rfl dX2_way_27 ?_
    refine sw_goto 51 (by decide) dX2_way_28 ?_
    refine sw_callV 54 [] rfl cs_X2_124 rfl (Nat.le_of_ble_eq_true rfl) rfl hT.obj rfl rfl (ct_goesWellK hT.1 1 (by omega) (by omega)) rfl rfl (Nat.le_of_ble_eq_true rfl) dX2_way_51 (fun v X hq => ?_) (fun E X hq => by obtain ⟨hv, -⟩ := hq; cases hv)
    obtain ⟨hv, hT1⟩ := hq
    cases hv
    replace hT := hT.tr hT1
    clear hT1
    refine sw_if_ne 59 57 (by decide) rfl dX2_way_54 (fun c_54 => absurd (by decide) c_54) (fun c_54 => ?_)
    clear c_54
    refine sw_iconst 58 rfl (nI 0) rfl dX2_way_57 ?_
    refine sw_iret rfl rfl dX2_way_58 ?_
    exact ⟨by simp [rWay, kWay, cif, e_6], hT.st (by simp [sWay, kWay, cif, tk, e_6])⟩
  · rw [b2_n] at c_6
    have e_6 := c_6
    obtain ⟨⟨i, hi, rfl⟩, ⟨j, hj, rfl⟩⟩ := c_6
    have xi : ix (nI i) = i := ix_nI (by omega)
    have xj : ix (nI j) = j := ix_nI (by omega)
    refine sw_iload 11 rfl rfl dX2_way_9 ?_
    refine sw_if_lt 18 14 (by decide) rfl dX2_way_11 (fun c_11 => ?_) (fun c_11 => ?_)
    · refine sw_iconst 19 rfl (nI 0) rfl dX2_way_18 ?_
      refine sw_istore 21 rfl [_, _, _, _, _, _, _] (Nat.le_of_ble_eq_true rfl) rfl dX2_way_19 ?_
      refine sw_aload_n 22 rfl rfl rfl dX2_way_21 ?_
      refine sw_iload 24 rfl rfl dX2_way_22 ?_
      refine sw_if_ne 31 27 (by decide) rfl dX2_way_24 (fun c_24 => absurd (by decide) c_24) (fun c_24 => ?_)
      clear c_24
      refine sw_iconst 28 rfl (nI 1) rfl dX2_way_27 ?_
      refine sw_goto 51 (by decide) dX2_way_28 ?_
      refine sw_callV 54 [] rfl cs_X2_124 rfl (Nat.le_of_ble_eq_true rfl) rfl hT.obj rfl rfl (ct_goesWellK hT.1 1 (by omega) (by omega)) rfl rfl (Nat.le_of_ble_eq_true rfl) dX2_way_51 (fun v X hq => ?_) (fun E X hq => by obtain ⟨hv, -⟩ := hq; cases hv)
      obtain ⟨hv, hT1⟩ := hq
      cases hv
      replace hT := hT.tr hT1
      clear hT1
      refine sw_if_ne 59 57 (by decide) rfl dX2_way_54 (fun c_54 => absurd (by decide) c_54) (fun c_54 => ?_)
      clear c_54
      refine sw_iconst 58 rfl (nI 0) rfl dX2_way_57 ?_
      refine sw_iret rfl rfl dX2_way_58 ?_
      exact ⟨by simp [rWay, kWay, cif, e_6, xi, xj, c_11], hT.st (by simp [sWay, kWay, cif, tk, e_6, xi, xj, c_11])⟩
    · obtain ⟨p, hp, rfl⟩ := nI_of c_11
      have xp : ix (nI p) = p := ix_nI hp
      refine sw_iconst 15 rfl (nI 1) rfl dX2_way_14 ?_
      refine sw_goto 19 (by decide) dX2_way_15 ?_
      refine sw_istore 21 rfl [_, _, _, _, _, _, _] (Nat.le_of_ble_eq_true rfl) rfl dX2_way_19 ?_
      refine sw_aload_n 22 rfl rfl rfl dX2_way_21 ?_
      refine sw_iload 24 rfl rfl dX2_way_22 ?_
      refine sw_if_ne 31 27 (by decide) rfl dX2_way_24 (fun c_24 => ?_) (fun c_24 => absurd c_24 (by decide))
      clear c_24
      refine sw_iload_n 32 rfl rfl dX2_way_31 ?_
      refine sw_iload_n 33 rfl rfl dX2_way_32 ?_
      refine sw_icmp_eq 50 36 (by decide) rfl dX2_way_33 (fun c_33 => ?_) (fun c_33 => ?_)
      · rw [nI_eq (by omega) (by omega)] at c_33
        refine sw_iconst 51 rfl (nI 2) rfl dX2_way_50 ?_
        refine sw_callV 54 [] rfl cs_X2_124 rfl (Nat.le_of_ble_eq_true rfl) rfl hT.obj rfl rfl (ct_goesWellK hT.1 2 (by omega) (by omega)) rfl rfl (Nat.le_of_ble_eq_true rfl) dX2_way_51 (fun v X hq => ?_) (fun E X hq => by obtain ⟨hv, -⟩ := hq; cases hv)
        obtain ⟨hv, hT1⟩ := hq
        cases hv
        replace hT := hT.tr hT1
        clear hT1
        refine sw_if_ne 59 57 (by decide) rfl dX2_way_54 (fun c_54 => absurd (by decide) c_54) (fun c_54 => ?_)
        clear c_54
        refine sw_iconst 58 rfl (nI 0) rfl dX2_way_57 ?_
        refine sw_iret rfl rfl dX2_way_58 ?_
        subst c_33
        exact ⟨by simp [rWay, kWay, cif, e_6, c_11, hi, hj], hT.st (by simp [sWay, kWay, cif, tk, e_6, c_11, hi, hj])⟩
      · rw [nI_eq (by omega) (by omega)] at c_33
        refine sw_iload_n 37 rfl rfl dX2_way_36 ?_
        refine sw_iconst 38 rfl (nI 1) rfl dX2_way_37 ?_
        refine sw_ldc 40 rfl q922 dX2_way_38 ?_
        refine sw_topI (show (1000000 : Int32) = nI 1000000 from rfl) ?_
        refine sw_callS 43 [_] rfl cs_X2_116 rfl (Nat.le_of_ble_eq_true rfl) rfl (ct_in1 _ 1000000 (by omega)) rfl rfl (Nat.le_of_ble_eq_true rfl) dX2_way_40 (fun v X hq => ?_) (fun E X hq => by obtain ⟨hv, -⟩ := hq; cases hv)
        obtain ⟨hv, rfl⟩ := hq
        cases hv
        refine sw_if_eq 50 46 (by decide) rfl dX2_way_43 (fun c_43 => ?_) (fun c_43 => ?_)
        · rw [b2_0] at c_43
          have e_43 := c_43
          refine sw_iconst 51 rfl (nI 2) rfl dX2_way_50 ?_
          refine sw_callV 54 [] rfl cs_X2_124 rfl (Nat.le_of_ble_eq_true rfl) rfl hT.obj rfl rfl (ct_goesWellK hT.1 2 (by omega) (by omega)) rfl rfl (Nat.le_of_ble_eq_true rfl) dX2_way_51 (fun v X hq => ?_) (fun E X hq => by obtain ⟨hv, -⟩ := hq; cases hv)
          obtain ⟨hv, hT1⟩ := hq
          cases hv
          replace hT := hT.tr hT1
          clear hT1
          refine sw_if_ne 59 57 (by decide) rfl dX2_way_54 (fun c_54 => absurd (by decide) c_54) (fun c_54 => ?_)
          clear c_54
          refine sw_iconst 58 rfl (nI 0) rfl dX2_way_57 ?_
          refine sw_iret rfl rfl dX2_way_58 ?_
          exact ⟨by simp [rWay, kWay, cif, e_6, xi, xj, c_11, xp, c_33, e_43], hT.st (by simp [sWay, kWay, cif, tk, e_6, xi, xj, c_11, xp, c_33, e_43])⟩
        · rw [b2_n] at c_43
          have e_43 := c_43
          obtain ⟨m, hm1, hm, rfl⟩ := c_43
          have xm : ix (nI m) = m := ix_nI (by omega)
          refine sw_iconst 47 rfl (nI 0) rfl dX2_way_46 ?_
          refine sw_goto 51 (by decide) dX2_way_47 ?_
          refine sw_callV 54 [] rfl cs_X2_124 rfl (Nat.le_of_ble_eq_true rfl) rfl hT.obj rfl rfl (ct_goesWell0 hT.1) rfl rfl (Nat.le_of_ble_eq_true rfl) dX2_way_51 (fun v X hq => ?_) (fun E X hq => by obtain ⟨hv, -⟩ := hq; cases hv)
          obtain ⟨hv, hT1⟩ := hq
          cases hv
          replace hT := hT.tr hT1
          clear hT1
          refine sw_if_ne 59 57 (by decide) rfl dX2_way_54 (fun c_54 => ?_) (fun c_54 => absurd c_54 (by decide))
          clear c_54
          refine sw_aload_n 60 rfl rfl rfl dX2_way_59 ?_
          refine sw_iload_n 61 rfl rfl dX2_way_60 ?_
          refine sw_iload_n 62 rfl rfl dX2_way_61 ?_
          refine sw_iload_n 63 rfl rfl dX2_way_62 ?_
          refine sw_iconst 64 rfl (nI 0) rfl dX2_way_63 ?_
          have hw9 : WF K (S.sI 0 0 (nI 0)) := hw.thrown _
          have hO9 : OB (S.sI 0 0 (nI 0)) := hO
          have hpl := pLen_le (w := 0) hw9 hO9 hm (show i < (S.sI 0 0 (nI 0)).1 3 0 from hi) (show j < (S.sI 0 0 (nI 0)).1 3 0 from hj)
          have hk : kWay S (nI i) (nI j) (nI m) (nI p) = 0 := by
              have n33 : ¬ nI i = nI j := fun q => c_33 ((nI_eq (by omega) (by omega)).mp q)
              simp [kWay, cif, e_6, c_11, n33, e_43]
          have es : sWay S (nI i) (nI j) (nI m) (nI p) = pFind (S.sI 0 0 (nI 0)) i j m 0 := by rw [sWay, cif_t hk, xi, xj, xm]; rfl
          have er : rWay S (nI i) (nI j) (nI m) (nI p) = cif (p < pLen (S.sI 0 0 (nI 0)) i j m 0) (nI ((pFind (S.sI 0 0 (nI 0)) i j m 0).1 37 p)) (-1) := by rw [rWay, cif_t hk, es, xi, xj, xm, xp]; rfl
          refine sw_callV 67 [] rfl cs_X2_170 rfl (Nat.le_of_ble_eq_true rfl) rfl hT.obj rfl rfl (ct_findWay hT.1 hw9 hO9 hm hi hj (by omega)) rfl rfl (Nat.le_of_ble_eq_true rfl) dX2_way_64 (fun v X hq => ?_) (fun E X hq => by obtain ⟨hv, -⟩ := hq; cases hv)
          obtain ⟨hv, hT1⟩ := hq
          cases hv
          replace hT := hT.tr hT1
          clear hT1
          refine sw_istore 69 rfl [_, _, _, _, _, _, _] (Nat.le_of_ble_eq_true rfl) rfl dX2_way_67 ?_
          refine sw_iload 71 rfl rfl dX2_way_69 ?_
          refine sw_iload 73 rfl rfl dX2_way_71 ?_
          refine sw_icmp_ge 86 76 (by decide) rfl dX2_way_73 (fun c_73 => ?_) (fun c_73 => ?_)
          · rw [nI_leI (by omega) (by omega)] at c_73
            refine sw_iconst 87 rfl (-1) rfl dX2_way_86 ?_
            refine sw_iret rfl rfl dX2_way_87 ?_
            exact ⟨by rw [er, cif_f (Nat.not_lt.mpr c_73)], by rw [es]; exact hT⟩
          · rw [nI_leI (by omega) (by omega)] at c_73
            refine sw_aload_n 77 rfl rfl rfl dX2_way_76 ?_
            refine gf_X2_106 80 rfl hT.obj rfl rfl dX2_way_77 ?_
            refine sw_iload 82 rfl rfl dX2_way_80 ?_
            refine sw_iald 83 rfl (hT.arr 37 rfl) (show p < 12 by omega) (Nat.le_of_ble_eq_true rfl) dX2_way_82 ?_
            try simp only [sI_N, sI_L, sN_I, sN_L, sL_N, sL_I, sN_t, sI_t, sL_t, pOwe_N, pOwe_I, pOweBoth_N, pOweBoth_I, pTB_N, pTB_I, pGoBack_N, pOweOn_N, pOweOn_I, reduceIte, Nat.reduceEqDiff]
            refine sw_goto 87 (by decide) dX2_way_83 ?_
            refine sw_iret rfl rfl dX2_way_87 ?_
            exact ⟨by rw [er, cif_t (Nat.not_le.mp c_73)], by rw [es]; exact hT⟩

set_option maxHeartbeats 4000000 in
theorem ct_fetch (hR : TwR γ Mo aT X S) (hw : WF K S) (hK : K < 2 ^ 31) (a b : Int32) : Ev γ mX2_fetch [.ref Mo, .int a, .int b] X (fun oc X1 => oc = .inl (some (.int (rFet S a b))) ∧ TwF γ Mo aT X X1 (sFet S a b)) := by
  have hT := TwF.rf hR
  have hnb := hw.nb
  have hno := hw.no
  have hnc := hw.nc
  have hhr := hw.hr
  refine Ev.of (lv := [_, _, _, _, _, _]) 3 ⟨by decide +kernel, rfl, (Nat.le_of_ble_eq_true rfl)⟩ rfl ?_
  refine sw_aload_n 1 rfl rfl rfl dX2_fetch_0 ?_
  refine sw_iload_n 2 rfl rfl dX2_fetch_1 ?_
  refine sw_callV 5 [] rfl cs_X2_197 rfl (Nat.le_of_ble_eq_true rfl) rfl hT.obj rfl rfl (ct_isOrder hT.1 (by omega) _) rfl rfl (Nat.le_of_ble_eq_true rfl) dX2_fetch_2 (fun v X hq => ?_) (fun E X hq => by obtain ⟨hv, -⟩ := hq; cases hv)
  obtain ⟨hv, hT1⟩ := hq
  cases hv
  replace hT := hT.tr hT1
  clear hT1
  refine sw_istore_n 6 rfl [_, _, _, _, _, _] (Nat.le_of_ble_eq_true rfl) rfl dX2_fetch_5 ?_
  refine sw_iload_n 7 rfl rfl dX2_fetch_6 ?_
  refine sw_if_eq 31 10 (by decide) rfl dX2_fetch_7 (fun c_7 => ?_) (fun c_7 => ?_)
  · rw [b2_0] at c_7
    have e_7 := c_7
    refine sw_iconst 32 rfl (nI 0) rfl dX2_fetch_31 ?_
    refine sw_istore 34 rfl [_, _, _, _, _, _] (Nat.le_of_ble_eq_true rfl) rfl dX2_fetch_32 ?_
    refine sw_iload_n 35 rfl rfl dX2_fetch_34 ?_
    refine sw_if_eq 80 38 (by decide) rfl dX2_fetch_35 (fun c_35 => ?_) (fun c_35 => absurd (b2_0.mpr e_7) c_35)
    clear c_35
    refine sw_iconst 81 rfl (nI 0) rfl dX2_fetch_80 ?_
    refine sw_istore 83 rfl [_, _, _, _, _, _] (Nat.le_of_ble_eq_true rfl) rfl dX2_fetch_81 ?_
    refine sw_aload_n 84 rfl rfl rfl dX2_fetch_83 ?_
    refine sw_iload_n 85 rfl rfl dX2_fetch_84 ?_
    refine sw_if_ne 92 88 (by decide) rfl dX2_fetch_85 (fun c_85 => absurd (b2_0.mpr e_7) c_85) (fun c_85 => ?_)
    clear c_85
    refine sw_iconst 89 rfl (nI 1) rfl dX2_fetch_88 ?_
    refine sw_goto 117 (by decide) dX2_fetch_89 ?_
    refine sw_callV 120 [] rfl cs_X2_124 rfl (Nat.le_of_ble_eq_true rfl) rfl hT.obj rfl rfl (ct_goesWellK hT.1 1 (by omega) (by omega)) rfl rfl (Nat.le_of_ble_eq_true rfl) dX2_fetch_117 (fun v X hq => ?_) (fun E X hq => by obtain ⟨hv, -⟩ := hq; cases hv)
    obtain ⟨hv, hT1⟩ := hq
    cases hv
    replace hT := hT.tr hT1
    clear hT1
    refine sw_if_ne 125 123 (by decide) rfl dX2_fetch_120 (fun c_120 => absurd (by decide) c_120) (fun c_120 => ?_)
    clear c_120
    refine sw_iconst 124 rfl (nI 0) rfl dX2_fetch_123 ?_
    refine sw_iret rfl rfl dX2_fetch_124 ?_
    exact ⟨by simp [rFet, kFet, oLast, cif, e_7], hT.st (by simp [sFet, kFet, oLast, cif, tk, e_7])⟩
  · rw [b2_n] at c_7
    have e_7 := c_7
    obtain ⟨i, hi, rfl⟩ := c_7
    have xi : ix (nI i) = i := ix_nI (by omega)
    have hmk := hw.many hi
    have hlw := hw.wayB hi (show S.1 22 i - 1 < S.1 22 i by omega)
    have hca := hw.cash hlw
    have ham := (hw.amt hi).2
    have htr := hw.tries hi
    refine sw_aload_n 11 rfl rfl rfl dX2_fetch_10 ?_
    refine gf_X2_66 14 rfl hT.obj rfl rfl dX2_fetch_11 ?_
    refine sw_bipush 16 rfl (nI 12) rfl dX2_fetch_14 ?_
    refine sw_iload_n 17 rfl rfl dX2_fetch_16 ?_
    refine sw_imulN 18 rfl dX2_fetch_17 ?_
    refine sw_aload_n 19 rfl rfl rfl dX2_fetch_18 ?_
    refine gf_X2_63 22 rfl hT.obj rfl rfl dX2_fetch_19 ?_
    refine sw_iload_n 23 rfl rfl dX2_fetch_22 ?_
    refine sw_iald 24 rfl (hT.arr 22 rfl) (by omega) (Nat.le_of_ble_eq_true rfl) dX2_fetch_23 ?_
    refine sw_iaddN 25 rfl dX2_fetch_24 ?_
    refine sw_iconst 26 rfl (nI 1) rfl dX2_fetch_25 ?_
    refine sw_isubN 27 rfl (by omega) dX2_fetch_26 ?_
    rw [show 12 * i + S.1 22 i - 1 = 12 * i + (S.1 22 i - 1) by omega]
    refine sw_iald 28 rfl (hT.arr 23 rfl) (by omega) (Nat.le_of_ble_eq_true rfl) dX2_fetch_27 ?_
    refine sw_goto 32 (by decide) dX2_fetch_28 ?_
    refine sw_istore 34 rfl [_, _, _, _, _, _] (Nat.le_of_ble_eq_true rfl) rfl dX2_fetch_32 ?_
    refine sw_iload_n 35 rfl rfl dX2_fetch_34 ?_
    refine sw_if_eq 80 38 (by decide) rfl dX2_fetch_35 (fun c_35 => absurd c_35 (b2_n.mpr e_7)) (fun c_35 => ?_)
    clear c_35
    refine sw_aload_n 39 rfl rfl rfl dX2_fetch_38 ?_
    refine gf_X2_42 42 rfl hT.obj rfl rfl dX2_fetch_39 ?_
    refine sw_iload_n 43 rfl rfl dX2_fetch_42 ?_
    refine sw_iald 44 rfl (hT.arr 15 rfl) (by omega) (Nat.le_of_ble_eq_true rfl) dX2_fetch_43 ?_
    refine sw_iconst 45 rfl (nI 1) rfl dX2_fetch_44 ?_
    refine sw_icmp_ne 80 48 (by decide) rfl dX2_fetch_45 (fun c_45 => ?_) (fun c_45 => ?_)
    · refine sw_iconst 81 rfl (nI 0) rfl dX2_fetch_80 ?_
      refine sw_istore 83 rfl [_, _, _, _, _, _] (Nat.le_of_ble_eq_true rfl) rfl dX2_fetch_81 ?_
      refine sw_aload_n 84 rfl rfl rfl dX2_fetch_83 ?_
      refine sw_iload_n 85 rfl rfl dX2_fetch_84 ?_
      refine sw_if_ne 92 88 (by decide) rfl dX2_fetch_85 (fun c_85 => ?_) (fun c_85 => absurd c_85 (b2_n.mpr e_7))
      clear c_85
      refine sw_iload_n 93 rfl rfl dX2_fetch_92 ?_
      refine sw_iconst 94 rfl (nI 0) rfl dX2_fetch_93 ?_
      refine sw_sipush 97 rfl (nI 9999) rfl dX2_fetch_94 ?_
      refine sw_callS 100 [_] rfl cs_X2_116 rfl (Nat.le_of_ble_eq_true rfl) rfl (ct_in0 _ 9999 (by omega)) rfl rfl (Nat.le_of_ble_eq_true rfl) dX2_fetch_97 (fun v X hq => ?_) (fun E X hq => by obtain ⟨hv, -⟩ := hq; cases hv)
      obtain ⟨hv, rfl⟩ := hq
      cases hv
      refine sw_if_ne 107 103 (by decide) rfl dX2_fetch_100 (fun c_100 => ?_) (fun c_100 => ?_)
      · rw [b2_n] at c_100
        have e_100 := c_100
        refine sw_iload 109 rfl rfl dX2_fetch_107 ?_
        refine sw_if_eq 116 112 (by decide) rfl dX2_fetch_109 (fun c_109 => ?_) (fun c_109 => absurd (by decide) c_109)
        clear c_109
        refine sw_iconst 117 rfl (nI 3) rfl dX2_fetch_116 ?_
        refine sw_callV 120 [] rfl cs_X2_124 rfl (Nat.le_of_ble_eq_true rfl) rfl hT.obj rfl rfl (ct_goesWellK hT.1 3 (by omega) (by omega)) rfl rfl (Nat.le_of_ble_eq_true rfl) dX2_fetch_117 (fun v X hq => ?_) (fun E X hq => by obtain ⟨hv, -⟩ := hq; cases hv)
        obtain ⟨hv, hT1⟩ := hq
        cases hv
        replace hT := hT.tr hT1
        clear hT1
        refine sw_if_ne 125 123 (by decide) rfl dX2_fetch_120 (fun c_120 => absurd (by decide) c_120) (fun c_120 => ?_)
        clear c_120
        refine sw_iconst 124 rfl (nI 0) rfl dX2_fetch_123 ?_
        refine sw_iret rfl rfl dX2_fetch_124 ?_
        exact ⟨by simp [rFet, kFet, oLast, cif, e_7, xi, c_45, e_100], hT.st (by simp [sFet, kFet, oLast, cif, tk, e_7, xi, c_45, e_100])⟩
      · rw [b2_0] at c_100
        have e_100 := c_100
        refine sw_iconst 104 rfl (nI 2) rfl dX2_fetch_103 ?_
        refine sw_goto 117 (by decide) dX2_fetch_104 ?_
        refine sw_callV 120 [] rfl cs_X2_124 rfl (Nat.le_of_ble_eq_true rfl) rfl hT.obj rfl rfl (ct_goesWellK hT.1 2 (by omega) (by omega)) rfl rfl (Nat.le_of_ble_eq_true rfl) dX2_fetch_117 (fun v X hq => ?_) (fun E X hq => by obtain ⟨hv, -⟩ := hq; cases hv)
        obtain ⟨hv, hT1⟩ := hq
        cases hv
        replace hT := hT.tr hT1
        clear hT1
        refine sw_if_ne 125 123 (by decide) rfl dX2_fetch_120 (fun c_120 => absurd (by decide) c_120) (fun c_120 => ?_)
        clear c_120
        refine sw_iconst 124 rfl (nI 0) rfl dX2_fetch_123 ?_
        refine sw_iret rfl rfl dX2_fetch_124 ?_
        exact ⟨by simp [rFet, kFet, oLast, cif, e_7, xi, c_45, e_100], hT.st (by simp [sFet, kFet, oLast, cif, tk, e_7, xi, c_45, e_100])⟩
    · refine sw_aload_n 49 rfl rfl rfl dX2_fetch_48 ?_
      refine gf_X2_20 52 rfl hT.obj rfl rfl dX2_fetch_49 ?_
      refine sw_iload 54 rfl rfl dX2_fetch_52 ?_
      refine sw_iald 55 rfl (hT.arr 7 rfl) hlw (Nat.le_of_ble_eq_true rfl) dX2_fetch_54 ?_
      refine sw_if_ne 80 58 (by decide) rfl dX2_fetch_55 (fun c_55 => ?_) (fun c_55 => ?_)
      · refine sw_iconst 81 rfl (nI 0) rfl dX2_fetch_80 ?_
        refine sw_istore 83 rfl [_, _, _, _, _, _] (Nat.le_of_ble_eq_true rfl) rfl dX2_fetch_81 ?_
        refine sw_aload_n 84 rfl rfl rfl dX2_fetch_83 ?_
        refine sw_iload_n 85 rfl rfl dX2_fetch_84 ?_
        refine sw_if_ne 92 88 (by decide) rfl dX2_fetch_85 (fun c_85 => ?_) (fun c_85 => absurd c_85 (b2_n.mpr e_7))
        clear c_85
        refine sw_iload_n 93 rfl rfl dX2_fetch_92 ?_
        refine sw_iconst 94 rfl (nI 0) rfl dX2_fetch_93 ?_
        refine sw_sipush 97 rfl (nI 9999) rfl dX2_fetch_94 ?_
        refine sw_callS 100 [_] rfl cs_X2_116 rfl (Nat.le_of_ble_eq_true rfl) rfl (ct_in0 _ 9999 (by omega)) rfl rfl (Nat.le_of_ble_eq_true rfl) dX2_fetch_97 (fun v X hq => ?_) (fun E X hq => by obtain ⟨hv, -⟩ := hq; cases hv)
        obtain ⟨hv, rfl⟩ := hq
        cases hv
        refine sw_if_ne 107 103 (by decide) rfl dX2_fetch_100 (fun c_100 => ?_) (fun c_100 => ?_)
        · rw [b2_n] at c_100
          have e_100 := c_100
          refine sw_iload 109 rfl rfl dX2_fetch_107 ?_
          refine sw_if_eq 116 112 (by decide) rfl dX2_fetch_109 (fun c_109 => ?_) (fun c_109 => absurd (by decide) c_109)
          clear c_109
          refine sw_iconst 117 rfl (nI 3) rfl dX2_fetch_116 ?_
          refine sw_callV 120 [] rfl cs_X2_124 rfl (Nat.le_of_ble_eq_true rfl) rfl hT.obj rfl rfl (ct_goesWellK hT.1 3 (by omega) (by omega)) rfl rfl (Nat.le_of_ble_eq_true rfl) dX2_fetch_117 (fun v X hq => ?_) (fun E X hq => by obtain ⟨hv, -⟩ := hq; cases hv)
          obtain ⟨hv, hT1⟩ := hq
          cases hv
          replace hT := hT.tr hT1
          clear hT1
          refine sw_if_ne 125 123 (by decide) rfl dX2_fetch_120 (fun c_120 => absurd (by decide) c_120) (fun c_120 => ?_)
          clear c_120
          refine sw_iconst 124 rfl (nI 0) rfl dX2_fetch_123 ?_
          refine sw_iret rfl rfl dX2_fetch_124 ?_
          exact ⟨by simp [rFet, kFet, oLast, cif, e_7, xi, c_45, c_55, e_100], hT.st (by simp [sFet, kFet, oLast, cif, tk, e_7, xi, c_45, c_55, e_100])⟩
        · rw [b2_0] at c_100
          have e_100 := c_100
          refine sw_iconst 104 rfl (nI 2) rfl dX2_fetch_103 ?_
          refine sw_goto 117 (by decide) dX2_fetch_104 ?_
          refine sw_callV 120 [] rfl cs_X2_124 rfl (Nat.le_of_ble_eq_true rfl) rfl hT.obj rfl rfl (ct_goesWellK hT.1 2 (by omega) (by omega)) rfl rfl (Nat.le_of_ble_eq_true rfl) dX2_fetch_117 (fun v X hq => ?_) (fun E X hq => by obtain ⟨hv, -⟩ := hq; cases hv)
          obtain ⟨hv, hT1⟩ := hq
          cases hv
          replace hT := hT.tr hT1
          clear hT1
          refine sw_if_ne 125 123 (by decide) rfl dX2_fetch_120 (fun c_120 => absurd (by decide) c_120) (fun c_120 => ?_)
          clear c_120
          refine sw_iconst 124 rfl (nI 0) rfl dX2_fetch_123 ?_
          refine sw_iret rfl rfl dX2_fetch_124 ?_
          exact ⟨by simp [rFet, kFet, oLast, cif, e_7, xi, c_45, c_55, e_100], hT.st (by simp [sFet, kFet, oLast, cif, tk, e_7, xi, c_45, c_55, e_100])⟩
      · refine sw_aload_n 59 rfl rfl rfl dX2_fetch_58 ?_
        refine gf_X2_13 62 rfl hT.obj rfl rfl dX2_fetch_59 ?_
        refine sw_iload 64 rfl rfl dX2_fetch_62 ?_
        refine sw_lald 65 rfl (hT.arr 5 rfl) hlw (Nat.le_of_ble_eq_true rfl) dX2_fetch_64 ?_
        refine sw_aload_n 66 rfl rfl rfl dX2_fetch_65 ?_
        refine gf_X2_45 69 rfl hT.obj rfl rfl dX2_fetch_66 ?_
        refine sw_iload_n 70 rfl rfl dX2_fetch_69 ?_
        refine sw_iald 71 rfl (hT.arr 16 rfl) (by omega) (Nat.le_of_ble_eq_true rfl) dX2_fetch_70 ?_
        refine sw_i2l 72 rfl dX2_fetch_71 ?_
        refine sw_topL (nI_l (by omega)) ?_
        refine sw_llt 80 73 76 rfl (by decide) rfl dX2_fetch_72 dX2_fetch_73 (fun c_72 => ?_) (fun c_72 => ?_)
        · rw [pk_lLT (by omega) (by omega)] at c_72
          refine sw_iconst 81 rfl (nI 0) rfl dX2_fetch_80 ?_
          refine sw_istore 83 rfl [_, _, _, _, _, _] (Nat.le_of_ble_eq_true rfl) rfl dX2_fetch_81 ?_
          refine sw_aload_n 84 rfl rfl rfl dX2_fetch_83 ?_
          refine sw_iload_n 85 rfl rfl dX2_fetch_84 ?_
          refine sw_if_ne 92 88 (by decide) rfl dX2_fetch_85 (fun c_85 => ?_) (fun c_85 => absurd c_85 (b2_n.mpr e_7))
          clear c_85
          refine sw_iload_n 93 rfl rfl dX2_fetch_92 ?_
          refine sw_iconst 94 rfl (nI 0) rfl dX2_fetch_93 ?_
          refine sw_sipush 97 rfl (nI 9999) rfl dX2_fetch_94 ?_
          refine sw_callS 100 [_] rfl cs_X2_116 rfl (Nat.le_of_ble_eq_true rfl) rfl (ct_in0 _ 9999 (by omega)) rfl rfl (Nat.le_of_ble_eq_true rfl) dX2_fetch_97 (fun v X hq => ?_) (fun E X hq => by obtain ⟨hv, -⟩ := hq; cases hv)
          obtain ⟨hv, rfl⟩ := hq
          cases hv
          refine sw_if_ne 107 103 (by decide) rfl dX2_fetch_100 (fun c_100 => ?_) (fun c_100 => ?_)
          · rw [b2_n] at c_100
            have e_100 := c_100
            refine sw_iload 109 rfl rfl dX2_fetch_107 ?_
            refine sw_if_eq 116 112 (by decide) rfl dX2_fetch_109 (fun c_109 => ?_) (fun c_109 => absurd (by decide) c_109)
            clear c_109
            refine sw_iconst 117 rfl (nI 3) rfl dX2_fetch_116 ?_
            refine sw_callV 120 [] rfl cs_X2_124 rfl (Nat.le_of_ble_eq_true rfl) rfl hT.obj rfl rfl (ct_goesWellK hT.1 3 (by omega) (by omega)) rfl rfl (Nat.le_of_ble_eq_true rfl) dX2_fetch_117 (fun v X hq => ?_) (fun E X hq => by obtain ⟨hv, -⟩ := hq; cases hv)
            obtain ⟨hv, hT1⟩ := hq
            cases hv
            replace hT := hT.tr hT1
            clear hT1
            refine sw_if_ne 125 123 (by decide) rfl dX2_fetch_120 (fun c_120 => absurd (by decide) c_120) (fun c_120 => ?_)
            clear c_120
            refine sw_iconst 124 rfl (nI 0) rfl dX2_fetch_123 ?_
            refine sw_iret rfl rfl dX2_fetch_124 ?_
            exact ⟨by simp [rFet, kFet, oLast, cif, e_7, xi, c_45, c_55, c_72, e_100], hT.st (by simp [sFet, kFet, oLast, cif, tk, e_7, xi, c_45, c_55, c_72, e_100])⟩
          · rw [b2_0] at c_100
            have e_100 := c_100
            refine sw_iconst 104 rfl (nI 2) rfl dX2_fetch_103 ?_
            refine sw_goto 117 (by decide) dX2_fetch_104 ?_
            refine sw_callV 120 [] rfl cs_X2_124 rfl (Nat.le_of_ble_eq_true rfl) rfl hT.obj rfl rfl (ct_goesWellK hT.1 2 (by omega) (by omega)) rfl rfl (Nat.le_of_ble_eq_true rfl) dX2_fetch_117 (fun v X hq => ?_) (fun E X hq => by obtain ⟨hv, -⟩ := hq; cases hv)
            obtain ⟨hv, hT1⟩ := hq
            cases hv
            replace hT := hT.tr hT1
            clear hT1
            refine sw_if_ne 125 123 (by decide) rfl dX2_fetch_120 (fun c_120 => absurd (by decide) c_120) (fun c_120 => ?_)
            clear c_120
            refine sw_iconst 124 rfl (nI 0) rfl dX2_fetch_123 ?_
            refine sw_iret rfl rfl dX2_fetch_124 ?_
            exact ⟨by simp [rFet, kFet, oLast, cif, e_7, xi, c_45, c_55, c_72, e_100], hT.st (by simp [sFet, kFet, oLast, cif, tk, e_7, xi, c_45, c_55, c_72, e_100])⟩
        · rw [pk_lLT (by omega) (by omega)] at c_72
          refine sw_iconst 77 rfl (nI 1) rfl dX2_fetch_76 ?_
          refine sw_goto 81 (by decide) dX2_fetch_77 ?_
          refine sw_istore 83 rfl [_, _, _, _, _, _] (Nat.le_of_ble_eq_true rfl) rfl dX2_fetch_81 ?_
          refine sw_aload_n 84 rfl rfl rfl dX2_fetch_83 ?_
          refine sw_iload_n 85 rfl rfl dX2_fetch_84 ?_
          refine sw_if_ne 92 88 (by decide) rfl dX2_fetch_85 (fun c_85 => ?_) (fun c_85 => absurd c_85 (b2_n.mpr e_7))
          clear c_85
          refine sw_iload_n 93 rfl rfl dX2_fetch_92 ?_
          refine sw_iconst 94 rfl (nI 0) rfl dX2_fetch_93 ?_
          refine sw_sipush 97 rfl (nI 9999) rfl dX2_fetch_94 ?_
          refine sw_callS 100 [_] rfl cs_X2_116 rfl (Nat.le_of_ble_eq_true rfl) rfl (ct_in0 _ 9999 (by omega)) rfl rfl (Nat.le_of_ble_eq_true rfl) dX2_fetch_97 (fun v X hq => ?_) (fun E X hq => by obtain ⟨hv, -⟩ := hq; cases hv)
          obtain ⟨hv, rfl⟩ := hq
          cases hv
          refine sw_if_ne 107 103 (by decide) rfl dX2_fetch_100 (fun c_100 => ?_) (fun c_100 => ?_)
          · rw [b2_n] at c_100
            have e_100 := c_100
            refine sw_iload 109 rfl rfl dX2_fetch_107 ?_
            refine sw_if_eq 116 112 (by decide) rfl dX2_fetch_109 (fun c_109 => absurd c_109 (by decide)) (fun c_109 => ?_)
            clear c_109
            refine sw_iconst 113 rfl (nI 0) rfl dX2_fetch_112 ?_
            refine sw_goto 117 (by decide) dX2_fetch_113 ?_
            refine sw_callV 120 [] rfl cs_X2_124 rfl (Nat.le_of_ble_eq_true rfl) rfl hT.obj rfl rfl (ct_goesWell0 hT.1) rfl rfl (Nat.le_of_ble_eq_true rfl) dX2_fetch_117 (fun v X hq => ?_) (fun E X hq => by obtain ⟨hv, -⟩ := hq; cases hv)
            obtain ⟨hv, hT1⟩ := hq
            cases hv
            replace hT := hT.tr hT1
            clear hT1
            refine sw_if_ne 125 123 (by decide) rfl dX2_fetch_120 (fun c_120 => ?_) (fun c_120 => absurd c_120 (by decide))
            clear c_120
            refine sw_iload_n 126 rfl rfl dX2_fetch_125 ?_
            refine sw_aload_n 127 rfl rfl rfl dX2_fetch_126 ?_
            refine gf_X2_51 130 rfl hT.obj rfl rfl dX2_fetch_127 ?_
            refine sw_iload_n 131 rfl rfl dX2_fetch_130 ?_
            refine sw_iald 132 rfl (hT.arr 18 rfl) (by omega) (Nat.le_of_ble_eq_true rfl) dX2_fetch_131 ?_
            try simp only [sI_N, sI_L, sN_I, sN_L, sL_N, sL_I, sN_t, sI_t, sL_t, pOwe_N, pOwe_I, pOweBoth_N, pOweBoth_I, pTB_N, pTB_I, pGoBack_N, pOweOn_N, pOweOn_I, reduceIte, Nat.reduceEqDiff]
            refine sw_icmp_ne 178 135 (by decide) rfl dX2_fetch_132 (fun c_132 => ?_) (fun c_132 => ?_)
            · refine sw_aload_n 179 rfl rfl rfl dX2_fetch_178 ?_
              refine gf_X2_54 182 rfl hT.obj rfl rfl dX2_fetch_179 ?_
              refine sw_iload_n 183 rfl rfl dX2_fetch_182 ?_
              refine sw_dup2 184 rfl rfl rfl dX2_fetch_183 ?_
              refine sw_iald 185 rfl (hT.arr 19 rfl) (by omega) (Nat.le_of_ble_eq_true rfl) dX2_fetch_184 ?_
              try simp only [sI_N, sI_L, sN_I, sN_L, sL_N, sL_I, sN_t, sI_t, sL_t, pOwe_N, pOwe_I, pOweBoth_N, pOweBoth_I, pTB_N, pTB_I, pGoBack_N, pOweOn_N, pOweOn_I, reduceIte, Nat.reduceEqDiff]
              refine sw_iconst 186 rfl (nI 1) rfl dX2_fetch_185 ?_
              refine sw_iaddN 187 rfl dX2_fetch_186 ?_
              refine sw_iast 188 rfl (hT.arr 19 rfl) (by omega) (Nat.le_of_ble_eq_true rfl) dX2_fetch_187 (fun X hX => ?_)
              replace hT := hT.p19 hX
              clear hX
              refine sw_aload_n 189 rfl rfl rfl dX2_fetch_188 ?_
              refine gf_X2_54 192 rfl hT.obj rfl rfl dX2_fetch_189 ?_
              refine sw_iload_n 193 rfl rfl dX2_fetch_192 ?_
              refine sw_iald 194 rfl (hT.arr 19 rfl) (by omega) (Nat.le_of_ble_eq_true rfl) dX2_fetch_193 ?_
              try simp only [sI_N, sI_L, sN_I, sN_L, sL_N, sL_I, sN_t, sI_t, sL_t, pOwe_N, pOwe_I, pOweBoth_N, pOweBoth_I, pTB_N, pTB_I, pGoBack_N, pOweOn_N, pOweOn_I, reduceIte, Nat.reduceEqDiff]
              refine sw_iconst 195 rfl (nI 3) rfl dX2_fetch_194 ?_
              refine sw_icmp_ne 203 198 (by decide) rfl dX2_fetch_195 (fun c_195 => ?_) (fun c_195 => ?_)
              · rw [nI_eq (by omega) (by omega)] at c_195
                refine sw_aload_n 204 rfl rfl rfl dX2_fetch_203 ?_
                refine gf_X2_42 207 rfl hT.obj rfl rfl dX2_fetch_204 ?_
                refine sw_iload_n 208 rfl rfl dX2_fetch_207 ?_
                refine sw_iald 209 rfl (hT.arr 15 rfl) (by omega) (Nat.le_of_ble_eq_true rfl) dX2_fetch_208 ?_
                try simp only [sI_N, sI_L, sN_I, sN_L, sL_N, sL_I, sN_t, sI_t, sL_t, pOwe_N, pOwe_I, pOweBoth_N, pOweBoth_I, pTB_N, pTB_I, pGoBack_N, pOweOn_N, pOweOn_I, reduceIte, Nat.reduceEqDiff]
                refine sw_iret rfl rfl dX2_fetch_209 ?_
                have hk : kFet S (nI i) b = 0 := by simp [kFet, oLast, cif, e_7, xi, c_45, c_55, c_72, show isN b 10000 from e_100]
                have es : sFet S (nI i) b = pFet (S.sI 0 0 (nI 0)) i b := by rw [sFet, cif_t hk, xi]; rfl
                have er : rFet S (nI i) b = (pFet (S.sI 0 0 (nI 0)) i b).2.1 15 i := by rw [rFet, cif_t hk, es, xi]
                have ef : pFet (S.sI 0 0 (nI 0)) i b = ((S.sI 0 0 (nI 0)).sN 19 i (S.1 19 i + 1)) := (cif_f c_132).trans (cif_f c_195)
                rw [er, es, ef]
                exact ⟨rfl, hT⟩
              · rw [nI_eq (by omega) (by omega)] at c_195
                refine sw_aload_n 199 rfl rfl rfl dX2_fetch_198 ?_
                refine sw_iload_n 200 rfl rfl dX2_fetch_199 ?_
                refine sw_callV 203 [] rfl cs_X2_177 rfl (Nat.le_of_ble_eq_true rfl) rfl hT.obj rfl rfl (ct_goBackW hT.1 i ((hw.wyo hi).c' (fun j h1 h2 => sN_o _ _ _ h2))) rfl rfl (Nat.le_of_ble_eq_true rfl) dX2_fetch_200 (fun v X hq => ?_) (fun E X hq => by obtain ⟨hv, -⟩ := hq; cases hv)
                obtain ⟨hv, hT1⟩ := hq
                cases hv
                replace hT := hT.tr hT1
                clear hT1
                refine sw_aload_n 204 rfl rfl rfl dX2_fetch_203 ?_
                refine gf_X2_42 207 rfl hT.obj rfl rfl dX2_fetch_204 ?_
                refine sw_iload_n 208 rfl rfl dX2_fetch_207 ?_
                refine sw_iald 209 rfl (hT.arr 15 rfl) (by omega) (Nat.le_of_ble_eq_true rfl) dX2_fetch_208 ?_
                try simp only [sI_N, sI_L, sN_I, sN_L, sL_N, sL_I, sN_t, sI_t, sL_t, pOwe_N, pOwe_I, pOweBoth_N, pOweBoth_I, pTB_N, pTB_I, pGoBack_N, pOweOn_N, pOweOn_I, reduceIte, Nat.reduceEqDiff]
                refine sw_iret rfl rfl dX2_fetch_209 ?_
                have hk : kFet S (nI i) b = 0 := by simp [kFet, oLast, cif, e_7, xi, c_45, c_55, c_72, show isN b 10000 from e_100]
                have es : sFet S (nI i) b = pFet (S.sI 0 0 (nI 0)) i b := by rw [sFet, cif_t hk, xi]; rfl
                have er : rFet S (nI i) b = (pFet (S.sI 0 0 (nI 0)) i b).2.1 15 i := by rw [rFet, cif_t hk, es, xi]
                have ef : pFet (S.sI 0 0 (nI 0)) i b = (pGoBack ((S.sI 0 0 (nI 0)).sN 19 i (S.1 19 i + 1)) i) := (cif_f c_132).trans (cif_t c_195)
                rw [er, es, ef]
                exact ⟨rfl, hT⟩
            · refine sw_aload_n 136 rfl rfl rfl dX2_fetch_135 ?_
              refine gf_X2_13 139 rfl hT.obj rfl rfl dX2_fetch_136 ?_
              refine sw_iload 141 rfl rfl dX2_fetch_139 ?_
              refine sw_dup2 142 rfl rfl rfl dX2_fetch_141 ?_
              refine sw_lald 143 rfl (hT.arr 5 rfl) hlw (Nat.le_of_ble_eq_true rfl) dX2_fetch_142 ?_
              try simp only [sI_N, sI_L, sN_I, sN_L, sL_N, sL_I, sN_t, sI_t, sL_t, pOwe_N, pOwe_I, pOweBoth_N, pOweBoth_I, pTB_N, pTB_I, pGoBack_N, pOweOn_N, pOweOn_I, reduceIte, Nat.reduceEqDiff]
              refine sw_aload_n 144 rfl rfl rfl dX2_fetch_143 ?_
              refine gf_X2_45 147 rfl hT.obj rfl rfl dX2_fetch_144 ?_
              refine sw_iload_n 148 rfl rfl dX2_fetch_147 ?_
              refine sw_iald 149 rfl (hT.arr 16 rfl) (by omega) (Nat.le_of_ble_eq_true rfl) dX2_fetch_148 ?_
              try simp only [sI_N, sI_L, sN_I, sN_L, sL_N, sL_I, sN_t, sI_t, sL_t, pOwe_N, pOwe_I, pOweBoth_N, pOweBoth_I, pTB_N, pTB_I, pGoBack_N, pOweOn_N, pOweOn_I, reduceIte, Nat.reduceEqDiff]
              refine sw_i2l 150 rfl dX2_fetch_149 ?_
              refine sw_topL (nI_l (by omega)) ?_
              refine sw_lsub 151 rfl dX2_fetch_150 ?_
              refine sw_topL (lN_sub (Nat.not_lt.mp c_72)) ?_
              refine sw_last 152 rfl (hT.arr 5 rfl) hlw (Nat.le_of_ble_eq_true rfl) dX2_fetch_151 (fun X hX => ?_)
              replace hT := hT.p5 hX
              clear hX
              refine sw_aload_n 153 rfl rfl rfl dX2_fetch_152 ?_
              refine gf_X2_97 156 rfl hT.obj rfl rfl dX2_fetch_153 ?_
              refine sw_iconst 157 rfl (nI 1) rfl dX2_fetch_156 ?_
              refine sw_dup2 158 rfl rfl rfl dX2_fetch_157 ?_
              refine sw_lald 159 rfl (hT.arr 34 rfl) (by omega) (Nat.le_of_ble_eq_true rfl) dX2_fetch_158 ?_
              try simp only [sI_N, sI_L, sN_I, sN_L, sL_N, sL_I, sN_t, sI_t, sL_t, pOwe_N, pOwe_I, pOweBoth_N, pOweBoth_I, pTB_N, pTB_I, pGoBack_N, pOweOn_N, pOweOn_I, reduceIte, Nat.reduceEqDiff]
              refine sw_aload_n 160 rfl rfl rfl dX2_fetch_159 ?_
              refine gf_X2_45 163 rfl hT.obj rfl rfl dX2_fetch_160 ?_
              refine sw_iload_n 164 rfl rfl dX2_fetch_163 ?_
              refine sw_iald 165 rfl (hT.arr 16 rfl) (by omega) (Nat.le_of_ble_eq_true rfl) dX2_fetch_164 ?_
              try simp only [sI_N, sI_L, sN_I, sN_L, sL_N, sL_I, sN_t, sI_t, sL_t, pOwe_N, pOwe_I, pOweBoth_N, pOweBoth_I, pTB_N, pTB_I, pGoBack_N, pOweOn_N, pOweOn_I, reduceIte, Nat.reduceEqDiff]
              refine sw_i2l 166 rfl dX2_fetch_165 ?_
              refine sw_topL (nI_l (by omega)) ?_
              refine sw_ladd 167 rfl dX2_fetch_166 ?_
              refine sw_last 168 rfl (hT.arr 34 rfl) (by omega) (Nat.le_of_ble_eq_true rfl) dX2_fetch_167 (fun X hX => ?_)
              replace hT := hT.p34 hX
              clear hX
              refine sw_aload_n 169 rfl rfl rfl dX2_fetch_168 ?_
              refine gf_X2_42 172 rfl hT.obj rfl rfl dX2_fetch_169 ?_
              refine sw_iload_n 173 rfl rfl dX2_fetch_172 ?_
              refine sw_iconst 174 rfl (nI 2) rfl dX2_fetch_173 ?_
              refine sw_iast 175 rfl (hT.arr 15 rfl) (by omega) (Nat.le_of_ble_eq_true rfl) dX2_fetch_174 (fun X hX => ?_)
              replace hT := hT.p15 hX
              clear hX
              refine sw_goto 203 (by decide) dX2_fetch_175 ?_
              refine sw_aload_n 204 rfl rfl rfl dX2_fetch_203 ?_
              refine gf_X2_42 207 rfl hT.obj rfl rfl dX2_fetch_204 ?_
              refine sw_iload_n 208 rfl rfl dX2_fetch_207 ?_
              refine sw_iald 209 rfl (hT.arr 15 rfl) (by omega) (Nat.le_of_ble_eq_true rfl) dX2_fetch_208 ?_
              try simp only [sI_N, sI_L, sN_I, sN_L, sL_N, sL_I, sN_t, sI_t, sL_t, pOwe_N, pOwe_I, pOweBoth_N, pOweBoth_I, pTB_N, pTB_I, pGoBack_N, pOweOn_N, pOweOn_I, reduceIte, Nat.reduceEqDiff]
              refine sw_iret rfl rfl dX2_fetch_209 ?_
              have hk : kFet S (nI i) b = 0 := by simp [kFet, oLast, cif, e_7, xi, c_45, c_55, c_72, show isN b 10000 from e_100]
              have es : sFet S (nI i) b = pFet (S.sI 0 0 (nI 0)) i b := by rw [sFet, cif_t hk, xi]; rfl
              have er : rFet S (nI i) b = (pFet (S.sI 0 0 (nI 0)) i b).2.1 15 i := by rw [rFet, cif_t hk, es, xi]
              have ef : pFet (S.sI 0 0 (nI 0)) i b = ((((S.sI 0 0 (nI 0)).sN 5 (oLast S i) (S.1 5 (oLast S i) - S.1 16 i)).sL 34 1 (S.2.2 34 1 + lN (S.1 16 i))).sI 15 i (nI 2)) := cif_t c_132
              rw [er, es, ef]
              exact ⟨by rw [sI_eq], hT⟩
          · rw [b2_0] at c_100
            have e_100 := c_100
            refine sw_iconst 104 rfl (nI 2) rfl dX2_fetch_103 ?_
            refine sw_goto 117 (by decide) dX2_fetch_104 ?_
            refine sw_callV 120 [] rfl cs_X2_124 rfl (Nat.le_of_ble_eq_true rfl) rfl hT.obj rfl rfl (ct_goesWellK hT.1 2 (by omega) (by omega)) rfl rfl (Nat.le_of_ble_eq_true rfl) dX2_fetch_117 (fun v X hq => ?_) (fun E X hq => by obtain ⟨hv, -⟩ := hq; cases hv)
            obtain ⟨hv, hT1⟩ := hq
            cases hv
            replace hT := hT.tr hT1
            clear hT1
            refine sw_if_ne 125 123 (by decide) rfl dX2_fetch_120 (fun c_120 => absurd (by decide) c_120) (fun c_120 => ?_)
            clear c_120
            refine sw_iconst 124 rfl (nI 0) rfl dX2_fetch_123 ?_
            refine sw_iret rfl rfl dX2_fetch_124 ?_
            exact ⟨by simp [rFet, kFet, oLast, cif, e_7, xi, c_45, c_55, c_72, e_100], hT.st (by simp [sFet, kFet, oLast, cif, tk, e_7, xi, c_45, c_55, c_72, e_100])⟩

set_option maxHeartbeats 4000000 in
theorem ct_order (hR : TwR γ Mo aT X S) (hw : WF K S) (hK : K < 2 ^ 31) (hOW : OW B S) (hB : B ≤ 2 ^ 60) (hfr : ∀ o, S.1 14 0 ≤ o → S.1 21 o = 0) (a b c d e : Int32) : Ev γ mX2_order [.ref Mo, .int a, .int b, .int c, .int d, .int e] X (fun oc X1 => oc = .inl (some (.int (rOrd S a b c d e))) ∧ TwF γ Mo aT X X1 (sOrd S a b c d e)) := by
  have hT := TwF.rf hR
  have hnb := hw.nb
  have hno := hw.no
  have hnc := hw.nc
  have hhr := hw.hr
  have hO := hOW.OB hB
  refine Ev.of (lv := [_, _, _, _, _, _, _, _, _, _]) 4 ⟨by decide +kernel, rfl, (Nat.le_of_ble_eq_true rfl)⟩ rfl ?_
  refine sw_aload_n 1 rfl rfl rfl dX2_order_0 ?_
  refine sw_iload_n 2 rfl rfl dX2_order_1 ?_
  refine sw_iload_n 3 rfl rfl dX2_order_2 ?_
  refine sw_callV 6 [] rfl cs_X2_127 rfl (Nat.le_of_ble_eq_true rfl) rfl hT.obj rfl rfl (ct_areBrokers hT.1 (by omega) _ _) rfl rfl (Nat.le_of_ble_eq_true rfl) dX2_order_3 (fun v X hq => ?_) (fun E X hq => by obtain ⟨hv, -⟩ := hq; cases hv)
  obtain ⟨hv, hT1⟩ := hq
  cases hv
  replace hT := hT.tr hT1
  clear hT1
  refine sw_if_eq 24 9 (by decide) rfl dX2_order_6 (fun c_6 => ?_) (fun c_6 => ?_)
  · rw [b2_0] at c_6
    have e_6 := c_6
    refine sw_iconst 25 rfl (nI 0) rfl dX2_order_24 ?_
    refine sw_istore 27 rfl [_, _, _, _, _, _, _, _, _, _] (Nat.le_of_ble_eq_true rfl) rfl dX2_order_25 ?_
    refine sw_iload_n 28 rfl rfl dX2_order_27 ?_
    refine sw_iload_n 29 rfl rfl dX2_order_28 ?_
    refine sw_icmp_eq 58 32 (by decide) rfl dX2_order_29 (fun c_29 => ?_) (fun c_29 => ?_)
    · refine sw_iconst 59 rfl (nI 0) rfl dX2_order_58 ?_
      refine sw_istore 61 rfl [_, _, _, _, _, _, _, _, _, _] (Nat.le_of_ble_eq_true rfl) rfl dX2_order_59 ?_
      refine sw_iload 63 rfl rfl dX2_order_61 ?_
      refine sw_if_eq 101 66 (by decide) rfl dX2_order_63 (fun c_63 => ?_) (fun c_63 => absurd (by decide) c_63)
      clear c_63
      refine sw_iconst 102 rfl (nI 0) rfl dX2_order_101 ?_
      refine sw_istore 104 rfl [_, _, _, _, _, _, _, _, _, _] (Nat.le_of_ble_eq_true rfl) rfl dX2_order_102 ?_
      refine sw_aload_n 105 rfl rfl rfl dX2_order_104 ?_
      refine sw_iload 107 rfl rfl dX2_order_105 ?_
      refine sw_if_ne 114 110 (by decide) rfl dX2_order_107 (fun c_107 => absurd (by decide) c_107) (fun c_107 => ?_)
      clear c_107
      refine sw_iconst 111 rfl (nI 1) rfl dX2_order_110 ?_
      refine sw_goto 133 (by decide) dX2_order_111 ?_
      refine sw_callV 136 [] rfl cs_X2_124 rfl (Nat.le_of_ble_eq_true rfl) rfl hT.obj rfl rfl (ct_goesWellK hT.1 1 (by omega) (by omega)) rfl rfl (Nat.le_of_ble_eq_true rfl) dX2_order_133 (fun v X hq => ?_) (fun E X hq => by obtain ⟨hv, -⟩ := hq; cases hv)
      obtain ⟨hv, hT1⟩ := hq
      cases hv
      replace hT := hT.tr hT1
      clear hT1
      refine sw_if_ne 141 139 (by decide) rfl dX2_order_136 (fun c_136 => absurd (by decide) c_136) (fun c_136 => ?_)
      clear c_136
      refine sw_iconst 140 rfl (nI 0) rfl dX2_order_139 ?_
      refine sw_iret rfl rfl dX2_order_140 ?_
      exact ⟨by simp [rOrd, kOrd, oAre, oRt, oCan, cif, e_6], hT.st (by simp [sOrd, kOrd, oAre, oRt, oCan, cif, tk, e_6])⟩
    · refine sw_iload_n 33 rfl rfl dX2_order_32 ?_
      refine sw_iconst 34 rfl (nI 1) rfl dX2_order_33 ?_
      refine sw_ldc 36 rfl q922 dX2_order_34 ?_
      refine sw_topI (show (1000000 : Int32) = nI 1000000 from rfl) ?_
      refine sw_callS 39 [] rfl cs_X2_116 rfl (Nat.le_of_ble_eq_true rfl) rfl (ct_in1 _ 1000000 (by omega)) rfl rfl (Nat.le_of_ble_eq_true rfl) dX2_order_36 (fun v X hq => ?_) (fun E X hq => by obtain ⟨hv, -⟩ := hq; cases hv)
      obtain ⟨hv, rfl⟩ := hq
      cases hv
      refine sw_if_eq 58 42 (by decide) rfl dX2_order_39 (fun c_39 => ?_) (fun c_39 => ?_)
      · rw [b2_0] at c_39
        have e_39 := c_39
        refine sw_iconst 59 rfl (nI 0) rfl dX2_order_58 ?_
        refine sw_istore 61 rfl [_, _, _, _, _, _, _, _, _, _] (Nat.le_of_ble_eq_true rfl) rfl dX2_order_59 ?_
        refine sw_iload 63 rfl rfl dX2_order_61 ?_
        refine sw_if_eq 101 66 (by decide) rfl dX2_order_63 (fun c_63 => ?_) (fun c_63 => absurd (by decide) c_63)
        clear c_63
        refine sw_iconst 102 rfl (nI 0) rfl dX2_order_101 ?_
        refine sw_istore 104 rfl [_, _, _, _, _, _, _, _, _, _] (Nat.le_of_ble_eq_true rfl) rfl dX2_order_102 ?_
        refine sw_aload_n 105 rfl rfl rfl dX2_order_104 ?_
        refine sw_iload 107 rfl rfl dX2_order_105 ?_
        refine sw_if_ne 114 110 (by decide) rfl dX2_order_107 (fun c_107 => absurd (by decide) c_107) (fun c_107 => ?_)
        clear c_107
        refine sw_iconst 111 rfl (nI 1) rfl dX2_order_110 ?_
        refine sw_goto 133 (by decide) dX2_order_111 ?_
        refine sw_callV 136 [] rfl cs_X2_124 rfl (Nat.le_of_ble_eq_true rfl) rfl hT.obj rfl rfl (ct_goesWellK hT.1 1 (by omega) (by omega)) rfl rfl (Nat.le_of_ble_eq_true rfl) dX2_order_133 (fun v X hq => ?_) (fun E X hq => by obtain ⟨hv, -⟩ := hq; cases hv)
        obtain ⟨hv, hT1⟩ := hq
        cases hv
        replace hT := hT.tr hT1
        clear hT1
        refine sw_if_ne 141 139 (by decide) rfl dX2_order_136 (fun c_136 => absurd (by decide) c_136) (fun c_136 => ?_)
        clear c_136
        refine sw_iconst 140 rfl (nI 0) rfl dX2_order_139 ?_
        refine sw_iret rfl rfl dX2_order_140 ?_
        exact ⟨by simp [rOrd, kOrd, oAre, oRt, oCan, cif, e_6], hT.st (by simp [sOrd, kOrd, oAre, oRt, oCan, cif, tk, e_6])⟩
      · rw [b2_n] at c_39
        have e_39 := c_39
        obtain ⟨m, hm1, hm, rfl⟩ := c_39
        have xm : ix (nI m) = m := ix_nI (by omega)
        refine sw_iload 44 rfl rfl dX2_order_42 ?_
        refine sw_iconst 45 rfl (nI 0) rfl dX2_order_44 ?_
        refine sw_sipush 48 rfl (nI 9999) rfl dX2_order_45 ?_
        refine sw_callS 51 [] rfl cs_X2_116 rfl (Nat.le_of_ble_eq_true rfl) rfl (ct_in0 _ 9999 (by omega)) rfl rfl (Nat.le_of_ble_eq_true rfl) dX2_order_48 (fun v X hq => ?_) (fun E X hq => by obtain ⟨hv, -⟩ := hq; cases hv)
        obtain ⟨hv, rfl⟩ := hq
        cases hv
        refine sw_if_eq 58 54 (by decide) rfl dX2_order_51 (fun c_51 => ?_) (fun c_51 => ?_)
        · rw [b2_0] at c_51
          have e_51 := c_51
          refine sw_iconst 59 rfl (nI 0) rfl dX2_order_58 ?_
          refine sw_istore 61 rfl [_, _, _, _, _, _, _, _, _, _] (Nat.le_of_ble_eq_true rfl) rfl dX2_order_59 ?_
          refine sw_iload 63 rfl rfl dX2_order_61 ?_
          refine sw_if_eq 101 66 (by decide) rfl dX2_order_63 (fun c_63 => ?_) (fun c_63 => absurd (by decide) c_63)
          clear c_63
          refine sw_iconst 102 rfl (nI 0) rfl dX2_order_101 ?_
          refine sw_istore 104 rfl [_, _, _, _, _, _, _, _, _, _] (Nat.le_of_ble_eq_true rfl) rfl dX2_order_102 ?_
          refine sw_aload_n 105 rfl rfl rfl dX2_order_104 ?_
          refine sw_iload 107 rfl rfl dX2_order_105 ?_
          refine sw_if_ne 114 110 (by decide) rfl dX2_order_107 (fun c_107 => absurd (by decide) c_107) (fun c_107 => ?_)
          clear c_107
          refine sw_iconst 111 rfl (nI 1) rfl dX2_order_110 ?_
          refine sw_goto 133 (by decide) dX2_order_111 ?_
          refine sw_callV 136 [] rfl cs_X2_124 rfl (Nat.le_of_ble_eq_true rfl) rfl hT.obj rfl rfl (ct_goesWellK hT.1 1 (by omega) (by omega)) rfl rfl (Nat.le_of_ble_eq_true rfl) dX2_order_133 (fun v X hq => ?_) (fun E X hq => by obtain ⟨hv, -⟩ := hq; cases hv)
          obtain ⟨hv, hT1⟩ := hq
          cases hv
          replace hT := hT.tr hT1
          clear hT1
          refine sw_if_ne 141 139 (by decide) rfl dX2_order_136 (fun c_136 => absurd (by decide) c_136) (fun c_136 => ?_)
          clear c_136
          refine sw_iconst 140 rfl (nI 0) rfl dX2_order_139 ?_
          refine sw_iret rfl rfl dX2_order_140 ?_
          exact ⟨by simp [rOrd, kOrd, oAre, oRt, oCan, cif, e_6], hT.st (by simp [sOrd, kOrd, oAre, oRt, oCan, cif, tk, e_6])⟩
        · rw [b2_n] at c_51
          have e_51 := c_51
          refine sw_iconst 55 rfl (nI 1) rfl dX2_order_54 ?_
          refine sw_goto 59 (by decide) dX2_order_55 ?_
          refine sw_istore 61 rfl [_, _, _, _, _, _, _, _, _, _] (Nat.le_of_ble_eq_true rfl) rfl dX2_order_59 ?_
          refine sw_iload 63 rfl rfl dX2_order_61 ?_
          refine sw_if_eq 101 66 (by decide) rfl dX2_order_63 (fun c_63 => ?_) (fun c_63 => absurd (by decide) c_63)
          clear c_63
          refine sw_iconst 102 rfl (nI 0) rfl dX2_order_101 ?_
          refine sw_istore 104 rfl [_, _, _, _, _, _, _, _, _, _] (Nat.le_of_ble_eq_true rfl) rfl dX2_order_102 ?_
          refine sw_aload_n 105 rfl rfl rfl dX2_order_104 ?_
          refine sw_iload 107 rfl rfl dX2_order_105 ?_
          refine sw_if_ne 114 110 (by decide) rfl dX2_order_107 (fun c_107 => absurd (by decide) c_107) (fun c_107 => ?_)
          clear c_107
          refine sw_iconst 111 rfl (nI 1) rfl dX2_order_110 ?_
          refine sw_goto 133 (by decide) dX2_order_111 ?_
          refine sw_callV 136 [] rfl cs_X2_124 rfl (Nat.le_of_ble_eq_true rfl) rfl hT.obj rfl rfl (ct_goesWellK hT.1 1 (by omega) (by omega)) rfl rfl (Nat.le_of_ble_eq_true rfl) dX2_order_133 (fun v X hq => ?_) (fun E X hq => by obtain ⟨hv, -⟩ := hq; cases hv)
          obtain ⟨hv, hT1⟩ := hq
          cases hv
          replace hT := hT.tr hT1
          clear hT1
          refine sw_if_ne 141 139 (by decide) rfl dX2_order_136 (fun c_136 => absurd (by decide) c_136) (fun c_136 => ?_)
          clear c_136
          refine sw_iconst 140 rfl (nI 0) rfl dX2_order_139 ?_
          refine sw_iret rfl rfl dX2_order_140 ?_
          exact ⟨by simp [rOrd, kOrd, oAre, oRt, oCan, cif, e_6], hT.st (by simp [sOrd, kOrd, oAre, oRt, oCan, cif, tk, e_6])⟩
  · rw [b2_n] at c_6
    have e_6 := c_6
    obtain ⟨⟨i, hi, rfl⟩, ⟨j, hj, rfl⟩⟩ := c_6
    have xi : ix (nI i) = i := ix_nI (by omega)
    have xj : ix (nI j) = j := ix_nI (by omega)
    refine sw_iload 11 rfl rfl dX2_order_9 ?_
    refine sw_iconst 12 rfl (nI 0) rfl dX2_order_11 ?_
    refine sw_bipush 14 rfl (nI 19) rfl dX2_order_12 ?_
    refine sw_callS 17 [] rfl cs_X2_116 rfl (Nat.le_of_ble_eq_true rfl) rfl (ct_in0 _ 19 (by omega)) rfl rfl (Nat.le_of_ble_eq_true rfl) dX2_order_14 (fun v X hq => ?_) (fun E X hq => by obtain ⟨hv, -⟩ := hq; cases hv)
    obtain ⟨hv, rfl⟩ := hq
    cases hv
    refine sw_if_eq 24 20 (by decide) rfl dX2_order_17 (fun c_17 => ?_) (fun c_17 => ?_)
    · rw [b2_0] at c_17
      have e_17 := c_17
      refine sw_iconst 25 rfl (nI 0) rfl dX2_order_24 ?_
      refine sw_istore 27 rfl [_, _, _, _, _, _, _, _, _, _] (Nat.le_of_ble_eq_true rfl) rfl dX2_order_25 ?_
      refine sw_iload_n 28 rfl rfl dX2_order_27 ?_
      refine sw_iload_n 29 rfl rfl dX2_order_28 ?_
      refine sw_icmp_eq 58 32 (by decide) rfl dX2_order_29 (fun c_29 => ?_) (fun c_29 => ?_)
      · rw [nI_eq (by omega) (by omega)] at c_29
        refine sw_iconst 59 rfl (nI 0) rfl dX2_order_58 ?_
        refine sw_istore 61 rfl [_, _, _, _, _, _, _, _, _, _] (Nat.le_of_ble_eq_true rfl) rfl dX2_order_59 ?_
        refine sw_iload 63 rfl rfl dX2_order_61 ?_
        refine sw_if_eq 101 66 (by decide) rfl dX2_order_63 (fun c_63 => ?_) (fun c_63 => absurd (by decide) c_63)
        clear c_63
        refine sw_iconst 102 rfl (nI 0) rfl dX2_order_101 ?_
        refine sw_istore 104 rfl [_, _, _, _, _, _, _, _, _, _] (Nat.le_of_ble_eq_true rfl) rfl dX2_order_102 ?_
        refine sw_aload_n 105 rfl rfl rfl dX2_order_104 ?_
        refine sw_iload 107 rfl rfl dX2_order_105 ?_
        refine sw_if_ne 114 110 (by decide) rfl dX2_order_107 (fun c_107 => absurd (by decide) c_107) (fun c_107 => ?_)
        clear c_107
        refine sw_iconst 111 rfl (nI 1) rfl dX2_order_110 ?_
        refine sw_goto 133 (by decide) dX2_order_111 ?_
        refine sw_callV 136 [] rfl cs_X2_124 rfl (Nat.le_of_ble_eq_true rfl) rfl hT.obj rfl rfl (ct_goesWellK hT.1 1 (by omega) (by omega)) rfl rfl (Nat.le_of_ble_eq_true rfl) dX2_order_133 (fun v X hq => ?_) (fun E X hq => by obtain ⟨hv, -⟩ := hq; cases hv)
        obtain ⟨hv, hT1⟩ := hq
        cases hv
        replace hT := hT.tr hT1
        clear hT1
        refine sw_if_ne 141 139 (by decide) rfl dX2_order_136 (fun c_136 => absurd (by decide) c_136) (fun c_136 => ?_)
        clear c_136
        refine sw_iconst 140 rfl (nI 0) rfl dX2_order_139 ?_
        refine sw_iret rfl rfl dX2_order_140 ?_
        exact ⟨by simp [rOrd, kOrd, oAre, oRt, oCan, cif, e_6, e_17], hT.st (by simp [sOrd, kOrd, oAre, oRt, oCan, cif, tk, e_6, e_17])⟩
      · rw [nI_eq (by omega) (by omega)] at c_29
        refine sw_iload_n 33 rfl rfl dX2_order_32 ?_
        refine sw_iconst 34 rfl (nI 1) rfl dX2_order_33 ?_
        refine sw_ldc 36 rfl q922 dX2_order_34 ?_
        refine sw_topI (show (1000000 : Int32) = nI 1000000 from rfl) ?_
        refine sw_callS 39 [] rfl cs_X2_116 rfl (Nat.le_of_ble_eq_true rfl) rfl (ct_in1 _ 1000000 (by omega)) rfl rfl (Nat.le_of_ble_eq_true rfl) dX2_order_36 (fun v X hq => ?_) (fun E X hq => by obtain ⟨hv, -⟩ := hq; cases hv)
        obtain ⟨hv, rfl⟩ := hq
        cases hv
        refine sw_if_eq 58 42 (by decide) rfl dX2_order_39 (fun c_39 => ?_) (fun c_39 => ?_)
        · rw [b2_0] at c_39
          have e_39 := c_39
          refine sw_iconst 59 rfl (nI 0) rfl dX2_order_58 ?_
          refine sw_istore 61 rfl [_, _, _, _, _, _, _, _, _, _] (Nat.le_of_ble_eq_true rfl) rfl dX2_order_59 ?_
          refine sw_iload 63 rfl rfl dX2_order_61 ?_
          refine sw_if_eq 101 66 (by decide) rfl dX2_order_63 (fun c_63 => ?_) (fun c_63 => absurd (by decide) c_63)
          clear c_63
          refine sw_iconst 102 rfl (nI 0) rfl dX2_order_101 ?_
          refine sw_istore 104 rfl [_, _, _, _, _, _, _, _, _, _] (Nat.le_of_ble_eq_true rfl) rfl dX2_order_102 ?_
          refine sw_aload_n 105 rfl rfl rfl dX2_order_104 ?_
          refine sw_iload 107 rfl rfl dX2_order_105 ?_
          refine sw_if_ne 114 110 (by decide) rfl dX2_order_107 (fun c_107 => absurd (by decide) c_107) (fun c_107 => ?_)
          clear c_107
          refine sw_iconst 111 rfl (nI 1) rfl dX2_order_110 ?_
          refine sw_goto 133 (by decide) dX2_order_111 ?_
          refine sw_callV 136 [] rfl cs_X2_124 rfl (Nat.le_of_ble_eq_true rfl) rfl hT.obj rfl rfl (ct_goesWellK hT.1 1 (by omega) (by omega)) rfl rfl (Nat.le_of_ble_eq_true rfl) dX2_order_133 (fun v X hq => ?_) (fun E X hq => by obtain ⟨hv, -⟩ := hq; cases hv)
          obtain ⟨hv, hT1⟩ := hq
          cases hv
          replace hT := hT.tr hT1
          clear hT1
          refine sw_if_ne 141 139 (by decide) rfl dX2_order_136 (fun c_136 => absurd (by decide) c_136) (fun c_136 => ?_)
          clear c_136
          refine sw_iconst 140 rfl (nI 0) rfl dX2_order_139 ?_
          refine sw_iret rfl rfl dX2_order_140 ?_
          exact ⟨by simp [rOrd, kOrd, oAre, oRt, oCan, cif, e_6, e_17], hT.st (by simp [sOrd, kOrd, oAre, oRt, oCan, cif, tk, e_6, e_17])⟩
        · rw [b2_n] at c_39
          have e_39 := c_39
          obtain ⟨m, hm1, hm, rfl⟩ := c_39
          have xm : ix (nI m) = m := ix_nI (by omega)
          refine sw_iload 44 rfl rfl dX2_order_42 ?_
          refine sw_iconst 45 rfl (nI 0) rfl dX2_order_44 ?_
          refine sw_sipush 48 rfl (nI 9999) rfl dX2_order_45 ?_
          refine sw_callS 51 [] rfl cs_X2_116 rfl (Nat.le_of_ble_eq_true rfl) rfl (ct_in0 _ 9999 (by omega)) rfl rfl (Nat.le_of_ble_eq_true rfl) dX2_order_48 (fun v X hq => ?_) (fun E X hq => by obtain ⟨hv, -⟩ := hq; cases hv)
          obtain ⟨hv, rfl⟩ := hq
          cases hv
          refine sw_if_eq 58 54 (by decide) rfl dX2_order_51 (fun c_51 => ?_) (fun c_51 => ?_)
          · rw [b2_0] at c_51
            have e_51 := c_51
            refine sw_iconst 59 rfl (nI 0) rfl dX2_order_58 ?_
            refine sw_istore 61 rfl [_, _, _, _, _, _, _, _, _, _] (Nat.le_of_ble_eq_true rfl) rfl dX2_order_59 ?_
            refine sw_iload 63 rfl rfl dX2_order_61 ?_
            refine sw_if_eq 101 66 (by decide) rfl dX2_order_63 (fun c_63 => ?_) (fun c_63 => absurd (by decide) c_63)
            clear c_63
            refine sw_iconst 102 rfl (nI 0) rfl dX2_order_101 ?_
            refine sw_istore 104 rfl [_, _, _, _, _, _, _, _, _, _] (Nat.le_of_ble_eq_true rfl) rfl dX2_order_102 ?_
            refine sw_aload_n 105 rfl rfl rfl dX2_order_104 ?_
            refine sw_iload 107 rfl rfl dX2_order_105 ?_
            refine sw_if_ne 114 110 (by decide) rfl dX2_order_107 (fun c_107 => absurd (by decide) c_107) (fun c_107 => ?_)
            clear c_107
            refine sw_iconst 111 rfl (nI 1) rfl dX2_order_110 ?_
            refine sw_goto 133 (by decide) dX2_order_111 ?_
            refine sw_callV 136 [] rfl cs_X2_124 rfl (Nat.le_of_ble_eq_true rfl) rfl hT.obj rfl rfl (ct_goesWellK hT.1 1 (by omega) (by omega)) rfl rfl (Nat.le_of_ble_eq_true rfl) dX2_order_133 (fun v X hq => ?_) (fun E X hq => by obtain ⟨hv, -⟩ := hq; cases hv)
            obtain ⟨hv, hT1⟩ := hq
            cases hv
            replace hT := hT.tr hT1
            clear hT1
            refine sw_if_ne 141 139 (by decide) rfl dX2_order_136 (fun c_136 => absurd (by decide) c_136) (fun c_136 => ?_)
            clear c_136
            refine sw_iconst 140 rfl (nI 0) rfl dX2_order_139 ?_
            refine sw_iret rfl rfl dX2_order_140 ?_
            exact ⟨by simp [rOrd, kOrd, oAre, oRt, oCan, cif, e_6, e_17], hT.st (by simp [sOrd, kOrd, oAre, oRt, oCan, cif, tk, e_6, e_17])⟩
          · rw [b2_n] at c_51
            have e_51 := c_51
            refine sw_iconst 55 rfl (nI 1) rfl dX2_order_54 ?_
            refine sw_goto 59 (by decide) dX2_order_55 ?_
            refine sw_istore 61 rfl [_, _, _, _, _, _, _, _, _, _] (Nat.le_of_ble_eq_true rfl) rfl dX2_order_59 ?_
            refine sw_iload 63 rfl rfl dX2_order_61 ?_
            refine sw_if_eq 101 66 (by decide) rfl dX2_order_63 (fun c_63 => ?_) (fun c_63 => absurd (by decide) c_63)
            clear c_63
            refine sw_iconst 102 rfl (nI 0) rfl dX2_order_101 ?_
            refine sw_istore 104 rfl [_, _, _, _, _, _, _, _, _, _] (Nat.le_of_ble_eq_true rfl) rfl dX2_order_102 ?_
            refine sw_aload_n 105 rfl rfl rfl dX2_order_104 ?_
            refine sw_iload 107 rfl rfl dX2_order_105 ?_
            refine sw_if_ne 114 110 (by decide) rfl dX2_order_107 (fun c_107 => absurd (by decide) c_107) (fun c_107 => ?_)
            clear c_107
            refine sw_iconst 111 rfl (nI 1) rfl dX2_order_110 ?_
            refine sw_goto 133 (by decide) dX2_order_111 ?_
            refine sw_callV 136 [] rfl cs_X2_124 rfl (Nat.le_of_ble_eq_true rfl) rfl hT.obj rfl rfl (ct_goesWellK hT.1 1 (by omega) (by omega)) rfl rfl (Nat.le_of_ble_eq_true rfl) dX2_order_133 (fun v X hq => ?_) (fun E X hq => by obtain ⟨hv, -⟩ := hq; cases hv)
            obtain ⟨hv, hT1⟩ := hq
            cases hv
            replace hT := hT.tr hT1
            clear hT1
            refine sw_if_ne 141 139 (by decide) rfl dX2_order_136 (fun c_136 => absurd (by decide) c_136) (fun c_136 => ?_)
            clear c_136
            refine sw_iconst 140 rfl (nI 0) rfl dX2_order_139 ?_
            refine sw_iret rfl rfl dX2_order_140 ?_
            exact ⟨by simp [rOrd, kOrd, oAre, oRt, oCan, cif, e_6, e_17], hT.st (by simp [sOrd, kOrd, oAre, oRt, oCan, cif, tk, e_6, e_17])⟩
    · rw [b2_n] at c_17
      have e_17 := c_17
      obtain ⟨q, hq, rfl⟩ := c_17
      have xq : ix (nI q) = q := ix_nI (by omega)
      refine sw_iconst 21 rfl (nI 1) rfl dX2_order_20 ?_
      refine sw_goto 25 (by decide) dX2_order_21 ?_
      refine sw_istore 27 rfl [_, _, _, _, _, _, _, _, _, _] (Nat.le_of_ble_eq_true rfl) rfl dX2_order_25 ?_
      refine sw_iload_n 28 rfl rfl dX2_order_27 ?_
      refine sw_iload_n 29 rfl rfl dX2_order_28 ?_
      refine sw_icmp_eq 58 32 (by decide) rfl dX2_order_29 (fun c_29 => ?_) (fun c_29 => ?_)
      · rw [nI_eq (by omega) (by omega)] at c_29
        refine sw_iconst 59 rfl (nI 0) rfl dX2_order_58 ?_
        refine sw_istore 61 rfl [_, _, _, _, _, _, _, _, _, _] (Nat.le_of_ble_eq_true rfl) rfl dX2_order_59 ?_
        refine sw_iload 63 rfl rfl dX2_order_61 ?_
        refine sw_if_eq 101 66 (by decide) rfl dX2_order_63 (fun c_63 => absurd c_63 (by decide)) (fun c_63 => ?_)
        clear c_63
        refine sw_iload 68 rfl rfl dX2_order_66 ?_
        refine sw_if_eq 101 71 (by decide) rfl dX2_order_68 (fun c_68 => ?_) (fun c_68 => absurd (by decide) c_68)
        clear c_68
        refine sw_iconst 102 rfl (nI 0) rfl dX2_order_101 ?_
        refine sw_istore 104 rfl [_, _, _, _, _, _, _, _, _, _] (Nat.le_of_ble_eq_true rfl) rfl dX2_order_102 ?_
        refine sw_aload_n 105 rfl rfl rfl dX2_order_104 ?_
        refine sw_iload 107 rfl rfl dX2_order_105 ?_
        refine sw_if_ne 114 110 (by decide) rfl dX2_order_107 (fun c_107 => ?_) (fun c_107 => absurd c_107 (by decide))
        clear c_107
        refine sw_iload 116 rfl rfl dX2_order_114 ?_
        refine sw_if_ne 123 119 (by decide) rfl dX2_order_116 (fun c_116 => absurd (by decide) c_116) (fun c_116 => ?_)
        clear c_116
        refine sw_iconst 120 rfl (nI 2) rfl dX2_order_119 ?_
        refine sw_goto 133 (by decide) dX2_order_120 ?_
        refine sw_callV 136 [] rfl cs_X2_124 rfl (Nat.le_of_ble_eq_true rfl) rfl hT.obj rfl rfl (ct_goesWellK hT.1 2 (by omega) (by omega)) rfl rfl (Nat.le_of_ble_eq_true rfl) dX2_order_133 (fun v X hq => ?_) (fun E X hq => by obtain ⟨hv, -⟩ := hq; cases hv)
        obtain ⟨hv, hT1⟩ := hq
        cases hv
        replace hT := hT.tr hT1
        clear hT1
        refine sw_if_ne 141 139 (by decide) rfl dX2_order_136 (fun c_136 => absurd (by decide) c_136) (fun c_136 => ?_)
        clear c_136
        refine sw_iconst 140 rfl (nI 0) rfl dX2_order_139 ?_
        refine sw_iret rfl rfl dX2_order_140 ?_
        subst c_29
        exact ⟨by simp [rOrd, kOrd, oAre, oRt, oCan, cif, e_6, e_17], hT.st (by simp [sOrd, kOrd, oAre, oRt, oCan, cif, tk, e_6, e_17])⟩
      · rw [nI_eq (by omega) (by omega)] at c_29
        refine sw_iload_n 33 rfl rfl dX2_order_32 ?_
        refine sw_iconst 34 rfl (nI 1) rfl dX2_order_33 ?_
        refine sw_ldc 36 rfl q922 dX2_order_34 ?_
        refine sw_topI (show (1000000 : Int32) = nI 1000000 from rfl) ?_
        refine sw_callS 39 [] rfl cs_X2_116 rfl (Nat.le_of_ble_eq_true rfl) rfl (ct_in1 _ 1000000 (by omega)) rfl rfl (Nat.le_of_ble_eq_true rfl) dX2_order_36 (fun v X hq => ?_) (fun E X hq => by obtain ⟨hv, -⟩ := hq; cases hv)
        obtain ⟨hv, rfl⟩ := hq
        cases hv
        refine sw_if_eq 58 42 (by decide) rfl dX2_order_39 (fun c_39 => ?_) (fun c_39 => ?_)
        · rw [b2_0] at c_39
          have e_39 := c_39
          refine sw_iconst 59 rfl (nI 0) rfl dX2_order_58 ?_
          refine sw_istore 61 rfl [_, _, _, _, _, _, _, _, _, _] (Nat.le_of_ble_eq_true rfl) rfl dX2_order_59 ?_
          refine sw_iload 63 rfl rfl dX2_order_61 ?_
          refine sw_if_eq 101 66 (by decide) rfl dX2_order_63 (fun c_63 => absurd c_63 (by decide)) (fun c_63 => ?_)
          clear c_63
          refine sw_iload 68 rfl rfl dX2_order_66 ?_
          refine sw_if_eq 101 71 (by decide) rfl dX2_order_68 (fun c_68 => ?_) (fun c_68 => absurd (by decide) c_68)
          clear c_68
          refine sw_iconst 102 rfl (nI 0) rfl dX2_order_101 ?_
          refine sw_istore 104 rfl [_, _, _, _, _, _, _, _, _, _] (Nat.le_of_ble_eq_true rfl) rfl dX2_order_102 ?_
          refine sw_aload_n 105 rfl rfl rfl dX2_order_104 ?_
          refine sw_iload 107 rfl rfl dX2_order_105 ?_
          refine sw_if_ne 114 110 (by decide) rfl dX2_order_107 (fun c_107 => ?_) (fun c_107 => absurd c_107 (by decide))
          clear c_107
          refine sw_iload 116 rfl rfl dX2_order_114 ?_
          refine sw_if_ne 123 119 (by decide) rfl dX2_order_116 (fun c_116 => absurd (by decide) c_116) (fun c_116 => ?_)
          clear c_116
          refine sw_iconst 120 rfl (nI 2) rfl dX2_order_119 ?_
          refine sw_goto 133 (by decide) dX2_order_120 ?_
          refine sw_callV 136 [] rfl cs_X2_124 rfl (Nat.le_of_ble_eq_true rfl) rfl hT.obj rfl rfl (ct_goesWellK hT.1 2 (by omega) (by omega)) rfl rfl (Nat.le_of_ble_eq_true rfl) dX2_order_133 (fun v X hq => ?_) (fun E X hq => by obtain ⟨hv, -⟩ := hq; cases hv)
          obtain ⟨hv, hT1⟩ := hq
          cases hv
          replace hT := hT.tr hT1
          clear hT1
          refine sw_if_ne 141 139 (by decide) rfl dX2_order_136 (fun c_136 => absurd (by decide) c_136) (fun c_136 => ?_)
          clear c_136
          refine sw_iconst 140 rfl (nI 0) rfl dX2_order_139 ?_
          refine sw_iret rfl rfl dX2_order_140 ?_
          exact ⟨by simp [rOrd, kOrd, oAre, oRt, oCan, cif, e_6, xi, xj, e_17, xq, c_29, e_39], hT.st (by simp [sOrd, kOrd, oAre, oRt, oCan, cif, tk, e_6, xi, xj, e_17, xq, c_29, e_39])⟩
        · rw [b2_n] at c_39
          have e_39 := c_39
          obtain ⟨m, hm1, hm, rfl⟩ := c_39
          have xm : ix (nI m) = m := ix_nI (by omega)
          refine sw_iload 44 rfl rfl dX2_order_42 ?_
          refine sw_iconst 45 rfl (nI 0) rfl dX2_order_44 ?_
          refine sw_sipush 48 rfl (nI 9999) rfl dX2_order_45 ?_
          refine sw_callS 51 [] rfl cs_X2_116 rfl (Nat.le_of_ble_eq_true rfl) rfl (ct_in0 _ 9999 (by omega)) rfl rfl (Nat.le_of_ble_eq_true rfl) dX2_order_48 (fun v X hq => ?_) (fun E X hq => by obtain ⟨hv, -⟩ := hq; cases hv)
          obtain ⟨hv, rfl⟩ := hq
          cases hv
          refine sw_if_eq 58 54 (by decide) rfl dX2_order_51 (fun c_51 => ?_) (fun c_51 => ?_)
          · rw [b2_0] at c_51
            have e_51 := c_51
            refine sw_iconst 59 rfl (nI 0) rfl dX2_order_58 ?_
            refine sw_istore 61 rfl [_, _, _, _, _, _, _, _, _, _] (Nat.le_of_ble_eq_true rfl) rfl dX2_order_59 ?_
            refine sw_iload 63 rfl rfl dX2_order_61 ?_
            refine sw_if_eq 101 66 (by decide) rfl dX2_order_63 (fun c_63 => absurd c_63 (by decide)) (fun c_63 => ?_)
            clear c_63
            refine sw_iload 68 rfl rfl dX2_order_66 ?_
            refine sw_if_eq 101 71 (by decide) rfl dX2_order_68 (fun c_68 => ?_) (fun c_68 => absurd (by decide) c_68)
            clear c_68
            refine sw_iconst 102 rfl (nI 0) rfl dX2_order_101 ?_
            refine sw_istore 104 rfl [_, _, _, _, _, _, _, _, _, _] (Nat.le_of_ble_eq_true rfl) rfl dX2_order_102 ?_
            refine sw_aload_n 105 rfl rfl rfl dX2_order_104 ?_
            refine sw_iload 107 rfl rfl dX2_order_105 ?_
            refine sw_if_ne 114 110 (by decide) rfl dX2_order_107 (fun c_107 => ?_) (fun c_107 => absurd c_107 (by decide))
            clear c_107
            refine sw_iload 116 rfl rfl dX2_order_114 ?_
            refine sw_if_ne 123 119 (by decide) rfl dX2_order_116 (fun c_116 => absurd (by decide) c_116) (fun c_116 => ?_)
            clear c_116
            refine sw_iconst 120 rfl (nI 2) rfl dX2_order_119 ?_
            refine sw_goto 133 (by decide) dX2_order_120 ?_
            refine sw_callV 136 [] rfl cs_X2_124 rfl (Nat.le_of_ble_eq_true rfl) rfl hT.obj rfl rfl (ct_goesWellK hT.1 2 (by omega) (by omega)) rfl rfl (Nat.le_of_ble_eq_true rfl) dX2_order_133 (fun v X hq => ?_) (fun E X hq => by obtain ⟨hv, -⟩ := hq; cases hv)
            obtain ⟨hv, hT1⟩ := hq
            cases hv
            replace hT := hT.tr hT1
            clear hT1
            refine sw_if_ne 141 139 (by decide) rfl dX2_order_136 (fun c_136 => absurd (by decide) c_136) (fun c_136 => ?_)
            clear c_136
            refine sw_iconst 140 rfl (nI 0) rfl dX2_order_139 ?_
            refine sw_iret rfl rfl dX2_order_140 ?_
            exact ⟨by simp [rOrd, kOrd, oAre, oRt, oCan, cif, e_6, xi, xj, e_17, xq, c_29, e_39, xm, e_51], hT.st (by simp [sOrd, kOrd, oAre, oRt, oCan, cif, tk, e_6, xi, xj, e_17, xq, c_29, e_39, xm, e_51])⟩
          · rw [b2_n] at c_51
            have e_51 := c_51
            refine sw_iconst 55 rfl (nI 1) rfl dX2_order_54 ?_
            refine sw_goto 59 (by decide) dX2_order_55 ?_
            refine sw_istore 61 rfl [_, _, _, _, _, _, _, _, _, _] (Nat.le_of_ble_eq_true rfl) rfl dX2_order_59 ?_
            refine sw_iload 63 rfl rfl dX2_order_61 ?_
            refine sw_if_eq 101 66 (by decide) rfl dX2_order_63 (fun c_63 => absurd c_63 (by decide)) (fun c_63 => ?_)
            clear c_63
            refine sw_iload 68 rfl rfl dX2_order_66 ?_
            refine sw_if_eq 101 71 (by decide) rfl dX2_order_68 (fun c_68 => absurd c_68 (by decide)) (fun c_68 => ?_)
            clear c_68
            refine sw_aload_n 72 rfl rfl rfl dX2_order_71 ?_
            refine gf_X2_181 75 rfl hT.obj rfl rfl dX2_order_72 ?_
            refine sw_bipush 77 rfl (nI 40) rfl dX2_order_75 ?_
            refine sw_icmp_ge 101 80 (by decide) rfl dX2_order_77 (fun c_77 => ?_) (fun c_77 => ?_)
            · rw [nI_leI (by omega) (by omega)] at c_77
              refine sw_iconst 102 rfl (nI 0) rfl dX2_order_101 ?_
              refine sw_istore 104 rfl [_, _, _, _, _, _, _, _, _, _] (Nat.le_of_ble_eq_true rfl) rfl dX2_order_102 ?_
              refine sw_aload_n 105 rfl rfl rfl dX2_order_104 ?_
              refine sw_iload 107 rfl rfl dX2_order_105 ?_
              refine sw_if_ne 114 110 (by decide) rfl dX2_order_107 (fun c_107 => ?_) (fun c_107 => absurd c_107 (by decide))
              clear c_107
              refine sw_iload 116 rfl rfl dX2_order_114 ?_
              refine sw_if_ne 123 119 (by decide) rfl dX2_order_116 (fun c_116 => ?_) (fun c_116 => absurd c_116 (by decide))
              clear c_116
              refine sw_iload 125 rfl rfl dX2_order_123 ?_
              refine sw_if_ne 132 128 (by decide) rfl dX2_order_125 (fun c_125 => absurd (by decide) c_125) (fun c_125 => ?_)
              clear c_125
              refine sw_iconst 129 rfl (nI 3) rfl dX2_order_128 ?_
              refine sw_goto 133 (by decide) dX2_order_129 ?_
              refine sw_callV 136 [] rfl cs_X2_124 rfl (Nat.le_of_ble_eq_true rfl) rfl hT.obj rfl rfl (ct_goesWellK hT.1 3 (by omega) (by omega)) rfl rfl (Nat.le_of_ble_eq_true rfl) dX2_order_133 (fun v X hq => ?_) (fun E X hq => by obtain ⟨hv, -⟩ := hq; cases hv)
              obtain ⟨hv, hT1⟩ := hq
              cases hv
              replace hT := hT.tr hT1
              clear hT1
              refine sw_if_ne 141 139 (by decide) rfl dX2_order_136 (fun c_136 => absurd (by decide) c_136) (fun c_136 => ?_)
              clear c_136
              refine sw_iconst 140 rfl (nI 0) rfl dX2_order_139 ?_
              refine sw_iret rfl rfl dX2_order_140 ?_
              have eA : oAre S (nI i) (nI j) (nI q) := ⟨e_6, e_17⟩
              have eR : oRt (nI i) (nI j) (nI m) e := ⟨fun z => c_29 ((nI_eq (by omega) (by omega)).mp z), e_39, e_51⟩
              obtain ⟨z1, z2⟩ := ord_f3 eA eR (fun z => by have := z.1; omega)
              exact ⟨by rw [z1], by rw [z2]; exact hT⟩
            · rw [nI_leI (by omega) (by omega)] at c_77
              refine sw_aload_n 81 rfl rfl rfl dX2_order_80 ?_
              refine gf_X2_94 84 rfl hT.obj rfl rfl dX2_order_81 ?_
              refine sw_iload 86 rfl rfl dX2_order_84 ?_
              refine sw_zald 87 rfl (hT.arr 33 rfl) (by omega) (Nat.le_of_ble_eq_true rfl) dX2_order_86 ?_
              refine sw_if_ne 101 90 (by decide) rfl dX2_order_87 (fun c_87 => ?_) (fun c_87 => ?_)
              · refine sw_iconst 102 rfl (nI 0) rfl dX2_order_101 ?_
                refine sw_istore 104 rfl [_, _, _, _, _, _, _, _, _, _] (Nat.le_of_ble_eq_true rfl) rfl dX2_order_102 ?_
                refine sw_aload_n 105 rfl rfl rfl dX2_order_104 ?_
                refine sw_iload 107 rfl rfl dX2_order_105 ?_
                refine sw_if_ne 114 110 (by decide) rfl dX2_order_107 (fun c_107 => ?_) (fun c_107 => absurd c_107 (by decide))
                clear c_107
                refine sw_iload 116 rfl rfl dX2_order_114 ?_
                refine sw_if_ne 123 119 (by decide) rfl dX2_order_116 (fun c_116 => ?_) (fun c_116 => absurd c_116 (by decide))
                clear c_116
                refine sw_iload 125 rfl rfl dX2_order_123 ?_
                refine sw_if_ne 132 128 (by decide) rfl dX2_order_125 (fun c_125 => absurd (by decide) c_125) (fun c_125 => ?_)
                clear c_125
                refine sw_iconst 129 rfl (nI 3) rfl dX2_order_128 ?_
                refine sw_goto 133 (by decide) dX2_order_129 ?_
                refine sw_callV 136 [] rfl cs_X2_124 rfl (Nat.le_of_ble_eq_true rfl) rfl hT.obj rfl rfl (ct_goesWellK hT.1 3 (by omega) (by omega)) rfl rfl (Nat.le_of_ble_eq_true rfl) dX2_order_133 (fun v X hq => ?_) (fun E X hq => by obtain ⟨hv, -⟩ := hq; cases hv)
                obtain ⟨hv, hT1⟩ := hq
                cases hv
                replace hT := hT.tr hT1
                clear hT1
                refine sw_if_ne 141 139 (by decide) rfl dX2_order_136 (fun c_136 => absurd (by decide) c_136) (fun c_136 => ?_)
                clear c_136
                refine sw_iconst 140 rfl (nI 0) rfl dX2_order_139 ?_
                refine sw_iret rfl rfl dX2_order_140 ?_
                have eA : oAre S (nI i) (nI j) (nI q) := ⟨e_6, e_17⟩
                have eR : oRt (nI i) (nI j) (nI m) e := ⟨fun z => c_29 ((nI_eq (by omega) (by omega)).mp z), e_39, e_51⟩
                obtain ⟨z1, z2⟩ := ord_f3 eA eR (fun z => by have := z.2; rw [xq] at this; exact c_87 this)
                exact ⟨by rw [z1], by rw [z2]; exact hT⟩
              · refine sw_aload_n 91 rfl rfl rfl dX2_order_90 ?_
                refine sw_iload_n 92 rfl rfl dX2_order_91 ?_
                refine sw_iload_n 93 rfl rfl dX2_order_92 ?_
                refine sw_iload_n 94 rfl rfl dX2_order_93 ?_
                refine sw_iconst 95 rfl (nI 0) rfl dX2_order_94 ?_
                have hpl := pLen_le (w := 0) hw hO hm hi hj
                refine sw_callV 98 [] rfl cs_X2_170 rfl (Nat.le_of_ble_eq_true rfl) rfl hT.obj rfl rfl (ct_findWay hT.1 hw hO hm hi hj (by omega)) rfl rfl (Nat.le_of_ble_eq_true rfl) dX2_order_95 (fun v X hq => ?_) (fun E X hq => by obtain ⟨hv, -⟩ := hq; cases hv)
                obtain ⟨hv, hT1⟩ := hq
                cases hv
                replace hT := hT.tr hT1
                clear hT1
                have hk0 : 0 < pLen S i j m 0 → _ := fun z => pFind_ok (w := 0) hw hO hm hi hj c_29 z
                have eW := pFind_W S i j m 0
                generalize hV : pFind S i j m 0 = V at hT hk0 eW
                generalize hN : pLen S i j m 0 = N at hpl hk0 ⊢
                refine sw_goto 102 (by decide) dX2_order_98 ?_
                refine sw_istore 104 rfl [_, _, _, _, _, _, _, _, _, _] (Nat.le_of_ble_eq_true rfl) rfl dX2_order_102 ?_
                refine sw_aload_n 105 rfl rfl rfl dX2_order_104 ?_
                refine sw_iload 107 rfl rfl dX2_order_105 ?_
                refine sw_if_ne 114 110 (by decide) rfl dX2_order_107 (fun c_107 => ?_) (fun c_107 => absurd c_107 (by decide))
                clear c_107
                refine sw_iload 116 rfl rfl dX2_order_114 ?_
                refine sw_if_ne 123 119 (by decide) rfl dX2_order_116 (fun c_116 => ?_) (fun c_116 => absurd c_116 (by decide))
                clear c_116
                refine sw_iload 125 rfl rfl dX2_order_123 ?_
                refine sw_if_ne 132 128 (by decide) rfl dX2_order_125 (fun c_125 => ?_) (fun c_125 => ?_)
                · rw [show (0 : Int32) = nI 0 from rfl, nI_eq (by omega) (by omega)] at c_125
                  have eA : oAre S (nI i) (nI j) (nI q) := ⟨e_6, e_17⟩
                  have eR : oRt (nI i) (nI j) (nI m) e := ⟨fun z => c_29 ((nI_eq (by omega) (by omega)).mp z), e_39, e_51⟩
                  have eC : oCan S (nI q) := ⟨by omega, by rw [xq]; exact c_87⟩
                  have hNp : 0 < N := by omega
                  obtain ⟨⟨k1, k2⟩, k3, -, -, -, -, k8⟩ := hk0 hNp
                  have e14 : V.1 14 = S.1 14 := eW.1 14 (by omega) (by omega) (by omega)
                  have ho40 : V.1 14 0 < 40 := by rw [e14]; omega
                  have hc5 : V.1 5 i ≤ K := by rw [eW.1 5 (by omega) (by omega) (by omega)]; exact hw.cash (by omega)
                  have ht4 : V.1 4 i < 8 := by rw [eW.1 4 (by omega) (by omega) (by omega)]; exact hw.town (by omega)
                  refine sw_iconst 133 rfl (nI 0) rfl dX2_order_132 ?_
                  refine sw_callV 136 [] rfl cs_X2_124 rfl (Nat.le_of_ble_eq_true rfl) rfl hT.obj rfl rfl (ct_goesWell0 hT.1) rfl rfl (Nat.le_of_ble_eq_true rfl) dX2_order_133 (fun v X hq => ?_) (fun E X hq => by obtain ⟨hv, -⟩ := hq; cases hv)
                  obtain ⟨hv, hT1⟩ := hq
                  cases hv
                  replace hT := hT.tr hT1
                  clear hT1
                  refine sw_if_ne 141 139 (by decide) rfl dX2_order_136 (fun c_136 => ?_) (fun c_136 => absurd c_136 (by decide))
                  clear c_136
                  refine sw_aload_n 142 rfl rfl rfl dX2_order_141 ?_
                  refine gf_X2_181 145 rfl hT.obj rfl rfl dX2_order_142 ?_
                  try simp only [sI_N, sI_L, sN_I, sN_L, sL_N, sL_I, sN_t, sI_t, sL_t, pOwe_N, pOwe_I, pOweBoth_N, pOweBoth_I, pTB_N, pTB_I, pGoBack_N, pOweOn_N, pOweOn_I, reduceIte, Nat.reduceEqDiff]
                  refine sw_istore 147 rfl [_, _, _, _, _, _, _, _, _, _] (Nat.le_of_ble_eq_true rfl) rfl dX2_order_145 ?_
                  refine sw_aload_n 148 rfl rfl rfl dX2_order_147 ?_
                  refine sw_dup 149 rfl rfl dX2_order_148 ?_
                  refine gf_X2_181 152 rfl hT.obj rfl rfl dX2_order_149 ?_
                  try simp only [sI_N, sI_L, sN_I, sN_L, sL_N, sL_I, sN_t, sI_t, sL_t, pOwe_N, pOwe_I, pOweBoth_N, pOweBoth_I, pTB_N, pTB_I, pGoBack_N, pOweOn_N, pOweOn_I, reduceIte, Nat.reduceEqDiff]
                  refine sw_iconst 153 rfl (nI 1) rfl dX2_order_152 ?_
                  refine sw_iaddN 154 rfl dX2_order_153 ?_
                  refine pf_X2_181 157 rfl hT.obj (Nat.le_of_ble_eq_true rfl) rfl dX2_order_154 (fun X hX => ?_)
                  replace hT := hT.p14 hX
                  clear hX
                  refine sw_aload_n 158 rfl rfl rfl dX2_order_157 ?_
                  refine gf_X2_42 161 rfl hT.obj rfl rfl dX2_order_158 ?_
                  refine sw_iload 163 rfl rfl dX2_order_161 ?_
                  refine sw_iconst 164 rfl (nI 0) rfl dX2_order_163 ?_
                  refine sw_iast 165 rfl (hT.arr 15 rfl) (by omega) (Nat.le_of_ble_eq_true rfl) dX2_order_164 (fun X hX => ?_)
                  replace hT := hT.p15 hX
                  clear hX
                  refine sw_aload_n 166 rfl rfl rfl dX2_order_165 ?_
                  refine gf_X2_45 169 rfl hT.obj rfl rfl dX2_order_166 ?_
                  refine sw_iload 171 rfl rfl dX2_order_169 ?_
                  refine sw_iload_n 172 rfl rfl dX2_order_171 ?_
                  refine sw_iast 173 rfl (hT.arr 16 rfl) (by omega) (Nat.le_of_ble_eq_true rfl) dX2_order_172 (fun X hX => ?_)
                  replace hT := hT.p16 hX
                  clear hX
                  refine sw_aload_n 174 rfl rfl rfl dX2_order_173 ?_
                  refine gf_X2_48 177 rfl hT.obj rfl rfl dX2_order_174 ?_
                  refine sw_iload 179 rfl rfl dX2_order_177 ?_
                  refine sw_iload_n 180 rfl rfl dX2_order_179 ?_
                  refine sw_i2l 181 rfl dX2_order_180 ?_
                  refine sw_topL (nI_l (by omega)) ?_
                  refine sw_aload_n 182 rfl rfl rfl dX2_order_181 ?_
                  refine gf_X2_100 185 rfl hT.obj rfl rfl dX2_order_182 ?_
                  refine sw_iload_n 186 rfl rfl dX2_order_185 ?_
                  refine sw_lald 187 rfl (hT.arr 35 rfl) (by omega) (Nat.le_of_ble_eq_true rfl) dX2_order_186 ?_
                  try simp only [sI_N, sI_L, sN_I, sN_L, sL_N, sL_I, sN_t, sI_t, sL_t, pOwe_N, pOwe_I, pOweBoth_N, pOweBoth_I, pTB_N, pTB_I, pGoBack_N, pOweOn_N, pOweOn_I, reduceIte, Nat.reduceEqDiff]
                  refine sw_ladd 188 rfl dX2_order_187 ?_
                  refine sw_topL (lN_add _ _) ?_
                  refine sw_l2i 189 rfl dX2_order_188 ?_
                  refine sw_topI (lN_i _) ?_
                  refine sw_iast 190 rfl (hT.arr 17 rfl) (by omega) (Nat.le_of_ble_eq_true rfl) dX2_order_189 (fun X hX => ?_)
                  replace hT := hT.p17 hX
                  clear hX
                  refine sw_aload_n 191 rfl rfl rfl dX2_order_190 ?_
                  refine gf_X2_51 194 rfl hT.obj rfl rfl dX2_order_191 ?_
                  refine sw_iload 196 rfl rfl dX2_order_194 ?_
                  refine sw_iload 198 rfl rfl dX2_order_196 ?_
                  refine sw_iast 199 rfl (hT.arr 18 rfl) (by omega) (Nat.le_of_ble_eq_true rfl) dX2_order_198 (fun X hX => ?_)
                  replace hT := hT.p18 hX
                  clear hX
                  refine sw_aload_n 200 rfl rfl rfl dX2_order_199 ?_
                  refine gf_X2_57 203 rfl hT.obj rfl rfl dX2_order_200 ?_
                  refine sw_iload 205 rfl rfl dX2_order_203 ?_
                  refine sw_aload_n 206 rfl rfl rfl dX2_order_205 ?_
                  refine gf_X2_194 209 rfl hT.obj rfl rfl dX2_order_206 ?_
                  try simp only [sI_N, sI_L, sN_I, sN_L, sL_N, sL_I, sN_t, sI_t, sL_t, pOwe_N, pOwe_I, pOweBoth_N, pOweBoth_I, pTB_N, pTB_I, pGoBack_N, pOweOn_N, pOweOn_I, reduceIte, Nat.reduceEqDiff]
                  refine sw_iast 210 rfl (hT.arr 20 rfl) (by omega) (Nat.le_of_ble_eq_true rfl) dX2_order_209 (fun X hX => ?_)
                  replace hT := hT.p20 hX
                  clear hX
                  refine sw_aload_n 211 rfl rfl rfl dX2_order_210 ?_
                  refine gf_X2_13 214 rfl hT.obj rfl rfl dX2_order_211 ?_
                  refine sw_iload_n 215 rfl rfl dX2_order_214 ?_
                  refine sw_dup2 216 rfl rfl rfl dX2_order_215 ?_
                  refine sw_lald 217 rfl (hT.arr 5 rfl) (by omega) (Nat.le_of_ble_eq_true rfl) dX2_order_216 ?_
                  try simp only [sI_N, sI_L, sN_I, sN_L, sL_N, sL_I, sN_t, sI_t, sL_t, pOwe_N, pOwe_I, pOweBoth_N, pOweBoth_I, pTB_N, pTB_I, pGoBack_N, pOweOn_N, pOweOn_I, reduceIte, Nat.reduceEqDiff]
                  refine sw_aload_n 218 rfl rfl rfl dX2_order_217 ?_
                  refine gf_X2_48 221 rfl hT.obj rfl rfl dX2_order_218 ?_
                  refine sw_iload 223 rfl rfl dX2_order_221 ?_
                  refine sw_iald 224 rfl (hT.arr 17 rfl) (by omega) (Nat.le_of_ble_eq_true rfl) dX2_order_223 ?_
                  try simp only [sI_N, sI_L, sN_I, sN_L, sL_N, sL_I, sN_t, sI_t, sL_t, pOwe_N, pOwe_I, pOweBoth_N, pOweBoth_I, pTB_N, pTB_I, pGoBack_N, pOweOn_N, pOweOn_I, reduceIte, Nat.reduceEqDiff]
                  refine sw_i2l 225 rfl dX2_order_224 ?_
                  refine sw_topL (nI_l (by omega)) ?_
                  refine sw_ladd 226 rfl dX2_order_225 ?_
                  refine sw_topL (lN_add _ _) ?_
                  refine sw_last 227 rfl (hT.arr 5 rfl) (by omega) (Nat.le_of_ble_eq_true rfl) dX2_order_226 (fun X hX => ?_)
                  replace hT := hT.p5 hX
                  clear hX
                  refine sw_aload_n 228 rfl rfl rfl dX2_order_227 ?_
                  refine gf_X2_97 231 rfl hT.obj rfl rfl dX2_order_228 ?_
                  refine sw_iconst 232 rfl (nI 0) rfl dX2_order_231 ?_
                  refine sw_dup2 233 rfl rfl rfl dX2_order_232 ?_
                  refine sw_lald 234 rfl (hT.arr 34 rfl) (by omega) (Nat.le_of_ble_eq_true rfl) dX2_order_233 ?_
                  try simp only [sI_N, sI_L, sN_I, sN_L, sL_N, sL_I, sN_t, sI_t, sL_t, pOwe_N, pOwe_I, pOweBoth_N, pOweBoth_I, pTB_N, pTB_I, pGoBack_N, pOweOn_N, pOweOn_I, reduceIte, Nat.reduceEqDiff]
                  refine sw_aload_n 235 rfl rfl rfl dX2_order_234 ?_
                  refine gf_X2_48 238 rfl hT.obj rfl rfl dX2_order_235 ?_
                  refine sw_iload 240 rfl rfl dX2_order_238 ?_
                  refine sw_iald 241 rfl (hT.arr 17 rfl) (by omega) (Nat.le_of_ble_eq_true rfl) dX2_order_240 ?_
                  try simp only [sI_N, sI_L, sN_I, sN_L, sL_N, sL_I, sN_t, sI_t, sL_t, pOwe_N, pOwe_I, pOweBoth_N, pOweBoth_I, pTB_N, pTB_I, pGoBack_N, pOweOn_N, pOweOn_I, reduceIte, Nat.reduceEqDiff]
                  refine sw_i2l 242 rfl dX2_order_241 ?_
                  refine sw_topL (nI_l (by omega)) ?_
                  refine sw_ladd 243 rfl dX2_order_242 ?_
                  refine sw_last 244 rfl (hT.arr 34 rfl) (by omega) (Nat.le_of_ble_eq_true rfl) dX2_order_243 (fun X hX => ?_)
                  replace hT := hT.p34 hX
                  clear hX
                  refine sw_aload_n 245 rfl rfl rfl dX2_order_244 ?_
                  refine sw_iload 247 rfl rfl dX2_order_245 ?_
                  refine sw_iconst 248 rfl (nI 0) rfl dX2_order_247 ?_
                  refine sw_iload 250 rfl rfl dX2_order_248 ?_
                  have hP : LyO (pOrd (V.sI 0 0 (nI 0)) i m e) (V.1 14 0) 0 N := ⟨ho40, by omega, by omega, le_of_eq_le (sN_eq _ _ _ _) hm, by show V.1 21 (V.1 14 0) < _; rw [eW.1 21 (by omega) (by omega) (by omega), hfr _ (by rw [e14]; exact Nat.le_refl _)]; omega, fun k hk => by have := k3 k hk; exact ⟨show V.1 37 k < 12 by omega, show V.1 35 (V.1 37 k) ≤ 1200000 by omega⟩⟩
                  refine sw_callV 253 [] rfl cs_X2_174 rfl (Nat.le_of_ble_eq_true rfl) rfl hT.obj rfl rfl (ct_lay (S := pOrd (V.sI 0 0 (nI 0)) i m e) hT.1 (V.1 14 0) 0 N hP) rfl rfl (Nat.le_of_ble_eq_true rfl) dX2_order_250 (fun v X hq => ?_) (fun E X hq => by obtain ⟨hv, -⟩ := hq; cases hv)
                  obtain ⟨hv, hT1⟩ := hq
                  cases hv
                  replace hT := hT.tr hT1
                  clear hT1
                  have hlt4 : (pLay (pOrd (V.sI 0 0 (nI 0)) i m e) (V.1 14 0) 0 N).1 4 i < 8 := by rw [(pLay_v _ _ _ _).1 4 (by omega) (by omega) (by omega)]; exact ht4
                  refine sw_aload_n 254 rfl rfl rfl dX2_order_253 ?_
                  refine gf_X2_91 257 rfl hT.obj rfl rfl dX2_order_254 ?_
                  refine sw_aload_n 258 rfl rfl rfl dX2_order_257 ?_
                  refine gf_X2_7 261 rfl hT.obj rfl rfl dX2_order_258 ?_
                  refine sw_iload_n 262 rfl rfl dX2_order_261 ?_
                  refine sw_iald 263 rfl (hT.arr 4 rfl) (by omega) (Nat.le_of_ble_eq_true rfl) dX2_order_262 ?_
                  try simp only [sI_N, sI_L, sN_I, sN_L, sL_N, sL_I, sN_t, sI_t, sL_t, pOwe_N, pOwe_I, pOweBoth_N, pOweBoth_I, pTB_N, pTB_I, pGoBack_N, pOweOn_N, pOweOn_I, reduceIte, Nat.reduceEqDiff]
                  refine sw_dup2 264 rfl rfl rfl dX2_order_263 ?_
                  refine sw_iald 265 rfl (hT.arr 32 rfl) hlt4 (Nat.le_of_ble_eq_true rfl) dX2_order_264 ?_
                  try simp only [sI_N, sI_L, sN_I, sN_L, sL_N, sL_I, sN_t, sI_t, sL_t, pOwe_N, pOwe_I, pOweBoth_N, pOweBoth_I, pTB_N, pTB_I, pGoBack_N, pOweOn_N, pOweOn_I, reduceIte, Nat.reduceEqDiff]
                  refine sw_iload_n 266 rfl rfl dX2_order_265 ?_
                  refine sw_aload_n 267 rfl rfl rfl dX2_order_266 ?_
                  refine gf_X2_88 270 rfl hT.obj rfl rfl dX2_order_267 ?_
                  refine sw_aload_n 271 rfl rfl rfl dX2_order_270 ?_
                  refine gf_X2_7 274 rfl hT.obj rfl rfl dX2_order_271 ?_
                  refine sw_iload_n 275 rfl rfl dX2_order_274 ?_
                  refine sw_iald 276 rfl (hT.arr 4 rfl) (by omega) (Nat.le_of_ble_eq_true rfl) dX2_order_275 ?_
                  try simp only [sI_N, sI_L, sN_I, sN_L, sL_N, sL_I, sN_t, sI_t, sL_t, pOwe_N, pOwe_I, pOweBoth_N, pOweBoth_I, pTB_N, pTB_I, pGoBack_N, pOweOn_N, pOweOn_I, reduceIte, Nat.reduceEqDiff]
                  refine sw_iald 277 rfl (hT.arr 31 rfl) hlt4 (Nat.le_of_ble_eq_true rfl) dX2_order_276 ?_
                  try simp only [sI_N, sI_L, sN_I, sN_L, sL_N, sL_I, sN_t, sI_t, sL_t, pOwe_N, pOwe_I, pOweBoth_N, pOweBoth_I, pTB_N, pTB_I, pGoBack_N, pOweOn_N, pOweOn_I, reduceIte, Nat.reduceEqDiff]
                  refine sw_icmp_le 284 280 (by decide) rfl dX2_order_277 (fun c_277 => ?_) (fun c_277 => ?_)
                  · refine sw_iconst 285 rfl (nI 0) rfl dX2_order_284 ?_
                    refine sw_iadd 286 rfl dX2_order_285 ?_
                    refine sw_iast 287 rfl (hT.arr 32 rfl) hlt4 (Nat.le_of_ble_eq_true rfl) dX2_order_286 (fun X hX => ?_)
                    replace hT := hT.p32 hX
                    clear hX
                    refine sw_iload 289 rfl rfl dX2_order_287 ?_
                    refine sw_iret rfl rfl dX2_order_289 ?_
                    obtain ⟨-, z1, z2⟩ := ord_m eA eR eC (by rw [xi, xj, xm, hN]; omega)
                    rw [xi, xj, xm, hV, hN, ← congrFun e14 0] at z2
                    rw [z1, z2, ← congrFun e14 0]
                    refine ⟨rfl, hT.st ?_⟩
                    unfold pTold
                    rw [if_pos c_277]
                  · refine sw_iconst 281 rfl (nI 1) rfl dX2_order_280 ?_
                    refine sw_goto 285 (by decide) dX2_order_281 ?_
                    refine sw_iadd 286 rfl dX2_order_285 ?_
                    refine sw_iast 287 rfl (hT.arr 32 rfl) hlt4 (Nat.le_of_ble_eq_true rfl) dX2_order_286 (fun X hX => ?_)
                    replace hT := hT.p32 hX
                    clear hX
                    refine sw_iload 289 rfl rfl dX2_order_287 ?_
                    refine sw_iret rfl rfl dX2_order_289 ?_
                    obtain ⟨-, z1, z2⟩ := ord_m eA eR eC (by rw [xi, xj, xm, hN]; omega)
                    rw [xi, xj, xm, hV, hN, ← congrFun e14 0] at z2
                    rw [z1, z2, ← congrFun e14 0]
                    refine ⟨rfl, hT.st ?_⟩
                    unfold pTold
                    rw [if_neg c_277]
                · rw [show (0 : Int32) = nI 0 from rfl, nI_eq (by omega) (by omega)] at c_125
                  have eA : oAre S (nI i) (nI j) (nI q) := ⟨e_6, e_17⟩
                  have eR : oRt (nI i) (nI j) (nI m) e := ⟨fun z => c_29 ((nI_eq (by omega) (by omega)).mp z), e_39, e_51⟩
                  have eC : oCan S (nI q) := ⟨by omega, by rw [xq]; exact c_87⟩
                  refine sw_iconst 129 rfl (nI 3) rfl dX2_order_128 ?_
                  refine sw_goto 133 (by decide) dX2_order_129 ?_
                  refine sw_callV 136 [] rfl cs_X2_124 rfl (Nat.le_of_ble_eq_true rfl) rfl hT.obj rfl rfl (ct_goesWellK hT.1 3 (by omega) (by omega)) rfl rfl (Nat.le_of_ble_eq_true rfl) dX2_order_133 (fun v X hq => ?_) (fun E X hq => by obtain ⟨hv, -⟩ := hq; cases hv)
                  obtain ⟨hv, hT1⟩ := hq
                  cases hv
                  replace hT := hT.tr hT1
                  clear hT1
                  refine sw_if_ne 141 139 (by decide) rfl dX2_order_136 (fun c_136 => absurd (by decide) c_136) (fun c_136 => ?_)
                  clear c_136
                  refine sw_iconst 140 rfl (nI 0) rfl dX2_order_139 ?_
                  refine sw_iret rfl rfl dX2_order_140 ?_
                  obtain ⟨z1, z2⟩ := ord_n3 eA eR eC (by rw [xi, xj, xm, hN]; omega)
                  rw [xi, xj, xm, hV] at z2
                  exact ⟨by rw [z1], by rw [z2]; exact hT⟩

end T11
