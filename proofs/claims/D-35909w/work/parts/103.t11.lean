/-! the reference's orders: written by prog/gen_t11.py -/
set_option maxRecDepth 100000
section T11
variable {γ : Gm} {Mo : Nat} {aT : Nat → Nat} {X X0 : Sh} {S : TS} {K B : Nat}
set_option maxHeartbeats 4000000 in
theorem ct_way (hR : TwR γ Mo aT X S) (hw : WF K S) (hOW : OW B S) (hB : B ≤ 2 ^ 60) (a b c d : Int32) : Ev γ mX2_way [.ref Mo, .int a, .int b, .int c, .int d] X (fun oc X1 => oc = .inl (some (.int (rWay S a b c d))) ∧ TwF γ Mo aT X X1 (sWay S a b c d)) := by
  have hT := TwF.rf hR
  have hnb := hw.nb
  have hno := hw.no
  have hnc := hw.nc
  have hhr := hw.hr
  have hO := hOW.OB hB
  refine Ev.of (lv := [_, _, _, _, _, _, _]) 2 ⟨by decide +kernel, rfl, (Nat.le_of_ble_eq_true rfl)⟩ rfl ?_
  refine sw_aload_n 1 rfl rfl rfl dX2_way_0 ?_
  refine sw_iload_n 2 rfl rfl dX2_way_1 ?_
  refine sw_iload_n 3 rfl rfl dX2_way_2 ?_
  refine sw_callV 6 [] rfl cs_X2_127 rfl (Nat.le_of_ble_eq_true rfl) rfl hT.obj rfl rfl (ct_areBrokers hT.1 (by omega) _ _) rfl rfl (Nat.le_of_ble_eq_true rfl) dX2_way_3 (fun v X hq => ?_) (fun E X hq => by obtain ⟨hv, -⟩ := hq; cases hv)
  obtain ⟨hv, hT1⟩ := hq
  cases hv
  replace hT := hT.tr hT1
  clear hT1
  refine sw_if_eq 18 9 (by decide) rfl dX2_way_6 (fun c_6 => ?_) (fun c_6 => ?_)
  · rw [b2_0] at c_6
    have e_6 := c_6
    refine sw_iconst 19 rfl (nI 0) rfl dX2_way_18 ?_
    refine sw_istore 21 rfl [_, _, _, _, _, _, _] (Nat.le_of_ble_eq_true rfl) rfl dX2_way_19 ?_
    refine sw_aload_n 22 rfl rfl rfl dX2_way_21 ?_
    refine sw_iload 24 rfl rfl dX2_way_22 ?_
    refine sw_if_ne 31 27 (by decide) rfl dX2_way_24 (fun c_24 => absurd (by decide) c_24) (fun c_24 => ?_)
    clear c_24
    refine sw_iconst 28 rfl (nI 1) rfl dX2_way_27 ?_
    refine sw_goto 51 (by decide) dX2_way_28 ?_
    refine sw_callV 54 [] rfl cs_X2_124 rfl (Nat.le_of_ble_eq_true rfl) rfl hT.obj rfl rfl (ct_goesWellK hT.1 1 (by omega) (by omega)) rfl rfl (Nat.le_of_ble_eq_true rfl) dX2_way_51 (fun v X hq => ?_) (fun E X hq => by obtain ⟨hv, -⟩ := hq; cases hv)
    obtain ⟨hv, hT1⟩ := hq
    cases hv
    replace hT := hT.tr hT1
    clear hT1
    refine sw_if_ne 59 57 (by decide) rfl dX2_way_54 (fun c_54 => absurd (by decide) c_54) (fun c_54 => ?_)
    clear c_54
    refine sw_iconst 58 rfl (nI 0) rfl dX2_way_57 ?_
    refine sw_iret rfl rfl dX2_way_58 ?_
    exact ⟨by simp [rWay, kWay, cif, e_6], hT.st (by simp [sWay, kWay, cif, tk, e_6])⟩
  · rw [b2_n] at c_6
    have e_6 := c_6
    obtain ⟨⟨i, hi, rfl⟩, ⟨j, hj, rfl⟩⟩ := c_6
    have xi : ix (nI i) = i := ix_nI (by omega)
    have xj : ix (nI j) = j := ix_nI (by omega)
    refine sw_iload 11 rfl rfl dX2_way_9 ?_
    refine sw_if_lt 18 14 (by decide) rfl dX2_way_11 (fun c_11 => ?_) (fun c_11 => ?_)
    · refine sw_iconst 19 rfl (nI 0) rfl dX2_way_18 ?_
      refine sw_istore 21 rfl [_, _, _, _, _, _, _] (Nat.le_of_ble_eq_true rfl) rfl dX2_way_19 ?_
      refine sw_aload_n 22 rfl rfl rfl dX2_way_21 ?_
      refine sw_iload 24 rfl rfl dX2_way_22 ?_
      refine sw_if_ne 31 27 (by decide) rfl dX2_way_24 (fun c_24 => absurd (by decide) c_24) (fun c_24 => ?_)
      clear c_24
      refine sw_iconst 28 rfl (nI 1) rfl dX2_way_27 ?_
      refine sw_goto 51 (by decide) dX2_way_28 ?_
      refine sw_callV 54 [] rfl cs_X2_124 rfl (Nat.le_of_ble_eq_true rfl) rfl hT.obj rfl rfl (ct_goesWellK hT.1 1 (by omega) (by omega)) rfl rfl (Nat.le_of_ble_eq_true rfl) dX2_way_51 (fun v X hq => ?_) (fun E X hq => by obtain ⟨hv, -⟩ := hq; cases hv)
      obtain ⟨hv, hT1⟩ := hq
      cases hv
      replace hT := hT.tr hT1
      clear hT1
      refine sw_if_ne 59 57 (by decide) rfl dX2_way_54 (fun c_54 => absurd (by decide) c_54) (fun c_54 => ?_)
      clear c_54
      refine sw_iconst 58 rfl (nI 0) rfl dX2_way_57 ?_
      refine sw_iret rfl rfl dX2_way_58 ?_
      exact ⟨by simp [rWay, kWay, cif, e_6, xi, xj, c_11], hT.st (by simp [sWay, kWay, cif, tk, e_6, xi, xj, c_11])⟩
    · obtain ⟨p, hp, rfl⟩ := nI_of c_11
      have xp : ix (nI p) = p := ix_nI hp
      refine sw_iconst 15 rfl (nI 1) rfl dX2_way_14 ?_
      refine sw_goto 19 (by decide) dX2_way_15 ?_
      refine sw_istore 21 rfl [_, _, _, _, _, _, _] (Nat.le_of_ble_eq_true rfl) rfl dX2_way_19 ?_
      refine sw_aload_n 22 rfl rfl rfl dX2_way_21 ?_
      refine sw_iload 24 rfl rfl dX2_way_22 ?_
      refine sw_if_ne 31 27 (by decide) rfl dX2_way_24 (fun c_24 => ?_) (fun c_24 => absurd c_24 (by decide))
      clear c_24
      refine sw_iload_n 32 rfl rfl dX2_way_31 ?_
      refine sw_iload_n 33 rfl rfl dX2_way_32 ?_
      refine sw_icmp_eq 50 36 (by decide) rfl dX2_way_33 (fun c_33 => ?_) (fun c_33 => ?_)
      · rw [nI_eq (by omega) (by omega)] at c_33
        refine sw_iconst 51 rfl (nI 2) rfl dX2_way_50 ?_
        refine sw_callV 54 [] rfl cs_X2_124 rfl (Nat.le_of_ble_eq_true rfl) rfl hT.obj rfl rfl (ct_goesWellK hT.1 2 (by omega) (by omega)) rfl rfl (Nat.le_of_ble_eq_true rfl) dX2_way_51 (fun v X hq => ?_) (fun E X hq => by obtain ⟨hv, -⟩ := hq; cases hv)
        obtain ⟨hv, hT1⟩ := hq
        cases hv
        replace hT := hT.tr hT1
        clear hT1
        refine sw_if_ne 59 57 (by decide) rfl dX2_way_54 (fun c_54 => absurd (by decide) c_54) (fun c_54 => ?_)
        clear c_54
        refine sw_iconst 58 rfl (nI 0) rfl dX2_way_57 ?_
        refine sw_iret rfl rfl dX2_way_58 ?_
        subst c_33
        exact ⟨by simp [rWay, kWay, cif, e_6, c_11, hi, hj], hT.st (by simp [sWay, kWay, cif, tk, e_6, c_11, hi, hj])⟩
      · rw [nI_eq (by omega) (by omega)] at c_33
        refine sw_iload_n 37 rfl rfl dX2_way_36 ?_
        refine sw_iconst 38 rfl (nI 1) rfl dX2_way_37 ?_
        refine sw_ldc 40 rfl q922 dX2_way_38 ?_
        refine sw_topI (show (1000000 : Int32) = nI 1000000 from rfl) ?_
        refine sw_callS 43 [_] rfl cs_X2_116 rfl (Nat.le_of_ble_eq_true rfl) rfl (ct_in1 _ 1000000 (by omega)) rfl rfl (Nat.le_of_ble_eq_true rfl) dX2_way_40 (fun v X hq => ?_) (fun E X hq => by obtain ⟨hv, -⟩ := hq; cases hv)
        obtain ⟨hv, rfl⟩ := hq
        cases hv
        refine sw_if_eq 50 46 (by decide) rfl dX2_way_43 (fun c_43 => ?_) (fun c_43 => ?_)
        · rw [b2_0] at c_43
          have e_43 := c_43
          refine sw_iconst 51 rfl (nI 2) rfl dX2_way_50 ?_
          refine sw_callV 54 [] rfl cs_X2_124 rfl (Nat.le_of_ble_eq_true rfl) rfl hT.obj rfl rfl (ct_goesWellK hT.1 2 (by omega) (by omega)) rfl rfl (Nat.le_of_ble_eq_true rfl) dX2_way_51 (fun v X hq => ?_) (fun E X hq => by obtain ⟨hv, -⟩ := hq; cases hv)
          obtain ⟨hv, hT1⟩ := hq
          cases hv
          replace hT := hT.tr hT1
          clear hT1
          refine sw_if_ne 59 57 (by decide) rfl dX2_way_54 (fun c_54 => absurd (by decide) c_54) (fun c_54 => ?_)
          clear c_54
          refine sw_iconst 58 rfl (nI 0) rfl dX2_way_57 ?_
          refine sw_iret rfl rfl dX2_way_58 ?_
          exact ⟨by simp [rWay, kWay, cif, e_6, xi, xj, c_11, xp, c_33, e_43], hT.st (by simp [sWay, kWay, cif, tk, e_6, xi, xj, c_11, xp, c_33, e_43])⟩
        · rw [b2_n] at c_43
          have e_43 := c_43
          obtain ⟨m, hm1, hm, rfl⟩ := c_43
          have xm : ix (nI m) = m := ix_nI (by omega)
          refine sw_iconst 47 rfl (nI 0) rfl dX2_way_46 ?_
          refine sw_goto 51 (by decide) dX2_way_47 ?_
          refine sw_callV 54 [] rfl cs_X2_124 rfl (Nat.le_of_ble_eq_true rfl) rfl hT.obj rfl rfl (ct_goesWell0 hT.1) rfl rfl (Nat.le_of_ble_eq_true rfl) dX2_way_51 (fun v X hq => ?_) (fun E X hq => by obtain ⟨hv, -⟩ := hq; cases hv)
          obtain ⟨hv, hT1⟩ := hq
          cases hv
          replace hT := hT.tr hT1
          clear hT1
          refine sw_if_ne 59 57 (by decide) rfl dX2_way_54 (fun c_54 => ?_) (fun c_54 => absurd c_54 (by decide))
          clear c_54
          refine sw_aload_n 60 rfl rfl rfl dX2_way_59 ?_
          refine sw_iload_n 61 rfl rfl dX2_way_60 ?_
          refine sw_iload_n 62 rfl rfl dX2_way_61 ?_
          refine sw_iload_n 63 rfl rfl dX2_way_62 ?_
          refine sw_iconst 64 rfl (nI 0) rfl dX2_way_63 ?_
          have hw9 : WF K (S.sI 0 0 (nI 0)) := hw.thrown _
          have hO9 : OB (S.sI 0 0 (nI 0)) := hO
          have hpl := pLen_le (w := 0) hw9 hO9 hm (show i < (S.sI 0 0 (nI 0)).1 3 0 from hi) (show j < (S.sI 0 0 (nI 0)).1 3 0 from hj)
          have hk : kWay S (nI i) (nI j) (nI m) (nI p) = 0 := by
              have n33 : ¬ nI i = nI j := fun q => c_33 ((nI_eq (by omega) (by omega)).mp q)
              simp [kWay, cif, e_6, c_11, n33, e_43]
          have es : sWay S (nI i) (nI j) (nI m) (nI p) = pFind (S.sI 0 0 (nI 0)) i j m 0 := by rw [sWay, cif_t hk, xi, xj, xm]; rfl
          have er : rWay S (nI i) (nI j) (nI m) (nI p) = cif (p < pLen (S.sI 0 0 (nI 0)) i j m 0) (nI ((pFind (S.sI 0 0 (nI 0)) i j m 0).1 37 p)) (-1) := by rw [rWay, cif_t hk, es, xi, xj, xm, xp]; rfl
          refine sw_callV 67 [] rfl cs_X2_170 rfl (Nat.le_of_ble_eq_true rfl) rfl hT.obj rfl rfl (ct_findWay hT.1 hw9 hO9 hm hi hj (by omega)) rfl rfl (Nat.le_of_ble_eq_true rfl) dX2_way_64 (fun v X hq => ?_) (fun E X hq => by obtain ⟨hv, -⟩ := hq; cases hv)
          obtain ⟨hv, hT1⟩ := hq
          cases hv
          replace hT := hT.tr hT1
          clear hT1
          refine sw_istore 69 rfl [_, _, _, _, _, _, _] (Nat.le_of_ble_eq_true rfl) rfl dX2_way_67 ?_
          refine sw_iload 71 rfl rfl dX2_way_69 ?_
          refine sw_iload 73 rfl rfl dX2_way_71 ?_
          refine sw_icmp_ge 86 76 (by decide) rfl dX2_way_73 (fun c_73 => ?_) (fun c_73 => ?_)
          · rw [nI_leI (by omega) (by omega)] at c_73
            refine sw_iconst 87 rfl (-1) rfl dX2_way_86 ?_
            refine sw_iret rfl rfl dX2_way_87 ?_
            exact ⟨by rw [er, cif_f (Nat.not_lt.mpr c_73)], by rw [es]; exact hT⟩
          · rw [nI_leI (by omega) (by omega)] at c_73
            refine sw_aload_n 77 rfl rfl rfl dX2_way_76 ?_
            refine gf_X2_106 80 rfl hT.obj rfl rfl dX2_way_77 ?_
            refine sw_iload 82 rfl rfl dX2_way_80 ?_
            refine sw_iald 83 rfl (hT.arr 37 rfl) (show p < 12 by omega) (Nat.le_of_ble_eq_true rfl) dX2_way_82 ?_
            try simp only [sI_N, sI_L, sN_I, sN_L, sL_N, sL_I, sN_t, sI_t, sL_t, pOwe_N, pOwe_I, pOweBoth_N, pOweBoth_I, pTB_N, pTB_I, pGoBack_N, pOweOn_N, pOweOn_I, reduceIte, Nat.reduceEqDiff]
            refine sw_goto 87 (by decide) dX2_way_83 ?_
            refine sw_iret rfl rfl dX2_way_87 ?_
            exact ⟨by rw [er, cif_t (Nat.not_le.mp c_73)], by rw [es]; exact hT⟩

end T11
