/-! the reference's further calls: written by prog/gen_t4.py -/
set_option maxRecDepth 100000
section T4
variable {γ : Gm} {Mo : Nat} {aT : Nat → Nat} {X X0 : Sh} {S : TS} {K : Nat}
set_option maxHeartbeats 4000000 in
theorem lp_net {b : Nat} {w : Int32} {Q : Ot → Sh → Prop} (hb : b < 12) (hT : TwF γ Mo aT X0 X S) (hw : WF K S) (hex : SW γ mX2_brokerOf X0 X 80 [some (.ref Mo), some (.int (nI b)), some (.int w), none, some (.long (pNet S b (S.1 3 0))), none, none] [] Q) : ∀ (n k : Nat), k + n = S.1 3 0 → SW γ mX2_brokerOf X0 X 48 [some (.ref Mo), some (.int (nI b)), some (.int w), none, some (.long (pNet S b k)), none, some (.int (nI k))] [] Q := by
  have hnb := hw.nb
  intro n
  induction n with
  | zero =>
    intro k hn
    refine sw_iload 50 rfl rfl dX2_brokerOf_48 ?_
    refine sw_aload_n 51 rfl rfl rfl dX2_brokerOf_50 ?_
    refine gf_X2_113 54 rfl hT.obj rfl rfl dX2_brokerOf_51 ?_
    refine sw_icmp_ge 80 57 (by decide) rfl dX2_brokerOf_54 (fun c_54 => ?_) (fun c_54 => absurd (nI_le (by omega) (by omega)) c_54)
    clear c_54
    have e9 : k = S.1 3 0 := by omega
    subst e9
    exact sw_fgt (lvle_c (lvle_c (lvle_c (lvle_c (lvle_c (lvle_c (lvle_n lvle_nil))))))) hex
  | succ n ih =>
    intro k hn
    refine sw_iload 50 rfl rfl dX2_brokerOf_48 ?_
    refine sw_aload_n 51 rfl rfl rfl dX2_brokerOf_50 ?_
    refine gf_X2_113 54 rfl hT.obj rfl rfl dX2_brokerOf_51 ?_
    refine sw_icmp_ge 80 57 (by decide) rfl dX2_brokerOf_54 (fun c_54 => absurd c_54 (nI_ge (by omega) (by omega))) (fun c_54 => ?_)
    clear c_54
    refine sw_lload 59 rfl rfl dX2_brokerOf_57 ?_
    refine sw_aload_n 60 rfl rfl rfl dX2_brokerOf_59 ?_
    refine gf_X2_36 63 rfl hT.obj rfl rfl dX2_brokerOf_60 ?_
    refine sw_bipush 65 rfl (nI 12) rfl dX2_brokerOf_63 ?_
    refine sw_iload_n 66 rfl rfl dX2_brokerOf_65 ?_
    refine sw_imulN 67 rfl dX2_brokerOf_66 ?_
    refine sw_iload 69 rfl rfl dX2_brokerOf_67 ?_
    refine sw_iaddN 70 rfl dX2_brokerOf_69 ?_
    refine sw_lald 71 rfl (hT.arr 12 rfl) (by omega) (Nat.le_of_ble_eq_true rfl) dX2_brokerOf_70 ?_
    refine sw_lsub 72 rfl dX2_brokerOf_71 ?_
    refine sw_lstore 74 rfl [_, _, _, _, _, _, _] (Nat.le_of_ble_eq_true rfl) rfl dX2_brokerOf_72 ?_
    refine sw_iinc 77 rfl [_, _, _, _, _, _, _] (nI (_ + 1)) rfl (nI_add _ 1) (Nat.le_of_ble_eq_true rfl) rfl dX2_brokerOf_74 ?_
    refine sw_goto 48 (by decide) dX2_brokerOf_77 ?_
    exact ih (k + 1) (by omega)
set_option maxHeartbeats 4000000 in
theorem ct_brokerOf (hR : TwR γ Mo aT X S) (hw : WF K S) (a b : Int32) : Ev γ mX2_brokerOf [.ref Mo, .int a, .int b] X (fun oc X1 => oc = .inl (some (.long (rOf S a b))) ∧ TwF γ Mo aT X X1 (tk S (kOf S a b))) := by
  have hT := TwF.rf hR
  have hnb := hw.nb
  have hno := hw.no
  have hnc := hw.nc
  have hhr := hw.hr
  refine Ev.of (lv := [_, _, _, _, _, _, _]) 4 ⟨by decide +kernel, rfl, (Nat.le_of_ble_eq_true rfl)⟩ rfl ?_
  refine sw_aload_n 1 rfl rfl rfl dX2_brokerOf_0 ?_
  refine sw_iload_n 2 rfl rfl dX2_brokerOf_1 ?_
  refine sw_callV 5 [] rfl cs_X2_120 rfl (Nat.le_of_ble_eq_true rfl) rfl hT.obj rfl rfl (ct_isBroker hT.1 (by omega) _) rfl rfl (Nat.le_of_ble_eq_true rfl) dX2_brokerOf_2 (fun v X hq => ?_) (fun E X hq => by obtain ⟨hv, -⟩ := hq; cases hv)
  obtain ⟨hv, hT1⟩ := hq
  cases hv
  replace hT := hT.tr hT1
  clear hT1
  refine sw_istore_n 6 rfl [_, _, _, _, _, _, _] (Nat.le_of_ble_eq_true rfl) rfl dX2_brokerOf_5 ?_
  refine sw_aload_n 7 rfl rfl rfl dX2_brokerOf_6 ?_
  refine sw_iload_n 8 rfl rfl dX2_brokerOf_7 ?_
  refine sw_if_ne 15 11 (by decide) rfl dX2_brokerOf_8 (fun c_8 => ?_) (fun c_8 => ?_)
  · rw [b2_n] at c_8
    have e_8 := c_8
    obtain ⟨i, hi, rfl⟩ := c_8
    have xi : ix (nI i) = i := ix_nI (by omega)
    refine sw_iload_n 16 rfl rfl dX2_brokerOf_15 ?_
    refine sw_iconst 17 rfl (nI 0) rfl dX2_brokerOf_16 ?_
    refine sw_iconst 18 rfl (nI 3) rfl dX2_brokerOf_17 ?_
    refine sw_callS 21 [_] rfl cs_X2_116 rfl (Nat.le_of_ble_eq_true rfl) rfl (ct_in0 _ 3 (by omega)) rfl rfl (Nat.le_of_ble_eq_true rfl) dX2_brokerOf_18 (fun v X hq => ?_) (fun E X hq => by obtain ⟨hv, -⟩ := hq; cases hv)
    obtain ⟨hv, rfl⟩ := hq
    cases hv
    refine sw_if_eq 28 24 (by decide) rfl dX2_brokerOf_21 (fun c_21 => ?_) (fun c_21 => ?_)
    · rw [b2_0] at c_21
      have e_21 := c_21
      refine sw_iconst 29 rfl (nI 2) rfl dX2_brokerOf_28 ?_
      refine sw_callV 32 [] rfl cs_X2_124 rfl (Nat.le_of_ble_eq_true rfl) rfl hT.obj rfl rfl (ct_goesWellK hT.1 2 (by omega) (by omega)) rfl rfl (Nat.le_of_ble_eq_true rfl) dX2_brokerOf_29 (fun v X hq => ?_) (fun E X hq => by obtain ⟨hv, -⟩ := hq; cases hv)
      obtain ⟨hv, hT1⟩ := hq
      cases hv
      replace hT := hT.tr hT1
      clear hT1
      refine sw_if_ne 37 35 (by decide) rfl dX2_brokerOf_32 (fun c_32 => absurd (by decide) c_32) (fun c_32 => ?_)
      clear c_32
      refine sw_lconst 36 rfl 0 rfl dX2_brokerOf_35 ?_
      refine sw_lret rfl dX2_brokerOf_36 ?_
      exact ⟨by simp [rOf, kOf, cif, e_8, xi, e_21], hT.st (by simp [kOf, cif, tk, e_8, xi, e_21])⟩
    · rw [b2_n] at c_21
      have e_21 := c_21
      obtain ⟨j, hj, rfl⟩ := c_21
      have xj : ix (nI j) = j := ix_nI (by omega)
      refine sw_iconst 25 rfl (nI 0) rfl dX2_brokerOf_24 ?_
      refine sw_goto 29 (by decide) dX2_brokerOf_25 ?_
      refine sw_callV 32 [] rfl cs_X2_124 rfl (Nat.le_of_ble_eq_true rfl) rfl hT.obj rfl rfl (ct_goesWell0 hT.1) rfl rfl (Nat.le_of_ble_eq_true rfl) dX2_brokerOf_29 (fun v X hq => ?_) (fun E X hq => by obtain ⟨hv, -⟩ := hq; cases hv)
      obtain ⟨hv, hT1⟩ := hq
      cases hv
      replace hT := hT.tr hT1
      clear hT1
      refine sw_if_ne 37 35 (by decide) rfl dX2_brokerOf_32 (fun c_32 => ?_) (fun c_32 => absurd c_32 (by decide))
      clear c_32
      refine sw_aload_n 38 rfl rfl rfl dX2_brokerOf_37 ?_
      refine gf_X2_13 41 rfl hT.obj rfl rfl dX2_brokerOf_38 ?_
      refine sw_iload_n 42 rfl rfl dX2_brokerOf_41 ?_
      refine sw_lald 43 rfl (hT.arr 5 rfl) (by omega) (Nat.le_of_ble_eq_true rfl) dX2_brokerOf_42 ?_
      try simp only [sI_N, sI_L, sN_I, sN_L, sL_N, sL_I, sN_t, sI_t, sL_t, pOwe_N, pOwe_I, pOweBoth_N, pOweBoth_I, pTB_N, pTB_I, pGoBack_N, pOweOn_N, pOweOn_I, reduceIte, Nat.reduceEqDiff]
      refine sw_lstore 45 rfl [_, _, _, _, _, _, _] (Nat.le_of_ble_eq_true rfl) rfl dX2_brokerOf_43 ?_
      refine sw_iconst 46 rfl (nI 0) rfl dX2_brokerOf_45 ?_
      refine sw_istore 48 rfl [_, _, _, _, _, _, _] (Nat.le_of_ble_eq_true rfl) rfl dX2_brokerOf_46 ?_
      refine sw_fgt (lvle_c (lvle_c (lvle_c (lvle_n (lvle_c (lvle_c (lvle_c lvle_nil))))))) ?_
      refine lp_net (S := S.sI 0 0 (nI 0)) (by omega) hT (hw.thrown _) ?_ (S.1 3 0) 0 (Nat.zero_add _)
      have hk : kOf S (nI i) (nI j) = 0 := by simp [kOf, cif, e_8, e_21]
      have htn := hw.town (show i < 12 by omega)
      refine sw_iload_n 81 rfl rfl dX2_brokerOf_80 ?_
      refine sw_if_ne 94 84 (by decide) rfl dX2_brokerOf_81 (fun c_81 => ?_) (fun c_81 => ?_)
      · refine sw_iload_n 95 rfl rfl dX2_brokerOf_94 ?_
        refine sw_iconst 96 rfl (nI 1) rfl dX2_brokerOf_95 ?_
        refine sw_icmp_ne 108 99 (by decide) rfl dX2_brokerOf_96 (fun c_96 => ?_) (fun c_96 => ?_)
        · refine sw_iload_n 109 rfl rfl dX2_brokerOf_108 ?_
          refine sw_iconst 110 rfl (nI 2) rfl dX2_brokerOf_109 ?_
          refine sw_icmp_ne 123 113 (by decide) rfl dX2_brokerOf_110 (fun c_110 => ?_) (fun c_110 => ?_)
          · refine sw_lload 125 rfl rfl dX2_brokerOf_123 ?_
            refine sw_lret rfl dX2_brokerOf_125 ?_
            exact ⟨by rw [rOf, cif_t hk, xi, if_neg c_81, if_neg c_96, if_neg c_110, show (S.sI 0 0 (nI 0)).1 3 0 = S.1 3 0 from rfl, pNet_c (S := S) (S' := S.sI 0 0 (nI 0)) rfl (fun _ => rfl)], hT.st (by rw [hk]; rfl)⟩
          · refine sw_aload_n 114 rfl rfl rfl dX2_brokerOf_113 ?_
            refine gf_X2_7 117 rfl hT.obj rfl rfl dX2_brokerOf_114 ?_
            refine sw_iload_n 118 rfl rfl dX2_brokerOf_117 ?_
            refine sw_iald 119 rfl (hT.arr 4 rfl) (by omega) (Nat.le_of_ble_eq_true rfl) dX2_brokerOf_118 ?_
            try simp only [sI_N, sI_L, sN_I, sN_L, sL_N, sL_I, sN_t, sI_t, sL_t, pOwe_N, pOwe_I, pOweBoth_N, pOweBoth_I, pTB_N, pTB_I, pGoBack_N, pOweOn_N, pOweOn_I, reduceIte, Nat.reduceEqDiff]
            refine sw_i2l 120 rfl dX2_brokerOf_119 ?_
            refine sw_topL (nI_l (by omega)) ?_
            refine sw_goto 125 (by decide) dX2_brokerOf_120 ?_
            refine sw_lret rfl dX2_brokerOf_125 ?_
            exact ⟨by rw [rOf, cif_t hk, xi, if_neg c_81, if_neg c_96, if_pos c_110], hT.st (by rw [hk]; rfl)⟩
        · refine sw_aload_n 100 rfl rfl rfl dX2_brokerOf_99 ?_
          refine gf_X2_13 103 rfl hT.obj rfl rfl dX2_brokerOf_100 ?_
          refine sw_iload_n 104 rfl rfl dX2_brokerOf_103 ?_
          refine sw_lald 105 rfl (hT.arr 5 rfl) (by omega) (Nat.le_of_ble_eq_true rfl) dX2_brokerOf_104 ?_
          try simp only [sI_N, sI_L, sN_I, sN_L, sL_N, sL_I, sN_t, sI_t, sL_t, pOwe_N, pOwe_I, pOweBoth_N, pOweBoth_I, pTB_N, pTB_I, pGoBack_N, pOweOn_N, pOweOn_I, reduceIte, Nat.reduceEqDiff]
          refine sw_goto 125 (by decide) dX2_brokerOf_105 ?_
          refine sw_lret rfl dX2_brokerOf_125 ?_
          exact ⟨by rw [rOf, cif_t hk, xi, if_neg c_81, if_pos c_96], hT.st (by rw [hk]; rfl)⟩
      · refine sw_aload_n 85 rfl rfl rfl dX2_brokerOf_84 ?_
        refine gf_X2_20 88 rfl hT.obj rfl rfl dX2_brokerOf_85 ?_
        refine sw_iload_n 89 rfl rfl dX2_brokerOf_88 ?_
        refine sw_iald 90 rfl (hT.arr 7 rfl) (by omega) (Nat.le_of_ble_eq_true rfl) dX2_brokerOf_89 ?_
        try simp only [sI_N, sI_L, sN_I, sN_L, sL_N, sL_I, sN_t, sI_t, sL_t, pOwe_N, pOwe_I, pOweBoth_N, pOweBoth_I, pTB_N, pTB_I, pGoBack_N, pOweOn_N, pOweOn_I, reduceIte, Nat.reduceEqDiff]
        refine sw_i2l 91 rfl dX2_brokerOf_90 ?_
        refine sw_goto 125 (by decide) dX2_brokerOf_91 ?_
        refine sw_lret rfl dX2_brokerOf_125 ?_
        exact ⟨by rw [rOf, cif_t hk, xi, if_pos c_81], hT.st (by rw [hk]; rfl)⟩
  · rw [b2_0] at c_8
    have e_8 := c_8
    refine sw_iconst 12 rfl (nI 1) rfl dX2_brokerOf_11 ?_
    refine sw_goto 29 (by decide) dX2_brokerOf_12 ?_
    refine sw_callV 32 [] rfl cs_X2_124 rfl (Nat.le_of_ble_eq_true rfl) rfl hT.obj rfl rfl (ct_goesWellK hT.1 1 (by omega) (by omega)) rfl rfl (Nat.le_of_ble_eq_true rfl) dX2_brokerOf_29 (fun v X hq => ?_) (fun E X hq => by obtain ⟨hv, -⟩ := hq; cases hv)
    obtain ⟨hv, hT1⟩ := hq
    cases hv
    replace hT := hT.tr hT1
    clear hT1
    refine sw_if_ne 37 35 (by decide) rfl dX2_brokerOf_32 (fun c_32 => absurd (by decide) c_32) (fun c_32 => ?_)
    clear c_32
    refine sw_lconst 36 rfl 0 rfl dX2_brokerOf_35 ?_
    refine sw_lret rfl dX2_brokerOf_36 ?_
    exact ⟨by simp [rOf, kOf, cif, e_8], hT.st (by simp [kOf, cif, tk, e_8])⟩

set_option maxHeartbeats 4000000 in
theorem ct_orderOf (hR : TwR γ Mo aT X S) (hw : WF K S) (a b : Int32) : Ev γ mX2_orderOf [.ref Mo, .int a, .int b] X (fun oc X1 => oc = .inl (some (.int (rOrderOf S a b))) ∧ TwF γ Mo aT X X1 (tk S (kOrderOf S a b))) := by
  have hT := TwF.rf hR
  have hnb := hw.nb
  have hno := hw.no
  have hnc := hw.nc
  have hhr := hw.hr
  refine Ev.of (lv := [_, _, _, _]) 1 ⟨by decide +kernel, rfl, (Nat.le_of_ble_eq_true rfl)⟩ rfl ?_
  refine sw_aload_n 1 rfl rfl rfl dX2_orderOf_0 ?_
  refine sw_iload_n 2 rfl rfl dX2_orderOf_1 ?_
  refine sw_callV 5 [] rfl cs_X2_197 rfl (Nat.le_of_ble_eq_true rfl) rfl hT.obj rfl rfl (ct_isOrder hT.1 (by omega) _) rfl rfl (Nat.le_of_ble_eq_true rfl) dX2_orderOf_2 (fun v X hq => ?_) (fun E X hq => by obtain ⟨hv, -⟩ := hq; cases hv)
  obtain ⟨hv, hT1⟩ := hq
  cases hv
  replace hT := hT.tr hT1
  clear hT1
  refine sw_istore_n 6 rfl [_, _, _, _] (Nat.le_of_ble_eq_true rfl) rfl dX2_orderOf_5 ?_
  refine sw_aload_n 7 rfl rfl rfl dX2_orderOf_6 ?_
  refine sw_iload_n 8 rfl rfl dX2_orderOf_7 ?_
  refine sw_if_ne 15 11 (by decide) rfl dX2_orderOf_8 (fun c_8 => ?_) (fun c_8 => ?_)
  · rw [b2_n] at c_8
    have e_8 := c_8
    obtain ⟨i, hi, rfl⟩ := c_8
    have xi : ix (nI i) = i := ix_nI (by omega)
    refine sw_iload_n 16 rfl rfl dX2_orderOf_15 ?_
    refine sw_iconst 17 rfl (nI 0) rfl dX2_orderOf_16 ?_
    refine sw_iconst 18 rfl (nI 5) rfl dX2_orderOf_17 ?_
    refine sw_callS 21 [_] rfl cs_X2_116 rfl (Nat.le_of_ble_eq_true rfl) rfl (ct_in0 _ 5 (by omega)) rfl rfl (Nat.le_of_ble_eq_true rfl) dX2_orderOf_18 (fun v X hq => ?_) (fun E X hq => by obtain ⟨hv, -⟩ := hq; cases hv)
    obtain ⟨hv, rfl⟩ := hq
    cases hv
    refine sw_if_eq 28 24 (by decide) rfl dX2_orderOf_21 (fun c_21 => ?_) (fun c_21 => ?_)
    · rw [b2_0] at c_21
      have e_21 := c_21
      refine sw_iconst 29 rfl (nI 2) rfl dX2_orderOf_28 ?_
      refine sw_callV 32 [] rfl cs_X2_124 rfl (Nat.le_of_ble_eq_true rfl) rfl hT.obj rfl rfl (ct_goesWellK hT.1 2 (by omega) (by omega)) rfl rfl (Nat.le_of_ble_eq_true rfl) dX2_orderOf_29 (fun v X hq => ?_) (fun E X hq => by obtain ⟨hv, -⟩ := hq; cases hv)
      obtain ⟨hv, hT1⟩ := hq
      cases hv
      replace hT := hT.tr hT1
      clear hT1
      refine sw_if_ne 37 35 (by decide) rfl dX2_orderOf_32 (fun c_32 => absurd (by decide) c_32) (fun c_32 => ?_)
      clear c_32
      refine sw_iconst 36 rfl (nI 0) rfl dX2_orderOf_35 ?_
      refine sw_iret rfl rfl dX2_orderOf_36 ?_
      exact ⟨by simp [rOrderOf, kOrderOf, cif, e_8, xi, e_21], hT.st (by simp [kOrderOf, cif, tk, e_8, xi, e_21])⟩
    · rw [b2_n] at c_21
      have e_21 := c_21
      obtain ⟨j, hj, rfl⟩ := c_21
      have xj : ix (nI j) = j := ix_nI (by omega)
      refine sw_iconst 25 rfl (nI 0) rfl dX2_orderOf_24 ?_
      refine sw_goto 29 (by decide) dX2_orderOf_25 ?_
      refine sw_callV 32 [] rfl cs_X2_124 rfl (Nat.le_of_ble_eq_true rfl) rfl hT.obj rfl rfl (ct_goesWell0 hT.1) rfl rfl (Nat.le_of_ble_eq_true rfl) dX2_orderOf_29 (fun v X hq => ?_) (fun E X hq => by obtain ⟨hv, -⟩ := hq; cases hv)
      obtain ⟨hv, hT1⟩ := hq
      cases hv
      replace hT := hT.tr hT1
      clear hT1
      refine sw_if_ne 37 35 (by decide) rfl dX2_orderOf_32 (fun c_32 => ?_) (fun c_32 => absurd c_32 (by decide))
      clear c_32
      refine sw_iload_n 38 rfl rfl dX2_orderOf_37 ?_
      have hk : kOrderOf S (nI i) (nI j) = 0 := by simp [kOrderOf, cif, e_8, e_21]
      rcases (by omega : j = 0 ∨ j = 1 ∨ j = 2 ∨ j = 3 ∨ j = 4 ∨ j = 5) with rfl | rfl | rfl | rfl | rfl | rfl
      · refine sw_tabIn 72 dX2_orderOf_38 (by decide) (by decide) (show #[34, 41, 48, 55, 62][_]? = some (34) from rfl) (by decide) ?_
        refine sw_aload_n 73 rfl rfl rfl dX2_orderOf_72 ?_
        refine gf_X2_42 76 rfl hT.obj rfl rfl dX2_orderOf_73 ?_
        refine sw_iload_n 77 rfl rfl dX2_orderOf_76 ?_
        refine sw_iald 78 rfl (hT.arr 15 rfl) (by omega) (Nat.le_of_ble_eq_true rfl) dX2_orderOf_77 ?_
        try simp only [sI_N, sI_L, sN_I, sN_L, sL_N, sL_I, sN_t, sI_t, sL_t, pOwe_N, pOwe_I, pOweBoth_N, pOweBoth_I, pTB_N, pTB_I, pGoBack_N, pOweOn_N, pOweOn_I, reduceIte, Nat.reduceEqDiff]
        refine sw_iret rfl rfl dX2_orderOf_78 ?_
        exact ⟨by rw [rOrderOf, cif_t hk, xi]; rfl, hT.st (by rw [hk]; rfl)⟩
      · refine sw_tabIn 79 dX2_orderOf_38 (by decide) (by decide) (show #[34, 41, 48, 55, 62][_]? = some (41) from rfl) (by decide) ?_
        refine sw_aload_n 80 rfl rfl rfl dX2_orderOf_79 ?_
        refine gf_X2_45 83 rfl hT.obj rfl rfl dX2_orderOf_80 ?_
        refine sw_iload_n 84 rfl rfl dX2_orderOf_83 ?_
        refine sw_iald 85 rfl (hT.arr 16 rfl) (by omega) (Nat.le_of_ble_eq_true rfl) dX2_orderOf_84 ?_
        try simp only [sI_N, sI_L, sN_I, sN_L, sL_N, sL_I, sN_t, sI_t, sL_t, pOwe_N, pOwe_I, pOweBoth_N, pOweBoth_I, pTB_N, pTB_I, pGoBack_N, pOweOn_N, pOweOn_I, reduceIte, Nat.reduceEqDiff]
        refine sw_iret rfl rfl dX2_orderOf_85 ?_
        exact ⟨by rw [rOrderOf, cif_t hk, xi]; rfl, hT.st (by rw [hk]; rfl)⟩
      · refine sw_tabIn 86 dX2_orderOf_38 (by decide) (by decide) (show #[34, 41, 48, 55, 62][_]? = some (48) from rfl) (by decide) ?_
        refine sw_aload_n 87 rfl rfl rfl dX2_orderOf_86 ?_
        refine gf_X2_48 90 rfl hT.obj rfl rfl dX2_orderOf_87 ?_
        refine sw_iload_n 91 rfl rfl dX2_orderOf_90 ?_
        refine sw_iald 92 rfl (hT.arr 17 rfl) (by omega) (Nat.le_of_ble_eq_true rfl) dX2_orderOf_91 ?_
        try simp only [sI_N, sI_L, sN_I, sN_L, sL_N, sL_I, sN_t, sI_t, sL_t, pOwe_N, pOwe_I, pOweBoth_N, pOweBoth_I, pTB_N, pTB_I, pGoBack_N, pOweOn_N, pOweOn_I, reduceIte, Nat.reduceEqDiff]
        refine sw_iret rfl rfl dX2_orderOf_92 ?_
        exact ⟨by rw [rOrderOf, cif_t hk, xi]; rfl, hT.st (by rw [hk]; rfl)⟩
      · refine sw_tabIn 93 dX2_orderOf_38 (by decide) (by decide) (show #[34, 41, 48, 55, 62][_]? = some (55) from rfl) (by decide) ?_
        refine sw_aload_n 94 rfl rfl rfl dX2_orderOf_93 ?_
        refine gf_X2_60 97 rfl hT.obj rfl rfl dX2_orderOf_94 ?_
        refine sw_iload_n 98 rfl rfl dX2_orderOf_97 ?_
        refine sw_iald 99 rfl (hT.arr 21 rfl) (by omega) (Nat.le_of_ble_eq_true rfl) dX2_orderOf_98 ?_
        try simp only [sI_N, sI_L, sN_I, sN_L, sL_N, sL_I, sN_t, sI_t, sL_t, pOwe_N, pOwe_I, pOweBoth_N, pOweBoth_I, pTB_N, pTB_I, pGoBack_N, pOweOn_N, pOweOn_I, reduceIte, Nat.reduceEqDiff]
        refine sw_iret rfl rfl dX2_orderOf_99 ?_
        exact ⟨by rw [rOrderOf, cif_t hk, xi]; rfl, hT.st (by rw [hk]; rfl)⟩
      · refine sw_tabIn 100 dX2_orderOf_38 (by decide) (by decide) (show #[34, 41, 48, 55, 62][_]? = some (62) from rfl) (by decide) ?_
        refine sw_aload_n 101 rfl rfl rfl dX2_orderOf_100 ?_
        refine gf_X2_54 104 rfl hT.obj rfl rfl dX2_orderOf_101 ?_
        refine sw_iload_n 105 rfl rfl dX2_orderOf_104 ?_
        refine sw_iald 106 rfl (hT.arr 19 rfl) (by omega) (Nat.le_of_ble_eq_true rfl) dX2_orderOf_105 ?_
        try simp only [sI_N, sI_L, sN_I, sN_L, sL_N, sL_I, sN_t, sI_t, sL_t, pOwe_N, pOwe_I, pOweBoth_N, pOweBoth_I, pTB_N, pTB_I, pGoBack_N, pOweOn_N, pOweOn_I, reduceIte, Nat.reduceEqDiff]
        refine sw_iret rfl rfl dX2_orderOf_106 ?_
        exact ⟨by rw [rOrderOf, cif_t hk, xi]; rfl, hT.st (by rw [hk]; rfl)⟩
      · refine sw_tabOut 107 dX2_orderOf_38 (by decide) (by decide) ?_
        refine sw_aload_n 108 rfl rfl rfl dX2_orderOf_107 ?_
        refine gf_X2_57 111 rfl hT.obj rfl rfl dX2_orderOf_108 ?_
        refine sw_iload_n 112 rfl rfl dX2_orderOf_111 ?_
        refine sw_iald 113 rfl (hT.arr 20 rfl) (by omega) (Nat.le_of_ble_eq_true rfl) dX2_orderOf_112 ?_
        try simp only [sI_N, sI_L, sN_I, sN_L, sL_N, sL_I, sN_t, sI_t, sL_t, pOwe_N, pOwe_I, pOweBoth_N, pOweBoth_I, pTB_N, pTB_I, pGoBack_N, pOweOn_N, pOweOn_I, reduceIte, Nat.reduceEqDiff]
        refine sw_iret rfl rfl dX2_orderOf_113 ?_
        exact ⟨by rw [rOrderOf, cif_t hk, xi]; rfl, hT.st (by rw [hk]; rfl)⟩
  · rw [b2_0] at c_8
    have e_8 := c_8
    refine sw_iconst 12 rfl (nI 1) rfl dX2_orderOf_11 ?_
    refine sw_goto 29 (by decide) dX2_orderOf_12 ?_
    refine sw_callV 32 [] rfl cs_X2_124 rfl (Nat.le_of_ble_eq_true rfl) rfl hT.obj rfl rfl (ct_goesWellK hT.1 1 (by omega) (by omega)) rfl rfl (Nat.le_of_ble_eq_true rfl) dX2_orderOf_29 (fun v X hq => ?_) (fun E X hq => by obtain ⟨hv, -⟩ := hq; cases hv)
    obtain ⟨hv, hT1⟩ := hq
    cases hv
    replace hT := hT.tr hT1
    clear hT1
    refine sw_if_ne 37 35 (by decide) rfl dX2_orderOf_32 (fun c_32 => absurd (by decide) c_32) (fun c_32 => ?_)
    clear c_32
    refine sw_iconst 36 rfl (nI 0) rfl dX2_orderOf_35 ?_
    refine sw_iret rfl rfl dX2_orderOf_36 ?_
    exact ⟨by simp [rOrderOf, kOrderOf, cif, e_8], hT.st (by simp [kOrderOf, cif, tk, e_8])⟩

set_option maxHeartbeats 4000000 in
theorem ct_pay (hR : TwR γ Mo aT X S) (hw : WF K S) (hK : K < 2 ^ 31) (a b c : Int32) : Ev γ mX2_pay [.ref Mo, .int a, .int b, .int c] X (fun oc X1 => oc = .inl (some (.int (rPay S a b c))) ∧ TwF γ Mo aT X X1 (sPay S a b c)) := by
  have hT := TwF.rf hR
  have hnb := hw.nb
  have hno := hw.no
  have hnc := hw.nc
  have hhr := hw.hr
  have hca := fun b h => hw.cash (b := b) h
  refine Ev.of (lv := [_, _, _, _, _, _, _]) 3 ⟨by decide +kernel, rfl, (Nat.le_of_ble_eq_true rfl)⟩ rfl ?_
  refine sw_aload_n 1 rfl rfl rfl dX2_pay_0 ?_
  refine sw_iload_n 2 rfl rfl dX2_pay_1 ?_
  refine sw_iload_n 3 rfl rfl dX2_pay_2 ?_
  refine sw_callV 6 [] rfl cs_X2_127 rfl (Nat.le_of_ble_eq_true rfl) rfl hT.obj rfl rfl (ct_areBrokers hT.1 (by omega) _ _) rfl rfl (Nat.le_of_ble_eq_true rfl) dX2_pay_3 (fun v X hq => ?_) (fun E X hq => by obtain ⟨hv, -⟩ := hq; cases hv)
  obtain ⟨hv, hT1⟩ := hq
  cases hv
  replace hT := hT.tr hT1
  clear hT1
  refine sw_istore 8 rfl [_, _, _, _, _, _, _] (Nat.le_of_ble_eq_true rfl) rfl dX2_pay_6 ?_
  refine sw_iload_n 9 rfl rfl dX2_pay_8 ?_
  refine sw_iload_n 10 rfl rfl dX2_pay_9 ?_
  refine sw_icmp_eq 27 13 (by decide) rfl dX2_pay_10 (fun c_10 => ?_) (fun c_10 => ?_)
  · refine sw_iconst 28 rfl (nI 0) rfl dX2_pay_27 ?_
    refine sw_istore 30 rfl [_, _, _, _, _, _, _] (Nat.le_of_ble_eq_true rfl) rfl dX2_pay_28 ?_
    refine sw_iload 32 rfl rfl dX2_pay_30 ?_
    refine sw_if_eq 86 35 (by decide) rfl dX2_pay_32 (fun c_32 => ?_) (fun c_32 => ?_)
    · rw [b2_0] at c_32
      have e_32 := c_32
      refine sw_iconst 87 rfl (nI 0) rfl dX2_pay_86 ?_
      refine sw_istore 89 rfl [_, _, _, _, _, _, _] (Nat.le_of_ble_eq_true rfl) rfl dX2_pay_87 ?_
      refine sw_aload_n 90 rfl rfl rfl dX2_pay_89 ?_
      refine sw_iload 92 rfl rfl dX2_pay_90 ?_
      refine sw_if_ne 99 95 (by decide) rfl dX2_pay_92 (fun c_92 => absurd (b2_0.mpr e_32) c_92) (fun c_92 => ?_)
      clear c_92
      refine sw_iconst 96 rfl (nI 1) rfl dX2_pay_95 ?_
      refine sw_goto 118 (by decide) dX2_pay_96 ?_
      refine sw_callV 121 [] rfl cs_X2_124 rfl (Nat.le_of_ble_eq_true rfl) rfl hT.obj rfl rfl (ct_goesWellK hT.1 1 (by omega) (by omega)) rfl rfl (Nat.le_of_ble_eq_true rfl) dX2_pay_118 (fun v X hq => ?_) (fun E X hq => by obtain ⟨hv, -⟩ := hq; cases hv)
      obtain ⟨hv, hT1⟩ := hq
      cases hv
      replace hT := hT.tr hT1
      clear hT1
      refine sw_if_ne 126 124 (by decide) rfl dX2_pay_121 (fun c_121 => absurd (by decide) c_121) (fun c_121 => ?_)
      clear c_121
      refine sw_iconst 125 rfl (nI 0) rfl dX2_pay_124 ?_
      refine sw_iret rfl rfl dX2_pay_125 ?_
      first | (have hk : kPay S a b c = 1 := cif_t e_32
               refine ⟨?_, hT.st ?_⟩ <;> simp [rPay, sPay, hk, cif, tk]; done) | (refine ⟨?_, hT.st ?_⟩ <;> first | (simp [rPay, sPay, kPay, cif, tk, c_10, e_32]; done) | (subst c_10; simp [rPay, sPay, kPay, cif, tk, e_32]; done))
    · rw [b2_n] at c_32
      have e_32 := c_32
      obtain ⟨⟨i, hi, rfl⟩, ⟨j, hj, rfl⟩⟩ := c_32
      have xi : ix (nI i) = i := ix_nI (by omega)
      have xj : ix (nI j) = j := ix_nI (by omega)
      refine sw_aload_n 36 rfl rfl rfl dX2_pay_35 ?_
      refine gf_X2_20 39 rfl hT.obj rfl rfl dX2_pay_36 ?_
      refine sw_iload_n 40 rfl rfl dX2_pay_39 ?_
      refine sw_iald 41 rfl (hT.arr 7 rfl) (by omega) (Nat.le_of_ble_eq_true rfl) dX2_pay_40 ?_
      refine sw_if_ne 86 44 (by decide) rfl dX2_pay_41 (fun c_41 => ?_) (fun c_41 => ?_)
      · refine sw_iconst 87 rfl (nI 0) rfl dX2_pay_86 ?_
        refine sw_istore 89 rfl [_, _, _, _, _, _, _] (Nat.le_of_ble_eq_true rfl) rfl dX2_pay_87 ?_
        refine sw_aload_n 90 rfl rfl rfl dX2_pay_89 ?_
        refine sw_iload 92 rfl rfl dX2_pay_90 ?_
        refine sw_if_ne 99 95 (by decide) rfl dX2_pay_92 (fun c_92 => ?_) (fun c_92 => absurd c_92 (b2_n.mpr e_32))
        clear c_92
        refine sw_iload 101 rfl rfl dX2_pay_99 ?_
        refine sw_if_ne 108 104 (by decide) rfl dX2_pay_101 (fun c_101 => absurd (by decide) c_101) (fun c_101 => ?_)
        clear c_101
        refine sw_iconst 105 rfl (nI 2) rfl dX2_pay_104 ?_
        refine sw_goto 118 (by decide) dX2_pay_105 ?_
        refine sw_callV 121 [] rfl cs_X2_124 rfl (Nat.le_of_ble_eq_true rfl) rfl hT.obj rfl rfl (ct_goesWellK hT.1 2 (by omega) (by omega)) rfl rfl (Nat.le_of_ble_eq_true rfl) dX2_pay_118 (fun v X hq => ?_) (fun E X hq => by obtain ⟨hv, -⟩ := hq; cases hv)
        obtain ⟨hv, hT1⟩ := hq
        cases hv
        replace hT := hT.tr hT1
        clear hT1
        refine sw_if_ne 126 124 (by decide) rfl dX2_pay_121 (fun c_121 => absurd (by decide) c_121) (fun c_121 => ?_)
        clear c_121
        refine sw_iconst 125 rfl (nI 0) rfl dX2_pay_124 ?_
        refine sw_iret rfl rfl dX2_pay_125 ?_
        first | (have hk : kPay S a b c = 1 := cif_t e_32
                 refine ⟨?_, hT.st ?_⟩ <;> simp [rPay, sPay, hk, cif, tk]; done) | (refine ⟨?_, hT.st ?_⟩ <;> first | (simp [rPay, sPay, kPay, cif, tk, c_10, e_32, xi, xj, c_41]; done) | (subst c_10; simp [rPay, sPay, kPay, cif, tk, e_32, xi, xj, c_41]; done))
      · refine sw_aload_n 45 rfl rfl rfl dX2_pay_44 ?_
        refine gf_X2_20 48 rfl hT.obj rfl rfl dX2_pay_45 ?_
        refine sw_iload_n 49 rfl rfl dX2_pay_48 ?_
        refine sw_iald 50 rfl (hT.arr 7 rfl) (by omega) (Nat.le_of_ble_eq_true rfl) dX2_pay_49 ?_
        refine sw_if_ne 86 53 (by decide) rfl dX2_pay_50 (fun c_50 => ?_) (fun c_50 => ?_)
        · refine sw_iconst 87 rfl (nI 0) rfl dX2_pay_86 ?_
          refine sw_istore 89 rfl [_, _, _, _, _, _, _] (Nat.le_of_ble_eq_true rfl) rfl dX2_pay_87 ?_
          refine sw_aload_n 90 rfl rfl rfl dX2_pay_89 ?_
          refine sw_iload 92 rfl rfl dX2_pay_90 ?_
          refine sw_if_ne 99 95 (by decide) rfl dX2_pay_92 (fun c_92 => ?_) (fun c_92 => absurd c_92 (b2_n.mpr e_32))
          clear c_92
          refine sw_iload 101 rfl rfl dX2_pay_99 ?_
          refine sw_if_ne 108 104 (by decide) rfl dX2_pay_101 (fun c_101 => absurd (by decide) c_101) (fun c_101 => ?_)
          clear c_101
          refine sw_iconst 105 rfl (nI 2) rfl dX2_pay_104 ?_
          refine sw_goto 118 (by decide) dX2_pay_105 ?_
          refine sw_callV 121 [] rfl cs_X2_124 rfl (Nat.le_of_ble_eq_true rfl) rfl hT.obj rfl rfl (ct_goesWellK hT.1 2 (by omega) (by omega)) rfl rfl (Nat.le_of_ble_eq_true rfl) dX2_pay_118 (fun v X hq => ?_) (fun E X hq => by obtain ⟨hv, -⟩ := hq; cases hv)
          obtain ⟨hv, hT1⟩ := hq
          cases hv
          replace hT := hT.tr hT1
          clear hT1
          refine sw_if_ne 126 124 (by decide) rfl dX2_pay_121 (fun c_121 => absurd (by decide) c_121) (fun c_121 => ?_)
          clear c_121
          refine sw_iconst 125 rfl (nI 0) rfl dX2_pay_124 ?_
          refine sw_iret rfl rfl dX2_pay_125 ?_
          first | (have hk : kPay S a b c = 1 := cif_t e_32
                   refine ⟨?_, hT.st ?_⟩ <;> simp [rPay, sPay, hk, cif, tk]; done) | (refine ⟨?_, hT.st ?_⟩ <;> first | (simp [rPay, sPay, kPay, cif, tk, c_10, e_32, xi, xj, c_41, c_50]; done) | (subst c_10; simp [rPay, sPay, kPay, cif, tk, e_32, xi, xj, c_41, c_50]; done))
        · have hci := hca i (by omega)
          refine sw_aload_n 54 rfl rfl rfl dX2_pay_53 ?_
          refine gf_X2_36 57 rfl hT.obj rfl rfl dX2_pay_54 ?_
          refine sw_bipush 59 rfl (nI 12) rfl dX2_pay_57 ?_
          refine sw_iload_n 60 rfl rfl dX2_pay_59 ?_
          refine sw_imulN 61 rfl dX2_pay_60 ?_
          refine sw_iload_n 62 rfl rfl dX2_pay_61 ?_
          refine sw_iaddN 63 rfl dX2_pay_62 ?_
          refine sw_lald 64 rfl (hT.arr 12 rfl) (by omega) (Nat.le_of_ble_eq_true rfl) dX2_pay_63 ?_
          refine sw_iload_n 65 rfl rfl dX2_pay_64 ?_
          refine sw_i2l 66 rfl dX2_pay_65 ?_
          refine sw_llt 86 67 70 rfl (by decide) rfl dX2_pay_66 dX2_pay_67 (fun c_66 => ?_) (fun c_66 => ?_)
          · refine sw_iconst 87 rfl (nI 0) rfl dX2_pay_86 ?_
            refine sw_istore 89 rfl [_, _, _, _, _, _, _] (Nat.le_of_ble_eq_true rfl) rfl dX2_pay_87 ?_
            refine sw_aload_n 90 rfl rfl rfl dX2_pay_89 ?_
            refine sw_iload 92 rfl rfl dX2_pay_90 ?_
            refine sw_if_ne 99 95 (by decide) rfl dX2_pay_92 (fun c_92 => ?_) (fun c_92 => absurd c_92 (b2_n.mpr e_32))
            clear c_92
            refine sw_iload 101 rfl rfl dX2_pay_99 ?_
            refine sw_if_ne 108 104 (by decide) rfl dX2_pay_101 (fun c_101 => absurd (by decide) c_101) (fun c_101 => ?_)
            clear c_101
            refine sw_iconst 105 rfl (nI 2) rfl dX2_pay_104 ?_
            refine sw_goto 118 (by decide) dX2_pay_105 ?_
            refine sw_callV 121 [] rfl cs_X2_124 rfl (Nat.le_of_ble_eq_true rfl) rfl hT.obj rfl rfl (ct_goesWellK hT.1 2 (by omega) (by omega)) rfl rfl (Nat.le_of_ble_eq_true rfl) dX2_pay_118 (fun v X hq => ?_) (fun E X hq => by obtain ⟨hv, -⟩ := hq; cases hv)
            obtain ⟨hv, hT1⟩ := hq
            cases hv
            replace hT := hT.tr hT1
            clear hT1
            refine sw_if_ne 126 124 (by decide) rfl dX2_pay_121 (fun c_121 => absurd (by decide) c_121) (fun c_121 => ?_)
            clear c_121
            refine sw_iconst 125 rfl (nI 0) rfl dX2_pay_124 ?_
            refine sw_iret rfl rfl dX2_pay_125 ?_
            first | (have hk : kPay S a b c = 1 := cif_t e_32
                     refine ⟨?_, hT.st ?_⟩ <;> simp [rPay, sPay, hk, cif, tk]; done) | (refine ⟨?_, hT.st ?_⟩ <;> first | (simp [rPay, sPay, kPay, cif, tk, c_10, e_32, xi, xj, c_41, c_50, c_66]; done) | (subst c_10; simp [rPay, sPay, kPay, cif, tk, e_32, xi, xj, c_41, c_50, c_66]; done))
          · refine sw_aload_n 71 rfl rfl rfl dX2_pay_70 ?_
            refine gf_X2_13 74 rfl hT.obj rfl rfl dX2_pay_71 ?_
            refine sw_iload_n 75 rfl rfl dX2_pay_74 ?_
            refine sw_lald 76 rfl (hT.arr 5 rfl) (by omega) (Nat.le_of_ble_eq_true rfl) dX2_pay_75 ?_
            refine sw_iload_n 77 rfl rfl dX2_pay_76 ?_
            refine sw_i2l 78 rfl dX2_pay_77 ?_
            refine sw_llt 86 79 82 rfl (by decide) rfl dX2_pay_78 dX2_pay_79 (fun c_78 => ?_) (fun c_78 => ?_)
            · refine sw_iconst 87 rfl (nI 0) rfl dX2_pay_86 ?_
              refine sw_istore 89 rfl [_, _, _, _, _, _, _] (Nat.le_of_ble_eq_true rfl) rfl dX2_pay_87 ?_
              refine sw_aload_n 90 rfl rfl rfl dX2_pay_89 ?_
              refine sw_iload 92 rfl rfl dX2_pay_90 ?_
              refine sw_if_ne 99 95 (by decide) rfl dX2_pay_92 (fun c_92 => ?_) (fun c_92 => absurd c_92 (b2_n.mpr e_32))
              clear c_92
              refine sw_iload 101 rfl rfl dX2_pay_99 ?_
              refine sw_if_ne 108 104 (by decide) rfl dX2_pay_101 (fun c_101 => absurd (by decide) c_101) (fun c_101 => ?_)
              clear c_101
              refine sw_iconst 105 rfl (nI 2) rfl dX2_pay_104 ?_
              refine sw_goto 118 (by decide) dX2_pay_105 ?_
              refine sw_callV 121 [] rfl cs_X2_124 rfl (Nat.le_of_ble_eq_true rfl) rfl hT.obj rfl rfl (ct_goesWellK hT.1 2 (by omega) (by omega)) rfl rfl (Nat.le_of_ble_eq_true rfl) dX2_pay_118 (fun v X hq => ?_) (fun E X hq => by obtain ⟨hv, -⟩ := hq; cases hv)
              obtain ⟨hv, hT1⟩ := hq
              cases hv
              replace hT := hT.tr hT1
              clear hT1
              refine sw_if_ne 126 124 (by decide) rfl dX2_pay_121 (fun c_121 => absurd (by decide) c_121) (fun c_121 => ?_)
              clear c_121
              refine sw_iconst 125 rfl (nI 0) rfl dX2_pay_124 ?_
              refine sw_iret rfl rfl dX2_pay_125 ?_
              first | (have hk : kPay S a b c = 1 := cif_t e_32
                       refine ⟨?_, hT.st ?_⟩ <;> simp [rPay, sPay, hk, cif, tk]; done) | (refine ⟨?_, hT.st ?_⟩ <;> first | (simp [rPay, sPay, kPay, cif, tk, c_10, e_32, xi, xj, c_41, c_50, c_66, c_78]; done) | (subst c_10; simp [rPay, sPay, kPay, cif, tk, e_32, xi, xj, c_41, c_50, c_66, c_78]; done))
            · refine sw_iconst 83 rfl (nI 1) rfl dX2_pay_82 ?_
              refine sw_goto 87 (by decide) dX2_pay_83 ?_
              refine sw_istore 89 rfl [_, _, _, _, _, _, _] (Nat.le_of_ble_eq_true rfl) rfl dX2_pay_87 ?_
              refine sw_aload_n 90 rfl rfl rfl dX2_pay_89 ?_
              refine sw_iload 92 rfl rfl dX2_pay_90 ?_
              refine sw_if_ne 99 95 (by decide) rfl dX2_pay_92 (fun c_92 => ?_) (fun c_92 => absurd c_92 (b2_n.mpr e_32))
              clear c_92
              refine sw_iload 101 rfl rfl dX2_pay_99 ?_
              refine sw_if_ne 108 104 (by decide) rfl dX2_pay_101 (fun c_101 => absurd (by decide) c_101) (fun c_101 => ?_)
              clear c_101
              refine sw_iconst 105 rfl (nI 2) rfl dX2_pay_104 ?_
              refine sw_goto 118 (by decide) dX2_pay_105 ?_
              refine sw_callV 121 [] rfl cs_X2_124 rfl (Nat.le_of_ble_eq_true rfl) rfl hT.obj rfl rfl (ct_goesWellK hT.1 2 (by omega) (by omega)) rfl rfl (Nat.le_of_ble_eq_true rfl) dX2_pay_118 (fun v X hq => ?_) (fun E X hq => by obtain ⟨hv, -⟩ := hq; cases hv)
              obtain ⟨hv, hT1⟩ := hq
              cases hv
              replace hT := hT.tr hT1
              clear hT1
              refine sw_if_ne 126 124 (by decide) rfl dX2_pay_121 (fun c_121 => absurd (by decide) c_121) (fun c_121 => ?_)
              clear c_121
              refine sw_iconst 125 rfl (nI 0) rfl dX2_pay_124 ?_
              refine sw_iret rfl rfl dX2_pay_125 ?_
              first | (have hk : kPay S a b c = 1 := cif_t e_32
                       refine ⟨?_, hT.st ?_⟩ <;> simp [rPay, sPay, hk, cif, tk]; done) | (refine ⟨?_, hT.st ?_⟩ <;> first | (simp [rPay, sPay, kPay, cif, tk, c_10, e_32, xi, xj, c_41, c_50, c_66, c_78]; done) | (subst c_10; simp [rPay, sPay, kPay, cif, tk, e_32, xi, xj, c_41, c_50, c_66, c_78]; done))
  · refine sw_iload_n 14 rfl rfl dX2_pay_13 ?_
    refine sw_iconst 15 rfl (nI 1) rfl dX2_pay_14 ?_
    refine sw_ldc 17 rfl q922 dX2_pay_15 ?_
    refine sw_topI (show (1000000 : Int32) = nI 1000000 from rfl) ?_
    refine sw_callS 20 [] rfl cs_X2_116 rfl (Nat.le_of_ble_eq_true rfl) rfl (ct_in1 _ 1000000 (by omega)) rfl rfl (Nat.le_of_ble_eq_true rfl) dX2_pay_17 (fun v X hq => ?_) (fun E X hq => by obtain ⟨hv, -⟩ := hq; cases hv)
    obtain ⟨hv, rfl⟩ := hq
    cases hv
    refine sw_if_eq 27 23 (by decide) rfl dX2_pay_20 (fun c_20 => ?_) (fun c_20 => ?_)
    · rw [b2_0] at c_20
      have e_20 := c_20
      refine sw_iconst 28 rfl (nI 0) rfl dX2_pay_27 ?_
      refine sw_istore 30 rfl [_, _, _, _, _, _, _] (Nat.le_of_ble_eq_true rfl) rfl dX2_pay_28 ?_
      refine sw_iload 32 rfl rfl dX2_pay_30 ?_
      refine sw_if_eq 86 35 (by decide) rfl dX2_pay_32 (fun c_32 => ?_) (fun c_32 => ?_)
      · rw [b2_0] at c_32
        have e_32 := c_32
        refine sw_iconst 87 rfl (nI 0) rfl dX2_pay_86 ?_
        refine sw_istore 89 rfl [_, _, _, _, _, _, _] (Nat.le_of_ble_eq_true rfl) rfl dX2_pay_87 ?_
        refine sw_aload_n 90 rfl rfl rfl dX2_pay_89 ?_
        refine sw_iload 92 rfl rfl dX2_pay_90 ?_
        refine sw_if_ne 99 95 (by decide) rfl dX2_pay_92 (fun c_92 => absurd (b2_0.mpr e_32) c_92) (fun c_92 => ?_)
        clear c_92
        refine sw_iconst 96 rfl (nI 1) rfl dX2_pay_95 ?_
        refine sw_goto 118 (by decide) dX2_pay_96 ?_
        refine sw_callV 121 [] rfl cs_X2_124 rfl (Nat.le_of_ble_eq_true rfl) rfl hT.obj rfl rfl (ct_goesWellK hT.1 1 (by omega) (by omega)) rfl rfl (Nat.le_of_ble_eq_true rfl) dX2_pay_118 (fun v X hq => ?_) (fun E X hq => by obtain ⟨hv, -⟩ := hq; cases hv)
        obtain ⟨hv, hT1⟩ := hq
        cases hv
        replace hT := hT.tr hT1
        clear hT1
        refine sw_if_ne 126 124 (by decide) rfl dX2_pay_121 (fun c_121 => absurd (by decide) c_121) (fun c_121 => ?_)
        clear c_121
        refine sw_iconst 125 rfl (nI 0) rfl dX2_pay_124 ?_
        refine sw_iret rfl rfl dX2_pay_125 ?_
        first | (have hk : kPay S a b c = 1 := cif_t e_32
                 refine ⟨?_, hT.st ?_⟩ <;> simp [rPay, sPay, hk, cif, tk]; done) | (refine ⟨?_, hT.st ?_⟩ <;> first | (simp [rPay, sPay, kPay, cif, tk, c_10, e_20, e_32]; done) | (subst c_10; simp [rPay, sPay, kPay, cif, tk, e_20, e_32]; done))
      · rw [b2_n] at c_32
        have e_32 := c_32
        obtain ⟨⟨i, hi, rfl⟩, ⟨j, hj, rfl⟩⟩ := c_32
        have xi : ix (nI i) = i := ix_nI (by omega)
        have xj : ix (nI j) = j := ix_nI (by omega)
        refine sw_aload_n 36 rfl rfl rfl dX2_pay_35 ?_
        refine gf_X2_20 39 rfl hT.obj rfl rfl dX2_pay_36 ?_
        refine sw_iload_n 40 rfl rfl dX2_pay_39 ?_
        refine sw_iald 41 rfl (hT.arr 7 rfl) (by omega) (Nat.le_of_ble_eq_true rfl) dX2_pay_40 ?_
        refine sw_if_ne 86 44 (by decide) rfl dX2_pay_41 (fun c_41 => ?_) (fun c_41 => ?_)
        · refine sw_iconst 87 rfl (nI 0) rfl dX2_pay_86 ?_
          refine sw_istore 89 rfl [_, _, _, _, _, _, _] (Nat.le_of_ble_eq_true rfl) rfl dX2_pay_87 ?_
          refine sw_aload_n 90 rfl rfl rfl dX2_pay_89 ?_
          refine sw_iload 92 rfl rfl dX2_pay_90 ?_
          refine sw_if_ne 99 95 (by decide) rfl dX2_pay_92 (fun c_92 => ?_) (fun c_92 => absurd c_92 (b2_n.mpr e_32))
          clear c_92
          refine sw_iload 101 rfl rfl dX2_pay_99 ?_
          refine sw_if_ne 108 104 (by decide) rfl dX2_pay_101 (fun c_101 => absurd (by decide) c_101) (fun c_101 => ?_)
          clear c_101
          refine sw_iconst 105 rfl (nI 2) rfl dX2_pay_104 ?_
          refine sw_goto 118 (by decide) dX2_pay_105 ?_
          refine sw_callV 121 [] rfl cs_X2_124 rfl (Nat.le_of_ble_eq_true rfl) rfl hT.obj rfl rfl (ct_goesWellK hT.1 2 (by omega) (by omega)) rfl rfl (Nat.le_of_ble_eq_true rfl) dX2_pay_118 (fun v X hq => ?_) (fun E X hq => by obtain ⟨hv, -⟩ := hq; cases hv)
          obtain ⟨hv, hT1⟩ := hq
          cases hv
          replace hT := hT.tr hT1
          clear hT1
          refine sw_if_ne 126 124 (by decide) rfl dX2_pay_121 (fun c_121 => absurd (by decide) c_121) (fun c_121 => ?_)
          clear c_121
          refine sw_iconst 125 rfl (nI 0) rfl dX2_pay_124 ?_
          refine sw_iret rfl rfl dX2_pay_125 ?_
          first | (have hk : kPay S a b c = 1 := cif_t e_32
                   refine ⟨?_, hT.st ?_⟩ <;> simp [rPay, sPay, hk, cif, tk]; done) | (refine ⟨?_, hT.st ?_⟩ <;> first | (simp [rPay, sPay, kPay, cif, tk, c_10, e_20, e_32, xi, xj, c_41]; done) | (subst c_10; simp [rPay, sPay, kPay, cif, tk, e_20, e_32, xi, xj, c_41]; done))
        · refine sw_aload_n 45 rfl rfl rfl dX2_pay_44 ?_
          refine gf_X2_20 48 rfl hT.obj rfl rfl dX2_pay_45 ?_
          refine sw_iload_n 49 rfl rfl dX2_pay_48 ?_
          refine sw_iald 50 rfl (hT.arr 7 rfl) (by omega) (Nat.le_of_ble_eq_true rfl) dX2_pay_49 ?_
          refine sw_if_ne 86 53 (by decide) rfl dX2_pay_50 (fun c_50 => ?_) (fun c_50 => ?_)
          · refine sw_iconst 87 rfl (nI 0) rfl dX2_pay_86 ?_
            refine sw_istore 89 rfl [_, _, _, _, _, _, _] (Nat.le_of_ble_eq_true rfl) rfl dX2_pay_87 ?_
            refine sw_aload_n 90 rfl rfl rfl dX2_pay_89 ?_
            refine sw_iload 92 rfl rfl dX2_pay_90 ?_
            refine sw_if_ne 99 95 (by decide) rfl dX2_pay_92 (fun c_92 => ?_) (fun c_92 => absurd c_92 (b2_n.mpr e_32))
            clear c_92
            refine sw_iload 101 rfl rfl dX2_pay_99 ?_
            refine sw_if_ne 108 104 (by decide) rfl dX2_pay_101 (fun c_101 => absurd (by decide) c_101) (fun c_101 => ?_)
            clear c_101
            refine sw_iconst 105 rfl (nI 2) rfl dX2_pay_104 ?_
            refine sw_goto 118 (by decide) dX2_pay_105 ?_
            refine sw_callV 121 [] rfl cs_X2_124 rfl (Nat.le_of_ble_eq_true rfl) rfl hT.obj rfl rfl (ct_goesWellK hT.1 2 (by omega) (by omega)) rfl rfl (Nat.le_of_ble_eq_true rfl) dX2_pay_118 (fun v X hq => ?_) (fun E X hq => by obtain ⟨hv, -⟩ := hq; cases hv)
            obtain ⟨hv, hT1⟩ := hq
            cases hv
            replace hT := hT.tr hT1
            clear hT1
            refine sw_if_ne 126 124 (by decide) rfl dX2_pay_121 (fun c_121 => absurd (by decide) c_121) (fun c_121 => ?_)
            clear c_121
            refine sw_iconst 125 rfl (nI 0) rfl dX2_pay_124 ?_
            refine sw_iret rfl rfl dX2_pay_125 ?_
            first | (have hk : kPay S a b c = 1 := cif_t e_32
                     refine ⟨?_, hT.st ?_⟩ <;> simp [rPay, sPay, hk, cif, tk]; done) | (refine ⟨?_, hT.st ?_⟩ <;> first | (simp [rPay, sPay, kPay, cif, tk, c_10, e_20, e_32, xi, xj, c_41, c_50]; done) | (subst c_10; simp [rPay, sPay, kPay, cif, tk, e_20, e_32, xi, xj, c_41, c_50]; done))
          · have hci := hca i (by omega)
            refine sw_aload_n 54 rfl rfl rfl dX2_pay_53 ?_
            refine gf_X2_36 57 rfl hT.obj rfl rfl dX2_pay_54 ?_
            refine sw_bipush 59 rfl (nI 12) rfl dX2_pay_57 ?_
            refine sw_iload_n 60 rfl rfl dX2_pay_59 ?_
            refine sw_imulN 61 rfl dX2_pay_60 ?_
            refine sw_iload_n 62 rfl rfl dX2_pay_61 ?_
            refine sw_iaddN 63 rfl dX2_pay_62 ?_
            refine sw_lald 64 rfl (hT.arr 12 rfl) (by omega) (Nat.le_of_ble_eq_true rfl) dX2_pay_63 ?_
            refine sw_iload_n 65 rfl rfl dX2_pay_64 ?_
            refine sw_i2l 66 rfl dX2_pay_65 ?_
            refine sw_llt 86 67 70 rfl (by decide) rfl dX2_pay_66 dX2_pay_67 (fun c_66 => ?_) (fun c_66 => ?_)
            · refine sw_iconst 87 rfl (nI 0) rfl dX2_pay_86 ?_
              refine sw_istore 89 rfl [_, _, _, _, _, _, _] (Nat.le_of_ble_eq_true rfl) rfl dX2_pay_87 ?_
              refine sw_aload_n 90 rfl rfl rfl dX2_pay_89 ?_
              refine sw_iload 92 rfl rfl dX2_pay_90 ?_
              refine sw_if_ne 99 95 (by decide) rfl dX2_pay_92 (fun c_92 => ?_) (fun c_92 => absurd c_92 (b2_n.mpr e_32))
              clear c_92
              refine sw_iload 101 rfl rfl dX2_pay_99 ?_
              refine sw_if_ne 108 104 (by decide) rfl dX2_pay_101 (fun c_101 => absurd (by decide) c_101) (fun c_101 => ?_)
              clear c_101
              refine sw_iconst 105 rfl (nI 2) rfl dX2_pay_104 ?_
              refine sw_goto 118 (by decide) dX2_pay_105 ?_
              refine sw_callV 121 [] rfl cs_X2_124 rfl (Nat.le_of_ble_eq_true rfl) rfl hT.obj rfl rfl (ct_goesWellK hT.1 2 (by omega) (by omega)) rfl rfl (Nat.le_of_ble_eq_true rfl) dX2_pay_118 (fun v X hq => ?_) (fun E X hq => by obtain ⟨hv, -⟩ := hq; cases hv)
              obtain ⟨hv, hT1⟩ := hq
              cases hv
              replace hT := hT.tr hT1
              clear hT1
              refine sw_if_ne 126 124 (by decide) rfl dX2_pay_121 (fun c_121 => absurd (by decide) c_121) (fun c_121 => ?_)
              clear c_121
              refine sw_iconst 125 rfl (nI 0) rfl dX2_pay_124 ?_
              refine sw_iret rfl rfl dX2_pay_125 ?_
              first | (have hk : kPay S a b c = 1 := cif_t e_32
                       refine ⟨?_, hT.st ?_⟩ <;> simp [rPay, sPay, hk, cif, tk]; done) | (refine ⟨?_, hT.st ?_⟩ <;> first | (simp [rPay, sPay, kPay, cif, tk, c_10, e_20, e_32, xi, xj, c_41, c_50, c_66]; done) | (subst c_10; simp [rPay, sPay, kPay, cif, tk, e_20, e_32, xi, xj, c_41, c_50, c_66]; done))
            · refine sw_aload_n 71 rfl rfl rfl dX2_pay_70 ?_
              refine gf_X2_13 74 rfl hT.obj rfl rfl dX2_pay_71 ?_
              refine sw_iload_n 75 rfl rfl dX2_pay_74 ?_
              refine sw_lald 76 rfl (hT.arr 5 rfl) (by omega) (Nat.le_of_ble_eq_true rfl) dX2_pay_75 ?_
              refine sw_iload_n 77 rfl rfl dX2_pay_76 ?_
              refine sw_i2l 78 rfl dX2_pay_77 ?_
              refine sw_llt 86 79 82 rfl (by decide) rfl dX2_pay_78 dX2_pay_79 (fun c_78 => ?_) (fun c_78 => ?_)
              · refine sw_iconst 87 rfl (nI 0) rfl dX2_pay_86 ?_
                refine sw_istore 89 rfl [_, _, _, _, _, _, _] (Nat.le_of_ble_eq_true rfl) rfl dX2_pay_87 ?_
                refine sw_aload_n 90 rfl rfl rfl dX2_pay_89 ?_
                refine sw_iload 92 rfl rfl dX2_pay_90 ?_
                refine sw_if_ne 99 95 (by decide) rfl dX2_pay_92 (fun c_92 => ?_) (fun c_92 => absurd c_92 (b2_n.mpr e_32))
                clear c_92
                refine sw_iload 101 rfl rfl dX2_pay_99 ?_
                refine sw_if_ne 108 104 (by decide) rfl dX2_pay_101 (fun c_101 => absurd (by decide) c_101) (fun c_101 => ?_)
                clear c_101
                refine sw_iconst 105 rfl (nI 2) rfl dX2_pay_104 ?_
                refine sw_goto 118 (by decide) dX2_pay_105 ?_
                refine sw_callV 121 [] rfl cs_X2_124 rfl (Nat.le_of_ble_eq_true rfl) rfl hT.obj rfl rfl (ct_goesWellK hT.1 2 (by omega) (by omega)) rfl rfl (Nat.le_of_ble_eq_true rfl) dX2_pay_118 (fun v X hq => ?_) (fun E X hq => by obtain ⟨hv, -⟩ := hq; cases hv)
                obtain ⟨hv, hT1⟩ := hq
                cases hv
                replace hT := hT.tr hT1
                clear hT1
                refine sw_if_ne 126 124 (by decide) rfl dX2_pay_121 (fun c_121 => absurd (by decide) c_121) (fun c_121 => ?_)
                clear c_121
                refine sw_iconst 125 rfl (nI 0) rfl dX2_pay_124 ?_
                refine sw_iret rfl rfl dX2_pay_125 ?_
                first | (have hk : kPay S a b c = 1 := cif_t e_32
                         refine ⟨?_, hT.st ?_⟩ <;> simp [rPay, sPay, hk, cif, tk]; done) | (refine ⟨?_, hT.st ?_⟩ <;> first | (simp [rPay, sPay, kPay, cif, tk, c_10, e_20, e_32, xi, xj, c_41, c_50, c_66, c_78]; done) | (subst c_10; simp [rPay, sPay, kPay, cif, tk, e_20, e_32, xi, xj, c_41, c_50, c_66, c_78]; done))
              · refine sw_iconst 83 rfl (nI 1) rfl dX2_pay_82 ?_
                refine sw_goto 87 (by decide) dX2_pay_83 ?_
                refine sw_istore 89 rfl [_, _, _, _, _, _, _] (Nat.le_of_ble_eq_true rfl) rfl dX2_pay_87 ?_
                refine sw_aload_n 90 rfl rfl rfl dX2_pay_89 ?_
                refine sw_iload 92 rfl rfl dX2_pay_90 ?_
                refine sw_if_ne 99 95 (by decide) rfl dX2_pay_92 (fun c_92 => ?_) (fun c_92 => absurd c_92 (b2_n.mpr e_32))
                clear c_92
                refine sw_iload 101 rfl rfl dX2_pay_99 ?_
                refine sw_if_ne 108 104 (by decide) rfl dX2_pay_101 (fun c_101 => absurd (by decide) c_101) (fun c_101 => ?_)
                clear c_101
                refine sw_iconst 105 rfl (nI 2) rfl dX2_pay_104 ?_
                refine sw_goto 118 (by decide) dX2_pay_105 ?_
                refine sw_callV 121 [] rfl cs_X2_124 rfl (Nat.le_of_ble_eq_true rfl) rfl hT.obj rfl rfl (ct_goesWellK hT.1 2 (by omega) (by omega)) rfl rfl (Nat.le_of_ble_eq_true rfl) dX2_pay_118 (fun v X hq => ?_) (fun E X hq => by obtain ⟨hv, -⟩ := hq; cases hv)
                obtain ⟨hv, hT1⟩ := hq
                cases hv
                replace hT := hT.tr hT1
                clear hT1
                refine sw_if_ne 126 124 (by decide) rfl dX2_pay_121 (fun c_121 => absurd (by decide) c_121) (fun c_121 => ?_)
                clear c_121
                refine sw_iconst 125 rfl (nI 0) rfl dX2_pay_124 ?_
                refine sw_iret rfl rfl dX2_pay_125 ?_
                first | (have hk : kPay S a b c = 1 := cif_t e_32
                         refine ⟨?_, hT.st ?_⟩ <;> simp [rPay, sPay, hk, cif, tk]; done) | (refine ⟨?_, hT.st ?_⟩ <;> first | (simp [rPay, sPay, kPay, cif, tk, c_10, e_20, e_32, xi, xj, c_41, c_50, c_66, c_78]; done) | (subst c_10; simp [rPay, sPay, kPay, cif, tk, e_20, e_32, xi, xj, c_41, c_50, c_66, c_78]; done))
    · rw [b2_n] at c_20
      have e_20 := c_20
      obtain ⟨m, hm1, hm, rfl⟩ := c_20
      have xm : ix (nI m) = m := ix_nI (by omega)
      refine sw_iconst 24 rfl (nI 1) rfl dX2_pay_23 ?_
      refine sw_goto 28 (by decide) dX2_pay_24 ?_
      refine sw_istore 30 rfl [_, _, _, _, _, _, _] (Nat.le_of_ble_eq_true rfl) rfl dX2_pay_28 ?_
      refine sw_iload 32 rfl rfl dX2_pay_30 ?_
      refine sw_if_eq 86 35 (by decide) rfl dX2_pay_32 (fun c_32 => ?_) (fun c_32 => ?_)
      · rw [b2_0] at c_32
        have e_32 := c_32
        refine sw_iconst 87 rfl (nI 0) rfl dX2_pay_86 ?_
        refine sw_istore 89 rfl [_, _, _, _, _, _, _] (Nat.le_of_ble_eq_true rfl) rfl dX2_pay_87 ?_
        refine sw_aload_n 90 rfl rfl rfl dX2_pay_89 ?_
        refine sw_iload 92 rfl rfl dX2_pay_90 ?_
        refine sw_if_ne 99 95 (by decide) rfl dX2_pay_92 (fun c_92 => absurd (b2_0.mpr e_32) c_92) (fun c_92 => ?_)
        clear c_92
        refine sw_iconst 96 rfl (nI 1) rfl dX2_pay_95 ?_
        refine sw_goto 118 (by decide) dX2_pay_96 ?_
        refine sw_callV 121 [] rfl cs_X2_124 rfl (Nat.le_of_ble_eq_true rfl) rfl hT.obj rfl rfl (ct_goesWellK hT.1 1 (by omega) (by omega)) rfl rfl (Nat.le_of_ble_eq_true rfl) dX2_pay_118 (fun v X hq => ?_) (fun E X hq => by obtain ⟨hv, -⟩ := hq; cases hv)
        obtain ⟨hv, hT1⟩ := hq
        cases hv
        replace hT := hT.tr hT1
        clear hT1
        refine sw_if_ne 126 124 (by decide) rfl dX2_pay_121 (fun c_121 => absurd (by decide) c_121) (fun c_121 => ?_)
        clear c_121
        refine sw_iconst 125 rfl (nI 0) rfl dX2_pay_124 ?_
        refine sw_iret rfl rfl dX2_pay_125 ?_
        first | (have hk : kPay S a b c = 1 := cif_t e_32
                 refine ⟨?_, hT.st ?_⟩ <;> simp [rPay, sPay, hk, cif, tk]; done) | (refine ⟨?_, hT.st ?_⟩ <;> first | (simp [rPay, sPay, kPay, cif, tk, c_10, e_20, xm, e_32]; done) | (subst c_10; simp [rPay, sPay, kPay, cif, tk, e_20, xm, e_32]; done))
      · rw [b2_n] at c_32
        have e_32 := c_32
        obtain ⟨⟨i, hi, rfl⟩, ⟨j, hj, rfl⟩⟩ := c_32
        have xi : ix (nI i) = i := ix_nI (by omega)
        have xj : ix (nI j) = j := ix_nI (by omega)
        refine sw_aload_n 36 rfl rfl rfl dX2_pay_35 ?_
        refine gf_X2_20 39 rfl hT.obj rfl rfl dX2_pay_36 ?_
        refine sw_iload_n 40 rfl rfl dX2_pay_39 ?_
        refine sw_iald 41 rfl (hT.arr 7 rfl) (by omega) (Nat.le_of_ble_eq_true rfl) dX2_pay_40 ?_
        refine sw_if_ne 86 44 (by decide) rfl dX2_pay_41 (fun c_41 => ?_) (fun c_41 => ?_)
        · refine sw_iconst 87 rfl (nI 0) rfl dX2_pay_86 ?_
          refine sw_istore 89 rfl [_, _, _, _, _, _, _] (Nat.le_of_ble_eq_true rfl) rfl dX2_pay_87 ?_
          refine sw_aload_n 90 rfl rfl rfl dX2_pay_89 ?_
          refine sw_iload 92 rfl rfl dX2_pay_90 ?_
          refine sw_if_ne 99 95 (by decide) rfl dX2_pay_92 (fun c_92 => ?_) (fun c_92 => absurd c_92 (b2_n.mpr e_32))
          clear c_92
          refine sw_iload 101 rfl rfl dX2_pay_99 ?_
          refine sw_if_ne 108 104 (by decide) rfl dX2_pay_101 (fun c_101 => ?_) (fun c_101 => absurd c_101 (by decide))
          clear c_101
          refine sw_iload 110 rfl rfl dX2_pay_108 ?_
          refine sw_if_eq 117 113 (by decide) rfl dX2_pay_110 (fun c_110 => ?_) (fun c_110 => absurd (by decide) c_110)
          clear c_110
          refine sw_iconst 118 rfl (nI 3) rfl dX2_pay_117 ?_
          refine sw_callV 121 [] rfl cs_X2_124 rfl (Nat.le_of_ble_eq_true rfl) rfl hT.obj rfl rfl (ct_goesWellK hT.1 3 (by omega) (by omega)) rfl rfl (Nat.le_of_ble_eq_true rfl) dX2_pay_118 (fun v X hq => ?_) (fun E X hq => by obtain ⟨hv, -⟩ := hq; cases hv)
          obtain ⟨hv, hT1⟩ := hq
          cases hv
          replace hT := hT.tr hT1
          clear hT1
          refine sw_if_ne 126 124 (by decide) rfl dX2_pay_121 (fun c_121 => absurd (by decide) c_121) (fun c_121 => ?_)
          clear c_121
          refine sw_iconst 125 rfl (nI 0) rfl dX2_pay_124 ?_
          refine sw_iret rfl rfl dX2_pay_125 ?_
          first | (have hk : kPay S a b c = 1 := cif_t e_32
                   refine ⟨?_, hT.st ?_⟩ <;> simp [rPay, sPay, hk, cif, tk]; done) | (refine ⟨?_, hT.st ?_⟩ <;> first | (simp [rPay, sPay, kPay, cif, tk, c_10, e_20, xm, e_32, xi, xj, c_41]; done) | (subst c_10; simp [rPay, sPay, kPay, cif, tk, e_20, xm, e_32, xi, xj, c_41]; done))
        · refine sw_aload_n 45 rfl rfl rfl dX2_pay_44 ?_
          refine gf_X2_20 48 rfl hT.obj rfl rfl dX2_pay_45 ?_
          refine sw_iload_n 49 rfl rfl dX2_pay_48 ?_
          refine sw_iald 50 rfl (hT.arr 7 rfl) (by omega) (Nat.le_of_ble_eq_true rfl) dX2_pay_49 ?_
          refine sw_if_ne 86 53 (by decide) rfl dX2_pay_50 (fun c_50 => ?_) (fun c_50 => ?_)
          · refine sw_iconst 87 rfl (nI 0) rfl dX2_pay_86 ?_
            refine sw_istore 89 rfl [_, _, _, _, _, _, _] (Nat.le_of_ble_eq_true rfl) rfl dX2_pay_87 ?_
            refine sw_aload_n 90 rfl rfl rfl dX2_pay_89 ?_
            refine sw_iload 92 rfl rfl dX2_pay_90 ?_
            refine sw_if_ne 99 95 (by decide) rfl dX2_pay_92 (fun c_92 => ?_) (fun c_92 => absurd c_92 (b2_n.mpr e_32))
            clear c_92
            refine sw_iload 101 rfl rfl dX2_pay_99 ?_
            refine sw_if_ne 108 104 (by decide) rfl dX2_pay_101 (fun c_101 => ?_) (fun c_101 => absurd c_101 (by decide))
            clear c_101
            refine sw_iload 110 rfl rfl dX2_pay_108 ?_
            refine sw_if_eq 117 113 (by decide) rfl dX2_pay_110 (fun c_110 => ?_) (fun c_110 => absurd (by decide) c_110)
            clear c_110
            refine sw_iconst 118 rfl (nI 3) rfl dX2_pay_117 ?_
            refine sw_callV 121 [] rfl cs_X2_124 rfl (Nat.le_of_ble_eq_true rfl) rfl hT.obj rfl rfl (ct_goesWellK hT.1 3 (by omega) (by omega)) rfl rfl (Nat.le_of_ble_eq_true rfl) dX2_pay_118 (fun v X hq => ?_) (fun E X hq => by obtain ⟨hv, -⟩ := hq; cases hv)
            obtain ⟨hv, hT1⟩ := hq
            cases hv
            replace hT := hT.tr hT1
            clear hT1
            refine sw_if_ne 126 124 (by decide) rfl dX2_pay_121 (fun c_121 => absurd (by decide) c_121) (fun c_121 => ?_)
            clear c_121
            refine sw_iconst 125 rfl (nI 0) rfl dX2_pay_124 ?_
            refine sw_iret rfl rfl dX2_pay_125 ?_
            first | (have hk : kPay S a b c = 1 := cif_t e_32
                     refine ⟨?_, hT.st ?_⟩ <;> simp [rPay, sPay, hk, cif, tk]; done) | (refine ⟨?_, hT.st ?_⟩ <;> first | (simp [rPay, sPay, kPay, cif, tk, c_10, e_20, xm, e_32, xi, xj, c_41, c_50]; done) | (subst c_10; simp [rPay, sPay, kPay, cif, tk, e_20, xm, e_32, xi, xj, c_41, c_50]; done))
          · have hci := hca i (by omega)
            refine sw_aload_n 54 rfl rfl rfl dX2_pay_53 ?_
            refine gf_X2_36 57 rfl hT.obj rfl rfl dX2_pay_54 ?_
            refine sw_bipush 59 rfl (nI 12) rfl dX2_pay_57 ?_
            refine sw_iload_n 60 rfl rfl dX2_pay_59 ?_
            refine sw_imulN 61 rfl dX2_pay_60 ?_
            refine sw_iload_n 62 rfl rfl dX2_pay_61 ?_
            refine sw_iaddN 63 rfl dX2_pay_62 ?_
            refine sw_lald 64 rfl (hT.arr 12 rfl) (by omega) (Nat.le_of_ble_eq_true rfl) dX2_pay_63 ?_
            refine sw_iload_n 65 rfl rfl dX2_pay_64 ?_
            refine sw_i2l 66 rfl dX2_pay_65 ?_
            refine sw_topL (nI_l (by omega)) ?_
            refine sw_llt 86 67 70 rfl (by decide) rfl dX2_pay_66 dX2_pay_67 (fun c_66 => ?_) (fun c_66 => ?_)
            · refine sw_iconst 87 rfl (nI 0) rfl dX2_pay_86 ?_
              refine sw_istore 89 rfl [_, _, _, _, _, _, _] (Nat.le_of_ble_eq_true rfl) rfl dX2_pay_87 ?_
              refine sw_aload_n 90 rfl rfl rfl dX2_pay_89 ?_
              refine sw_iload 92 rfl rfl dX2_pay_90 ?_
              refine sw_if_ne 99 95 (by decide) rfl dX2_pay_92 (fun c_92 => ?_) (fun c_92 => absurd c_92 (b2_n.mpr e_32))
              clear c_92
              refine sw_iload 101 rfl rfl dX2_pay_99 ?_
              refine sw_if_ne 108 104 (by decide) rfl dX2_pay_101 (fun c_101 => ?_) (fun c_101 => absurd c_101 (by decide))
              clear c_101
              refine sw_iload 110 rfl rfl dX2_pay_108 ?_
              refine sw_if_eq 117 113 (by decide) rfl dX2_pay_110 (fun c_110 => ?_) (fun c_110 => absurd (by decide) c_110)
              clear c_110
              refine sw_iconst 118 rfl (nI 3) rfl dX2_pay_117 ?_
              refine sw_callV 121 [] rfl cs_X2_124 rfl (Nat.le_of_ble_eq_true rfl) rfl hT.obj rfl rfl (ct_goesWellK hT.1 3 (by omega) (by omega)) rfl rfl (Nat.le_of_ble_eq_true rfl) dX2_pay_118 (fun v X hq => ?_) (fun E X hq => by obtain ⟨hv, -⟩ := hq; cases hv)
              obtain ⟨hv, hT1⟩ := hq
              cases hv
              replace hT := hT.tr hT1
              clear hT1
              refine sw_if_ne 126 124 (by decide) rfl dX2_pay_121 (fun c_121 => absurd (by decide) c_121) (fun c_121 => ?_)
              clear c_121
              refine sw_iconst 125 rfl (nI 0) rfl dX2_pay_124 ?_
              refine sw_iret rfl rfl dX2_pay_125 ?_
              first | (have hk : kPay S a b c = 1 := cif_t e_32
                       refine ⟨?_, hT.st ?_⟩ <;> simp [rPay, sPay, hk, cif, tk]; done) | (refine ⟨?_, hT.st ?_⟩ <;> first | (simp [rPay, sPay, kPay, cif, tk, c_10, e_20, xm, e_32, xi, xj, c_41, c_50, c_66]; done) | (subst c_10; simp [rPay, sPay, kPay, cif, tk, e_20, xm, e_32, xi, xj, c_41, c_50, c_66]; done))
            · refine sw_aload_n 71 rfl rfl rfl dX2_pay_70 ?_
              refine gf_X2_13 74 rfl hT.obj rfl rfl dX2_pay_71 ?_
              refine sw_iload_n 75 rfl rfl dX2_pay_74 ?_
              refine sw_lald 76 rfl (hT.arr 5 rfl) (by omega) (Nat.le_of_ble_eq_true rfl) dX2_pay_75 ?_
              refine sw_iload_n 77 rfl rfl dX2_pay_76 ?_
              refine sw_i2l 78 rfl dX2_pay_77 ?_
              refine sw_topL (nI_l (by omega)) ?_
              refine sw_llt 86 79 82 rfl (by decide) rfl dX2_pay_78 dX2_pay_79 (fun c_78 => ?_) (fun c_78 => ?_)
              · rw [pk_lLT (by omega) (by omega)] at c_78
                refine sw_iconst 87 rfl (nI 0) rfl dX2_pay_86 ?_
                refine sw_istore 89 rfl [_, _, _, _, _, _, _] (Nat.le_of_ble_eq_true rfl) rfl dX2_pay_87 ?_
                refine sw_aload_n 90 rfl rfl rfl dX2_pay_89 ?_
                refine sw_iload 92 rfl rfl dX2_pay_90 ?_
                refine sw_if_ne 99 95 (by decide) rfl dX2_pay_92 (fun c_92 => ?_) (fun c_92 => absurd c_92 (b2_n.mpr e_32))
                clear c_92
                refine sw_iload 101 rfl rfl dX2_pay_99 ?_
                refine sw_if_ne 108 104 (by decide) rfl dX2_pay_101 (fun c_101 => ?_) (fun c_101 => absurd c_101 (by decide))
                clear c_101
                refine sw_iload 110 rfl rfl dX2_pay_108 ?_
                refine sw_if_eq 117 113 (by decide) rfl dX2_pay_110 (fun c_110 => ?_) (fun c_110 => absurd (by decide) c_110)
                clear c_110
                refine sw_iconst 118 rfl (nI 3) rfl dX2_pay_117 ?_
                refine sw_callV 121 [] rfl cs_X2_124 rfl (Nat.le_of_ble_eq_true rfl) rfl hT.obj rfl rfl (ct_goesWellK hT.1 3 (by omega) (by omega)) rfl rfl (Nat.le_of_ble_eq_true rfl) dX2_pay_118 (fun v X hq => ?_) (fun E X hq => by obtain ⟨hv, -⟩ := hq; cases hv)
                obtain ⟨hv, hT1⟩ := hq
                cases hv
                replace hT := hT.tr hT1
                clear hT1
                refine sw_if_ne 126 124 (by decide) rfl dX2_pay_121 (fun c_121 => absurd (by decide) c_121) (fun c_121 => ?_)
                clear c_121
                refine sw_iconst 125 rfl (nI 0) rfl dX2_pay_124 ?_
                refine sw_iret rfl rfl dX2_pay_125 ?_
                first | (have hk : kPay S a b c = 1 := cif_t e_32
                         refine ⟨?_, hT.st ?_⟩ <;> simp [rPay, sPay, hk, cif, tk]; done) | (refine ⟨?_, hT.st ?_⟩ <;> first | (simp [rPay, sPay, kPay, cif, tk, c_10, e_20, xm, e_32, xi, xj, c_41, c_50, c_66, c_78]; done) | (subst c_10; simp [rPay, sPay, kPay, cif, tk, e_20, xm, e_32, xi, xj, c_41, c_50, c_66, c_78]; done))
              · rw [pk_lLT (by omega) (by omega)] at c_78
                refine sw_iconst 83 rfl (nI 1) rfl dX2_pay_82 ?_
                refine sw_goto 87 (by decide) dX2_pay_83 ?_
                refine sw_istore 89 rfl [_, _, _, _, _, _, _] (Nat.le_of_ble_eq_true rfl) rfl dX2_pay_87 ?_
                refine sw_aload_n 90 rfl rfl rfl dX2_pay_89 ?_
                refine sw_iload 92 rfl rfl dX2_pay_90 ?_
                refine sw_if_ne 99 95 (by decide) rfl dX2_pay_92 (fun c_92 => ?_) (fun c_92 => absurd c_92 (b2_n.mpr e_32))
                clear c_92
                refine sw_iload 101 rfl rfl dX2_pay_99 ?_
                refine sw_if_ne 108 104 (by decide) rfl dX2_pay_101 (fun c_101 => ?_) (fun c_101 => absurd c_101 (by decide))
                clear c_101
                refine sw_iload 110 rfl rfl dX2_pay_108 ?_
                refine sw_if_eq 117 113 (by decide) rfl dX2_pay_110 (fun c_110 => absurd c_110 (by decide)) (fun c_110 => ?_)
                clear c_110
                refine sw_iconst 114 rfl (nI 0) rfl dX2_pay_113 ?_
                refine sw_goto 118 (by decide) dX2_pay_114 ?_
                refine sw_callV 121 [] rfl cs_X2_124 rfl (Nat.le_of_ble_eq_true rfl) rfl hT.obj rfl rfl (ct_goesWell0 hT.1) rfl rfl (Nat.le_of_ble_eq_true rfl) dX2_pay_118 (fun v X hq => ?_) (fun E X hq => by obtain ⟨hv, -⟩ := hq; cases hv)
                obtain ⟨hv, hT1⟩ := hq
                cases hv
                replace hT := hT.tr hT1
                clear hT1
                refine sw_if_ne 126 124 (by decide) rfl dX2_pay_121 (fun c_121 => ?_) (fun c_121 => absurd c_121 (by decide))
                clear c_121
                refine sw_aload_n 127 rfl rfl rfl dX2_pay_126 ?_
                refine gf_X2_13 130 rfl hT.obj rfl rfl dX2_pay_127 ?_
                refine sw_iload_n 131 rfl rfl dX2_pay_130 ?_
                refine sw_dup2 132 rfl rfl rfl dX2_pay_131 ?_
                refine sw_lald 133 rfl (hT.arr 5 rfl) (by omega) (Nat.le_of_ble_eq_true rfl) dX2_pay_132 ?_
                try simp only [sI_N, sI_L, sN_I, sN_L, sL_N, sL_I, sN_t, sI_t, sL_t, pOwe_N, pOwe_I, pOweBoth_N, pOweBoth_I, pTB_N, pTB_I, pGoBack_N, pOweOn_N, pOweOn_I, reduceIte, Nat.reduceEqDiff]
                refine sw_iload_n 134 rfl rfl dX2_pay_133 ?_
                refine sw_i2l 135 rfl dX2_pay_134 ?_
                refine sw_topL (nI_l (by omega)) ?_
                refine sw_lsub 136 rfl dX2_pay_135 ?_
                refine sw_topL (lN_sub (Nat.not_lt.mp c_78)) ?_
                refine sw_last 137 rfl (hT.arr 5 rfl) (by omega) (Nat.le_of_ble_eq_true rfl) dX2_pay_136 (fun X hX => ?_)
                replace hT := hT.p5 hX
                clear hX
                refine sw_aload_n 138 rfl rfl rfl dX2_pay_137 ?_
                refine gf_X2_13 141 rfl hT.obj rfl rfl dX2_pay_138 ?_
                refine sw_iload_n 142 rfl rfl dX2_pay_141 ?_
                refine sw_dup2 143 rfl rfl rfl dX2_pay_142 ?_
                refine sw_lald 144 rfl (hT.arr 5 rfl) (by omega) (Nat.le_of_ble_eq_true rfl) dX2_pay_143 ?_
                try simp only [sI_N, sI_L, sN_I, sN_L, sL_N, sL_I, sN_t, sI_t, sL_t, pOwe_N, pOwe_I, pOweBoth_N, pOweBoth_I, pTB_N, pTB_I, pGoBack_N, pOweOn_N, pOweOn_I, reduceIte, Nat.reduceEqDiff]
                rw [if_neg (fun z => c_10 (congrArg nI z.symm))]
                refine sw_iload_n 145 rfl rfl dX2_pay_144 ?_
                refine sw_i2l 146 rfl dX2_pay_145 ?_
                refine sw_topL (nI_l (by omega)) ?_
                refine sw_ladd 147 rfl dX2_pay_146 ?_
                refine sw_topL (lN_add _ _) ?_
                refine sw_last 148 rfl (hT.arr 5 rfl) (by omega) (Nat.le_of_ble_eq_true rfl) dX2_pay_147 (fun X hX => ?_)
                replace hT := hT.p5 hX
                clear hX
                refine sw_aload_n 149 rfl rfl rfl dX2_pay_148 ?_
                refine sw_iload_n 150 rfl rfl dX2_pay_149 ?_
                refine sw_iload_n 151 rfl rfl dX2_pay_150 ?_
                refine sw_iload_n 152 rfl rfl dX2_pay_151 ?_
                refine sw_ineg 153 rfl dX2_pay_152 ?_
                refine sw_i2l 154 rfl dX2_pay_153 ?_
                refine sw_topL (show (-(nI m)).toInt64 = -(lN m) from neg_l (by omega)) ?_
                refine sw_callV 157 [] rfl cs_X2_203 rfl (Nat.le_of_ble_eq_true rfl) rfl hT.obj rfl rfl (ct_oweBoth hT.1 i j (by omega) (by omega) _) rfl rfl (Nat.le_of_ble_eq_true rfl) dX2_pay_154 (fun v X hq => ?_) (fun E X hq => by obtain ⟨hv, -⟩ := hq; cases hv)
                obtain ⟨hv, hT1⟩ := hq
                cases hv
                replace hT := hT.tr hT1
                clear hT1
                refine sw_aload_n 158 rfl rfl rfl dX2_pay_157 ?_
                refine gf_X2_36 161 rfl hT.obj rfl rfl dX2_pay_158 ?_
                refine sw_bipush 163 rfl (nI 12) rfl dX2_pay_161 ?_
                refine sw_iload_n 164 rfl rfl dX2_pay_163 ?_
                refine sw_imulN 165 rfl dX2_pay_164 ?_
                refine sw_iload_n 166 rfl rfl dX2_pay_165 ?_
                refine sw_iaddN 167 rfl dX2_pay_166 ?_
                refine sw_lald 168 rfl (hT.arr 12 rfl) (by omega) (Nat.le_of_ble_eq_true rfl) dX2_pay_167 ?_
                try simp only [sI_N, sI_L, sN_I, sN_L, sL_N, sL_I, sN_t, sI_t, sL_t, pOwe_N, pOwe_I, pOweBoth_N, pOweBoth_I, pTB_N, pTB_I, pGoBack_N, pOweOn_N, pOweOn_I, reduceIte, Nat.reduceEqDiff]
                refine sw_l2i 169 rfl dX2_pay_168 ?_
                refine sw_iret rfl rfl dX2_pay_169 ?_
                first | (have hk : kPay S a b c = 1 := cif_t e_32
                         refine ⟨?_, hT.st ?_⟩ <;> simp [rPay, sPay, hk, cif, tk]; done) | (refine ⟨?_, hT.st ?_⟩ <;> first | (simp [rPay, sPay, kPay, cif, tk, c_10, e_20, xm, e_32, xi, xj, c_41, c_50, c_66, c_78]; done) | (subst c_10; simp [rPay, sPay, kPay, cif, tk, e_20, xm, e_32, xi, xj, c_41, c_50, c_66, c_78]; done))

set_option maxHeartbeats 4000000 in
theorem ct_deliver (hR : TwR γ Mo aT X S) (hw : WF K S) (a b c : Int32) : Ev γ mX2_deliver [.ref Mo, .int a, .int b, .int c] X (fun oc X1 => oc = .inl (some (.int (rDel S a b c))) ∧ TwF γ Mo aT X X1 (sDel S a b c)) := by
  have hT := TwF.rf hR
  have hnb := hw.nb
  have hno := hw.no
  have hnc := hw.nc
  have hhr := hw.hr
  refine Ev.of (lv := [_, _, _, _, _, _, _]) 3 ⟨by decide +kernel, rfl, (Nat.le_of_ble_eq_true rfl)⟩ rfl ?_
  refine sw_aload_n 1 rfl rfl rfl dX2_deliver_0 ?_
  refine sw_iload_n 2 rfl rfl dX2_deliver_1 ?_
  refine sw_iload_n 3 rfl rfl dX2_deliver_2 ?_
  refine sw_callV 6 [] rfl cs_X2_127 rfl (Nat.le_of_ble_eq_true rfl) rfl hT.obj rfl rfl (ct_areBrokers hT.1 (by omega) _ _) rfl rfl (Nat.le_of_ble_eq_true rfl) dX2_deliver_3 (fun v X hq => ?_) (fun E X hq => by obtain ⟨hv, -⟩ := hq; cases hv)
  obtain ⟨hv, hT1⟩ := hq
  cases hv
  replace hT := hT.tr hT1
  clear hT1
  refine sw_istore 8 rfl [_, _, _, _, _, _, _] (Nat.le_of_ble_eq_true rfl) rfl dX2_deliver_6 ?_
  refine sw_iload_n 9 rfl rfl dX2_deliver_8 ?_
  refine sw_iload_n 10 rfl rfl dX2_deliver_9 ?_
  refine sw_icmp_eq 27 13 (by decide) rfl dX2_deliver_10 (fun c_10 => ?_) (fun c_10 => ?_)
  · refine sw_iconst 28 rfl (nI 0) rfl dX2_deliver_27 ?_
    refine sw_istore 30 rfl [_, _, _, _, _, _, _] (Nat.le_of_ble_eq_true rfl) rfl dX2_deliver_28 ?_
    refine sw_iload 32 rfl rfl dX2_deliver_30 ?_
    refine sw_if_eq 76 35 (by decide) rfl dX2_deliver_32 (fun c_32 => ?_) (fun c_32 => ?_)
    · rw [b2_0] at c_32
      have e_32 := c_32
      refine sw_iconst 77 rfl (nI 0) rfl dX2_deliver_76 ?_
      refine sw_istore 79 rfl [_, _, _, _, _, _, _] (Nat.le_of_ble_eq_true rfl) rfl dX2_deliver_77 ?_
      refine sw_aload_n 80 rfl rfl rfl dX2_deliver_79 ?_
      refine sw_iload 82 rfl rfl dX2_deliver_80 ?_
      refine sw_if_ne 89 85 (by decide) rfl dX2_deliver_82 (fun c_82 => absurd (b2_0.mpr e_32) c_82) (fun c_82 => ?_)
      clear c_82
      refine sw_iconst 86 rfl (nI 1) rfl dX2_deliver_85 ?_
      refine sw_goto 108 (by decide) dX2_deliver_86 ?_
      refine sw_callV 111 [] rfl cs_X2_124 rfl (Nat.le_of_ble_eq_true rfl) rfl hT.obj rfl rfl (ct_goesWellK hT.1 1 (by omega) (by omega)) rfl rfl (Nat.le_of_ble_eq_true rfl) dX2_deliver_108 (fun v X hq => ?_) (fun E X hq => by obtain ⟨hv, -⟩ := hq; cases hv)
      obtain ⟨hv, hT1⟩ := hq
      cases hv
      replace hT := hT.tr hT1
      clear hT1
      refine sw_if_ne 116 114 (by decide) rfl dX2_deliver_111 (fun c_111 => absurd (by decide) c_111) (fun c_111 => ?_)
      clear c_111
      refine sw_iconst 115 rfl (nI 0) rfl dX2_deliver_114 ?_
      refine sw_iret rfl rfl dX2_deliver_115 ?_
      first | (have hk : kDel S a b c = 1 := cif_t e_32
               refine ⟨?_, hT.st ?_⟩ <;> simp [rDel, sDel, hk, cif, tk]; done) | (refine ⟨?_, hT.st ?_⟩ <;> first | (simp [rDel, sDel, kDel, cif, tk, c_10, e_32]; done) | (subst c_10; simp [rDel, sDel, kDel, cif, tk, e_32]; done))
    · rw [b2_n] at c_32
      have e_32 := c_32
      obtain ⟨⟨i, hi, rfl⟩, ⟨j, hj, rfl⟩⟩ := c_32
      have xi : ix (nI i) = i := ix_nI (by omega)
      have xj : ix (nI j) = j := ix_nI (by omega)
      refine sw_aload_n 36 rfl rfl rfl dX2_deliver_35 ?_
      refine gf_X2_20 39 rfl hT.obj rfl rfl dX2_deliver_36 ?_
      refine sw_iload_n 40 rfl rfl dX2_deliver_39 ?_
      refine sw_iald 41 rfl (hT.arr 7 rfl) (by omega) (Nat.le_of_ble_eq_true rfl) dX2_deliver_40 ?_
      refine sw_iconst 42 rfl (nI 2) rfl dX2_deliver_41 ?_
      refine sw_icmp_eq 76 45 (by decide) rfl dX2_deliver_42 (fun c_42 => ?_) (fun c_42 => ?_)
      · refine sw_iconst 77 rfl (nI 0) rfl dX2_deliver_76 ?_
        refine sw_istore 79 rfl [_, _, _, _, _, _, _] (Nat.le_of_ble_eq_true rfl) rfl dX2_deliver_77 ?_
        refine sw_aload_n 80 rfl rfl rfl dX2_deliver_79 ?_
        refine sw_iload 82 rfl rfl dX2_deliver_80 ?_
        refine sw_if_ne 89 85 (by decide) rfl dX2_deliver_82 (fun c_82 => ?_) (fun c_82 => absurd c_82 (b2_n.mpr e_32))
        clear c_82
        refine sw_iload 91 rfl rfl dX2_deliver_89 ?_
        refine sw_if_ne 98 94 (by decide) rfl dX2_deliver_91 (fun c_91 => absurd (by decide) c_91) (fun c_91 => ?_)
        clear c_91
        refine sw_iconst 95 rfl (nI 2) rfl dX2_deliver_94 ?_
        refine sw_goto 108 (by decide) dX2_deliver_95 ?_
        refine sw_callV 111 [] rfl cs_X2_124 rfl (Nat.le_of_ble_eq_true rfl) rfl hT.obj rfl rfl (ct_goesWellK hT.1 2 (by omega) (by omega)) rfl rfl (Nat.le_of_ble_eq_true rfl) dX2_deliver_108 (fun v X hq => ?_) (fun E X hq => by obtain ⟨hv, -⟩ := hq; cases hv)
        obtain ⟨hv, hT1⟩ := hq
        cases hv
        replace hT := hT.tr hT1
        clear hT1
        refine sw_if_ne 116 114 (by decide) rfl dX2_deliver_111 (fun c_111 => absurd (by decide) c_111) (fun c_111 => ?_)
        clear c_111
        refine sw_iconst 115 rfl (nI 0) rfl dX2_deliver_114 ?_
        refine sw_iret rfl rfl dX2_deliver_115 ?_
        first | (have hk : kDel S a b c = 1 := cif_t e_32
                 refine ⟨?_, hT.st ?_⟩ <;> simp [rDel, sDel, hk, cif, tk]; done) | (refine ⟨?_, hT.st ?_⟩ <;> first | (simp [rDel, sDel, kDel, cif, tk, c_10, e_32, xi, xj, c_42]; done) | (subst c_10; simp [rDel, sDel, kDel, cif, tk, e_32, xi, xj, c_42]; done))
      · refine sw_aload_n 46 rfl rfl rfl dX2_deliver_45 ?_
        refine gf_X2_20 49 rfl hT.obj rfl rfl dX2_deliver_46 ?_
        refine sw_iload_n 50 rfl rfl dX2_deliver_49 ?_
        refine sw_iald 51 rfl (hT.arr 7 rfl) (by omega) (Nat.le_of_ble_eq_true rfl) dX2_deliver_50 ?_
        refine sw_iconst 52 rfl (nI 2) rfl dX2_deliver_51 ?_
        refine sw_icmp_eq 76 55 (by decide) rfl dX2_deliver_52 (fun c_52 => ?_) (fun c_52 => ?_)
        · refine sw_iconst 77 rfl (nI 0) rfl dX2_deliver_76 ?_
          refine sw_istore 79 rfl [_, _, _, _, _, _, _] (Nat.le_of_ble_eq_true rfl) rfl dX2_deliver_77 ?_
          refine sw_aload_n 80 rfl rfl rfl dX2_deliver_79 ?_
          refine sw_iload 82 rfl rfl dX2_deliver_80 ?_
          refine sw_if_ne 89 85 (by decide) rfl dX2_deliver_82 (fun c_82 => ?_) (fun c_82 => absurd c_82 (b2_n.mpr e_32))
          clear c_82
          refine sw_iload 91 rfl rfl dX2_deliver_89 ?_
          refine sw_if_ne 98 94 (by decide) rfl dX2_deliver_91 (fun c_91 => absurd (by decide) c_91) (fun c_91 => ?_)
          clear c_91
          refine sw_iconst 95 rfl (nI 2) rfl dX2_deliver_94 ?_
          refine sw_goto 108 (by decide) dX2_deliver_95 ?_
          refine sw_callV 111 [] rfl cs_X2_124 rfl (Nat.le_of_ble_eq_true rfl) rfl hT.obj rfl rfl (ct_goesWellK hT.1 2 (by omega) (by omega)) rfl rfl (Nat.le_of_ble_eq_true rfl) dX2_deliver_108 (fun v X hq => ?_) (fun E X hq => by obtain ⟨hv, -⟩ := hq; cases hv)
          obtain ⟨hv, hT1⟩ := hq
          cases hv
          replace hT := hT.tr hT1
          clear hT1
          refine sw_if_ne 116 114 (by decide) rfl dX2_deliver_111 (fun c_111 => absurd (by decide) c_111) (fun c_111 => ?_)
          clear c_111
          refine sw_iconst 115 rfl (nI 0) rfl dX2_deliver_114 ?_
          refine sw_iret rfl rfl dX2_deliver_115 ?_
          first | (have hk : kDel S a b c = 1 := cif_t e_32
                   refine ⟨?_, hT.st ?_⟩ <;> simp [rDel, sDel, hk, cif, tk]; done) | (refine ⟨?_, hT.st ?_⟩ <;> first | (simp [rDel, sDel, kDel, cif, tk, c_10, e_32, xi, xj, c_42, c_52]; done) | (subst c_10; simp [rDel, sDel, kDel, cif, tk, e_32, xi, xj, c_42, c_52]; done))
        · refine sw_aload_n 56 rfl rfl rfl dX2_deliver_55 ?_
          refine gf_X2_36 59 rfl hT.obj rfl rfl dX2_deliver_56 ?_
          refine sw_bipush 61 rfl (nI 12) rfl dX2_deliver_59 ?_
          refine sw_iload_n 62 rfl rfl dX2_deliver_61 ?_
          refine sw_imulN 63 rfl dX2_deliver_62 ?_
          refine sw_iload_n 64 rfl rfl dX2_deliver_63 ?_
          refine sw_iaddN 65 rfl dX2_deliver_64 ?_
          refine sw_lald 66 rfl (hT.arr 12 rfl) (by omega) (Nat.le_of_ble_eq_true rfl) dX2_deliver_65 ?_
          refine sw_iload_n 67 rfl rfl dX2_deliver_66 ?_
          refine sw_i2l 68 rfl dX2_deliver_67 ?_
          refine sw_llt 76 69 72 rfl (by decide) rfl dX2_deliver_68 dX2_deliver_69 (fun c_68 => ?_) (fun c_68 => ?_)
          · refine sw_iconst 77 rfl (nI 0) rfl dX2_deliver_76 ?_
            refine sw_istore 79 rfl [_, _, _, _, _, _, _] (Nat.le_of_ble_eq_true rfl) rfl dX2_deliver_77 ?_
            refine sw_aload_n 80 rfl rfl rfl dX2_deliver_79 ?_
            refine sw_iload 82 rfl rfl dX2_deliver_80 ?_
            refine sw_if_ne 89 85 (by decide) rfl dX2_deliver_82 (fun c_82 => ?_) (fun c_82 => absurd c_82 (b2_n.mpr e_32))
            clear c_82
            refine sw_iload 91 rfl rfl dX2_deliver_89 ?_
            refine sw_if_ne 98 94 (by decide) rfl dX2_deliver_91 (fun c_91 => absurd (by decide) c_91) (fun c_91 => ?_)
            clear c_91
            refine sw_iconst 95 rfl (nI 2) rfl dX2_deliver_94 ?_
            refine sw_goto 108 (by decide) dX2_deliver_95 ?_
            refine sw_callV 111 [] rfl cs_X2_124 rfl (Nat.le_of_ble_eq_true rfl) rfl hT.obj rfl rfl (ct_goesWellK hT.1 2 (by omega) (by omega)) rfl rfl (Nat.le_of_ble_eq_true rfl) dX2_deliver_108 (fun v X hq => ?_) (fun E X hq => by obtain ⟨hv, -⟩ := hq; cases hv)
            obtain ⟨hv, hT1⟩ := hq
            cases hv
            replace hT := hT.tr hT1
            clear hT1
            refine sw_if_ne 116 114 (by decide) rfl dX2_deliver_111 (fun c_111 => absurd (by decide) c_111) (fun c_111 => ?_)
            clear c_111
            refine sw_iconst 115 rfl (nI 0) rfl dX2_deliver_114 ?_
            refine sw_iret rfl rfl dX2_deliver_115 ?_
            first | (have hk : kDel S a b c = 1 := cif_t e_32
                     refine ⟨?_, hT.st ?_⟩ <;> simp [rDel, sDel, hk, cif, tk]; done) | (refine ⟨?_, hT.st ?_⟩ <;> first | (simp [rDel, sDel, kDel, cif, tk, c_10, e_32, xi, xj, c_42, c_52, c_68]; done) | (subst c_10; simp [rDel, sDel, kDel, cif, tk, e_32, xi, xj, c_42, c_52, c_68]; done))
          · refine sw_iconst 73 rfl (nI 1) rfl dX2_deliver_72 ?_
            refine sw_goto 77 (by decide) dX2_deliver_73 ?_
            refine sw_istore 79 rfl [_, _, _, _, _, _, _] (Nat.le_of_ble_eq_true rfl) rfl dX2_deliver_77 ?_
            refine sw_aload_n 80 rfl rfl rfl dX2_deliver_79 ?_
            refine sw_iload 82 rfl rfl dX2_deliver_80 ?_
            refine sw_if_ne 89 85 (by decide) rfl dX2_deliver_82 (fun c_82 => ?_) (fun c_82 => absurd c_82 (b2_n.mpr e_32))
            clear c_82
            refine sw_iload 91 rfl rfl dX2_deliver_89 ?_
            refine sw_if_ne 98 94 (by decide) rfl dX2_deliver_91 (fun c_91 => absurd (by decide) c_91) (fun c_91 => ?_)
            clear c_91
            refine sw_iconst 95 rfl (nI 2) rfl dX2_deliver_94 ?_
            refine sw_goto 108 (by decide) dX2_deliver_95 ?_
            refine sw_callV 111 [] rfl cs_X2_124 rfl (Nat.le_of_ble_eq_true rfl) rfl hT.obj rfl rfl (ct_goesWellK hT.1 2 (by omega) (by omega)) rfl rfl (Nat.le_of_ble_eq_true rfl) dX2_deliver_108 (fun v X hq => ?_) (fun E X hq => by obtain ⟨hv, -⟩ := hq; cases hv)
            obtain ⟨hv, hT1⟩ := hq
            cases hv
            replace hT := hT.tr hT1
            clear hT1
            refine sw_if_ne 116 114 (by decide) rfl dX2_deliver_111 (fun c_111 => absurd (by decide) c_111) (fun c_111 => ?_)
            clear c_111
            refine sw_iconst 115 rfl (nI 0) rfl dX2_deliver_114 ?_
            refine sw_iret rfl rfl dX2_deliver_115 ?_
            first | (have hk : kDel S a b c = 1 := cif_t e_32
                     refine ⟨?_, hT.st ?_⟩ <;> simp [rDel, sDel, hk, cif, tk]; done) | (refine ⟨?_, hT.st ?_⟩ <;> first | (simp [rDel, sDel, kDel, cif, tk, c_10, e_32, xi, xj, c_42, c_52, c_68]; done) | (subst c_10; simp [rDel, sDel, kDel, cif, tk, e_32, xi, xj, c_42, c_52, c_68]; done))
  · refine sw_iload_n 14 rfl rfl dX2_deliver_13 ?_
    refine sw_iconst 15 rfl (nI 1) rfl dX2_deliver_14 ?_
    refine sw_ldc 17 rfl q922 dX2_deliver_15 ?_
    refine sw_topI (show (1000000 : Int32) = nI 1000000 from rfl) ?_
    refine sw_callS 20 [] rfl cs_X2_116 rfl (Nat.le_of_ble_eq_true rfl) rfl (ct_in1 _ 1000000 (by omega)) rfl rfl (Nat.le_of_ble_eq_true rfl) dX2_deliver_17 (fun v X hq => ?_) (fun E X hq => by obtain ⟨hv, -⟩ := hq; cases hv)
    obtain ⟨hv, rfl⟩ := hq
    cases hv
    refine sw_if_eq 27 23 (by decide) rfl dX2_deliver_20 (fun c_20 => ?_) (fun c_20 => ?_)
    · rw [b2_0] at c_20
      have e_20 := c_20
      refine sw_iconst 28 rfl (nI 0) rfl dX2_deliver_27 ?_
      refine sw_istore 30 rfl [_, _, _, _, _, _, _] (Nat.le_of_ble_eq_true rfl) rfl dX2_deliver_28 ?_
      refine sw_iload 32 rfl rfl dX2_deliver_30 ?_
      refine sw_if_eq 76 35 (by decide) rfl dX2_deliver_32 (fun c_32 => ?_) (fun c_32 => ?_)
      · rw [b2_0] at c_32
        have e_32 := c_32
        refine sw_iconst 77 rfl (nI 0) rfl dX2_deliver_76 ?_
        refine sw_istore 79 rfl [_, _, _, _, _, _, _] (Nat.le_of_ble_eq_true rfl) rfl dX2_deliver_77 ?_
        refine sw_aload_n 80 rfl rfl rfl dX2_deliver_79 ?_
        refine sw_iload 82 rfl rfl dX2_deliver_80 ?_
        refine sw_if_ne 89 85 (by decide) rfl dX2_deliver_82 (fun c_82 => absurd (b2_0.mpr e_32) c_82) (fun c_82 => ?_)
        clear c_82
        refine sw_iconst 86 rfl (nI 1) rfl dX2_deliver_85 ?_
        refine sw_goto 108 (by decide) dX2_deliver_86 ?_
        refine sw_callV 111 [] rfl cs_X2_124 rfl (Nat.le_of_ble_eq_true rfl) rfl hT.obj rfl rfl (ct_goesWellK hT.1 1 (by omega) (by omega)) rfl rfl (Nat.le_of_ble_eq_true rfl) dX2_deliver_108 (fun v X hq => ?_) (fun E X hq => by obtain ⟨hv, -⟩ := hq; cases hv)
        obtain ⟨hv, hT1⟩ := hq
        cases hv
        replace hT := hT.tr hT1
        clear hT1
        refine sw_if_ne 116 114 (by decide) rfl dX2_deliver_111 (fun c_111 => absurd (by decide) c_111) (fun c_111 => ?_)
        clear c_111
        refine sw_iconst 115 rfl (nI 0) rfl dX2_deliver_114 ?_
        refine sw_iret rfl rfl dX2_deliver_115 ?_
        first | (have hk : kDel S a b c = 1 := cif_t e_32
                 refine ⟨?_, hT.st ?_⟩ <;> simp [rDel, sDel, hk, cif, tk]; done) | (refine ⟨?_, hT.st ?_⟩ <;> first | (simp [rDel, sDel, kDel, cif, tk, c_10, e_20, e_32]; done) | (subst c_10; simp [rDel, sDel, kDel, cif, tk, e_20, e_32]; done))
      · rw [b2_n] at c_32
        have e_32 := c_32
        obtain ⟨⟨i, hi, rfl⟩, ⟨j, hj, rfl⟩⟩ := c_32
        have xi : ix (nI i) = i := ix_nI (by omega)
        have xj : ix (nI j) = j := ix_nI (by omega)
        refine sw_aload_n 36 rfl rfl rfl dX2_deliver_35 ?_
        refine gf_X2_20 39 rfl hT.obj rfl rfl dX2_deliver_36 ?_
        refine sw_iload_n 40 rfl rfl dX2_deliver_39 ?_
        refine sw_iald 41 rfl (hT.arr 7 rfl) (by omega) (Nat.le_of_ble_eq_true rfl) dX2_deliver_40 ?_
        refine sw_iconst 42 rfl (nI 2) rfl dX2_deliver_41 ?_
        refine sw_icmp_eq 76 45 (by decide) rfl dX2_deliver_42 (fun c_42 => ?_) (fun c_42 => ?_)
        · refine sw_iconst 77 rfl (nI 0) rfl dX2_deliver_76 ?_
          refine sw_istore 79 rfl [_, _, _, _, _, _, _] (Nat.le_of_ble_eq_true rfl) rfl dX2_deliver_77 ?_
          refine sw_aload_n 80 rfl rfl rfl dX2_deliver_79 ?_
          refine sw_iload 82 rfl rfl dX2_deliver_80 ?_
          refine sw_if_ne 89 85 (by decide) rfl dX2_deliver_82 (fun c_82 => ?_) (fun c_82 => absurd c_82 (b2_n.mpr e_32))
          clear c_82
          refine sw_iload 91 rfl rfl dX2_deliver_89 ?_
          refine sw_if_ne 98 94 (by decide) rfl dX2_deliver_91 (fun c_91 => absurd (by decide) c_91) (fun c_91 => ?_)
          clear c_91
          refine sw_iconst 95 rfl (nI 2) rfl dX2_deliver_94 ?_
          refine sw_goto 108 (by decide) dX2_deliver_95 ?_
          refine sw_callV 111 [] rfl cs_X2_124 rfl (Nat.le_of_ble_eq_true rfl) rfl hT.obj rfl rfl (ct_goesWellK hT.1 2 (by omega) (by omega)) rfl rfl (Nat.le_of_ble_eq_true rfl) dX2_deliver_108 (fun v X hq => ?_) (fun E X hq => by obtain ⟨hv, -⟩ := hq; cases hv)
          obtain ⟨hv, hT1⟩ := hq
          cases hv
          replace hT := hT.tr hT1
          clear hT1
          refine sw_if_ne 116 114 (by decide) rfl dX2_deliver_111 (fun c_111 => absurd (by decide) c_111) (fun c_111 => ?_)
          clear c_111
          refine sw_iconst 115 rfl (nI 0) rfl dX2_deliver_114 ?_
          refine sw_iret rfl rfl dX2_deliver_115 ?_
          first | (have hk : kDel S a b c = 1 := cif_t e_32
                   refine ⟨?_, hT.st ?_⟩ <;> simp [rDel, sDel, hk, cif, tk]; done) | (refine ⟨?_, hT.st ?_⟩ <;> first | (simp [rDel, sDel, kDel, cif, tk, c_10, e_20, e_32, xi, xj, c_42]; done) | (subst c_10; simp [rDel, sDel, kDel, cif, tk, e_20, e_32, xi, xj, c_42]; done))
        · refine sw_aload_n 46 rfl rfl rfl dX2_deliver_45 ?_
          refine gf_X2_20 49 rfl hT.obj rfl rfl dX2_deliver_46 ?_
          refine sw_iload_n 50 rfl rfl dX2_deliver_49 ?_
          refine sw_iald 51 rfl (hT.arr 7 rfl) (by omega) (Nat.le_of_ble_eq_true rfl) dX2_deliver_50 ?_
          refine sw_iconst 52 rfl (nI 2) rfl dX2_deliver_51 ?_
          refine sw_icmp_eq 76 55 (by decide) rfl dX2_deliver_52 (fun c_52 => ?_) (fun c_52 => ?_)
          · refine sw_iconst 77 rfl (nI 0) rfl dX2_deliver_76 ?_
            refine sw_istore 79 rfl [_, _, _, _, _, _, _] (Nat.le_of_ble_eq_true rfl) rfl dX2_deliver_77 ?_
            refine sw_aload_n 80 rfl rfl rfl dX2_deliver_79 ?_
            refine sw_iload 82 rfl rfl dX2_deliver_80 ?_
            refine sw_if_ne 89 85 (by decide) rfl dX2_deliver_82 (fun c_82 => ?_) (fun c_82 => absurd c_82 (b2_n.mpr e_32))
            clear c_82
            refine sw_iload 91 rfl rfl dX2_deliver_89 ?_
            refine sw_if_ne 98 94 (by decide) rfl dX2_deliver_91 (fun c_91 => absurd (by decide) c_91) (fun c_91 => ?_)
            clear c_91
            refine sw_iconst 95 rfl (nI 2) rfl dX2_deliver_94 ?_
            refine sw_goto 108 (by decide) dX2_deliver_95 ?_
            refine sw_callV 111 [] rfl cs_X2_124 rfl (Nat.le_of_ble_eq_true rfl) rfl hT.obj rfl rfl (ct_goesWellK hT.1 2 (by omega) (by omega)) rfl rfl (Nat.le_of_ble_eq_true rfl) dX2_deliver_108 (fun v X hq => ?_) (fun E X hq => by obtain ⟨hv, -⟩ := hq; cases hv)
            obtain ⟨hv, hT1⟩ := hq
            cases hv
            replace hT := hT.tr hT1
            clear hT1
            refine sw_if_ne 116 114 (by decide) rfl dX2_deliver_111 (fun c_111 => absurd (by decide) c_111) (fun c_111 => ?_)
            clear c_111
            refine sw_iconst 115 rfl (nI 0) rfl dX2_deliver_114 ?_
            refine sw_iret rfl rfl dX2_deliver_115 ?_
            first | (have hk : kDel S a b c = 1 := cif_t e_32
                     refine ⟨?_, hT.st ?_⟩ <;> simp [rDel, sDel, hk, cif, tk]; done) | (refine ⟨?_, hT.st ?_⟩ <;> first | (simp [rDel, sDel, kDel, cif, tk, c_10, e_20, e_32, xi, xj, c_42, c_52]; done) | (subst c_10; simp [rDel, sDel, kDel, cif, tk, e_20, e_32, xi, xj, c_42, c_52]; done))
          · refine sw_aload_n 56 rfl rfl rfl dX2_deliver_55 ?_
            refine gf_X2_36 59 rfl hT.obj rfl rfl dX2_deliver_56 ?_
            refine sw_bipush 61 rfl (nI 12) rfl dX2_deliver_59 ?_
            refine sw_iload_n 62 rfl rfl dX2_deliver_61 ?_
            refine sw_imulN 63 rfl dX2_deliver_62 ?_
            refine sw_iload_n 64 rfl rfl dX2_deliver_63 ?_
            refine sw_iaddN 65 rfl dX2_deliver_64 ?_
            refine sw_lald 66 rfl (hT.arr 12 rfl) (by omega) (Nat.le_of_ble_eq_true rfl) dX2_deliver_65 ?_
            refine sw_iload_n 67 rfl rfl dX2_deliver_66 ?_
            refine sw_i2l 68 rfl dX2_deliver_67 ?_
            refine sw_llt 76 69 72 rfl (by decide) rfl dX2_deliver_68 dX2_deliver_69 (fun c_68 => ?_) (fun c_68 => ?_)
            · refine sw_iconst 77 rfl (nI 0) rfl dX2_deliver_76 ?_
              refine sw_istore 79 rfl [_, _, _, _, _, _, _] (Nat.le_of_ble_eq_true rfl) rfl dX2_deliver_77 ?_
              refine sw_aload_n 80 rfl rfl rfl dX2_deliver_79 ?_
              refine sw_iload 82 rfl rfl dX2_deliver_80 ?_
              refine sw_if_ne 89 85 (by decide) rfl dX2_deliver_82 (fun c_82 => ?_) (fun c_82 => absurd c_82 (b2_n.mpr e_32))
              clear c_82
              refine sw_iload 91 rfl rfl dX2_deliver_89 ?_
              refine sw_if_ne 98 94 (by decide) rfl dX2_deliver_91 (fun c_91 => absurd (by decide) c_91) (fun c_91 => ?_)
              clear c_91
              refine sw_iconst 95 rfl (nI 2) rfl dX2_deliver_94 ?_
              refine sw_goto 108 (by decide) dX2_deliver_95 ?_
              refine sw_callV 111 [] rfl cs_X2_124 rfl (Nat.le_of_ble_eq_true rfl) rfl hT.obj rfl rfl (ct_goesWellK hT.1 2 (by omega) (by omega)) rfl rfl (Nat.le_of_ble_eq_true rfl) dX2_deliver_108 (fun v X hq => ?_) (fun E X hq => by obtain ⟨hv, -⟩ := hq; cases hv)
              obtain ⟨hv, hT1⟩ := hq
              cases hv
              replace hT := hT.tr hT1
              clear hT1
              refine sw_if_ne 116 114 (by decide) rfl dX2_deliver_111 (fun c_111 => absurd (by decide) c_111) (fun c_111 => ?_)
              clear c_111
              refine sw_iconst 115 rfl (nI 0) rfl dX2_deliver_114 ?_
              refine sw_iret rfl rfl dX2_deliver_115 ?_
              first | (have hk : kDel S a b c = 1 := cif_t e_32
                       refine ⟨?_, hT.st ?_⟩ <;> simp [rDel, sDel, hk, cif, tk]; done) | (refine ⟨?_, hT.st ?_⟩ <;> first | (simp [rDel, sDel, kDel, cif, tk, c_10, e_20, e_32, xi, xj, c_42, c_52, c_68]; done) | (subst c_10; simp [rDel, sDel, kDel, cif, tk, e_20, e_32, xi, xj, c_42, c_52, c_68]; done))
            · refine sw_iconst 73 rfl (nI 1) rfl dX2_deliver_72 ?_
              refine sw_goto 77 (by decide) dX2_deliver_73 ?_
              refine sw_istore 79 rfl [_, _, _, _, _, _, _] (Nat.le_of_ble_eq_true rfl) rfl dX2_deliver_77 ?_
              refine sw_aload_n 80 rfl rfl rfl dX2_deliver_79 ?_
              refine sw_iload 82 rfl rfl dX2_deliver_80 ?_
              refine sw_if_ne 89 85 (by decide) rfl dX2_deliver_82 (fun c_82 => ?_) (fun c_82 => absurd c_82 (b2_n.mpr e_32))
              clear c_82
              refine sw_iload 91 rfl rfl dX2_deliver_89 ?_
              refine sw_if_ne 98 94 (by decide) rfl dX2_deliver_91 (fun c_91 => absurd (by decide) c_91) (fun c_91 => ?_)
              clear c_91
              refine sw_iconst 95 rfl (nI 2) rfl dX2_deliver_94 ?_
              refine sw_goto 108 (by decide) dX2_deliver_95 ?_
              refine sw_callV 111 [] rfl cs_X2_124 rfl (Nat.le_of_ble_eq_true rfl) rfl hT.obj rfl rfl (ct_goesWellK hT.1 2 (by omega) (by omega)) rfl rfl (Nat.le_of_ble_eq_true rfl) dX2_deliver_108 (fun v X hq => ?_) (fun E X hq => by obtain ⟨hv, -⟩ := hq; cases hv)
              obtain ⟨hv, hT1⟩ := hq
              cases hv
              replace hT := hT.tr hT1
              clear hT1
              refine sw_if_ne 116 114 (by decide) rfl dX2_deliver_111 (fun c_111 => absurd (by decide) c_111) (fun c_111 => ?_)
              clear c_111
              refine sw_iconst 115 rfl (nI 0) rfl dX2_deliver_114 ?_
              refine sw_iret rfl rfl dX2_deliver_115 ?_
              first | (have hk : kDel S a b c = 1 := cif_t e_32
                       refine ⟨?_, hT.st ?_⟩ <;> simp [rDel, sDel, hk, cif, tk]; done) | (refine ⟨?_, hT.st ?_⟩ <;> first | (simp [rDel, sDel, kDel, cif, tk, c_10, e_20, e_32, xi, xj, c_42, c_52, c_68]; done) | (subst c_10; simp [rDel, sDel, kDel, cif, tk, e_20, e_32, xi, xj, c_42, c_52, c_68]; done))
    · rw [b2_n] at c_20
      have e_20 := c_20
      obtain ⟨m, hm1, hm, rfl⟩ := c_20
      have xm : ix (nI m) = m := ix_nI (by omega)
      refine sw_iconst 24 rfl (nI 1) rfl dX2_deliver_23 ?_
      refine sw_goto 28 (by decide) dX2_deliver_24 ?_
      refine sw_istore 30 rfl [_, _, _, _, _, _, _] (Nat.le_of_ble_eq_true rfl) rfl dX2_deliver_28 ?_
      refine sw_iload 32 rfl rfl dX2_deliver_30 ?_
      refine sw_if_eq 76 35 (by decide) rfl dX2_deliver_32 (fun c_32 => ?_) (fun c_32 => ?_)
      · rw [b2_0] at c_32
        have e_32 := c_32
        refine sw_iconst 77 rfl (nI 0) rfl dX2_deliver_76 ?_
        refine sw_istore 79 rfl [_, _, _, _, _, _, _] (Nat.le_of_ble_eq_true rfl) rfl dX2_deliver_77 ?_
        refine sw_aload_n 80 rfl rfl rfl dX2_deliver_79 ?_
        refine sw_iload 82 rfl rfl dX2_deliver_80 ?_
        refine sw_if_ne 89 85 (by decide) rfl dX2_deliver_82 (fun c_82 => absurd (b2_0.mpr e_32) c_82) (fun c_82 => ?_)
        clear c_82
        refine sw_iconst 86 rfl (nI 1) rfl dX2_deliver_85 ?_
        refine sw_goto 108 (by decide) dX2_deliver_86 ?_
        refine sw_callV 111 [] rfl cs_X2_124 rfl (Nat.le_of_ble_eq_true rfl) rfl hT.obj rfl rfl (ct_goesWellK hT.1 1 (by omega) (by omega)) rfl rfl (Nat.le_of_ble_eq_true rfl) dX2_deliver_108 (fun v X hq => ?_) (fun E X hq => by obtain ⟨hv, -⟩ := hq; cases hv)
        obtain ⟨hv, hT1⟩ := hq
        cases hv
        replace hT := hT.tr hT1
        clear hT1
        refine sw_if_ne 116 114 (by decide) rfl dX2_deliver_111 (fun c_111 => absurd (by decide) c_111) (fun c_111 => ?_)
        clear c_111
        refine sw_iconst 115 rfl (nI 0) rfl dX2_deliver_114 ?_
        refine sw_iret rfl rfl dX2_deliver_115 ?_
        first | (have hk : kDel S a b c = 1 := cif_t e_32
                 refine ⟨?_, hT.st ?_⟩ <;> simp [rDel, sDel, hk, cif, tk]; done) | (refine ⟨?_, hT.st ?_⟩ <;> first | (simp [rDel, sDel, kDel, cif, tk, c_10, e_20, xm, e_32]; done) | (subst c_10; simp [rDel, sDel, kDel, cif, tk, e_20, xm, e_32]; done))
      · rw [b2_n] at c_32
        have e_32 := c_32
        obtain ⟨⟨i, hi, rfl⟩, ⟨j, hj, rfl⟩⟩ := c_32
        have xi : ix (nI i) = i := ix_nI (by omega)
        have xj : ix (nI j) = j := ix_nI (by omega)
        refine sw_aload_n 36 rfl rfl rfl dX2_deliver_35 ?_
        refine gf_X2_20 39 rfl hT.obj rfl rfl dX2_deliver_36 ?_
        refine sw_iload_n 40 rfl rfl dX2_deliver_39 ?_
        refine sw_iald 41 rfl (hT.arr 7 rfl) (by omega) (Nat.le_of_ble_eq_true rfl) dX2_deliver_40 ?_
        refine sw_iconst 42 rfl (nI 2) rfl dX2_deliver_41 ?_
        refine sw_icmp_eq 76 45 (by decide) rfl dX2_deliver_42 (fun c_42 => ?_) (fun c_42 => ?_)
        · refine sw_iconst 77 rfl (nI 0) rfl dX2_deliver_76 ?_
          refine sw_istore 79 rfl [_, _, _, _, _, _, _] (Nat.le_of_ble_eq_true rfl) rfl dX2_deliver_77 ?_
          refine sw_aload_n 80 rfl rfl rfl dX2_deliver_79 ?_
          refine sw_iload 82 rfl rfl dX2_deliver_80 ?_
          refine sw_if_ne 89 85 (by decide) rfl dX2_deliver_82 (fun c_82 => ?_) (fun c_82 => absurd c_82 (b2_n.mpr e_32))
          clear c_82
          refine sw_iload 91 rfl rfl dX2_deliver_89 ?_
          refine sw_if_ne 98 94 (by decide) rfl dX2_deliver_91 (fun c_91 => ?_) (fun c_91 => absurd c_91 (by decide))
          clear c_91
          refine sw_iload 100 rfl rfl dX2_deliver_98 ?_
          refine sw_if_eq 107 103 (by decide) rfl dX2_deliver_100 (fun c_100 => ?_) (fun c_100 => absurd (by decide) c_100)
          clear c_100
          refine sw_iconst 108 rfl (nI 3) rfl dX2_deliver_107 ?_
          refine sw_callV 111 [] rfl cs_X2_124 rfl (Nat.le_of_ble_eq_true rfl) rfl hT.obj rfl rfl (ct_goesWellK hT.1 3 (by omega) (by omega)) rfl rfl (Nat.le_of_ble_eq_true rfl) dX2_deliver_108 (fun v X hq => ?_) (fun E X hq => by obtain ⟨hv, -⟩ := hq; cases hv)
          obtain ⟨hv, hT1⟩ := hq
          cases hv
          replace hT := hT.tr hT1
          clear hT1
          refine sw_if_ne 116 114 (by decide) rfl dX2_deliver_111 (fun c_111 => absurd (by decide) c_111) (fun c_111 => ?_)
          clear c_111
          refine sw_iconst 115 rfl (nI 0) rfl dX2_deliver_114 ?_
          refine sw_iret rfl rfl dX2_deliver_115 ?_
          first | (have hk : kDel S a b c = 1 := cif_t e_32
                   refine ⟨?_, hT.st ?_⟩ <;> simp [rDel, sDel, hk, cif, tk]; done) | (refine ⟨?_, hT.st ?_⟩ <;> first | (simp [rDel, sDel, kDel, cif, tk, c_10, e_20, xm, e_32, xi, xj, c_42]; done) | (subst c_10; simp [rDel, sDel, kDel, cif, tk, e_20, xm, e_32, xi, xj, c_42]; done))
        · refine sw_aload_n 46 rfl rfl rfl dX2_deliver_45 ?_
          refine gf_X2_20 49 rfl hT.obj rfl rfl dX2_deliver_46 ?_
          refine sw_iload_n 50 rfl rfl dX2_deliver_49 ?_
          refine sw_iald 51 rfl (hT.arr 7 rfl) (by omega) (Nat.le_of_ble_eq_true rfl) dX2_deliver_50 ?_
          refine sw_iconst 52 rfl (nI 2) rfl dX2_deliver_51 ?_
          refine sw_icmp_eq 76 55 (by decide) rfl dX2_deliver_52 (fun c_52 => ?_) (fun c_52 => ?_)
          · refine sw_iconst 77 rfl (nI 0) rfl dX2_deliver_76 ?_
            refine sw_istore 79 rfl [_, _, _, _, _, _, _] (Nat.le_of_ble_eq_true rfl) rfl dX2_deliver_77 ?_
            refine sw_aload_n 80 rfl rfl rfl dX2_deliver_79 ?_
            refine sw_iload 82 rfl rfl dX2_deliver_80 ?_
            refine sw_if_ne 89 85 (by decide) rfl dX2_deliver_82 (fun c_82 => ?_) (fun c_82 => absurd c_82 (b2_n.mpr e_32))
            clear c_82
            refine sw_iload 91 rfl rfl dX2_deliver_89 ?_
            refine sw_if_ne 98 94 (by decide) rfl dX2_deliver_91 (fun c_91 => ?_) (fun c_91 => absurd c_91 (by decide))
            clear c_91
            refine sw_iload 100 rfl rfl dX2_deliver_98 ?_
            refine sw_if_eq 107 103 (by decide) rfl dX2_deliver_100 (fun c_100 => ?_) (fun c_100 => absurd (by decide) c_100)
            clear c_100
            refine sw_iconst 108 rfl (nI 3) rfl dX2_deliver_107 ?_
            refine sw_callV 111 [] rfl cs_X2_124 rfl (Nat.le_of_ble_eq_true rfl) rfl hT.obj rfl rfl (ct_goesWellK hT.1 3 (by omega) (by omega)) rfl rfl (Nat.le_of_ble_eq_true rfl) dX2_deliver_108 (fun v X hq => ?_) (fun E X hq => by obtain ⟨hv, -⟩ := hq; cases hv)
            obtain ⟨hv, hT1⟩ := hq
            cases hv
            replace hT := hT.tr hT1
            clear hT1
            refine sw_if_ne 116 114 (by decide) rfl dX2_deliver_111 (fun c_111 => absurd (by decide) c_111) (fun c_111 => ?_)
            clear c_111
            refine sw_iconst 115 rfl (nI 0) rfl dX2_deliver_114 ?_
            refine sw_iret rfl rfl dX2_deliver_115 ?_
            first | (have hk : kDel S a b c = 1 := cif_t e_32
                     refine ⟨?_, hT.st ?_⟩ <;> simp [rDel, sDel, hk, cif, tk]; done) | (refine ⟨?_, hT.st ?_⟩ <;> first | (simp [rDel, sDel, kDel, cif, tk, c_10, e_20, xm, e_32, xi, xj, c_42, c_52]; done) | (subst c_10; simp [rDel, sDel, kDel, cif, tk, e_20, xm, e_32, xi, xj, c_42, c_52]; done))
          · refine sw_aload_n 56 rfl rfl rfl dX2_deliver_55 ?_
            refine gf_X2_36 59 rfl hT.obj rfl rfl dX2_deliver_56 ?_
            refine sw_bipush 61 rfl (nI 12) rfl dX2_deliver_59 ?_
            refine sw_iload_n 62 rfl rfl dX2_deliver_61 ?_
            refine sw_imulN 63 rfl dX2_deliver_62 ?_
            refine sw_iload_n 64 rfl rfl dX2_deliver_63 ?_
            refine sw_iaddN 65 rfl dX2_deliver_64 ?_
            refine sw_lald 66 rfl (hT.arr 12 rfl) (by omega) (Nat.le_of_ble_eq_true rfl) dX2_deliver_65 ?_
            refine sw_iload_n 67 rfl rfl dX2_deliver_66 ?_
            refine sw_i2l 68 rfl dX2_deliver_67 ?_
            refine sw_topL (nI_l (by omega)) ?_
            refine sw_llt 76 69 72 rfl (by decide) rfl dX2_deliver_68 dX2_deliver_69 (fun c_68 => ?_) (fun c_68 => ?_)
            · refine sw_iconst 77 rfl (nI 0) rfl dX2_deliver_76 ?_
              refine sw_istore 79 rfl [_, _, _, _, _, _, _] (Nat.le_of_ble_eq_true rfl) rfl dX2_deliver_77 ?_
              refine sw_aload_n 80 rfl rfl rfl dX2_deliver_79 ?_
              refine sw_iload 82 rfl rfl dX2_deliver_80 ?_
              refine sw_if_ne 89 85 (by decide) rfl dX2_deliver_82 (fun c_82 => ?_) (fun c_82 => absurd c_82 (b2_n.mpr e_32))
              clear c_82
              refine sw_iload 91 rfl rfl dX2_deliver_89 ?_
              refine sw_if_ne 98 94 (by decide) rfl dX2_deliver_91 (fun c_91 => ?_) (fun c_91 => absurd c_91 (by decide))
              clear c_91
              refine sw_iload 100 rfl rfl dX2_deliver_98 ?_
              refine sw_if_eq 107 103 (by decide) rfl dX2_deliver_100 (fun c_100 => ?_) (fun c_100 => absurd (by decide) c_100)
              clear c_100
              refine sw_iconst 108 rfl (nI 3) rfl dX2_deliver_107 ?_
              refine sw_callV 111 [] rfl cs_X2_124 rfl (Nat.le_of_ble_eq_true rfl) rfl hT.obj rfl rfl (ct_goesWellK hT.1 3 (by omega) (by omega)) rfl rfl (Nat.le_of_ble_eq_true rfl) dX2_deliver_108 (fun v X hq => ?_) (fun E X hq => by obtain ⟨hv, -⟩ := hq; cases hv)
              obtain ⟨hv, hT1⟩ := hq
              cases hv
              replace hT := hT.tr hT1
              clear hT1
              refine sw_if_ne 116 114 (by decide) rfl dX2_deliver_111 (fun c_111 => absurd (by decide) c_111) (fun c_111 => ?_)
              clear c_111
              refine sw_iconst 115 rfl (nI 0) rfl dX2_deliver_114 ?_
              refine sw_iret rfl rfl dX2_deliver_115 ?_
              first | (have hk : kDel S a b c = 1 := cif_t e_32
                       refine ⟨?_, hT.st ?_⟩ <;> simp [rDel, sDel, hk, cif, tk]; done) | (refine ⟨?_, hT.st ?_⟩ <;> first | (simp [rDel, sDel, kDel, cif, tk, c_10, e_20, xm, e_32, xi, xj, c_42, c_52, c_68]; done) | (subst c_10; simp [rDel, sDel, kDel, cif, tk, e_20, xm, e_32, xi, xj, c_42, c_52, c_68]; done))
            · refine sw_iconst 73 rfl (nI 1) rfl dX2_deliver_72 ?_
              refine sw_goto 77 (by decide) dX2_deliver_73 ?_
              refine sw_istore 79 rfl [_, _, _, _, _, _, _] (Nat.le_of_ble_eq_true rfl) rfl dX2_deliver_77 ?_
              refine sw_aload_n 80 rfl rfl rfl dX2_deliver_79 ?_
              refine sw_iload 82 rfl rfl dX2_deliver_80 ?_
              refine sw_if_ne 89 85 (by decide) rfl dX2_deliver_82 (fun c_82 => ?_) (fun c_82 => absurd c_82 (b2_n.mpr e_32))
              clear c_82
              refine sw_iload 91 rfl rfl dX2_deliver_89 ?_
              refine sw_if_ne 98 94 (by decide) rfl dX2_deliver_91 (fun c_91 => ?_) (fun c_91 => absurd c_91 (by decide))
              clear c_91
              refine sw_iload 100 rfl rfl dX2_deliver_98 ?_
              refine sw_if_eq 107 103 (by decide) rfl dX2_deliver_100 (fun c_100 => absurd c_100 (by decide)) (fun c_100 => ?_)
              clear c_100
              refine sw_iconst 104 rfl (nI 0) rfl dX2_deliver_103 ?_
              refine sw_goto 108 (by decide) dX2_deliver_104 ?_
              refine sw_callV 111 [] rfl cs_X2_124 rfl (Nat.le_of_ble_eq_true rfl) rfl hT.obj rfl rfl (ct_goesWell0 hT.1) rfl rfl (Nat.le_of_ble_eq_true rfl) dX2_deliver_108 (fun v X hq => ?_) (fun E X hq => by obtain ⟨hv, -⟩ := hq; cases hv)
              obtain ⟨hv, hT1⟩ := hq
              cases hv
              replace hT := hT.tr hT1
              clear hT1
              refine sw_if_ne 116 114 (by decide) rfl dX2_deliver_111 (fun c_111 => ?_) (fun c_111 => absurd c_111 (by decide))
              clear c_111
              refine sw_aload_n 117 rfl rfl rfl dX2_deliver_116 ?_
              refine sw_iload_n 118 rfl rfl dX2_deliver_117 ?_
              refine sw_iload_n 119 rfl rfl dX2_deliver_118 ?_
              refine sw_iload_n 120 rfl rfl dX2_deliver_119 ?_
              refine sw_ineg 121 rfl dX2_deliver_120 ?_
              refine sw_i2l 122 rfl dX2_deliver_121 ?_
              refine sw_topL (show (-(nI m)).toInt64 = -(lN m) from neg_l (by omega)) ?_
              refine sw_callV 125 [] rfl cs_X2_203 rfl (Nat.le_of_ble_eq_true rfl) rfl hT.obj rfl rfl (ct_oweBoth hT.1 i j (by omega) (by omega) _) rfl rfl (Nat.le_of_ble_eq_true rfl) dX2_deliver_122 (fun v X hq => ?_) (fun E X hq => by obtain ⟨hv, -⟩ := hq; cases hv)
              obtain ⟨hv, hT1⟩ := hq
              cases hv
              replace hT := hT.tr hT1
              clear hT1
              refine sw_aload_n 126 rfl rfl rfl dX2_deliver_125 ?_
              refine gf_X2_36 129 rfl hT.obj rfl rfl dX2_deliver_126 ?_
              refine sw_bipush 131 rfl (nI 12) rfl dX2_deliver_129 ?_
              refine sw_iload_n 132 rfl rfl dX2_deliver_131 ?_
              refine sw_imulN 133 rfl dX2_deliver_132 ?_
              refine sw_iload_n 134 rfl rfl dX2_deliver_133 ?_
              refine sw_iaddN 135 rfl dX2_deliver_134 ?_
              refine sw_lald 136 rfl (hT.arr 12 rfl) (by omega) (Nat.le_of_ble_eq_true rfl) dX2_deliver_135 ?_
              try simp only [sI_N, sI_L, sN_I, sN_L, sL_N, sL_I, sN_t, sI_t, sL_t, pOwe_N, pOwe_I, pOweBoth_N, pOweBoth_I, pTB_N, pTB_I, pGoBack_N, pOweOn_N, pOweOn_I, reduceIte, Nat.reduceEqDiff]
              refine sw_l2i 137 rfl dX2_deliver_136 ?_
              refine sw_iret rfl rfl dX2_deliver_137 ?_
              first | (have hk : kDel S a b c = 1 := cif_t e_32
                       refine ⟨?_, hT.st ?_⟩ <;> simp [rDel, sDel, hk, cif, tk]; done) | (refine ⟨?_, hT.st ?_⟩ <;> first | (simp [rDel, sDel, kDel, cif, tk, c_10, e_20, xm, e_32, xi, xj, c_42, c_52, c_68]; done) | (subst c_10; simp [rDel, sDel, kDel, cif, tk, e_20, xm, e_32, xi, xj, c_42, c_52, c_68]; done))

set_option maxHeartbeats 4000000 in
theorem ct_courier (hR : TwR γ Mo aT X S) (hw : WF K S) (hK : K < 2 ^ 31) (a b c d : Int32) : Ev γ mX2_courier [.ref Mo, .int a, .int b, .int c, .int d] X (fun oc X1 => oc = .inl (some (.int (rCou S a b c d))) ∧ TwF γ Mo aT X X1 (sCou S a b c d)) := by
  have hT := TwF.rf hR
  have hnb := hw.nb
  have hno := hw.no
  have hnc := hw.nc
  have hhr := hw.hr
  have hca := fun b h => hw.cash (b := b) h
  refine Ev.of (lv := [_, _, _, _, _, _, _, _]) 3 ⟨by decide +kernel, rfl, (Nat.le_of_ble_eq_true rfl)⟩ rfl ?_
  refine sw_aload_n 1 rfl rfl rfl dX2_courier_0 ?_
  refine sw_iload_n 2 rfl rfl dX2_courier_1 ?_
  refine sw_iload_n 3 rfl rfl dX2_courier_2 ?_
  refine sw_callV 6 [] rfl cs_X2_127 rfl (Nat.le_of_ble_eq_true rfl) rfl hT.obj rfl rfl (ct_areBrokers hT.1 (by omega) _ _) rfl rfl (Nat.le_of_ble_eq_true rfl) dX2_courier_3 (fun v X hq => ?_) (fun E X hq => by obtain ⟨hv, -⟩ := hq; cases hv)
  obtain ⟨hv, hT1⟩ := hq
  cases hv
  replace hT := hT.tr hT1
  clear hT1
  refine sw_istore 8 rfl [_, _, _, _, _, _, _, _] (Nat.le_of_ble_eq_true rfl) rfl dX2_courier_6 ?_
  refine sw_iload_n 9 rfl rfl dX2_courier_8 ?_
  refine sw_iload_n 10 rfl rfl dX2_courier_9 ?_
  refine sw_icmp_eq 39 13 (by decide) rfl dX2_courier_10 (fun c_10 => ?_) (fun c_10 => ?_)
  · refine sw_iconst 40 rfl (nI 0) rfl dX2_courier_39 ?_
    refine sw_istore 42 rfl [_, _, _, _, _, _, _, _] (Nat.le_of_ble_eq_true rfl) rfl dX2_courier_40 ?_
    refine sw_iload 44 rfl rfl dX2_courier_42 ?_
    refine sw_if_eq 81 47 (by decide) rfl dX2_courier_44 (fun c_44 => ?_) (fun c_44 => ?_)
    · rw [b2_0] at c_44
      have e_44 := c_44
      refine sw_iconst 82 rfl (nI 0) rfl dX2_courier_81 ?_
      refine sw_istore 84 rfl [_, _, _, _, _, _, _, _] (Nat.le_of_ble_eq_true rfl) rfl dX2_courier_82 ?_
      refine sw_aload_n 85 rfl rfl rfl dX2_courier_84 ?_
      refine sw_iload 87 rfl rfl dX2_courier_85 ?_
      refine sw_if_ne 94 90 (by decide) rfl dX2_courier_87 (fun c_87 => absurd (b2_0.mpr e_44) c_87) (fun c_87 => ?_)
      clear c_87
      refine sw_iconst 91 rfl (nI 1) rfl dX2_courier_90 ?_
      refine sw_goto 113 (by decide) dX2_courier_91 ?_
      refine sw_callV 116 [] rfl cs_X2_124 rfl (Nat.le_of_ble_eq_true rfl) rfl hT.obj rfl rfl (ct_goesWellK hT.1 1 (by omega) (by omega)) rfl rfl (Nat.le_of_ble_eq_true rfl) dX2_courier_113 (fun v X hq => ?_) (fun E X hq => by obtain ⟨hv, -⟩ := hq; cases hv)
      obtain ⟨hv, hT1⟩ := hq
      cases hv
      replace hT := hT.tr hT1
      clear hT1
      refine sw_if_ne 121 119 (by decide) rfl dX2_courier_116 (fun c_116 => absurd (by decide) c_116) (fun c_116 => ?_)
      clear c_116
      refine sw_iconst 120 rfl (nI 0) rfl dX2_courier_119 ?_
      refine sw_iret rfl rfl dX2_courier_120 ?_
      first | (have hk : kCou S a b c d = 1 := cif_t e_44
               refine ⟨?_, hT.st ?_⟩ <;> simp [rCou, sCou, hk, cif, tk]; done) | (refine ⟨?_, hT.st ?_⟩ <;> first | (simp [rCou, sCou, kCou, cif, tk, c_10, e_44]; done) | (subst c_10; simp [rCou, sCou, kCou, cif, tk, e_44]; done))
    · rw [b2_n] at c_44
      have e_44 := c_44
      obtain ⟨⟨i, hi, rfl⟩, ⟨j, hj, rfl⟩⟩ := c_44
      have xi : ix (nI i) = i := ix_nI (by omega)
      have xj : ix (nI j) = j := ix_nI (by omega)
      have hci := hca i (by omega)
      refine sw_aload_n 48 rfl rfl rfl dX2_courier_47 ?_
      refine gf_X2_200 51 rfl hT.obj rfl rfl dX2_courier_48 ?_
      refine sw_bipush 53 rfl (nI 40) rfl dX2_courier_51 ?_
      refine sw_icmp_ge 81 56 (by decide) rfl dX2_courier_53 (fun c_53 => ?_) (fun c_53 => ?_)
      · rw [nI_leI (by omega) (by omega)] at c_53
        refine sw_iconst 82 rfl (nI 0) rfl dX2_courier_81 ?_
        refine sw_istore 84 rfl [_, _, _, _, _, _, _, _] (Nat.le_of_ble_eq_true rfl) rfl dX2_courier_82 ?_
        refine sw_aload_n 85 rfl rfl rfl dX2_courier_84 ?_
        refine sw_iload 87 rfl rfl dX2_courier_85 ?_
        refine sw_if_ne 94 90 (by decide) rfl dX2_courier_87 (fun c_87 => ?_) (fun c_87 => absurd c_87 (b2_n.mpr e_44))
        clear c_87
        refine sw_iload 96 rfl rfl dX2_courier_94 ?_
        refine sw_if_ne 103 99 (by decide) rfl dX2_courier_96 (fun c_96 => absurd (by decide) c_96) (fun c_96 => ?_)
        clear c_96
        refine sw_iconst 100 rfl (nI 2) rfl dX2_courier_99 ?_
        refine sw_goto 113 (by decide) dX2_courier_100 ?_
        refine sw_callV 116 [] rfl cs_X2_124 rfl (Nat.le_of_ble_eq_true rfl) rfl hT.obj rfl rfl (ct_goesWellK hT.1 2 (by omega) (by omega)) rfl rfl (Nat.le_of_ble_eq_true rfl) dX2_courier_113 (fun v X hq => ?_) (fun E X hq => by obtain ⟨hv, -⟩ := hq; cases hv)
        obtain ⟨hv, hT1⟩ := hq
        cases hv
        replace hT := hT.tr hT1
        clear hT1
        refine sw_if_ne 121 119 (by decide) rfl dX2_courier_116 (fun c_116 => absurd (by decide) c_116) (fun c_116 => ?_)
        clear c_116
        refine sw_iconst 120 rfl (nI 0) rfl dX2_courier_119 ?_
        refine sw_iret rfl rfl dX2_courier_120 ?_
        first | (have hk : kCou S a b c d = 1 := cif_t e_44
                 refine ⟨?_, hT.st ?_⟩ <;> simp [rCou, sCou, hk, cif, tk]; done) | (refine ⟨?_, hT.st ?_⟩ <;> first | (simp [rCou, sCou, kCou, cif, tk, c_10, e_44, xi, xj, c_53]; done) | (subst c_10; simp [rCou, sCou, kCou, cif, tk, e_44, xi, xj, c_53]; done))
      · rw [nI_leI (by omega) (by omega)] at c_53
        refine sw_aload_n 57 rfl rfl rfl dX2_courier_56 ?_
        refine gf_X2_20 60 rfl hT.obj rfl rfl dX2_courier_57 ?_
        refine sw_iload_n 61 rfl rfl dX2_courier_60 ?_
        refine sw_iald 62 rfl (hT.arr 7 rfl) (by omega) (Nat.le_of_ble_eq_true rfl) dX2_courier_61 ?_
        refine sw_if_ne 81 65 (by decide) rfl dX2_courier_62 (fun c_62 => ?_) (fun c_62 => ?_)
        · refine sw_iconst 82 rfl (nI 0) rfl dX2_courier_81 ?_
          refine sw_istore 84 rfl [_, _, _, _, _, _, _, _] (Nat.le_of_ble_eq_true rfl) rfl dX2_courier_82 ?_
          refine sw_aload_n 85 rfl rfl rfl dX2_courier_84 ?_
          refine sw_iload 87 rfl rfl dX2_courier_85 ?_
          refine sw_if_ne 94 90 (by decide) rfl dX2_courier_87 (fun c_87 => ?_) (fun c_87 => absurd c_87 (b2_n.mpr e_44))
          clear c_87
          refine sw_iload 96 rfl rfl dX2_courier_94 ?_
          refine sw_if_ne 103 99 (by decide) rfl dX2_courier_96 (fun c_96 => absurd (by decide) c_96) (fun c_96 => ?_)
          clear c_96
          refine sw_iconst 100 rfl (nI 2) rfl dX2_courier_99 ?_
          refine sw_goto 113 (by decide) dX2_courier_100 ?_
          refine sw_callV 116 [] rfl cs_X2_124 rfl (Nat.le_of_ble_eq_true rfl) rfl hT.obj rfl rfl (ct_goesWellK hT.1 2 (by omega) (by omega)) rfl rfl (Nat.le_of_ble_eq_true rfl) dX2_courier_113 (fun v X hq => ?_) (fun E X hq => by obtain ⟨hv, -⟩ := hq; cases hv)
          obtain ⟨hv, hT1⟩ := hq
          cases hv
          replace hT := hT.tr hT1
          clear hT1
          refine sw_if_ne 121 119 (by decide) rfl dX2_courier_116 (fun c_116 => absurd (by decide) c_116) (fun c_116 => ?_)
          clear c_116
          refine sw_iconst 120 rfl (nI 0) rfl dX2_courier_119 ?_
          refine sw_iret rfl rfl dX2_courier_120 ?_
          first | (have hk : kCou S a b c d = 1 := cif_t e_44
                   refine ⟨?_, hT.st ?_⟩ <;> simp [rCou, sCou, hk, cif, tk]; done) | (refine ⟨?_, hT.st ?_⟩ <;> first | (simp [rCou, sCou, kCou, cif, tk, c_10, e_44, xi, xj, c_53, c_62]; done) | (subst c_10; simp [rCou, sCou, kCou, cif, tk, e_44, xi, xj, c_53, c_62]; done))
        · refine sw_aload_n 66 rfl rfl rfl dX2_courier_65 ?_
          refine gf_X2_13 69 rfl hT.obj rfl rfl dX2_courier_66 ?_
          refine sw_iload_n 70 rfl rfl dX2_courier_69 ?_
          refine sw_lald 71 rfl (hT.arr 5 rfl) (by omega) (Nat.le_of_ble_eq_true rfl) dX2_courier_70 ?_
          refine sw_iload_n 72 rfl rfl dX2_courier_71 ?_
          refine sw_i2l 73 rfl dX2_courier_72 ?_
          refine sw_llt 81 74 77 rfl (by decide) rfl dX2_courier_73 dX2_courier_74 (fun c_73 => ?_) (fun c_73 => ?_)
          · refine sw_iconst 82 rfl (nI 0) rfl dX2_courier_81 ?_
            refine sw_istore 84 rfl [_, _, _, _, _, _, _, _] (Nat.le_of_ble_eq_true rfl) rfl dX2_courier_82 ?_
            refine sw_aload_n 85 rfl rfl rfl dX2_courier_84 ?_
            refine sw_iload 87 rfl rfl dX2_courier_85 ?_
            refine sw_if_ne 94 90 (by decide) rfl dX2_courier_87 (fun c_87 => ?_) (fun c_87 => absurd c_87 (b2_n.mpr e_44))
            clear c_87
            refine sw_iload 96 rfl rfl dX2_courier_94 ?_
            refine sw_if_ne 103 99 (by decide) rfl dX2_courier_96 (fun c_96 => absurd (by decide) c_96) (fun c_96 => ?_)
            clear c_96
            refine sw_iconst 100 rfl (nI 2) rfl dX2_courier_99 ?_
            refine sw_goto 113 (by decide) dX2_courier_100 ?_
            refine sw_callV 116 [] rfl cs_X2_124 rfl (Nat.le_of_ble_eq_true rfl) rfl hT.obj rfl rfl (ct_goesWellK hT.1 2 (by omega) (by omega)) rfl rfl (Nat.le_of_ble_eq_true rfl) dX2_courier_113 (fun v X hq => ?_) (fun E X hq => by obtain ⟨hv, -⟩ := hq; cases hv)
            obtain ⟨hv, hT1⟩ := hq
            cases hv
            replace hT := hT.tr hT1
            clear hT1
            refine sw_if_ne 121 119 (by decide) rfl dX2_courier_116 (fun c_116 => absurd (by decide) c_116) (fun c_116 => ?_)
            clear c_116
            refine sw_iconst 120 rfl (nI 0) rfl dX2_courier_119 ?_
            refine sw_iret rfl rfl dX2_courier_120 ?_
            first | (have hk : kCou S a b c d = 1 := cif_t e_44
                     refine ⟨?_, hT.st ?_⟩ <;> simp [rCou, sCou, hk, cif, tk]; done) | (refine ⟨?_, hT.st ?_⟩ <;> first | (simp [rCou, sCou, kCou, cif, tk, c_10, e_44, xi, xj, c_53, c_62, c_73]; done) | (subst c_10; simp [rCou, sCou, kCou, cif, tk, e_44, xi, xj, c_53, c_62, c_73]; done))
          · refine sw_iconst 78 rfl (nI 1) rfl dX2_courier_77 ?_
            refine sw_goto 82 (by decide) dX2_courier_78 ?_
            refine sw_istore 84 rfl [_, _, _, _, _, _, _, _] (Nat.le_of_ble_eq_true rfl) rfl dX2_courier_82 ?_
            refine sw_aload_n 85 rfl rfl rfl dX2_courier_84 ?_
            refine sw_iload 87 rfl rfl dX2_courier_85 ?_
            refine sw_if_ne 94 90 (by decide) rfl dX2_courier_87 (fun c_87 => ?_) (fun c_87 => absurd c_87 (b2_n.mpr e_44))
            clear c_87
            refine sw_iload 96 rfl rfl dX2_courier_94 ?_
            refine sw_if_ne 103 99 (by decide) rfl dX2_courier_96 (fun c_96 => absurd (by decide) c_96) (fun c_96 => ?_)
            clear c_96
            refine sw_iconst 100 rfl (nI 2) rfl dX2_courier_99 ?_
            refine sw_goto 113 (by decide) dX2_courier_100 ?_
            refine sw_callV 116 [] rfl cs_X2_124 rfl (Nat.le_of_ble_eq_true rfl) rfl hT.obj rfl rfl (ct_goesWellK hT.1 2 (by omega) (by omega)) rfl rfl (Nat.le_of_ble_eq_true rfl) dX2_courier_113 (fun v X hq => ?_) (fun E X hq => by obtain ⟨hv, -⟩ := hq; cases hv)
            obtain ⟨hv, hT1⟩ := hq
            cases hv
            replace hT := hT.tr hT1
            clear hT1
            refine sw_if_ne 121 119 (by decide) rfl dX2_courier_116 (fun c_116 => absurd (by decide) c_116) (fun c_116 => ?_)
            clear c_116
            refine sw_iconst 120 rfl (nI 0) rfl dX2_courier_119 ?_
            refine sw_iret rfl rfl dX2_courier_120 ?_
            first | (have hk : kCou S a b c d = 1 := cif_t e_44
                     refine ⟨?_, hT.st ?_⟩ <;> simp [rCou, sCou, hk, cif, tk]; done) | (refine ⟨?_, hT.st ?_⟩ <;> first | (simp [rCou, sCou, kCou, cif, tk, c_10, e_44, xi, xj, c_53, c_62, c_73]; done) | (subst c_10; simp [rCou, sCou, kCou, cif, tk, e_44, xi, xj, c_53, c_62, c_73]; done))
  · refine sw_iload_n 14 rfl rfl dX2_courier_13 ?_
    refine sw_iconst 15 rfl (nI 1) rfl dX2_courier_14 ?_
    refine sw_ldc 17 rfl q922 dX2_courier_15 ?_
    refine sw_topI (show (1000000 : Int32) = nI 1000000 from rfl) ?_
    refine sw_callS 20 [] rfl cs_X2_116 rfl (Nat.le_of_ble_eq_true rfl) rfl (ct_in1 _ 1000000 (by omega)) rfl rfl (Nat.le_of_ble_eq_true rfl) dX2_courier_17 (fun v X hq => ?_) (fun E X hq => by obtain ⟨hv, -⟩ := hq; cases hv)
    obtain ⟨hv, rfl⟩ := hq
    cases hv
    refine sw_if_eq 39 23 (by decide) rfl dX2_courier_20 (fun c_20 => ?_) (fun c_20 => ?_)
    · rw [b2_0] at c_20
      have e_20 := c_20
      refine sw_iconst 40 rfl (nI 0) rfl dX2_courier_39 ?_
      refine sw_istore 42 rfl [_, _, _, _, _, _, _, _] (Nat.le_of_ble_eq_true rfl) rfl dX2_courier_40 ?_
      refine sw_iload 44 rfl rfl dX2_courier_42 ?_
      refine sw_if_eq 81 47 (by decide) rfl dX2_courier_44 (fun c_44 => ?_) (fun c_44 => ?_)
      · rw [b2_0] at c_44
        have e_44 := c_44
        refine sw_iconst 82 rfl (nI 0) rfl dX2_courier_81 ?_
        refine sw_istore 84 rfl [_, _, _, _, _, _, _, _] (Nat.le_of_ble_eq_true rfl) rfl dX2_courier_82 ?_
        refine sw_aload_n 85 rfl rfl rfl dX2_courier_84 ?_
        refine sw_iload 87 rfl rfl dX2_courier_85 ?_
        refine sw_if_ne 94 90 (by decide) rfl dX2_courier_87 (fun c_87 => absurd (b2_0.mpr e_44) c_87) (fun c_87 => ?_)
        clear c_87
        refine sw_iconst 91 rfl (nI 1) rfl dX2_courier_90 ?_
        refine sw_goto 113 (by decide) dX2_courier_91 ?_
        refine sw_callV 116 [] rfl cs_X2_124 rfl (Nat.le_of_ble_eq_true rfl) rfl hT.obj rfl rfl (ct_goesWellK hT.1 1 (by omega) (by omega)) rfl rfl (Nat.le_of_ble_eq_true rfl) dX2_courier_113 (fun v X hq => ?_) (fun E X hq => by obtain ⟨hv, -⟩ := hq; cases hv)
        obtain ⟨hv, hT1⟩ := hq
        cases hv
        replace hT := hT.tr hT1
        clear hT1
        refine sw_if_ne 121 119 (by decide) rfl dX2_courier_116 (fun c_116 => absurd (by decide) c_116) (fun c_116 => ?_)
        clear c_116
        refine sw_iconst 120 rfl (nI 0) rfl dX2_courier_119 ?_
        refine sw_iret rfl rfl dX2_courier_120 ?_
        first | (have hk : kCou S a b c d = 1 := cif_t e_44
                 refine ⟨?_, hT.st ?_⟩ <;> simp [rCou, sCou, hk, cif, tk]; done) | (refine ⟨?_, hT.st ?_⟩ <;> first | (simp [rCou, sCou, kCou, cif, tk, c_10, e_20, e_44]; done) | (subst c_10; simp [rCou, sCou, kCou, cif, tk, e_20, e_44]; done))
      · rw [b2_n] at c_44
        have e_44 := c_44
        obtain ⟨⟨i, hi, rfl⟩, ⟨j, hj, rfl⟩⟩ := c_44
        have xi : ix (nI i) = i := ix_nI (by omega)
        have xj : ix (nI j) = j := ix_nI (by omega)
        have hci := hca i (by omega)
        refine sw_aload_n 48 rfl rfl rfl dX2_courier_47 ?_
        refine gf_X2_200 51 rfl hT.obj rfl rfl dX2_courier_48 ?_
        refine sw_bipush 53 rfl (nI 40) rfl dX2_courier_51 ?_
        refine sw_icmp_ge 81 56 (by decide) rfl dX2_courier_53 (fun c_53 => ?_) (fun c_53 => ?_)
        · rw [nI_leI (by omega) (by omega)] at c_53
          refine sw_iconst 82 rfl (nI 0) rfl dX2_courier_81 ?_
          refine sw_istore 84 rfl [_, _, _, _, _, _, _, _] (Nat.le_of_ble_eq_true rfl) rfl dX2_courier_82 ?_
          refine sw_aload_n 85 rfl rfl rfl dX2_courier_84 ?_
          refine sw_iload 87 rfl rfl dX2_courier_85 ?_
          refine sw_if_ne 94 90 (by decide) rfl dX2_courier_87 (fun c_87 => ?_) (fun c_87 => absurd c_87 (b2_n.mpr e_44))
          clear c_87
          refine sw_iload 96 rfl rfl dX2_courier_94 ?_
          refine sw_if_ne 103 99 (by decide) rfl dX2_courier_96 (fun c_96 => absurd (by decide) c_96) (fun c_96 => ?_)
          clear c_96
          refine sw_iconst 100 rfl (nI 2) rfl dX2_courier_99 ?_
          refine sw_goto 113 (by decide) dX2_courier_100 ?_
          refine sw_callV 116 [] rfl cs_X2_124 rfl (Nat.le_of_ble_eq_true rfl) rfl hT.obj rfl rfl (ct_goesWellK hT.1 2 (by omega) (by omega)) rfl rfl (Nat.le_of_ble_eq_true rfl) dX2_courier_113 (fun v X hq => ?_) (fun E X hq => by obtain ⟨hv, -⟩ := hq; cases hv)
          obtain ⟨hv, hT1⟩ := hq
          cases hv
          replace hT := hT.tr hT1
          clear hT1
          refine sw_if_ne 121 119 (by decide) rfl dX2_courier_116 (fun c_116 => absurd (by decide) c_116) (fun c_116 => ?_)
          clear c_116
          refine sw_iconst 120 rfl (nI 0) rfl dX2_courier_119 ?_
          refine sw_iret rfl rfl dX2_courier_120 ?_
          first | (have hk : kCou S a b c d = 1 := cif_t e_44
                   refine ⟨?_, hT.st ?_⟩ <;> simp [rCou, sCou, hk, cif, tk]; done) | (refine ⟨?_, hT.st ?_⟩ <;> first | (simp [rCou, sCou, kCou, cif, tk, c_10, e_20, e_44, xi, xj, c_53]; done) | (subst c_10; simp [rCou, sCou, kCou, cif, tk, e_20, e_44, xi, xj, c_53]; done))
        · rw [nI_leI (by omega) (by omega)] at c_53
          refine sw_aload_n 57 rfl rfl rfl dX2_courier_56 ?_
          refine gf_X2_20 60 rfl hT.obj rfl rfl dX2_courier_57 ?_
          refine sw_iload_n 61 rfl rfl dX2_courier_60 ?_
          refine sw_iald 62 rfl (hT.arr 7 rfl) (by omega) (Nat.le_of_ble_eq_true rfl) dX2_courier_61 ?_
          refine sw_if_ne 81 65 (by decide) rfl dX2_courier_62 (fun c_62 => ?_) (fun c_62 => ?_)
          · refine sw_iconst 82 rfl (nI 0) rfl dX2_courier_81 ?_
            refine sw_istore 84 rfl [_, _, _, _, _, _, _, _] (Nat.le_of_ble_eq_true rfl) rfl dX2_courier_82 ?_
            refine sw_aload_n 85 rfl rfl rfl dX2_courier_84 ?_
            refine sw_iload 87 rfl rfl dX2_courier_85 ?_
            refine sw_if_ne 94 90 (by decide) rfl dX2_courier_87 (fun c_87 => ?_) (fun c_87 => absurd c_87 (b2_n.mpr e_44))
            clear c_87
            refine sw_iload 96 rfl rfl dX2_courier_94 ?_
            refine sw_if_ne 103 99 (by decide) rfl dX2_courier_96 (fun c_96 => absurd (by decide) c_96) (fun c_96 => ?_)
            clear c_96
            refine sw_iconst 100 rfl (nI 2) rfl dX2_courier_99 ?_
            refine sw_goto 113 (by decide) dX2_courier_100 ?_
            refine sw_callV 116 [] rfl cs_X2_124 rfl (Nat.le_of_ble_eq_true rfl) rfl hT.obj rfl rfl (ct_goesWellK hT.1 2 (by omega) (by omega)) rfl rfl (Nat.le_of_ble_eq_true rfl) dX2_courier_113 (fun v X hq => ?_) (fun E X hq => by obtain ⟨hv, -⟩ := hq; cases hv)
            obtain ⟨hv, hT1⟩ := hq
            cases hv
            replace hT := hT.tr hT1
            clear hT1
            refine sw_if_ne 121 119 (by decide) rfl dX2_courier_116 (fun c_116 => absurd (by decide) c_116) (fun c_116 => ?_)
            clear c_116
            refine sw_iconst 120 rfl (nI 0) rfl dX2_courier_119 ?_
            refine sw_iret rfl rfl dX2_courier_120 ?_
            first | (have hk : kCou S a b c d = 1 := cif_t e_44
                     refine ⟨?_, hT.st ?_⟩ <;> simp [rCou, sCou, hk, cif, tk]; done) | (refine ⟨?_, hT.st ?_⟩ <;> first | (simp [rCou, sCou, kCou, cif, tk, c_10, e_20, e_44, xi, xj, c_53, c_62]; done) | (subst c_10; simp [rCou, sCou, kCou, cif, tk, e_20, e_44, xi, xj, c_53, c_62]; done))
          · refine sw_aload_n 66 rfl rfl rfl dX2_courier_65 ?_
            refine gf_X2_13 69 rfl hT.obj rfl rfl dX2_courier_66 ?_
            refine sw_iload_n 70 rfl rfl dX2_courier_69 ?_
            refine sw_lald 71 rfl (hT.arr 5 rfl) (by omega) (Nat.le_of_ble_eq_true rfl) dX2_courier_70 ?_
            refine sw_iload_n 72 rfl rfl dX2_courier_71 ?_
            refine sw_i2l 73 rfl dX2_courier_72 ?_
            refine sw_llt 81 74 77 rfl (by decide) rfl dX2_courier_73 dX2_courier_74 (fun c_73 => ?_) (fun c_73 => ?_)
            · refine sw_iconst 82 rfl (nI 0) rfl dX2_courier_81 ?_
              refine sw_istore 84 rfl [_, _, _, _, _, _, _, _] (Nat.le_of_ble_eq_true rfl) rfl dX2_courier_82 ?_
              refine sw_aload_n 85 rfl rfl rfl dX2_courier_84 ?_
              refine sw_iload 87 rfl rfl dX2_courier_85 ?_
              refine sw_if_ne 94 90 (by decide) rfl dX2_courier_87 (fun c_87 => ?_) (fun c_87 => absurd c_87 (b2_n.mpr e_44))
              clear c_87
              refine sw_iload 96 rfl rfl dX2_courier_94 ?_
              refine sw_if_ne 103 99 (by decide) rfl dX2_courier_96 (fun c_96 => absurd (by decide) c_96) (fun c_96 => ?_)
              clear c_96
              refine sw_iconst 100 rfl (nI 2) rfl dX2_courier_99 ?_
              refine sw_goto 113 (by decide) dX2_courier_100 ?_
              refine sw_callV 116 [] rfl cs_X2_124 rfl (Nat.le_of_ble_eq_true rfl) rfl hT.obj rfl rfl (ct_goesWellK hT.1 2 (by omega) (by omega)) rfl rfl (Nat.le_of_ble_eq_true rfl) dX2_courier_113 (fun v X hq => ?_) (fun E X hq => by obtain ⟨hv, -⟩ := hq; cases hv)
              obtain ⟨hv, hT1⟩ := hq
              cases hv
              replace hT := hT.tr hT1
              clear hT1
              refine sw_if_ne 121 119 (by decide) rfl dX2_courier_116 (fun c_116 => absurd (by decide) c_116) (fun c_116 => ?_)
              clear c_116
              refine sw_iconst 120 rfl (nI 0) rfl dX2_courier_119 ?_
              refine sw_iret rfl rfl dX2_courier_120 ?_
              first | (have hk : kCou S a b c d = 1 := cif_t e_44
                       refine ⟨?_, hT.st ?_⟩ <;> simp [rCou, sCou, hk, cif, tk]; done) | (refine ⟨?_, hT.st ?_⟩ <;> first | (simp [rCou, sCou, kCou, cif, tk, c_10, e_20, e_44, xi, xj, c_53, c_62, c_73]; done) | (subst c_10; simp [rCou, sCou, kCou, cif, tk, e_20, e_44, xi, xj, c_53, c_62, c_73]; done))
            · refine sw_iconst 78 rfl (nI 1) rfl dX2_courier_77 ?_
              refine sw_goto 82 (by decide) dX2_courier_78 ?_
              refine sw_istore 84 rfl [_, _, _, _, _, _, _, _] (Nat.le_of_ble_eq_true rfl) rfl dX2_courier_82 ?_
              refine sw_aload_n 85 rfl rfl rfl dX2_courier_84 ?_
              refine sw_iload 87 rfl rfl dX2_courier_85 ?_
              refine sw_if_ne 94 90 (by decide) rfl dX2_courier_87 (fun c_87 => ?_) (fun c_87 => absurd c_87 (b2_n.mpr e_44))
              clear c_87
              refine sw_iload 96 rfl rfl dX2_courier_94 ?_
              refine sw_if_ne 103 99 (by decide) rfl dX2_courier_96 (fun c_96 => absurd (by decide) c_96) (fun c_96 => ?_)
              clear c_96
              refine sw_iconst 100 rfl (nI 2) rfl dX2_courier_99 ?_
              refine sw_goto 113 (by decide) dX2_courier_100 ?_
              refine sw_callV 116 [] rfl cs_X2_124 rfl (Nat.le_of_ble_eq_true rfl) rfl hT.obj rfl rfl (ct_goesWellK hT.1 2 (by omega) (by omega)) rfl rfl (Nat.le_of_ble_eq_true rfl) dX2_courier_113 (fun v X hq => ?_) (fun E X hq => by obtain ⟨hv, -⟩ := hq; cases hv)
              obtain ⟨hv, hT1⟩ := hq
              cases hv
              replace hT := hT.tr hT1
              clear hT1
              refine sw_if_ne 121 119 (by decide) rfl dX2_courier_116 (fun c_116 => absurd (by decide) c_116) (fun c_116 => ?_)
              clear c_116
              refine sw_iconst 120 rfl (nI 0) rfl dX2_courier_119 ?_
              refine sw_iret rfl rfl dX2_courier_120 ?_
              first | (have hk : kCou S a b c d = 1 := cif_t e_44
                       refine ⟨?_, hT.st ?_⟩ <;> simp [rCou, sCou, hk, cif, tk]; done) | (refine ⟨?_, hT.st ?_⟩ <;> first | (simp [rCou, sCou, kCou, cif, tk, c_10, e_20, e_44, xi, xj, c_53, c_62, c_73]; done) | (subst c_10; simp [rCou, sCou, kCou, cif, tk, e_20, e_44, xi, xj, c_53, c_62, c_73]; done))
    · rw [b2_n] at c_20
      have e_20 := c_20
      obtain ⟨m, hm1, hm, rfl⟩ := c_20
      have xm : ix (nI m) = m := ix_nI (by omega)
      refine sw_iload 25 rfl rfl dX2_courier_23 ?_
      refine sw_iconst 26 rfl (nI 1) rfl dX2_courier_25 ?_
      refine sw_sipush 29 rfl (nI 500) rfl dX2_courier_26 ?_
      refine sw_callS 32 [] rfl cs_X2_116 rfl (Nat.le_of_ble_eq_true rfl) rfl (ct_in1 _ 500 (by omega)) rfl rfl (Nat.le_of_ble_eq_true rfl) dX2_courier_29 (fun v X hq => ?_) (fun E X hq => by obtain ⟨hv, -⟩ := hq; cases hv)
      obtain ⟨hv, rfl⟩ := hq
      cases hv
      refine sw_if_eq 39 35 (by decide) rfl dX2_courier_32 (fun c_32 => ?_) (fun c_32 => ?_)
      · rw [b2_0] at c_32
        have e_32 := c_32
        refine sw_iconst 40 rfl (nI 0) rfl dX2_courier_39 ?_
        refine sw_istore 42 rfl [_, _, _, _, _, _, _, _] (Nat.le_of_ble_eq_true rfl) rfl dX2_courier_40 ?_
        refine sw_iload 44 rfl rfl dX2_courier_42 ?_
        refine sw_if_eq 81 47 (by decide) rfl dX2_courier_44 (fun c_44 => ?_) (fun c_44 => ?_)
        · rw [b2_0] at c_44
          have e_44 := c_44
          refine sw_iconst 82 rfl (nI 0) rfl dX2_courier_81 ?_
          refine sw_istore 84 rfl [_, _, _, _, _, _, _, _] (Nat.le_of_ble_eq_true rfl) rfl dX2_courier_82 ?_
          refine sw_aload_n 85 rfl rfl rfl dX2_courier_84 ?_
          refine sw_iload 87 rfl rfl dX2_courier_85 ?_
          refine sw_if_ne 94 90 (by decide) rfl dX2_courier_87 (fun c_87 => absurd (b2_0.mpr e_44) c_87) (fun c_87 => ?_)
          clear c_87
          refine sw_iconst 91 rfl (nI 1) rfl dX2_courier_90 ?_
          refine sw_goto 113 (by decide) dX2_courier_91 ?_
          refine sw_callV 116 [] rfl cs_X2_124 rfl (Nat.le_of_ble_eq_true rfl) rfl hT.obj rfl rfl (ct_goesWellK hT.1 1 (by omega) (by omega)) rfl rfl (Nat.le_of_ble_eq_true rfl) dX2_courier_113 (fun v X hq => ?_) (fun E X hq => by obtain ⟨hv, -⟩ := hq; cases hv)
          obtain ⟨hv, hT1⟩ := hq
          cases hv
          replace hT := hT.tr hT1
          clear hT1
          refine sw_if_ne 121 119 (by decide) rfl dX2_courier_116 (fun c_116 => absurd (by decide) c_116) (fun c_116 => ?_)
          clear c_116
          refine sw_iconst 120 rfl (nI 0) rfl dX2_courier_119 ?_
          refine sw_iret rfl rfl dX2_courier_120 ?_
          first | (have hk : kCou S a b c d = 1 := cif_t e_44
                   refine ⟨?_, hT.st ?_⟩ <;> simp [rCou, sCou, hk, cif, tk]; done) | (refine ⟨?_, hT.st ?_⟩ <;> first | (simp [rCou, sCou, kCou, cif, tk, c_10, e_20, xm, e_32, e_44]; done) | (subst c_10; simp [rCou, sCou, kCou, cif, tk, e_20, xm, e_32, e_44]; done))
        · rw [b2_n] at c_44
          have e_44 := c_44
          obtain ⟨⟨i, hi, rfl⟩, ⟨j, hj, rfl⟩⟩ := c_44
          have xi : ix (nI i) = i := ix_nI (by omega)
          have xj : ix (nI j) = j := ix_nI (by omega)
          have hci := hca i (by omega)
          refine sw_aload_n 48 rfl rfl rfl dX2_courier_47 ?_
          refine gf_X2_200 51 rfl hT.obj rfl rfl dX2_courier_48 ?_
          refine sw_bipush 53 rfl (nI 40) rfl dX2_courier_51 ?_
          refine sw_icmp_ge 81 56 (by decide) rfl dX2_courier_53 (fun c_53 => ?_) (fun c_53 => ?_)
          · rw [nI_leI (by omega) (by omega)] at c_53
            refine sw_iconst 82 rfl (nI 0) rfl dX2_courier_81 ?_
            refine sw_istore 84 rfl [_, _, _, _, _, _, _, _] (Nat.le_of_ble_eq_true rfl) rfl dX2_courier_82 ?_
            refine sw_aload_n 85 rfl rfl rfl dX2_courier_84 ?_
            refine sw_iload 87 rfl rfl dX2_courier_85 ?_
            refine sw_if_ne 94 90 (by decide) rfl dX2_courier_87 (fun c_87 => ?_) (fun c_87 => absurd c_87 (b2_n.mpr e_44))
            clear c_87
            refine sw_iload 96 rfl rfl dX2_courier_94 ?_
            refine sw_if_ne 103 99 (by decide) rfl dX2_courier_96 (fun c_96 => absurd (by decide) c_96) (fun c_96 => ?_)
            clear c_96
            refine sw_iconst 100 rfl (nI 2) rfl dX2_courier_99 ?_
            refine sw_goto 113 (by decide) dX2_courier_100 ?_
            refine sw_callV 116 [] rfl cs_X2_124 rfl (Nat.le_of_ble_eq_true rfl) rfl hT.obj rfl rfl (ct_goesWellK hT.1 2 (by omega) (by omega)) rfl rfl (Nat.le_of_ble_eq_true rfl) dX2_courier_113 (fun v X hq => ?_) (fun E X hq => by obtain ⟨hv, -⟩ := hq; cases hv)
            obtain ⟨hv, hT1⟩ := hq
            cases hv
            replace hT := hT.tr hT1
            clear hT1
            refine sw_if_ne 121 119 (by decide) rfl dX2_courier_116 (fun c_116 => absurd (by decide) c_116) (fun c_116 => ?_)
            clear c_116
            refine sw_iconst 120 rfl (nI 0) rfl dX2_courier_119 ?_
            refine sw_iret rfl rfl dX2_courier_120 ?_
            first | (have hk : kCou S a b c d = 1 := cif_t e_44
                     refine ⟨?_, hT.st ?_⟩ <;> simp [rCou, sCou, hk, cif, tk]; done) | (refine ⟨?_, hT.st ?_⟩ <;> first | (simp [rCou, sCou, kCou, cif, tk, c_10, e_20, xm, e_32, e_44, xi, xj, c_53]; done) | (subst c_10; simp [rCou, sCou, kCou, cif, tk, e_20, xm, e_32, e_44, xi, xj, c_53]; done))
          · rw [nI_leI (by omega) (by omega)] at c_53
            refine sw_aload_n 57 rfl rfl rfl dX2_courier_56 ?_
            refine gf_X2_20 60 rfl hT.obj rfl rfl dX2_courier_57 ?_
            refine sw_iload_n 61 rfl rfl dX2_courier_60 ?_
            refine sw_iald 62 rfl (hT.arr 7 rfl) (by omega) (Nat.le_of_ble_eq_true rfl) dX2_courier_61 ?_
            refine sw_if_ne 81 65 (by decide) rfl dX2_courier_62 (fun c_62 => ?_) (fun c_62 => ?_)
            · refine sw_iconst 82 rfl (nI 0) rfl dX2_courier_81 ?_
              refine sw_istore 84 rfl [_, _, _, _, _, _, _, _] (Nat.le_of_ble_eq_true rfl) rfl dX2_courier_82 ?_
              refine sw_aload_n 85 rfl rfl rfl dX2_courier_84 ?_
              refine sw_iload 87 rfl rfl dX2_courier_85 ?_
              refine sw_if_ne 94 90 (by decide) rfl dX2_courier_87 (fun c_87 => ?_) (fun c_87 => absurd c_87 (b2_n.mpr e_44))
              clear c_87
              refine sw_iload 96 rfl rfl dX2_courier_94 ?_
              refine sw_if_ne 103 99 (by decide) rfl dX2_courier_96 (fun c_96 => absurd (by decide) c_96) (fun c_96 => ?_)
              clear c_96
              refine sw_iconst 100 rfl (nI 2) rfl dX2_courier_99 ?_
              refine sw_goto 113 (by decide) dX2_courier_100 ?_
              refine sw_callV 116 [] rfl cs_X2_124 rfl (Nat.le_of_ble_eq_true rfl) rfl hT.obj rfl rfl (ct_goesWellK hT.1 2 (by omega) (by omega)) rfl rfl (Nat.le_of_ble_eq_true rfl) dX2_courier_113 (fun v X hq => ?_) (fun E X hq => by obtain ⟨hv, -⟩ := hq; cases hv)
              obtain ⟨hv, hT1⟩ := hq
              cases hv
              replace hT := hT.tr hT1
              clear hT1
              refine sw_if_ne 121 119 (by decide) rfl dX2_courier_116 (fun c_116 => absurd (by decide) c_116) (fun c_116 => ?_)
              clear c_116
              refine sw_iconst 120 rfl (nI 0) rfl dX2_courier_119 ?_
              refine sw_iret rfl rfl dX2_courier_120 ?_
              first | (have hk : kCou S a b c d = 1 := cif_t e_44
                       refine ⟨?_, hT.st ?_⟩ <;> simp [rCou, sCou, hk, cif, tk]; done) | (refine ⟨?_, hT.st ?_⟩ <;> first | (simp [rCou, sCou, kCou, cif, tk, c_10, e_20, xm, e_32, e_44, xi, xj, c_53, c_62]; done) | (subst c_10; simp [rCou, sCou, kCou, cif, tk, e_20, xm, e_32, e_44, xi, xj, c_53, c_62]; done))
            · refine sw_aload_n 66 rfl rfl rfl dX2_courier_65 ?_
              refine gf_X2_13 69 rfl hT.obj rfl rfl dX2_courier_66 ?_
              refine sw_iload_n 70 rfl rfl dX2_courier_69 ?_
              refine sw_lald 71 rfl (hT.arr 5 rfl) (by omega) (Nat.le_of_ble_eq_true rfl) dX2_courier_70 ?_
              refine sw_iload_n 72 rfl rfl dX2_courier_71 ?_
              refine sw_i2l 73 rfl dX2_courier_72 ?_
              refine sw_topL (nI_l (by omega)) ?_
              refine sw_llt 81 74 77 rfl (by decide) rfl dX2_courier_73 dX2_courier_74 (fun c_73 => ?_) (fun c_73 => ?_)
              · rw [pk_lLT (by omega) (by omega)] at c_73
                refine sw_iconst 82 rfl (nI 0) rfl dX2_courier_81 ?_
                refine sw_istore 84 rfl [_, _, _, _, _, _, _, _] (Nat.le_of_ble_eq_true rfl) rfl dX2_courier_82 ?_
                refine sw_aload_n 85 rfl rfl rfl dX2_courier_84 ?_
                refine sw_iload 87 rfl rfl dX2_courier_85 ?_
                refine sw_if_ne 94 90 (by decide) rfl dX2_courier_87 (fun c_87 => ?_) (fun c_87 => absurd c_87 (b2_n.mpr e_44))
                clear c_87
                refine sw_iload 96 rfl rfl dX2_courier_94 ?_
                refine sw_if_ne 103 99 (by decide) rfl dX2_courier_96 (fun c_96 => absurd (by decide) c_96) (fun c_96 => ?_)
                clear c_96
                refine sw_iconst 100 rfl (nI 2) rfl dX2_courier_99 ?_
                refine sw_goto 113 (by decide) dX2_courier_100 ?_
                refine sw_callV 116 [] rfl cs_X2_124 rfl (Nat.le_of_ble_eq_true rfl) rfl hT.obj rfl rfl (ct_goesWellK hT.1 2 (by omega) (by omega)) rfl rfl (Nat.le_of_ble_eq_true rfl) dX2_courier_113 (fun v X hq => ?_) (fun E X hq => by obtain ⟨hv, -⟩ := hq; cases hv)
                obtain ⟨hv, hT1⟩ := hq
                cases hv
                replace hT := hT.tr hT1
                clear hT1
                refine sw_if_ne 121 119 (by decide) rfl dX2_courier_116 (fun c_116 => absurd (by decide) c_116) (fun c_116 => ?_)
                clear c_116
                refine sw_iconst 120 rfl (nI 0) rfl dX2_courier_119 ?_
                refine sw_iret rfl rfl dX2_courier_120 ?_
                first | (have hk : kCou S a b c d = 1 := cif_t e_44
                         refine ⟨?_, hT.st ?_⟩ <;> simp [rCou, sCou, hk, cif, tk]; done) | (refine ⟨?_, hT.st ?_⟩ <;> first | (simp [rCou, sCou, kCou, cif, tk, c_10, e_20, xm, e_32, e_44, xi, xj, c_53, c_62, c_73]; done) | (subst c_10; simp [rCou, sCou, kCou, cif, tk, e_20, xm, e_32, e_44, xi, xj, c_53, c_62, c_73]; done))
              · rw [pk_lLT (by omega) (by omega)] at c_73
                refine sw_iconst 78 rfl (nI 1) rfl dX2_courier_77 ?_
                refine sw_goto 82 (by decide) dX2_courier_78 ?_
                refine sw_istore 84 rfl [_, _, _, _, _, _, _, _] (Nat.le_of_ble_eq_true rfl) rfl dX2_courier_82 ?_
                refine sw_aload_n 85 rfl rfl rfl dX2_courier_84 ?_
                refine sw_iload 87 rfl rfl dX2_courier_85 ?_
                refine sw_if_ne 94 90 (by decide) rfl dX2_courier_87 (fun c_87 => ?_) (fun c_87 => absurd c_87 (b2_n.mpr e_44))
                clear c_87
                refine sw_iload 96 rfl rfl dX2_courier_94 ?_
                refine sw_if_ne 103 99 (by decide) rfl dX2_courier_96 (fun c_96 => absurd (by decide) c_96) (fun c_96 => ?_)
                clear c_96
                refine sw_iconst 100 rfl (nI 2) rfl dX2_courier_99 ?_
                refine sw_goto 113 (by decide) dX2_courier_100 ?_
                refine sw_callV 116 [] rfl cs_X2_124 rfl (Nat.le_of_ble_eq_true rfl) rfl hT.obj rfl rfl (ct_goesWellK hT.1 2 (by omega) (by omega)) rfl rfl (Nat.le_of_ble_eq_true rfl) dX2_courier_113 (fun v X hq => ?_) (fun E X hq => by obtain ⟨hv, -⟩ := hq; cases hv)
                obtain ⟨hv, hT1⟩ := hq
                cases hv
                replace hT := hT.tr hT1
                clear hT1
                refine sw_if_ne 121 119 (by decide) rfl dX2_courier_116 (fun c_116 => absurd (by decide) c_116) (fun c_116 => ?_)
                clear c_116
                refine sw_iconst 120 rfl (nI 0) rfl dX2_courier_119 ?_
                refine sw_iret rfl rfl dX2_courier_120 ?_
                first | (have hk : kCou S a b c d = 1 := cif_t e_44
                         refine ⟨?_, hT.st ?_⟩ <;> simp [rCou, sCou, hk, cif, tk]; done) | (refine ⟨?_, hT.st ?_⟩ <;> first | (simp [rCou, sCou, kCou, cif, tk, c_10, e_20, xm, e_32, e_44, xi, xj, c_53, c_62, c_73]; done) | (subst c_10; simp [rCou, sCou, kCou, cif, tk, e_20, xm, e_32, e_44, xi, xj, c_53, c_62, c_73]; done))
      · rw [b2_n] at c_32
        have e_32 := c_32
        obtain ⟨q, hq1, hq, rfl⟩ := c_32
        have xq : ix (nI q) = q := ix_nI (by omega)
        refine sw_iconst 36 rfl (nI 1) rfl dX2_courier_35 ?_
        refine sw_goto 40 (by decide) dX2_courier_36 ?_
        refine sw_istore 42 rfl [_, _, _, _, _, _, _, _] (Nat.le_of_ble_eq_true rfl) rfl dX2_courier_40 ?_
        refine sw_iload 44 rfl rfl dX2_courier_42 ?_
        refine sw_if_eq 81 47 (by decide) rfl dX2_courier_44 (fun c_44 => ?_) (fun c_44 => ?_)
        · rw [b2_0] at c_44
          have e_44 := c_44
          refine sw_iconst 82 rfl (nI 0) rfl dX2_courier_81 ?_
          refine sw_istore 84 rfl [_, _, _, _, _, _, _, _] (Nat.le_of_ble_eq_true rfl) rfl dX2_courier_82 ?_
          refine sw_aload_n 85 rfl rfl rfl dX2_courier_84 ?_
          refine sw_iload 87 rfl rfl dX2_courier_85 ?_
          refine sw_if_ne 94 90 (by decide) rfl dX2_courier_87 (fun c_87 => absurd (b2_0.mpr e_44) c_87) (fun c_87 => ?_)
          clear c_87
          refine sw_iconst 91 rfl (nI 1) rfl dX2_courier_90 ?_
          refine sw_goto 113 (by decide) dX2_courier_91 ?_
          refine sw_callV 116 [] rfl cs_X2_124 rfl (Nat.le_of_ble_eq_true rfl) rfl hT.obj rfl rfl (ct_goesWellK hT.1 1 (by omega) (by omega)) rfl rfl (Nat.le_of_ble_eq_true rfl) dX2_courier_113 (fun v X hq => ?_) (fun E X hq => by obtain ⟨hv, -⟩ := hq; cases hv)
          obtain ⟨hv, hT1⟩ := hq
          cases hv
          replace hT := hT.tr hT1
          clear hT1
          refine sw_if_ne 121 119 (by decide) rfl dX2_courier_116 (fun c_116 => absurd (by decide) c_116) (fun c_116 => ?_)
          clear c_116
          refine sw_iconst 120 rfl (nI 0) rfl dX2_courier_119 ?_
          refine sw_iret rfl rfl dX2_courier_120 ?_
          first | (have hk : kCou S a b c d = 1 := cif_t e_44
                   refine ⟨?_, hT.st ?_⟩ <;> simp [rCou, sCou, hk, cif, tk]; done) | (refine ⟨?_, hT.st ?_⟩ <;> first | (simp [rCou, sCou, kCou, cif, tk, c_10, e_20, xm, e_32, xq, e_44]; done) | (subst c_10; simp [rCou, sCou, kCou, cif, tk, e_20, xm, e_32, xq, e_44]; done))
        · rw [b2_n] at c_44
          have e_44 := c_44
          obtain ⟨⟨i, hi, rfl⟩, ⟨j, hj, rfl⟩⟩ := c_44
          have xi : ix (nI i) = i := ix_nI (by omega)
          have xj : ix (nI j) = j := ix_nI (by omega)
          have hci := hca i (by omega)
          refine sw_aload_n 48 rfl rfl rfl dX2_courier_47 ?_
          refine gf_X2_200 51 rfl hT.obj rfl rfl dX2_courier_48 ?_
          refine sw_bipush 53 rfl (nI 40) rfl dX2_courier_51 ?_
          refine sw_icmp_ge 81 56 (by decide) rfl dX2_courier_53 (fun c_53 => ?_) (fun c_53 => ?_)
          · rw [nI_leI (by omega) (by omega)] at c_53
            refine sw_iconst 82 rfl (nI 0) rfl dX2_courier_81 ?_
            refine sw_istore 84 rfl [_, _, _, _, _, _, _, _] (Nat.le_of_ble_eq_true rfl) rfl dX2_courier_82 ?_
            refine sw_aload_n 85 rfl rfl rfl dX2_courier_84 ?_
            refine sw_iload 87 rfl rfl dX2_courier_85 ?_
            refine sw_if_ne 94 90 (by decide) rfl dX2_courier_87 (fun c_87 => ?_) (fun c_87 => absurd c_87 (b2_n.mpr e_44))
            clear c_87
            refine sw_iload 96 rfl rfl dX2_courier_94 ?_
            refine sw_if_ne 103 99 (by decide) rfl dX2_courier_96 (fun c_96 => ?_) (fun c_96 => absurd c_96 (by decide))
            clear c_96
            refine sw_iload 105 rfl rfl dX2_courier_103 ?_
            refine sw_if_eq 112 108 (by decide) rfl dX2_courier_105 (fun c_105 => ?_) (fun c_105 => absurd (by decide) c_105)
            clear c_105
            refine sw_iconst 113 rfl (nI 3) rfl dX2_courier_112 ?_
            refine sw_callV 116 [] rfl cs_X2_124 rfl (Nat.le_of_ble_eq_true rfl) rfl hT.obj rfl rfl (ct_goesWellK hT.1 3 (by omega) (by omega)) rfl rfl (Nat.le_of_ble_eq_true rfl) dX2_courier_113 (fun v X hq => ?_) (fun E X hq => by obtain ⟨hv, -⟩ := hq; cases hv)
            obtain ⟨hv, hT1⟩ := hq
            cases hv
            replace hT := hT.tr hT1
            clear hT1
            refine sw_if_ne 121 119 (by decide) rfl dX2_courier_116 (fun c_116 => absurd (by decide) c_116) (fun c_116 => ?_)
            clear c_116
            refine sw_iconst 120 rfl (nI 0) rfl dX2_courier_119 ?_
            refine sw_iret rfl rfl dX2_courier_120 ?_
            first | (have hk : kCou S a b c d = 1 := cif_t e_44
                     refine ⟨?_, hT.st ?_⟩ <;> simp [rCou, sCou, hk, cif, tk]; done) | (refine ⟨?_, hT.st ?_⟩ <;> first | (simp [rCou, sCou, kCou, cif, tk, c_10, e_20, xm, e_32, xq, e_44, xi, xj, c_53]; done) | (subst c_10; simp [rCou, sCou, kCou, cif, tk, e_20, xm, e_32, xq, e_44, xi, xj, c_53]; done))
          · rw [nI_leI (by omega) (by omega)] at c_53
            refine sw_aload_n 57 rfl rfl rfl dX2_courier_56 ?_
            refine gf_X2_20 60 rfl hT.obj rfl rfl dX2_courier_57 ?_
            refine sw_iload_n 61 rfl rfl dX2_courier_60 ?_
            refine sw_iald 62 rfl (hT.arr 7 rfl) (by omega) (Nat.le_of_ble_eq_true rfl) dX2_courier_61 ?_
            refine sw_if_ne 81 65 (by decide) rfl dX2_courier_62 (fun c_62 => ?_) (fun c_62 => ?_)
            · refine sw_iconst 82 rfl (nI 0) rfl dX2_courier_81 ?_
              refine sw_istore 84 rfl [_, _, _, _, _, _, _, _] (Nat.le_of_ble_eq_true rfl) rfl dX2_courier_82 ?_
              refine sw_aload_n 85 rfl rfl rfl dX2_courier_84 ?_
              refine sw_iload 87 rfl rfl dX2_courier_85 ?_
              refine sw_if_ne 94 90 (by decide) rfl dX2_courier_87 (fun c_87 => ?_) (fun c_87 => absurd c_87 (b2_n.mpr e_44))
              clear c_87
              refine sw_iload 96 rfl rfl dX2_courier_94 ?_
              refine sw_if_ne 103 99 (by decide) rfl dX2_courier_96 (fun c_96 => ?_) (fun c_96 => absurd c_96 (by decide))
              clear c_96
              refine sw_iload 105 rfl rfl dX2_courier_103 ?_
              refine sw_if_eq 112 108 (by decide) rfl dX2_courier_105 (fun c_105 => ?_) (fun c_105 => absurd (by decide) c_105)
              clear c_105
              refine sw_iconst 113 rfl (nI 3) rfl dX2_courier_112 ?_
              refine sw_callV 116 [] rfl cs_X2_124 rfl (Nat.le_of_ble_eq_true rfl) rfl hT.obj rfl rfl (ct_goesWellK hT.1 3 (by omega) (by omega)) rfl rfl (Nat.le_of_ble_eq_true rfl) dX2_courier_113 (fun v X hq => ?_) (fun E X hq => by obtain ⟨hv, -⟩ := hq; cases hv)
              obtain ⟨hv, hT1⟩ := hq
              cases hv
              replace hT := hT.tr hT1
              clear hT1
              refine sw_if_ne 121 119 (by decide) rfl dX2_courier_116 (fun c_116 => absurd (by decide) c_116) (fun c_116 => ?_)
              clear c_116
              refine sw_iconst 120 rfl (nI 0) rfl dX2_courier_119 ?_
              refine sw_iret rfl rfl dX2_courier_120 ?_
              first | (have hk : kCou S a b c d = 1 := cif_t e_44
                       refine ⟨?_, hT.st ?_⟩ <;> simp [rCou, sCou, hk, cif, tk]; done) | (refine ⟨?_, hT.st ?_⟩ <;> first | (simp [rCou, sCou, kCou, cif, tk, c_10, e_20, xm, e_32, xq, e_44, xi, xj, c_53, c_62]; done) | (subst c_10; simp [rCou, sCou, kCou, cif, tk, e_20, xm, e_32, xq, e_44, xi, xj, c_53, c_62]; done))
            · refine sw_aload_n 66 rfl rfl rfl dX2_courier_65 ?_
              refine gf_X2_13 69 rfl hT.obj rfl rfl dX2_courier_66 ?_
              refine sw_iload_n 70 rfl rfl dX2_courier_69 ?_
              refine sw_lald 71 rfl (hT.arr 5 rfl) (by omega) (Nat.le_of_ble_eq_true rfl) dX2_courier_70 ?_
              refine sw_iload_n 72 rfl rfl dX2_courier_71 ?_
              refine sw_i2l 73 rfl dX2_courier_72 ?_
              refine sw_topL (nI_l (by omega)) ?_
              refine sw_llt 81 74 77 rfl (by decide) rfl dX2_courier_73 dX2_courier_74 (fun c_73 => ?_) (fun c_73 => ?_)
              · rw [pk_lLT (by omega) (by omega)] at c_73
                refine sw_iconst 82 rfl (nI 0) rfl dX2_courier_81 ?_
                refine sw_istore 84 rfl [_, _, _, _, _, _, _, _] (Nat.le_of_ble_eq_true rfl) rfl dX2_courier_82 ?_
                refine sw_aload_n 85 rfl rfl rfl dX2_courier_84 ?_
                refine sw_iload 87 rfl rfl dX2_courier_85 ?_
                refine sw_if_ne 94 90 (by decide) rfl dX2_courier_87 (fun c_87 => ?_) (fun c_87 => absurd c_87 (b2_n.mpr e_44))
                clear c_87
                refine sw_iload 96 rfl rfl dX2_courier_94 ?_
                refine sw_if_ne 103 99 (by decide) rfl dX2_courier_96 (fun c_96 => ?_) (fun c_96 => absurd c_96 (by decide))
                clear c_96
                refine sw_iload 105 rfl rfl dX2_courier_103 ?_
                refine sw_if_eq 112 108 (by decide) rfl dX2_courier_105 (fun c_105 => ?_) (fun c_105 => absurd (by decide) c_105)
                clear c_105
                refine sw_iconst 113 rfl (nI 3) rfl dX2_courier_112 ?_
                refine sw_callV 116 [] rfl cs_X2_124 rfl (Nat.le_of_ble_eq_true rfl) rfl hT.obj rfl rfl (ct_goesWellK hT.1 3 (by omega) (by omega)) rfl rfl (Nat.le_of_ble_eq_true rfl) dX2_courier_113 (fun v X hq => ?_) (fun E X hq => by obtain ⟨hv, -⟩ := hq; cases hv)
                obtain ⟨hv, hT1⟩ := hq
                cases hv
                replace hT := hT.tr hT1
                clear hT1
                refine sw_if_ne 121 119 (by decide) rfl dX2_courier_116 (fun c_116 => absurd (by decide) c_116) (fun c_116 => ?_)
                clear c_116
                refine sw_iconst 120 rfl (nI 0) rfl dX2_courier_119 ?_
                refine sw_iret rfl rfl dX2_courier_120 ?_
                first | (have hk : kCou S a b c d = 1 := cif_t e_44
                         refine ⟨?_, hT.st ?_⟩ <;> simp [rCou, sCou, hk, cif, tk]; done) | (refine ⟨?_, hT.st ?_⟩ <;> first | (simp [rCou, sCou, kCou, cif, tk, c_10, e_20, xm, e_32, xq, e_44, xi, xj, c_53, c_62, c_73]; done) | (subst c_10; simp [rCou, sCou, kCou, cif, tk, e_20, xm, e_32, xq, e_44, xi, xj, c_53, c_62, c_73]; done))
              · rw [pk_lLT (by omega) (by omega)] at c_73
                refine sw_iconst 78 rfl (nI 1) rfl dX2_courier_77 ?_
                refine sw_goto 82 (by decide) dX2_courier_78 ?_
                refine sw_istore 84 rfl [_, _, _, _, _, _, _, _] (Nat.le_of_ble_eq_true rfl) rfl dX2_courier_82 ?_
                refine sw_aload_n 85 rfl rfl rfl dX2_courier_84 ?_
                refine sw_iload 87 rfl rfl dX2_courier_85 ?_
                refine sw_if_ne 94 90 (by decide) rfl dX2_courier_87 (fun c_87 => ?_) (fun c_87 => absurd c_87 (b2_n.mpr e_44))
                clear c_87
                refine sw_iload 96 rfl rfl dX2_courier_94 ?_
                refine sw_if_ne 103 99 (by decide) rfl dX2_courier_96 (fun c_96 => ?_) (fun c_96 => absurd c_96 (by decide))
                clear c_96
                refine sw_iload 105 rfl rfl dX2_courier_103 ?_
                refine sw_if_eq 112 108 (by decide) rfl dX2_courier_105 (fun c_105 => absurd c_105 (by decide)) (fun c_105 => ?_)
                clear c_105
                refine sw_iconst 109 rfl (nI 0) rfl dX2_courier_108 ?_
                refine sw_goto 113 (by decide) dX2_courier_109 ?_
                refine sw_callV 116 [] rfl cs_X2_124 rfl (Nat.le_of_ble_eq_true rfl) rfl hT.obj rfl rfl (ct_goesWell0 hT.1) rfl rfl (Nat.le_of_ble_eq_true rfl) dX2_courier_113 (fun v X hq => ?_) (fun E X hq => by obtain ⟨hv, -⟩ := hq; cases hv)
                obtain ⟨hv, hT1⟩ := hq
                cases hv
                replace hT := hT.tr hT1
                clear hT1
                refine sw_if_ne 121 119 (by decide) rfl dX2_courier_116 (fun c_116 => ?_) (fun c_116 => absurd c_116 (by decide))
                clear c_116
                refine sw_aload_n 122 rfl rfl rfl dX2_courier_121 ?_
                refine gf_X2_13 125 rfl hT.obj rfl rfl dX2_courier_122 ?_
                refine sw_iload_n 126 rfl rfl dX2_courier_125 ?_
                refine sw_dup2 127 rfl rfl rfl dX2_courier_126 ?_
                refine sw_lald 128 rfl (hT.arr 5 rfl) (by omega) (Nat.le_of_ble_eq_true rfl) dX2_courier_127 ?_
                try simp only [sI_N, sI_L, sN_I, sN_L, sL_N, sL_I, sN_t, sI_t, sL_t, pOwe_N, pOwe_I, pOweBoth_N, pOweBoth_I, pTB_N, pTB_I, pGoBack_N, pOweOn_N, pOweOn_I, reduceIte, Nat.reduceEqDiff]
                refine sw_iload_n 129 rfl rfl dX2_courier_128 ?_
                refine sw_i2l 130 rfl dX2_courier_129 ?_
                refine sw_topL (nI_l (by omega)) ?_
                refine sw_lsub 131 rfl dX2_courier_130 ?_
                refine sw_topL (lN_sub (Nat.not_lt.mp c_73)) ?_
                refine sw_last 132 rfl (hT.arr 5 rfl) (by omega) (Nat.le_of_ble_eq_true rfl) dX2_courier_131 (fun X hX => ?_)
                replace hT := hT.p5 hX
                clear hX
                refine sw_aload_n 133 rfl rfl rfl dX2_courier_132 ?_
                refine gf_X2_72 136 rfl hT.obj rfl rfl dX2_courier_133 ?_
                refine sw_aload_n 137 rfl rfl rfl dX2_courier_136 ?_
                refine gf_X2_200 140 rfl hT.obj rfl rfl dX2_courier_137 ?_
                try simp only [sI_N, sI_L, sN_I, sN_L, sL_N, sL_I, sN_t, sI_t, sL_t, pOwe_N, pOwe_I, pOweBoth_N, pOweBoth_I, pTB_N, pTB_I, pGoBack_N, pOweOn_N, pOweOn_I, reduceIte, Nat.reduceEqDiff]
                refine sw_iload_n 141 rfl rfl dX2_courier_140 ?_
                refine sw_iast 142 rfl (hT.arr 26 rfl) (by omega) (Nat.le_of_ble_eq_true rfl) dX2_courier_141 (fun X hX => ?_)
                replace hT := hT.p26 hX
                clear hX
                refine sw_aload_n 143 rfl rfl rfl dX2_courier_142 ?_
                refine gf_X2_75 146 rfl hT.obj rfl rfl dX2_courier_143 ?_
                refine sw_aload_n 147 rfl rfl rfl dX2_courier_146 ?_
                refine gf_X2_200 150 rfl hT.obj rfl rfl dX2_courier_147 ?_
                try simp only [sI_N, sI_L, sN_I, sN_L, sL_N, sL_I, sN_t, sI_t, sL_t, pOwe_N, pOwe_I, pOweBoth_N, pOweBoth_I, pTB_N, pTB_I, pGoBack_N, pOweOn_N, pOweOn_I, reduceIte, Nat.reduceEqDiff]
                refine sw_iload_n 151 rfl rfl dX2_courier_150 ?_
                refine sw_iast 152 rfl (hT.arr 27 rfl) (by omega) (Nat.le_of_ble_eq_true rfl) dX2_courier_151 (fun X hX => ?_)
                replace hT := hT.p27 hX
                clear hX
                refine sw_aload_n 153 rfl rfl rfl dX2_courier_152 ?_
                refine gf_X2_78 156 rfl hT.obj rfl rfl dX2_courier_153 ?_
                refine sw_aload_n 157 rfl rfl rfl dX2_courier_156 ?_
                refine gf_X2_200 160 rfl hT.obj rfl rfl dX2_courier_157 ?_
                try simp only [sI_N, sI_L, sN_I, sN_L, sL_N, sL_I, sN_t, sI_t, sL_t, pOwe_N, pOwe_I, pOweBoth_N, pOweBoth_I, pTB_N, pTB_I, pGoBack_N, pOweOn_N, pOweOn_I, reduceIte, Nat.reduceEqDiff]
                refine sw_iload_n 161 rfl rfl dX2_courier_160 ?_
                refine sw_iast 162 rfl (hT.arr 28 rfl) (by omega) (Nat.le_of_ble_eq_true rfl) dX2_courier_161 (fun X hX => ?_)
                replace hT := hT.p28 hX
                clear hX
                refine sw_aload_n 163 rfl rfl rfl dX2_courier_162 ?_
                refine gf_X2_81 166 rfl hT.obj rfl rfl dX2_courier_163 ?_
                refine sw_aload_n 167 rfl rfl rfl dX2_courier_166 ?_
                refine gf_X2_200 170 rfl hT.obj rfl rfl dX2_courier_167 ?_
                try simp only [sI_N, sI_L, sN_I, sN_L, sL_N, sL_I, sN_t, sI_t, sL_t, pOwe_N, pOwe_I, pOweBoth_N, pOweBoth_I, pTB_N, pTB_I, pGoBack_N, pOweOn_N, pOweOn_I, reduceIte, Nat.reduceEqDiff]
                refine sw_aload_n 171 rfl rfl rfl dX2_courier_170 ?_
                refine gf_X2_194 174 rfl hT.obj rfl rfl dX2_courier_171 ?_
                try simp only [sI_N, sI_L, sN_I, sN_L, sL_N, sL_I, sN_t, sI_t, sL_t, pOwe_N, pOwe_I, pOweBoth_N, pOweBoth_I, pTB_N, pTB_I, pGoBack_N, pOweOn_N, pOweOn_I, reduceIte, Nat.reduceEqDiff]
                refine sw_iload 176 rfl rfl dX2_courier_174 ?_
                refine sw_iaddN 177 rfl dX2_courier_176 ?_
                refine sw_iast 178 rfl (hT.arr 29 rfl) (by omega) (Nat.le_of_ble_eq_true rfl) dX2_courier_177 (fun X hX => ?_)
                replace hT := hT.p29 hX
                clear hX
                refine sw_aload_n 179 rfl rfl rfl dX2_courier_178 ?_
                refine sw_dup 180 rfl rfl dX2_courier_179 ?_
                refine gf_X2_200 183 rfl hT.obj rfl rfl dX2_courier_180 ?_
                try simp only [sI_N, sI_L, sN_I, sN_L, sL_N, sL_I, sN_t, sI_t, sL_t, pOwe_N, pOwe_I, pOweBoth_N, pOweBoth_I, pTB_N, pTB_I, pGoBack_N, pOweOn_N, pOweOn_I, reduceIte, Nat.reduceEqDiff]
                refine sw_iconst 184 rfl (nI 1) rfl dX2_courier_183 ?_
                refine sw_iaddN 185 rfl dX2_courier_184 ?_
                refine pf_X2_200 188 rfl hT.obj (Nat.le_of_ble_eq_true rfl) rfl dX2_courier_185 (fun X hX => ?_)
                replace hT := hT.p25 hX
                clear hX
                refine sw_aload_n 189 rfl rfl rfl dX2_courier_188 ?_
                refine gf_X2_200 192 rfl hT.obj rfl rfl dX2_courier_189 ?_
                try simp only [sI_N, sI_L, sN_I, sN_L, sL_N, sL_I, sN_t, sI_t, sL_t, pOwe_N, pOwe_I, pOweBoth_N, pOweBoth_I, pTB_N, pTB_I, pGoBack_N, pOweOn_N, pOweOn_I, reduceIte, Nat.reduceEqDiff]
                refine sw_iconst 193 rfl (nI 1) rfl dX2_courier_192 ?_
                refine sw_isubN 194 rfl (by omega) dX2_courier_193 ?_
                refine sw_iret rfl rfl dX2_courier_194 ?_
                first | (have hk : kCou S a b c d = 1 := cif_t e_44
                         refine ⟨?_, hT.st ?_⟩ <;> simp [rCou, sCou, hk, cif, tk]; done) | (refine ⟨?_, hT.st ?_⟩ <;> first | (simp [rCou, sCou, kCou, cif, tk, c_10, e_20, xm, e_32, xq, e_44, xi, xj, c_53, c_62, c_73]; done) | (subst c_10; simp [rCou, sCou, kCou, cif, tk, e_20, xm, e_32, xq, e_44, xi, xj, c_53, c_62, c_73]; done))

set_option maxHeartbeats 4000000 in
theorem lp_sumC {w : Nat} {Q : Ot → Sh → Prop} (hw5 : w = 5) (hT : TwF γ Mo aT X0 X S) (hw : WF K S) (hK : K < 2 ^ 31) (hex : SW γ mX2_sum X0 X 88 [some (.ref Mo), some (.int (nI w)), some (.long (pSumC S (S.1 25 0))), none, none] [] Q) : ∀ (n k : Nat), k + n = S.1 25 0 → SW γ mX2_sum X0 X 43 [some (.ref Mo), some (.int (nI w)), some (.long (pSumC S k)), none, some (.int (nI k))] [] Q := by
  have hnb := hw.nb
  have hno := hw.no
  have hnc := hw.nc
  intro n
  induction n with
  | zero =>
    intro k hn
    refine sw_iload 45 rfl rfl dX2_sum_43 ?_
    refine sw_aload_n 46 rfl rfl rfl dX2_sum_45 ?_
    refine gf_X2_200 49 rfl hT.obj rfl rfl dX2_sum_46 ?_
    refine sw_icmp_ge 88 52 (by decide) rfl dX2_sum_49 (fun c_49 => ?_) (fun c_49 => absurd (nI_le (by omega) (by omega)) c_49)
    clear c_49
    have e9 : k = S.1 25 0 := by omega
    subst e9
    refine sw_fgt (lvle_c (lvle_c (lvle_c (lvle_c (lvle_n lvle_nil))))) ?_
    exact hex
  | succ n ih =>
    intro k hn
    have hci := (hw.cou (show k < S.1 25 0 by omega)).1.2
    refine sw_iload 45 rfl rfl dX2_sum_43 ?_
    refine sw_aload_n 46 rfl rfl rfl dX2_sum_45 ?_
    refine gf_X2_200 49 rfl hT.obj rfl rfl dX2_sum_46 ?_
    refine sw_icmp_ge 88 52 (by decide) rfl dX2_sum_49 (fun c_49 => absurd c_49 (nI_ge (by omega) (by omega))) (fun c_49 => ?_)
    clear c_49
    refine sw_iload_n 53 rfl rfl dX2_sum_52 ?_
    refine sw_iconst 54 rfl (nI 5) rfl dX2_sum_53 ?_
    refine sw_icmp_ne 88 57 (by decide) rfl dX2_sum_54 (fun c_54 => absurd (congrArg nI hw5) c_54) (fun c_54 => ?_)
    clear c_54
    refine sw_lload_n 58 rfl rfl dX2_sum_57 ?_
    refine sw_aload_n 59 rfl rfl rfl dX2_sum_58 ?_
    refine gf_X2_84 62 rfl hT.obj rfl rfl dX2_sum_59 ?_
    refine sw_iload 64 rfl rfl dX2_sum_62 ?_
    refine sw_zald 65 rfl (hT.arr 30 rfl) (by omega) (Nat.le_of_ble_eq_true rfl) dX2_sum_64 ?_
    refine sw_if_eq 72 68 (by decide) rfl dX2_sum_65 (fun c_65 => ?_) (fun c_65 => ?_)
    · refine sw_aload_n 73 rfl rfl rfl dX2_sum_72 ?_
      refine gf_X2_72 76 rfl hT.obj rfl rfl dX2_sum_73 ?_
      refine sw_iload 78 rfl rfl dX2_sum_76 ?_
      refine sw_iald 79 rfl (hT.arr 26 rfl) (by omega) (Nat.le_of_ble_eq_true rfl) dX2_sum_78 ?_
      refine sw_i2l 80 rfl dX2_sum_79 ?_
      refine sw_topL (nI_l (by omega)) ?_
      refine sw_ladd 81 rfl dX2_sum_80 ?_
      refine sw_lstore_n 82 rfl [_, _, _, _, _] (Nat.le_of_ble_eq_true rfl) rfl dX2_sum_81 ?_
      refine sw_iinc 85 rfl [_, _, _, _, _] (nI (_ + 1)) rfl (nI_add _ 1) (Nat.le_of_ble_eq_true rfl) rfl dX2_sum_82 ?_
      refine sw_goto 43 (by decide) dX2_sum_85 ?_
      have h9 := ih (k + 1) (by omega)
      rw [show pSumC S (k + 1) = pSumC S k + lN (S.1 26 k) by simp [pSumC, c_65]] at h9
      exact h9
    · refine sw_lconst 69 rfl 0 rfl dX2_sum_68 ?_
      refine sw_goto 80 (by decide) dX2_sum_69 ?_
      refine sw_ladd 81 rfl dX2_sum_80 ?_
      refine sw_lstore_n 82 rfl [_, _, _, _, _] (Nat.le_of_ble_eq_true rfl) rfl dX2_sum_81 ?_
      refine sw_iinc 85 rfl [_, _, _, _, _] (nI (_ + 1)) rfl (nI_add _ 1) (Nat.le_of_ble_eq_true rfl) rfl dX2_sum_82 ?_
      refine sw_goto 43 (by decide) dX2_sum_85 ?_
      have h9 := ih (k + 1) (by omega)
      rw [show pSumC S (k + 1) = pSumC S k + 0 by simp [pSumC, c_65]] at h9
      exact h9
set_option maxHeartbeats 4000000 in
theorem lp_sumB {w : Nat} {Q : Ot → Sh → Prop} (hw5 : w = 6) (hT : TwF γ Mo aT X0 X S) (hw : WF K S) (hK : K < 2 ^ 31) (hex : SW γ mX2_sum X0 X 122 [some (.ref Mo), some (.int (nI w)), some (.long (pSumB S (S.1 3 0))), none, none] [] Q) : ∀ (n k : Nat), k + n = S.1 3 0 → SW γ mX2_sum X0 X 91 [some (.ref Mo), some (.int (nI w)), some (.long (pSumB S k)), none, some (.int (nI k))] [] Q := by
  have hnb := hw.nb
  have hno := hw.no
  have hnc := hw.nc
  intro n
  induction n with
  | zero =>
    intro k hn
    refine sw_iload 93 rfl rfl dX2_sum_91 ?_
    refine sw_aload_n 94 rfl rfl rfl dX2_sum_93 ?_
    refine gf_X2_113 97 rfl hT.obj rfl rfl dX2_sum_94 ?_
    refine sw_icmp_ge 122 100 (by decide) rfl dX2_sum_97 (fun c_97 => ?_) (fun c_97 => absurd (nI_le (by omega) (by omega)) c_97)
    clear c_97
    have e9 : k = S.1 3 0 := by omega
    subst e9
    refine sw_fgt (lvle_c (lvle_c (lvle_c (lvle_c (lvle_n lvle_nil))))) ?_
    exact hex
  | succ n ih =>
    intro k hn
    refine sw_iload 93 rfl rfl dX2_sum_91 ?_
    refine sw_aload_n 94 rfl rfl rfl dX2_sum_93 ?_
    refine gf_X2_113 97 rfl hT.obj rfl rfl dX2_sum_94 ?_
    refine sw_icmp_ge 122 100 (by decide) rfl dX2_sum_97 (fun c_97 => absurd c_97 (nI_ge (by omega) (by omega))) (fun c_97 => ?_)
    clear c_97
    refine sw_iload_n 101 rfl rfl dX2_sum_100 ?_
    refine sw_bipush 103 rfl (nI 6) rfl dX2_sum_101 ?_
    refine sw_icmp_ne 122 106 (by decide) rfl dX2_sum_103 (fun c_103 => absurd (congrArg nI hw5) c_103) (fun c_103 => ?_)
    clear c_103
    refine sw_lload_n 107 rfl rfl dX2_sum_106 ?_
    refine sw_aload_n 108 rfl rfl rfl dX2_sum_107 ?_
    refine gf_X2_13 111 rfl hT.obj rfl rfl dX2_sum_108 ?_
    refine sw_iload 113 rfl rfl dX2_sum_111 ?_
    refine sw_lald 114 rfl (hT.arr 5 rfl) (by omega) (Nat.le_of_ble_eq_true rfl) dX2_sum_113 ?_
    refine sw_ladd 115 rfl dX2_sum_114 ?_
    refine sw_lstore_n 116 rfl [_, _, _, _, _] (Nat.le_of_ble_eq_true rfl) rfl dX2_sum_115 ?_
    refine sw_iinc 119 rfl [_, _, _, _, _] (nI (_ + 1)) rfl (nI_add _ 1) (Nat.le_of_ble_eq_true rfl) rfl dX2_sum_116 ?_
    refine sw_goto 91 (by decide) dX2_sum_119 ?_
    exact ih (k + 1) (by omega)
set_option maxHeartbeats 4000000 in
theorem lp_sumO {w : Nat} {Q : Ot → Sh → Prop} (hw5 : w = 7) (hT : TwF γ Mo aT X0 X S) (hw : WF K S) (hK : K < 2 ^ 31) (hex : SW γ mX2_sum X0 X 172 [some (.ref Mo), some (.int (nI w)), some (.long (pSumO S (S.1 14 0))), none, none] [] Q) : ∀ (n k : Nat), k + n = S.1 14 0 → SW γ mX2_sum X0 X 125 [some (.ref Mo), some (.int (nI w)), some (.long (pSumO S k)), none, some (.int (nI k))] [] Q := by
  have hnb := hw.nb
  have hno := hw.no
  have hnc := hw.nc
  intro n
  induction n with
  | zero =>
    intro k hn
    refine sw_iload 127 rfl rfl dX2_sum_125 ?_
    refine sw_aload_n 128 rfl rfl rfl dX2_sum_127 ?_
    refine gf_X2_181 131 rfl hT.obj rfl rfl dX2_sum_128 ?_
    refine sw_icmp_ge 172 134 (by decide) rfl dX2_sum_131 (fun c_131 => ?_) (fun c_131 => absurd (nI_le (by omega) (by omega)) c_131)
    clear c_131
    have e9 : k = S.1 14 0 := by omega
    subst e9
    refine sw_fgt (lvle_c (lvle_c (lvle_c (lvle_c (lvle_n lvle_nil))))) ?_
    exact hex
  | succ n ih =>
    intro k hn
    have hgi := hw.gave (show k < S.1 14 0 by omega)
    refine sw_iload 127 rfl rfl dX2_sum_125 ?_
    refine sw_aload_n 128 rfl rfl rfl dX2_sum_127 ?_
    refine gf_X2_181 131 rfl hT.obj rfl rfl dX2_sum_128 ?_
    refine sw_icmp_ge 172 134 (by decide) rfl dX2_sum_131 (fun c_131 => absurd c_131 (nI_ge (by omega) (by omega))) (fun c_131 => ?_)
    clear c_131
    refine sw_iload_n 135 rfl rfl dX2_sum_134 ?_
    refine sw_bipush 137 rfl (nI 7) rfl dX2_sum_135 ?_
    refine sw_icmp_ne 172 140 (by decide) rfl dX2_sum_137 (fun c_137 => absurd (congrArg nI hw5) c_137) (fun c_137 => ?_)
    clear c_137
    refine sw_lload_n 141 rfl rfl dX2_sum_140 ?_
    refine sw_aload_n 142 rfl rfl rfl dX2_sum_141 ?_
    refine gf_X2_42 145 rfl hT.obj rfl rfl dX2_sum_142 ?_
    refine sw_iload 147 rfl rfl dX2_sum_145 ?_
    refine sw_iald 148 rfl (hT.arr 15 rfl) (by omega) (Nat.le_of_ble_eq_true rfl) dX2_sum_147 ?_
    refine sw_iconst 149 rfl (nI 5) rfl dX2_sum_148 ?_
    refine sw_icmp_ne 163 152 (by decide) rfl dX2_sum_149 (fun c_149 => ?_) (fun c_149 => ?_)
    · refine sw_lconst 164 rfl 0 rfl dX2_sum_163 ?_
      refine sw_ladd 165 rfl dX2_sum_164 ?_
      refine sw_lstore_n 166 rfl [_, _, _, _, _] (Nat.le_of_ble_eq_true rfl) rfl dX2_sum_165 ?_
      refine sw_iinc 169 rfl [_, _, _, _, _] (nI (_ + 1)) rfl (nI_add _ 1) (Nat.le_of_ble_eq_true rfl) rfl dX2_sum_166 ?_
      refine sw_goto 125 (by decide) dX2_sum_169 ?_
      have h9 := ih (k + 1) (by omega)
      rw [show pSumO S (k + 1) = pSumO S k + 0 by simp [pSumO, c_149]] at h9
      exact h9
    · refine sw_aload_n 153 rfl rfl rfl dX2_sum_152 ?_
      refine gf_X2_48 156 rfl hT.obj rfl rfl dX2_sum_153 ?_
      refine sw_iload 158 rfl rfl dX2_sum_156 ?_
      refine sw_iald 159 rfl (hT.arr 17 rfl) (by omega) (Nat.le_of_ble_eq_true rfl) dX2_sum_158 ?_
      refine sw_i2l 160 rfl dX2_sum_159 ?_
      refine sw_topL (nI_l (by omega)) ?_
      refine sw_goto 164 (by decide) dX2_sum_160 ?_
      refine sw_ladd 165 rfl dX2_sum_164 ?_
      refine sw_lstore_n 166 rfl [_, _, _, _, _] (Nat.le_of_ble_eq_true rfl) rfl dX2_sum_165 ?_
      refine sw_iinc 169 rfl [_, _, _, _, _] (nI (_ + 1)) rfl (nI_add _ 1) (Nat.le_of_ble_eq_true rfl) rfl dX2_sum_166 ?_
      refine sw_goto 125 (by decide) dX2_sum_169 ?_
      have h9 := ih (k + 1) (by omega)
      rw [show pSumO S (k + 1) = pSumO S k + lN (S.1 17 k) by simp [pSumO, c_149]] at h9
      exact h9
set_option maxHeartbeats 4000000 in
theorem sk_sumC {w : Nat} {z : Int64} {Q : Ot → Sh → Prop} (hT : TwF γ Mo aT X0 X S) (hw : WF K S) (hw8 : w < 8) (hne : ¬ w = 5) (hex : SW γ mX2_sum X0 X 88 [some (.ref Mo), some (.int (nI w)), some (.long z), none, none] [] Q) : SW γ mX2_sum X0 X 40 [some (.ref Mo), some (.int (nI w)), some (.long z), none, none] [] Q := by
  have hnb := hw.nb
  have hno := hw.no
  have hnc := hw.nc
  refine sw_iconst 41 rfl (nI 0) rfl dX2_sum_40 ?_
  refine sw_istore 43 rfl [_, _, _, _, _] (Nat.le_of_ble_eq_true rfl) rfl dX2_sum_41 ?_
  refine sw_iload 45 rfl rfl dX2_sum_43 ?_
  refine sw_aload_n 46 rfl rfl rfl dX2_sum_45 ?_
  refine gf_X2_200 49 rfl hT.obj rfl rfl dX2_sum_46 ?_
  refine sw_icmp_ge 88 52 (by decide) rfl dX2_sum_49 (fun c_49 => ?_) (fun c_49 => ?_)
  · rw [nI_leI (by omega) (by omega)] at c_49
    exact sw_fgt (lvle_c (lvle_c (lvle_c (lvle_c (lvle_n lvle_nil))))) hex
  · rw [nI_leI (by omega) (by omega)] at c_49
    refine sw_iload_n 53 rfl rfl dX2_sum_52 ?_
    refine sw_iconst 54 rfl (nI 5) rfl dX2_sum_53 ?_
    refine sw_icmp_ne 88 57 (by decide) rfl dX2_sum_54 (fun c_54 => ?_) (fun c_54 => absurd c_54 (by rw [nI_eq (by omega) (by omega)]; exact hne))
    clear c_54
    exact sw_fgt (lvle_c (lvle_c (lvle_c (lvle_c (lvle_n lvle_nil))))) hex
set_option maxHeartbeats 4000000 in
theorem mt_sumC {w : Nat} {Q : Ot → Sh → Prop} (hT : TwF γ Mo aT X0 X S) (hw : WF K S) (hK : K < 2 ^ 31) (he : w = 5) (hex : SW γ mX2_sum X0 X 88 [some (.ref Mo), some (.int (nI w)), some (.long (pSumC S (S.1 25 0))), none, none] [] Q) : SW γ mX2_sum X0 X 40 [some (.ref Mo), some (.int (nI w)), some (.long 0), none, none] [] Q := by
  refine sw_iconst 41 rfl (nI 0) rfl dX2_sum_40 ?_
  refine sw_istore 43 rfl [_, _, _, _, _] (Nat.le_of_ble_eq_true rfl) rfl dX2_sum_41 ?_
  exact lp_sumC he hT hw hK hex (S.1 25 0) 0 (Nat.zero_add _)
set_option maxHeartbeats 4000000 in
theorem sk_sumB {w : Nat} {z : Int64} {Q : Ot → Sh → Prop} (hT : TwF γ Mo aT X0 X S) (hw : WF K S) (hw8 : w < 8) (hne : ¬ w = 6) (hex : SW γ mX2_sum X0 X 122 [some (.ref Mo), some (.int (nI w)), some (.long z), none, none] [] Q) : SW γ mX2_sum X0 X 88 [some (.ref Mo), some (.int (nI w)), some (.long z), none, none] [] Q := by
  have hnb := hw.nb
  have hno := hw.no
  have hnc := hw.nc
  refine sw_iconst 89 rfl (nI 0) rfl dX2_sum_88 ?_
  refine sw_istore 91 rfl [_, _, _, _, _] (Nat.le_of_ble_eq_true rfl) rfl dX2_sum_89 ?_
  refine sw_iload 93 rfl rfl dX2_sum_91 ?_
  refine sw_aload_n 94 rfl rfl rfl dX2_sum_93 ?_
  refine gf_X2_113 97 rfl hT.obj rfl rfl dX2_sum_94 ?_
  refine sw_icmp_ge 122 100 (by decide) rfl dX2_sum_97 (fun c_97 => ?_) (fun c_97 => ?_)
  · rw [nI_leI (by omega) (by omega)] at c_97
    exact sw_fgt (lvle_c (lvle_c (lvle_c (lvle_c (lvle_n lvle_nil))))) hex
  · rw [nI_leI (by omega) (by omega)] at c_97
    refine sw_iload_n 101 rfl rfl dX2_sum_100 ?_
    refine sw_bipush 103 rfl (nI 6) rfl dX2_sum_101 ?_
    refine sw_icmp_ne 122 106 (by decide) rfl dX2_sum_103 (fun c_103 => ?_) (fun c_103 => absurd c_103 (by rw [nI_eq (by omega) (by omega)]; exact hne))
    clear c_103
    exact sw_fgt (lvle_c (lvle_c (lvle_c (lvle_c (lvle_n lvle_nil))))) hex
set_option maxHeartbeats 4000000 in
theorem mt_sumB {w : Nat} {Q : Ot → Sh → Prop} (hT : TwF γ Mo aT X0 X S) (hw : WF K S) (hK : K < 2 ^ 31) (he : w = 6) (hex : SW γ mX2_sum X0 X 122 [some (.ref Mo), some (.int (nI w)), some (.long (pSumB S (S.1 3 0))), none, none] [] Q) : SW γ mX2_sum X0 X 88 [some (.ref Mo), some (.int (nI w)), some (.long 0), none, none] [] Q := by
  refine sw_iconst 89 rfl (nI 0) rfl dX2_sum_88 ?_
  refine sw_istore 91 rfl [_, _, _, _, _] (Nat.le_of_ble_eq_true rfl) rfl dX2_sum_89 ?_
  exact lp_sumB he hT hw hK hex (S.1 3 0) 0 (Nat.zero_add _)
set_option maxHeartbeats 4000000 in
theorem sk_sumO {w : Nat} {z : Int64} {Q : Ot → Sh → Prop} (hT : TwF γ Mo aT X0 X S) (hw : WF K S) (hw8 : w < 8) (hne : ¬ w = 7) (hex : SW γ mX2_sum X0 X 172 [some (.ref Mo), some (.int (nI w)), some (.long z), none, none] [] Q) : SW γ mX2_sum X0 X 122 [some (.ref Mo), some (.int (nI w)), some (.long z), none, none] [] Q := by
  have hnb := hw.nb
  have hno := hw.no
  have hnc := hw.nc
  refine sw_iconst 123 rfl (nI 0) rfl dX2_sum_122 ?_
  refine sw_istore 125 rfl [_, _, _, _, _] (Nat.le_of_ble_eq_true rfl) rfl dX2_sum_123 ?_
  refine sw_iload 127 rfl rfl dX2_sum_125 ?_
  refine sw_aload_n 128 rfl rfl rfl dX2_sum_127 ?_
  refine gf_X2_181 131 rfl hT.obj rfl rfl dX2_sum_128 ?_
  refine sw_icmp_ge 172 134 (by decide) rfl dX2_sum_131 (fun c_131 => ?_) (fun c_131 => ?_)
  · rw [nI_leI (by omega) (by omega)] at c_131
    exact sw_fgt (lvle_c (lvle_c (lvle_c (lvle_c (lvle_n lvle_nil))))) hex
  · rw [nI_leI (by omega) (by omega)] at c_131
    refine sw_iload_n 135 rfl rfl dX2_sum_134 ?_
    refine sw_bipush 137 rfl (nI 7) rfl dX2_sum_135 ?_
    refine sw_icmp_ne 172 140 (by decide) rfl dX2_sum_137 (fun c_137 => ?_) (fun c_137 => absurd c_137 (by rw [nI_eq (by omega) (by omega)]; exact hne))
    clear c_137
    exact sw_fgt (lvle_c (lvle_c (lvle_c (lvle_c (lvle_n lvle_nil))))) hex
set_option maxHeartbeats 4000000 in
theorem mt_sumO {w : Nat} {Q : Ot → Sh → Prop} (hT : TwF γ Mo aT X0 X S) (hw : WF K S) (hK : K < 2 ^ 31) (he : w = 7) (hex : SW γ mX2_sum X0 X 172 [some (.ref Mo), some (.int (nI w)), some (.long (pSumO S (S.1 14 0))), none, none] [] Q) : SW γ mX2_sum X0 X 122 [some (.ref Mo), some (.int (nI w)), some (.long 0), none, none] [] Q := by
  refine sw_iconst 123 rfl (nI 0) rfl dX2_sum_122 ?_
  refine sw_istore 125 rfl [_, _, _, _, _] (Nat.le_of_ble_eq_true rfl) rfl dX2_sum_123 ?_
  exact lp_sumO he hT hw hK hex (S.1 14 0) 0 (Nat.zero_add _)
theorem pSum_tk (S : TS) : (∀ n, pSumC (S.sI 0 0 (nI 0)) n = pSumC S n) ∧ (∀ n, pSumB (S.sI 0 0 (nI 0)) n = pSumB S n) ∧ (∀ n, pSumO (S.sI 0 0 (nI 0)) n = pSumO S n) := by
  refine ⟨fun n => ?_, fun n => ?_, fun n => ?_⟩ <;> induction n with
  | zero => rfl
  | succ n ih => simp only [pSumC, pSumB, pSumO]; rw [ih]; rfl
set_option maxHeartbeats 4000000 in
theorem ct_sum (hR : TwR γ Mo aT X S) (hw : WF K S) (hK : K < 2 ^ 31) (a : Int32) : Ev γ mX2_sum [.ref Mo, .int a] X (fun oc X1 => oc = .inl (some (.long (rSum S a))) ∧ TwF γ Mo aT X X1 (tk S (kSum a))) := by
  have hT := TwF.rf hR
  have hnb := hw.nb
  have hno := hw.no
  have hnc := hw.nc
  have hhr := hw.hr
  refine Ev.of (lv := [_, _, _, _, _]) 3 ⟨by decide +kernel, rfl, (Nat.le_of_ble_eq_true rfl)⟩ rfl ?_
  refine sw_aload_n 1 rfl rfl rfl dX2_sum_0 ?_
  refine sw_iload_n 2 rfl rfl dX2_sum_1 ?_
  refine sw_iconst 3 rfl (nI 0) rfl dX2_sum_2 ?_
  refine sw_bipush 5 rfl (nI 7) rfl dX2_sum_3 ?_
  refine sw_callS 8 [_] rfl cs_X2_116 rfl (Nat.le_of_ble_eq_true rfl) rfl (ct_in0 _ 7 (by omega)) rfl rfl (Nat.le_of_ble_eq_true rfl) dX2_sum_5 (fun v X hq => ?_) (fun E X hq => by obtain ⟨hv, -⟩ := hq; cases hv)
  obtain ⟨hv, rfl⟩ := hq
  cases hv
  refine sw_if_eq 15 11 (by decide) rfl dX2_sum_8 (fun c_8 => ?_) (fun c_8 => ?_)
  · rw [b2_0] at c_8
    have e_8 := c_8
    refine sw_iconst 16 rfl (nI 1) rfl dX2_sum_15 ?_
    refine sw_callV 19 [] rfl cs_X2_124 rfl (Nat.le_of_ble_eq_true rfl) rfl hT.obj rfl rfl (ct_goesWellK hT.1 1 (by omega) (by omega)) rfl rfl (Nat.le_of_ble_eq_true rfl) dX2_sum_16 (fun v X hq => ?_) (fun E X hq => by obtain ⟨hv, -⟩ := hq; cases hv)
    obtain ⟨hv, hT1⟩ := hq
    cases hv
    replace hT := hT.tr hT1
    clear hT1
    refine sw_if_ne 24 22 (by decide) rfl dX2_sum_19 (fun c_19 => absurd (by decide) c_19) (fun c_19 => ?_)
    clear c_19
    refine sw_lconst 23 rfl 0 rfl dX2_sum_22 ?_
    refine sw_lret rfl dX2_sum_23 ?_
    exact ⟨by simp [rSum, kSum, cif, e_8], hT.st (by simp [kSum, cif, tk, e_8])⟩
  · rw [b2_n] at c_8
    have e_8 := c_8
    obtain ⟨i, hi, rfl⟩ := c_8
    have xi : ix (nI i) = i := ix_nI (by omega)
    refine sw_iconst 12 rfl (nI 0) rfl dX2_sum_11 ?_
    refine sw_goto 16 (by decide) dX2_sum_12 ?_
    refine sw_callV 19 [] rfl cs_X2_124 rfl (Nat.le_of_ble_eq_true rfl) rfl hT.obj rfl rfl (ct_goesWell0 hT.1) rfl rfl (Nat.le_of_ble_eq_true rfl) dX2_sum_16 (fun v X hq => ?_) (fun E X hq => by obtain ⟨hv, -⟩ := hq; cases hv)
    obtain ⟨hv, hT1⟩ := hq
    cases hv
    replace hT := hT.tr hT1
    clear hT1
    refine sw_if_ne 24 22 (by decide) rfl dX2_sum_19 (fun c_19 => ?_) (fun c_19 => absurd c_19 (by decide))
    clear c_19
    refine sw_iload_n 25 rfl rfl dX2_sum_24 ?_
    refine sw_iconst 26 rfl (nI 5) rfl dX2_sum_25 ?_
    refine sw_icmp_ge 38 29 (by decide) rfl dX2_sum_26 (fun c_26 => ?_) (fun c_26 => ?_)
    · rw [nI_leI (by omega) (by omega)] at c_26
      refine sw_lconst 39 rfl 0 rfl dX2_sum_38 ?_
      refine sw_lstore_n 40 rfl [_, _, _, _, _] (Nat.le_of_ble_eq_true rfl) rfl dX2_sum_39 ?_
      have hk : kSum (nI i) = 0 := cif_t e_8
      have hw0 := hw.thrown (nI 0)
      by_cases h5 : i = 5
      · refine mt_sumC hT hw0 hK h5 (sk_sumB hT hw0 hi (by omega) (sk_sumO hT hw0 hi (by omega) ?_))
        refine sw_lload_n 173 rfl rfl dX2_sum_172 ?_
        refine sw_lret rfl dX2_sum_173 ?_
        refine ⟨?_, hT.st (by rw [hk]; rfl)⟩
        rw [rSum, cif_t hk, xi, if_neg (by omega), if_pos h5, (pSum_tk S).1]; rfl
      · by_cases h6 : i = 6
        · refine sk_sumC hT hw0 hi h5 (mt_sumB hT hw0 hK h6 (sk_sumO hT hw0 hi (by omega) ?_))
          refine sw_lload_n 173 rfl rfl dX2_sum_172 ?_
          refine sw_lret rfl dX2_sum_173 ?_
          refine ⟨?_, hT.st (by rw [hk]; rfl)⟩
          rw [rSum, cif_t hk, xi, if_neg (by omega), if_neg h5, if_pos h6, (pSum_tk S).2.1]; rfl
        · refine sk_sumC hT hw0 hi h5 (sk_sumB hT hw0 hi h6 (mt_sumO hT hw0 hK (by omega) ?_))
          refine sw_lload_n 173 rfl rfl dX2_sum_172 ?_
          refine sw_lret rfl dX2_sum_173 ?_
          refine ⟨?_, hT.st (by rw [hk]; rfl)⟩
          rw [rSum, cif_t hk, xi, if_neg (by omega), if_neg h5, if_neg h6, (pSum_tk S).2.2]; rfl
    · rw [nI_leI (by omega) (by omega)] at c_26
      refine sw_aload_n 30 rfl rfl rfl dX2_sum_29 ?_
      refine gf_X2_97 33 rfl hT.obj rfl rfl dX2_sum_30 ?_
      refine sw_iload_n 34 rfl rfl dX2_sum_33 ?_
      refine sw_lald 35 rfl (hT.arr 34 rfl) (by omega) (Nat.le_of_ble_eq_true rfl) dX2_sum_34 ?_
      try simp only [sI_N, sI_L, sN_I, sN_L, sL_N, sL_I, sN_t, sI_t, sL_t, pOwe_N, pOwe_I, pOweBoth_N, pOweBoth_I, pTB_N, pTB_I, pGoBack_N, pOweOn_N, pOweOn_I, reduceIte, Nat.reduceEqDiff]
      refine sw_goto 39 (by decide) dX2_sum_35 ?_
      refine sw_lstore_n 40 rfl [_, _, _, _, _] (Nat.le_of_ble_eq_true rfl) rfl dX2_sum_39 ?_
      have hk : kSum (nI i) = 0 := cif_t e_8
      have hw0 := hw.thrown (nI 0)
      refine sk_sumC hT hw0 hi (by omega) (sk_sumB hT hw0 hi (by omega) (sk_sumO hT hw0 hi (by omega) ?_))
      refine sw_lload_n 173 rfl rfl dX2_sum_172 ?_
      refine sw_lret rfl dX2_sum_173 ?_
      refine ⟨?_, hT.st (by rw [hk]; rfl)⟩
      rw [rSum, cif_t hk, xi, if_pos (by omega)]

end T4
