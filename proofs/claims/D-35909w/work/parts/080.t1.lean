/-! the reference's small methods: written by prog/gen_t1.py -/
set_option maxRecDepth 100000
section T1
variable {γ : Gm} {Mo : Nat} {aT : Nat → Nat} {X : Sh} {S : TS}
set_option maxHeartbeats 4000000 in
theorem ct_in (v a b : Int32) : Ev γ mX2_in [.int v, .int a, .int b] X (fun oc X1 => oc = .inl (some (.int (b2 (a ≤ v ∧ v ≤ b)))) ∧ X1 = X) := by
  refine Ev.of (lv := [_, _, _]) 0 ⟨by decide +kernel, rfl, (Nat.le_of_ble_eq_true rfl)⟩ rfl ?_
  refine sw_iload_n 1 rfl rfl dX2_in_0 ?_
  refine sw_iload_n 2 rfl rfl dX2_in_1 ?_
  refine sw_icmp_lt 14 5 (by decide) rfl dX2_in_2 (fun c_2 => ?_) (fun c_2 => ?_)
  · refine sw_iconst 15 rfl (nI 0) rfl dX2_in_14 ?_
    refine sw_iret rfl rfl dX2_in_15 ?_
    exact ⟨by rw [b2_f (fun q => absurd c_2 (Int32.not_lt.mpr q.1))], rfl⟩
  · refine sw_iload_n 6 rfl rfl dX2_in_5 ?_
    refine sw_iload_n 7 rfl rfl dX2_in_6 ?_
    refine sw_icmp_gt 14 10 (by decide) rfl dX2_in_7 (fun c_7 => ?_) (fun c_7 => ?_)
    · refine sw_iconst 15 rfl (nI 0) rfl dX2_in_14 ?_
      refine sw_iret rfl rfl dX2_in_15 ?_
      exact ⟨by rw [b2_f (fun q => absurd c_7 (Int32.not_lt.mpr q.2))], rfl⟩
    · refine sw_iconst 11 rfl (nI 1) rfl dX2_in_10 ?_
      refine sw_goto 15 (by decide) dX2_in_11 ?_
      refine sw_iret rfl rfl dX2_in_15 ?_
      exact ⟨by rw [b2_t ⟨Int32.not_lt.mp c_2, Int32.not_lt.mp c_7⟩], rfl⟩

set_option maxHeartbeats 4000000 in
theorem ct_isBroker (hR : TwR γ Mo aT X S) (hn : S.1 3 0 ≤ 12) (b : Int32) : Ev γ mX2_isBroker [.ref Mo, .int b] X (fun oc X1 => oc = .inl (some (.int (b2 (isN b (S.1 3 0))))) ∧ TwF γ Mo aT X X1 (S)) := by
  have hT := TwF.rf hR
  refine Ev.of (lv := [_, _]) 0 ⟨by decide +kernel, rfl, (Nat.le_of_ble_eq_true rfl)⟩ rfl ?_
  refine sw_iload_n 1 rfl rfl dX2_isBroker_0 ?_
  refine sw_iconst 2 rfl (nI 0) rfl dX2_isBroker_1 ?_
  refine sw_aload_n 3 rfl rfl rfl dX2_isBroker_2 ?_
  refine gf_X2_113 6 rfl hT.obj rfl rfl dX2_isBroker_3 ?_
  refine sw_iconst 7 rfl (nI 1) rfl dX2_isBroker_6 ?_
  refine sw_isub 8 rfl dX2_isBroker_7 ?_
  refine sw_callS 11 [] rfl cs_X2_116 rfl (Nat.le_of_ble_eq_true rfl) rfl (ct_in _ _ _) rfl rfl (Nat.le_of_ble_eq_true rfl) dX2_isBroker_8 (fun v X hq => ?_) (fun E X hq => by obtain ⟨hv, -⟩ := hq; cases hv)
  obtain ⟨hv, rfl⟩ := hq
  cases hv
  refine sw_iret rfl b2_nar dX2_isBroker_11 ?_
  exact ⟨by rw [b2_c (in_isNp (by omega))], hT⟩

set_option maxHeartbeats 4000000 in
theorem ct_isOrder (hR : TwR γ Mo aT X S) (hn : S.1 14 0 ≤ 40) (b : Int32) : Ev γ mX2_isOrder [.ref Mo, .int b] X (fun oc X1 => oc = .inl (some (.int (b2 (isN b (S.1 14 0))))) ∧ TwF γ Mo aT X X1 (S)) := by
  have hT := TwF.rf hR
  refine Ev.of (lv := [_, _]) 0 ⟨by decide +kernel, rfl, (Nat.le_of_ble_eq_true rfl)⟩ rfl ?_
  refine sw_iload_n 1 rfl rfl dX2_isOrder_0 ?_
  refine sw_iconst 2 rfl (nI 0) rfl dX2_isOrder_1 ?_
  refine sw_aload_n 3 rfl rfl rfl dX2_isOrder_2 ?_
  refine gf_X2_181 6 rfl hT.obj rfl rfl dX2_isOrder_3 ?_
  refine sw_iconst 7 rfl (nI 1) rfl dX2_isOrder_6 ?_
  refine sw_isub 8 rfl dX2_isOrder_7 ?_
  refine sw_callS 11 [] rfl cs_X2_116 rfl (Nat.le_of_ble_eq_true rfl) rfl (ct_in _ _ _) rfl rfl (Nat.le_of_ble_eq_true rfl) dX2_isOrder_8 (fun v X hq => ?_) (fun E X hq => by obtain ⟨hv, -⟩ := hq; cases hv)
  obtain ⟨hv, rfl⟩ := hq
  cases hv
  refine sw_iret rfl b2_nar dX2_isOrder_11 ?_
  exact ⟨by rw [b2_c (in_isNp (by omega))], hT⟩

set_option maxHeartbeats 4000000 in
theorem ct_areBrokers (hR : TwR γ Mo aT X S) (hn : S.1 3 0 ≤ 12) (a b : Int32) : Ev γ mX2_areBrokers [.ref Mo, .int a, .int b] X (fun oc X1 => oc = .inl (some (.int (b2 (isN a (S.1 3 0) ∧ isN b (S.1 3 0))))) ∧ TwF γ Mo aT X X1 (S)) := by
  have hT := TwF.rf hR
  refine Ev.of (lv := [_, _, _]) 0 ⟨by decide +kernel, rfl, (Nat.le_of_ble_eq_true rfl)⟩ rfl ?_
  refine sw_aload_n 1 rfl rfl rfl dX2_areBrokers_0 ?_
  refine sw_iload_n 2 rfl rfl dX2_areBrokers_1 ?_
  refine sw_callV 5 [] rfl cs_X2_120 rfl (Nat.le_of_ble_eq_true rfl) rfl hT.obj rfl rfl (ct_isBroker hT.1 hn _) rfl rfl (Nat.le_of_ble_eq_true rfl) dX2_areBrokers_2 (fun v X hq => ?_) (fun E X hq => by obtain ⟨hv, -⟩ := hq; cases hv)
  obtain ⟨hv, hT1⟩ := hq
  cases hv
  replace hT := hT.tr hT1
  clear hT1
  refine sw_if_eq 20 8 (by decide) rfl dX2_areBrokers_5 (fun c_5 => ?_) (fun c_5 => ?_)
  · rw [b2_0] at c_5
    have e_5 := c_5
    refine sw_iconst 21 rfl (nI 0) rfl dX2_areBrokers_20 ?_
    refine sw_iret rfl rfl dX2_areBrokers_21 ?_
    exact ⟨by rw [b2_f (fun q => c_5 q.1)], hT⟩
  · rw [b2_n] at c_5
    have e_5 := c_5
    refine sw_aload_n 9 rfl rfl rfl dX2_areBrokers_8 ?_
    refine sw_iload_n 10 rfl rfl dX2_areBrokers_9 ?_
    refine sw_callV 13 [] rfl cs_X2_120 rfl (Nat.le_of_ble_eq_true rfl) rfl hT.obj rfl rfl (ct_isBroker hT.1 hn _) rfl rfl (Nat.le_of_ble_eq_true rfl) dX2_areBrokers_10 (fun v X hq => ?_) (fun E X hq => by obtain ⟨hv, -⟩ := hq; cases hv)
    obtain ⟨hv, hT1⟩ := hq
    cases hv
    replace hT := hT.tr hT1
    clear hT1
    refine sw_if_eq 20 16 (by decide) rfl dX2_areBrokers_13 (fun c_13 => ?_) (fun c_13 => ?_)
    · rw [b2_0] at c_13
      have e_13 := c_13
      refine sw_iconst 21 rfl (nI 0) rfl dX2_areBrokers_20 ?_
      refine sw_iret rfl rfl dX2_areBrokers_21 ?_
      exact ⟨by rw [b2_f (fun q => c_13 q.2)], hT⟩
    · rw [b2_n] at c_13
      have e_13 := c_13
      refine sw_iconst 17 rfl (nI 1) rfl dX2_areBrokers_16 ?_
      refine sw_goto 21 (by decide) dX2_areBrokers_17 ?_
      refine sw_iret rfl rfl dX2_areBrokers_21 ?_
      exact ⟨by rw [b2_t ⟨c_5, c_13⟩], hT⟩

set_option maxHeartbeats 4000000 in
theorem ct_goesWell (hR : TwR γ Mo aT X S) (k : Nat) (hk : k < 100) : Ev γ mX2_goesWell [.ref Mo, .int (nI k)] X (fun oc X1 => oc = .inl (some (.int (b2 (k = 0)))) ∧ TwF γ Mo aT X X1 (S.sI 0 0 (nI k))) := by
  have hT := TwF.rf hR
  refine Ev.of (lv := [_, _]) 0 ⟨by decide +kernel, rfl, (Nat.le_of_ble_eq_true rfl)⟩ rfl ?_
  refine sw_aload_n 1 rfl rfl rfl dX2_goesWell_0 ?_
  refine sw_iload_n 2 rfl rfl dX2_goesWell_1 ?_
  refine pf_X2_109 5 rfl hT.obj (Nat.le_of_ble_eq_true rfl) rfl dX2_goesWell_2 (fun X hX => ?_)
  replace hT := hT.p0 hX
  clear hX
  refine sw_iload_n 6 rfl rfl dX2_goesWell_5 ?_
  refine sw_if_ne 13 9 (by decide) rfl dX2_goesWell_6 (fun c_6 => ?_) (fun c_6 => ?_)
  · rw [show (0 : Int32) = nI 0 from rfl, nI_eq (by omega) (by omega)] at c_6
    refine sw_iconst 14 rfl (nI 0) rfl dX2_goesWell_13 ?_
    refine sw_iret rfl rfl dX2_goesWell_14 ?_
    exact ⟨by rw [b2_f c_6], hT⟩
  · rw [show (0 : Int32) = nI 0 from rfl, nI_eq (by omega) (by omega)] at c_6
    refine sw_iconst 10 rfl (nI 1) rfl dX2_goesWell_9 ?_
    refine sw_goto 14 (by decide) dX2_goesWell_10 ?_
    refine sw_iret rfl rfl dX2_goesWell_14 ?_
    exact ⟨by rw [b2_t c_6], hT⟩

set_option maxHeartbeats 4000000 in
theorem ct_thrown (hR : TwR γ Mo aT X S) : Ev γ mX2_thrown [.ref Mo] X (fun oc X1 => oc = .inl (some (.int (S.2.1 0 0))) ∧ TwF γ Mo aT X X1 (S)) := by
  have hT := TwF.rf hR
  refine Ev.of (lv := [_]) 0 ⟨by decide +kernel, rfl, (Nat.le_of_ble_eq_true rfl)⟩ rfl ?_
  refine sw_aload_n 1 rfl rfl rfl dX2_thrown_0 ?_
  refine gf_X2_109 4 rfl hT.obj rfl rfl dX2_thrown_1 ?_
  refine sw_iret rfl rfl dX2_thrown_4 ?_
  exact ⟨rfl, hT⟩

set_option maxHeartbeats 4000000 in
theorem ct_firstOf (hR : TwR γ Mo aT X S) (o : Nat) (ho : o < 40) : Ev γ mX2_firstOf [.ref Mo, .int (nI o)] X (fun oc X1 => oc = .inl (some (.int (nI (S.1 23 (12 * o))))) ∧ TwF γ Mo aT X X1 (S)) := by
  have hT := TwF.rf hR
  refine Ev.of (lv := [_, _]) 0 ⟨by decide +kernel, rfl, (Nat.le_of_ble_eq_true rfl)⟩ rfl ?_
  refine sw_aload_n 1 rfl rfl rfl dX2_firstOf_0 ?_
  refine gf_X2_66 4 rfl hT.obj rfl rfl dX2_firstOf_1 ?_
  refine sw_bipush 6 rfl (nI 12) rfl dX2_firstOf_4 ?_
  refine sw_iload_n 7 rfl rfl dX2_firstOf_6 ?_
  refine sw_imulN 8 rfl dX2_firstOf_7 ?_
  refine sw_iald 9 rfl (hT.arr 23 rfl) (by omega) (Nat.le_of_ble_eq_true rfl) dX2_firstOf_8 ?_
  refine sw_iret rfl rfl dX2_firstOf_9 ?_
  exact ⟨rfl, hT⟩

set_option maxHeartbeats 4000000 in
theorem ct_feeOf (hR : TwR γ Mo aT X S) (b amt : Nat) (hb : b < 12) (ha : amt ≤ 1000000) (hr : S.1 6 b ≤ 100) : Ev γ mX2_feeOf [.ref Mo, .int (nI b), .int (nI amt)] X (fun oc X1 => oc = .inl (some (.long (lN (pFee S b amt)))) ∧ TwF γ Mo aT X X1 (S)) := by
  have hT := TwF.rf hR
  refine Ev.of (lv := [_, _, _]) 0 ⟨by decide +kernel, rfl, (Nat.le_of_ble_eq_true rfl)⟩ rfl ?_
  refine sw_iload_n 1 rfl rfl dX2_feeOf_0 ?_
  refine sw_i2l 2 rfl dX2_feeOf_1 ?_
  refine sw_topL (nI_l (by omega)) ?_
  refine sw_aload_n 3 rfl rfl rfl dX2_feeOf_2 ?_
  refine gf_X2_17 6 rfl hT.obj rfl rfl dX2_feeOf_3 ?_
  refine sw_iload_n 7 rfl rfl dX2_feeOf_6 ?_
  refine sw_iald 8 rfl (hT.arr 6 rfl) (by omega) (Nat.le_of_ble_eq_true rfl) dX2_feeOf_7 ?_
  refine sw_i2l 9 rfl dX2_feeOf_8 ?_
  refine sw_topL (nI_l (by omega)) ?_
  refine sw_lmul 10 rfl dX2_feeOf_9 ?_
  refine sw_topL (lN_mul _ _) ?_
  refine sw_ldc2 13 rfl q1117 dX2_feeOf_10 ?_
  refine sw_topL (show (1000 : Int64) = lN 1000 from rfl) ?_
  refine sw_ldiv 14 rfl (by decide) dX2_feeOf_13 ?_
  refine sw_lret rfl dX2_feeOf_14 ?_
  exact ⟨by rw [pk_lDiv (Nat.lt_of_le_of_lt (Nat.mul_le_mul ha hr) (Nat.le_of_ble_eq_true rfl)) (by decide) (by decide)]; rfl, hT⟩

set_option maxHeartbeats 4000000 in
theorem ct_limitOf (hR : TwR γ Mo aT X S) (w o : Nat) (hw : w < 12) (ho : o < 12) (hl : S.1 10 (12 * w + o) < 2 ^ 31) : Ev γ mX2_limitOf [.ref Mo, .int (nI w), .int (nI o)] X (fun oc X1 => oc = .inl (some (.long (pLim S w o))) ∧ TwF γ Mo aT X X1 (S)) := by
  have hT := TwF.rf hR
  refine Ev.of (lv := [_, _, _, _]) 1 ⟨by decide +kernel, rfl, (Nat.le_of_ble_eq_true rfl)⟩ rfl ?_
  refine sw_bipush 2 rfl (nI 12) rfl dX2_limitOf_0 ?_
  refine sw_iload_n 3 rfl rfl dX2_limitOf_2 ?_
  refine sw_imulN 4 rfl dX2_limitOf_3 ?_
  refine sw_iload_n 5 rfl rfl dX2_limitOf_4 ?_
  refine sw_iaddN 6 rfl dX2_limitOf_5 ?_
  refine sw_istore_n 7 rfl [_, _, _, _] (Nat.le_of_ble_eq_true rfl) rfl dX2_limitOf_6 ?_
  refine sw_aload_n 8 rfl rfl rfl dX2_limitOf_7 ?_
  refine gf_X2_131 11 rfl hT.obj rfl rfl dX2_limitOf_8 ?_
  refine sw_if_eq 37 14 (by decide) rfl dX2_limitOf_11 (fun c_11 => ?_) (fun c_11 => ?_)
  · refine sw_aload_n 38 rfl rfl rfl dX2_limitOf_37 ?_
    refine gf_X2_30 41 rfl hT.obj rfl rfl dX2_limitOf_38 ?_
    refine sw_iload_n 42 rfl rfl dX2_limitOf_41 ?_
    refine sw_iald 43 rfl (hT.arr 10 rfl) (by omega) (Nat.le_of_ble_eq_true rfl) dX2_limitOf_42 ?_
    refine sw_i2l 44 rfl dX2_limitOf_43 ?_
    refine sw_topL (nI_l (by omega)) ?_
    refine sw_lret rfl dX2_limitOf_44 ?_
    exact ⟨by rw [pLim, if_neg (fun q => q.1 c_11)], hT⟩
  · refine sw_aload_n 15 rfl rfl rfl dX2_limitOf_14 ?_
    refine gf_X2_33 18 rfl hT.obj rfl rfl dX2_limitOf_15 ?_
    refine sw_iload_n 19 rfl rfl dX2_limitOf_18 ?_
    refine sw_zald 20 rfl (hT.arr 11 rfl) (by omega) (Nat.le_of_ble_eq_true rfl) dX2_limitOf_19 ?_
    refine sw_if_eq 37 23 (by decide) rfl dX2_limitOf_20 (fun c_20 => ?_) (fun c_20 => ?_)
    · refine sw_aload_n 38 rfl rfl rfl dX2_limitOf_37 ?_
      refine gf_X2_30 41 rfl hT.obj rfl rfl dX2_limitOf_38 ?_
      refine sw_iload_n 42 rfl rfl dX2_limitOf_41 ?_
      refine sw_iald 43 rfl (hT.arr 10 rfl) (by omega) (Nat.le_of_ble_eq_true rfl) dX2_limitOf_42 ?_
      refine sw_i2l 44 rfl dX2_limitOf_43 ?_
      refine sw_topL (nI_l (by omega)) ?_
      refine sw_lret rfl dX2_limitOf_44 ?_
      exact ⟨by rw [pLim, if_neg (fun q => q.2 c_20)], hT⟩
    · refine sw_ldc2 26 rfl q1127 dX2_limitOf_23 ?_
      refine sw_aload_n 27 rfl rfl rfl dX2_limitOf_26 ?_
      refine gf_X2_30 30 rfl hT.obj rfl rfl dX2_limitOf_27 ?_
      refine sw_iload_n 31 rfl rfl dX2_limitOf_30 ?_
      refine sw_iald 32 rfl (hT.arr 10 rfl) (by omega) (Nat.le_of_ble_eq_true rfl) dX2_limitOf_31 ?_
      refine sw_i2l 33 rfl dX2_limitOf_32 ?_
      refine sw_topL (nI_l (by omega)) ?_
      refine sw_lmul 34 rfl dX2_limitOf_33 ?_
      refine sw_goto 44 (by decide) dX2_limitOf_34 ?_
      refine sw_lret rfl dX2_limitOf_44 ?_
      exact ⟨by rw [pLim, if_pos ⟨c_11, c_20⟩], hT⟩

set_option maxHeartbeats 4000000 in
theorem ct_canOwe (hR : TwR γ Mo aT X S) (a b amt : Nat) (ha : a < 12) (hb : b < 12) (hm : amt ≤ 1000000) (hf : S.1 35 b < 2 ^ 63) (hl : S.1 10 (12 * b + a) < 2 ^ 31) : Ev γ mX2_canOwe [.ref Mo, .int (nI a), .int (nI b), .int (nI amt)] X (fun oc X1 => oc = .inl (some (.int (b2 (pCan S a b amt)))) ∧ TwF γ Mo aT X X1 (S)) := by
  have hT := TwF.rf hR
  refine Ev.of (lv := [_, _, _, _]) 0 ⟨by decide +kernel, rfl, (Nat.le_of_ble_eq_true rfl)⟩ rfl ?_
  refine sw_iload_n 1 rfl rfl dX2_canOwe_0 ?_
  refine sw_iload_n 2 rfl rfl dX2_canOwe_1 ?_
  refine sw_icmp_eq 53 5 (by decide) rfl dX2_canOwe_2 (fun c_2 => ?_) (fun c_2 => ?_)
  · rw [nI_eq (by omega) (by omega)] at c_2
    refine sw_iconst 54 rfl (nI 0) rfl dX2_canOwe_53 ?_
    refine sw_iret rfl rfl dX2_canOwe_54 ?_
    exact ⟨by rw [b2_f (fun q => q.1 c_2)], hT⟩
  · rw [nI_eq (by omega) (by omega)] at c_2
    refine sw_aload_n 6 rfl rfl rfl dX2_canOwe_5 ?_
    refine gf_X2_100 9 rfl hT.obj rfl rfl dX2_canOwe_6 ?_
    refine sw_iload_n 10 rfl rfl dX2_canOwe_9 ?_
    refine sw_lald 11 rfl (hT.arr 35 rfl) (by omega) (Nat.le_of_ble_eq_true rfl) dX2_canOwe_10 ?_
    refine sw_ldc2 14 rfl q1118 dX2_canOwe_11 ?_
    refine sw_topL (show (1000000000000 : Int64) = lN 1000000000000 from rfl) ?_
    refine sw_lge 53 15 18 rfl (by decide) rfl dX2_canOwe_14 dX2_canOwe_15 (fun c_14 => ?_) (fun c_14 => ?_)
    · rw [pk_lLE (by omega) (by omega)] at c_14
      refine sw_iconst 54 rfl (nI 0) rfl dX2_canOwe_53 ?_
      refine sw_iret rfl rfl dX2_canOwe_54 ?_
      exact ⟨by rw [b2_f (fun q => absurd c_14 (Nat.not_le.mpr q.2.1))], hT⟩
    · rw [pk_lLE (by omega) (by omega)] at c_14
      refine sw_aload_n 19 rfl rfl rfl dX2_canOwe_18 ?_
      refine gf_X2_36 22 rfl hT.obj rfl rfl dX2_canOwe_19 ?_
      refine sw_bipush 24 rfl (nI 12) rfl dX2_canOwe_22 ?_
      refine sw_iload_n 25 rfl rfl dX2_canOwe_24 ?_
      refine sw_imulN 26 rfl dX2_canOwe_25 ?_
      refine sw_iload_n 27 rfl rfl dX2_canOwe_26 ?_
      refine sw_iaddN 28 rfl dX2_canOwe_27 ?_
      refine sw_lald 29 rfl (hT.arr 12 rfl) (by omega) (Nat.le_of_ble_eq_true rfl) dX2_canOwe_28 ?_
      refine sw_iload_n 30 rfl rfl dX2_canOwe_29 ?_
      refine sw_i2l 31 rfl dX2_canOwe_30 ?_
      refine sw_topL (nI_l (by omega)) ?_
      refine sw_ladd 32 rfl dX2_canOwe_31 ?_
      refine sw_aload_n 33 rfl rfl rfl dX2_canOwe_32 ?_
      refine gf_X2_100 36 rfl hT.obj rfl rfl dX2_canOwe_33 ?_
      refine sw_iload_n 37 rfl rfl dX2_canOwe_36 ?_
      refine sw_lald 38 rfl (hT.arr 35 rfl) (by omega) (Nat.le_of_ble_eq_true rfl) dX2_canOwe_37 ?_
      refine sw_ladd 39 rfl dX2_canOwe_38 ?_
      refine sw_aload_n 40 rfl rfl rfl dX2_canOwe_39 ?_
      refine sw_iload_n 41 rfl rfl dX2_canOwe_40 ?_
      refine sw_iload_n 42 rfl rfl dX2_canOwe_41 ?_
      refine sw_callV 45 [_] rfl cs_X2_149 rfl (Nat.le_of_ble_eq_true rfl) rfl hT.obj rfl rfl (ct_limitOf hT.1 b a hb ha hl) rfl rfl (Nat.le_of_ble_eq_true rfl) dX2_canOwe_42 (fun v X hq => ?_) (fun E X hq => by obtain ⟨hv, -⟩ := hq; cases hv)
      obtain ⟨hv, hT1⟩ := hq
      cases hv
      replace hT := hT.tr hT1
      clear hT1
      refine sw_lgt 53 46 49 rfl (by decide) rfl dX2_canOwe_45 dX2_canOwe_46 (fun c_45 => ?_) (fun c_45 => ?_)
      · refine sw_iconst 54 rfl (nI 0) rfl dX2_canOwe_53 ?_
        refine sw_iret rfl rfl dX2_canOwe_54 ?_
        exact ⟨by rw [b2_f (fun q => absurd c_45 (Int64.not_lt.mpr q.2.2))], hT⟩
      · refine sw_iconst 50 rfl (nI 1) rfl dX2_canOwe_49 ?_
        refine sw_goto 54 (by decide) dX2_canOwe_50 ?_
        refine sw_iret rfl rfl dX2_canOwe_54 ?_
        exact ⟨by rw [b2_t ⟨c_2, Nat.not_le.mp c_14, Int64.not_lt.mp c_45⟩], hT⟩

set_option maxHeartbeats 4000000 in
theorem ct_owe12 (hR : TwR γ Mo aT X S) (a b : Nat) (ha : a < 12) (hb : b < 12) (m : Int64) : Ev γ mX2_owe [.ref Mo, .ref (aT 12), .int (nI a), .int (nI b), .long m] X (fun oc X1 => oc = .inl none ∧ TwF γ Mo aT X X1 (pOwe S 12 (12 * a + b) m)) := by
  have hT := TwF.rf hR
  refine Ev.of (lv := [_, _, _, _, _, _]) 0 ⟨by decide +kernel, rfl, (Nat.le_of_ble_eq_true rfl)⟩ rfl ?_
  refine sw_aload_n 1 rfl rfl rfl dX2_owe_0 ?_
  refine sw_bipush 3 rfl (nI 12) rfl dX2_owe_1 ?_
  refine sw_iload_n 4 rfl rfl dX2_owe_3 ?_
  refine sw_imulN 5 rfl dX2_owe_4 ?_
  refine sw_iload_n 6 rfl rfl dX2_owe_5 ?_
  refine sw_iaddN 7 rfl dX2_owe_6 ?_
  refine sw_dup2 8 rfl rfl rfl dX2_owe_7 ?_
  refine sw_lald 9 rfl (hT.arr 12 rfl) (by omega) (Nat.le_of_ble_eq_true rfl) dX2_owe_8 ?_
  refine sw_lload 11 rfl rfl dX2_owe_9 ?_
  refine sw_ladd 12 rfl dX2_owe_11 ?_
  refine sw_last 13 rfl (hT.arr 12 rfl) (by omega) (Nat.le_of_ble_eq_true rfl) dX2_owe_12 (fun X hX => ?_)
  replace hT := hT.p12 hX
  clear hX
  refine sw_vret rfl dX2_owe_13 ?_
  exact ⟨rfl, hT⟩

set_option maxHeartbeats 4000000 in
theorem ct_owe13 (hR : TwR γ Mo aT X S) (a b : Nat) (ha : a < 12) (hb : b < 12) (m : Int64) : Ev γ mX2_owe [.ref Mo, .ref (aT 13), .int (nI a), .int (nI b), .long m] X (fun oc X1 => oc = .inl none ∧ TwF γ Mo aT X X1 (pOwe S 13 (12 * a + b) m)) := by
  have hT := TwF.rf hR
  refine Ev.of (lv := [_, _, _, _, _, _]) 0 ⟨by decide +kernel, rfl, (Nat.le_of_ble_eq_true rfl)⟩ rfl ?_
  refine sw_aload_n 1 rfl rfl rfl dX2_owe_0 ?_
  refine sw_bipush 3 rfl (nI 12) rfl dX2_owe_1 ?_
  refine sw_iload_n 4 rfl rfl dX2_owe_3 ?_
  refine sw_imulN 5 rfl dX2_owe_4 ?_
  refine sw_iload_n 6 rfl rfl dX2_owe_5 ?_
  refine sw_iaddN 7 rfl dX2_owe_6 ?_
  refine sw_dup2 8 rfl rfl rfl dX2_owe_7 ?_
  refine sw_lald 9 rfl (hT.arr 13 rfl) (by omega) (Nat.le_of_ble_eq_true rfl) dX2_owe_8 ?_
  refine sw_lload 11 rfl rfl dX2_owe_9 ?_
  refine sw_ladd 12 rfl dX2_owe_11 ?_
  refine sw_last 13 rfl (hT.arr 13 rfl) (by omega) (Nat.le_of_ble_eq_true rfl) dX2_owe_12 (fun X hX => ?_)
  replace hT := hT.p13 hX
  clear hX
  refine sw_vret rfl dX2_owe_13 ?_
  exact ⟨rfl, hT⟩

set_option maxHeartbeats 4000000 in
theorem ct_oweBoth (hR : TwR γ Mo aT X S) (a b : Nat) (ha : a < 12) (hb : b < 12) (m : Int64) : Ev γ mX2_oweBoth [.ref Mo, .int (nI a), .int (nI b), .long m] X (fun oc X1 => oc = .inl none ∧ TwF γ Mo aT X X1 (pOweBoth S a b m)) := by
  have hT := TwF.rf hR
  refine Ev.of (lv := [_, _, _, _, _]) 0 ⟨by decide +kernel, rfl, (Nat.le_of_ble_eq_true rfl)⟩ rfl ?_
  refine sw_aload_n 1 rfl rfl rfl dX2_oweBoth_0 ?_
  refine sw_aload_n 2 rfl rfl rfl dX2_oweBoth_1 ?_
  refine gf_X2_36 5 rfl hT.obj rfl rfl dX2_oweBoth_2 ?_
  refine sw_iload_n 6 rfl rfl dX2_oweBoth_5 ?_
  refine sw_iload_n 7 rfl rfl dX2_oweBoth_6 ?_
  refine sw_lload_n 8 rfl rfl dX2_oweBoth_7 ?_
  refine sw_callV 11 [] rfl cs_X2_135 rfl (Nat.le_of_ble_eq_true rfl) rfl hT.obj rfl rfl (ct_owe12 hT.1 _ _ ha hb _) rfl rfl (Nat.le_of_ble_eq_true rfl) dX2_oweBoth_8 (fun v X hq => ?_) (fun E X hq => by obtain ⟨hv, -⟩ := hq; cases hv)
  obtain ⟨hv, hT1⟩ := hq
  cases hv
  replace hT := hT.tr hT1
  clear hT1
  refine sw_aload_n 12 rfl rfl rfl dX2_oweBoth_11 ?_
  refine sw_aload_n 13 rfl rfl rfl dX2_oweBoth_12 ?_
  refine gf_X2_36 16 rfl hT.obj rfl rfl dX2_oweBoth_13 ?_
  refine sw_iload_n 17 rfl rfl dX2_oweBoth_16 ?_
  refine sw_iload_n 18 rfl rfl dX2_oweBoth_17 ?_
  refine sw_lload_n 19 rfl rfl dX2_oweBoth_18 ?_
  refine sw_lneg 20 rfl dX2_oweBoth_19 ?_
  refine sw_callV 23 [] rfl cs_X2_135 rfl (Nat.le_of_ble_eq_true rfl) rfl hT.obj rfl rfl (ct_owe12 hT.1 _ _ hb ha _) rfl rfl (Nat.le_of_ble_eq_true rfl) dX2_oweBoth_20 (fun v X hq => ?_) (fun E X hq => by obtain ⟨hv, -⟩ := hq; cases hv)
  obtain ⟨hv, hT1⟩ := hq
  cases hv
  replace hT := hT.tr hT1
  clear hT1
  refine sw_aload_n 24 rfl rfl rfl dX2_oweBoth_23 ?_
  refine sw_aload_n 25 rfl rfl rfl dX2_oweBoth_24 ?_
  refine gf_X2_39 28 rfl hT.obj rfl rfl dX2_oweBoth_25 ?_
  refine sw_iload_n 29 rfl rfl dX2_oweBoth_28 ?_
  refine sw_iload_n 30 rfl rfl dX2_oweBoth_29 ?_
  refine sw_lload_n 31 rfl rfl dX2_oweBoth_30 ?_
  refine sw_callV 34 [] rfl cs_X2_135 rfl (Nat.le_of_ble_eq_true rfl) rfl hT.obj rfl rfl (ct_owe13 hT.1 _ _ ha hb _) rfl rfl (Nat.le_of_ble_eq_true rfl) dX2_oweBoth_31 (fun v X hq => ?_) (fun E X hq => by obtain ⟨hv, -⟩ := hq; cases hv)
  obtain ⟨hv, hT1⟩ := hq
  cases hv
  replace hT := hT.tr hT1
  clear hT1
  refine sw_aload_n 35 rfl rfl rfl dX2_oweBoth_34 ?_
  refine sw_aload_n 36 rfl rfl rfl dX2_oweBoth_35 ?_
  refine gf_X2_39 39 rfl hT.obj rfl rfl dX2_oweBoth_36 ?_
  refine sw_iload_n 40 rfl rfl dX2_oweBoth_39 ?_
  refine sw_iload_n 41 rfl rfl dX2_oweBoth_40 ?_
  refine sw_lload_n 42 rfl rfl dX2_oweBoth_41 ?_
  refine sw_lneg 43 rfl dX2_oweBoth_42 ?_
  refine sw_callV 46 [] rfl cs_X2_135 rfl (Nat.le_of_ble_eq_true rfl) rfl hT.obj rfl rfl (ct_owe13 hT.1 _ _ hb ha _) rfl rfl (Nat.le_of_ble_eq_true rfl) dX2_oweBoth_43 (fun v X hq => ?_) (fun E X hq => by obtain ⟨hv, -⟩ := hq; cases hv)
  obtain ⟨hv, hT1⟩ := hq
  cases hv
  replace hT := hT.tr hT1
  clear hT1
  refine sw_vret rfl dX2_oweBoth_46 ?_
  exact ⟨rfl, hT⟩

set_option maxHeartbeats 4000000 in
theorem ct_oweOn (hR : TwR γ Mo aT X S) (o k : Nat) (ho : o < 40) (hk : k < 11) (sg : Int32) (ha : S.1 23 (12 * o + k) < 12) (hb : S.1 23 (12 * o + k + 1) < 12) (hr : S.1 24 (12 * o + k) < 2 ^ 31) (ht : S.1 21 o < 2 ^ 31) : Ev γ mX2_oweOn [.ref Mo, .int (nI o), .int (nI k), .int sg] X (fun oc X1 => oc = .inl none ∧ TwF γ Mo aT X X1 (pOweOn S o k sg)) := by
  have hT := TwF.rf hR
  refine Ev.of (lv := [_, _, _, _, _, _, _, _]) 4 ⟨by decide +kernel, rfl, (Nat.le_of_ble_eq_true rfl)⟩ rfl ?_
  refine sw_aload_n 1 rfl rfl rfl dX2_oweOn_0 ?_
  refine gf_X2_66 4 rfl hT.obj rfl rfl dX2_oweOn_1 ?_
  refine sw_bipush 6 rfl (nI 12) rfl dX2_oweOn_4 ?_
  refine sw_iload_n 7 rfl rfl dX2_oweOn_6 ?_
  refine sw_imulN 8 rfl dX2_oweOn_7 ?_
  refine sw_iload_n 9 rfl rfl dX2_oweOn_8 ?_
  refine sw_iaddN 10 rfl dX2_oweOn_9 ?_
  refine sw_iald 11 rfl (hT.arr 23 rfl) (by omega) (Nat.le_of_ble_eq_true rfl) dX2_oweOn_10 ?_
  refine sw_istore 13 rfl [_, _, _, _, _, _, _, _] (Nat.le_of_ble_eq_true rfl) rfl dX2_oweOn_11 ?_
  refine sw_aload_n 14 rfl rfl rfl dX2_oweOn_13 ?_
  refine gf_X2_66 17 rfl hT.obj rfl rfl dX2_oweOn_14 ?_
  refine sw_bipush 19 rfl (nI 12) rfl dX2_oweOn_17 ?_
  refine sw_iload_n 20 rfl rfl dX2_oweOn_19 ?_
  refine sw_imulN 21 rfl dX2_oweOn_20 ?_
  refine sw_iload_n 22 rfl rfl dX2_oweOn_21 ?_
  refine sw_iaddN 23 rfl dX2_oweOn_22 ?_
  refine sw_iconst 24 rfl (nI 1) rfl dX2_oweOn_23 ?_
  refine sw_iaddN 25 rfl dX2_oweOn_24 ?_
  refine sw_iald 26 rfl (hT.arr 23 rfl) (by omega) (Nat.le_of_ble_eq_true rfl) dX2_oweOn_25 ?_
  refine sw_istore 28 rfl [_, _, _, _, _, _, _, _] (Nat.le_of_ble_eq_true rfl) rfl dX2_oweOn_26 ?_
  refine sw_iload_n 29 rfl rfl dX2_oweOn_28 ?_
  refine sw_i2l 30 rfl dX2_oweOn_29 ?_
  refine sw_aload_n 31 rfl rfl rfl dX2_oweOn_30 ?_
  refine gf_X2_69 34 rfl hT.obj rfl rfl dX2_oweOn_31 ?_
  refine sw_bipush 36 rfl (nI 12) rfl dX2_oweOn_34 ?_
  refine sw_iload_n 37 rfl rfl dX2_oweOn_36 ?_
  refine sw_imulN 38 rfl dX2_oweOn_37 ?_
  refine sw_iload_n 39 rfl rfl dX2_oweOn_38 ?_
  refine sw_iaddN 40 rfl dX2_oweOn_39 ?_
  refine sw_iald 41 rfl (hT.arr 24 rfl) (by omega) (Nat.le_of_ble_eq_true rfl) dX2_oweOn_40 ?_
  refine sw_i2l 42 rfl dX2_oweOn_41 ?_
  refine sw_topL (nI_l (by first | omega | exact Nat.lt_of_le_of_lt (Nat.le_of_eq rfl) ht)) ?_
  refine sw_lmul 43 rfl dX2_oweOn_42 ?_
  refine sw_lstore 45 rfl [_, _, _, _, _, _, _, _] (Nat.le_of_ble_eq_true rfl) rfl dX2_oweOn_43 ?_
  refine sw_aload_n 46 rfl rfl rfl dX2_oweOn_45 ?_
  refine sw_aload_n 47 rfl rfl rfl dX2_oweOn_46 ?_
  refine gf_X2_36 50 rfl hT.obj rfl rfl dX2_oweOn_47 ?_
  refine sw_iload 52 rfl rfl dX2_oweOn_50 ?_
  refine sw_iload 54 rfl rfl dX2_oweOn_52 ?_
  refine sw_lload 56 rfl rfl dX2_oweOn_54 ?_
  refine sw_callV 59 [] rfl cs_X2_135 rfl (Nat.le_of_ble_eq_true rfl) rfl hT.obj rfl rfl (ct_owe12 hT.1 _ _ ha hb _) rfl rfl (Nat.le_of_ble_eq_true rfl) dX2_oweOn_56 (fun v X hq => ?_) (fun E X hq => by obtain ⟨hv, -⟩ := hq; cases hv)
  obtain ⟨hv, hT1⟩ := hq
  cases hv
  replace hT := hT.tr hT1
  clear hT1
  refine sw_aload_n 60 rfl rfl rfl dX2_oweOn_59 ?_
  refine sw_aload_n 61 rfl rfl rfl dX2_oweOn_60 ?_
  refine gf_X2_36 64 rfl hT.obj rfl rfl dX2_oweOn_61 ?_
  refine sw_iload 66 rfl rfl dX2_oweOn_64 ?_
  refine sw_iload 68 rfl rfl dX2_oweOn_66 ?_
  refine sw_lload 70 rfl rfl dX2_oweOn_68 ?_
  refine sw_lneg 71 rfl dX2_oweOn_70 ?_
  refine sw_callV 74 [] rfl cs_X2_135 rfl (Nat.le_of_ble_eq_true rfl) rfl hT.obj rfl rfl (ct_owe12 hT.1 _ _ hb ha _) rfl rfl (Nat.le_of_ble_eq_true rfl) dX2_oweOn_71 (fun v X hq => ?_) (fun E X hq => by obtain ⟨hv, -⟩ := hq; cases hv)
  obtain ⟨hv, hT1⟩ := hq
  cases hv
  replace hT := hT.tr hT1
  clear hT1
  refine sw_aload_n 75 rfl rfl rfl dX2_oweOn_74 ?_
  refine sw_aload_n 76 rfl rfl rfl dX2_oweOn_75 ?_
  refine gf_X2_39 79 rfl hT.obj rfl rfl dX2_oweOn_76 ?_
  refine sw_iload 81 rfl rfl dX2_oweOn_79 ?_
  refine sw_iload 83 rfl rfl dX2_oweOn_81 ?_
  refine sw_lload 85 rfl rfl dX2_oweOn_83 ?_
  refine sw_callV 88 [] rfl cs_X2_135 rfl (Nat.le_of_ble_eq_true rfl) rfl hT.obj rfl rfl (ct_owe13 hT.1 _ _ ha hb _) rfl rfl (Nat.le_of_ble_eq_true rfl) dX2_oweOn_85 (fun v X hq => ?_) (fun E X hq => by obtain ⟨hv, -⟩ := hq; cases hv)
  obtain ⟨hv, hT1⟩ := hq
  cases hv
  replace hT := hT.tr hT1
  clear hT1
  refine sw_aload_n 89 rfl rfl rfl dX2_oweOn_88 ?_
  refine gf_X2_60 92 rfl hT.obj rfl rfl dX2_oweOn_89 ?_
  refine sw_iload_n 93 rfl rfl dX2_oweOn_92 ?_
  refine sw_iald 94 rfl (hT.arr 21 rfl) (by omega) (Nat.le_of_ble_eq_true rfl) dX2_oweOn_93 ?_
  try simp only [sI_N, sI_L, sN_I, sN_L, sL_N, sL_I, sN_t, sI_t, sL_t, pOwe_N, pOwe_I, pOweBoth_N, pOweBoth_I, pTB_N, pTB_I, pGoBack_N, pOweOn_N, pOweOn_I, reduceIte, Nat.reduceEqDiff]
  refine sw_iload_n 95 rfl rfl dX2_oweOn_94 ?_
  refine sw_icmp_le 113 98 (by decide) rfl dX2_oweOn_95 (fun c_95 => ?_) (fun c_95 => ?_)
  · rw [nI_leI (by first | omega | exact Nat.lt_of_le_of_lt (Nat.le_of_eq rfl) ht) (by first | omega | exact Nat.lt_of_le_of_lt (Nat.le_of_eq rfl) ht)] at c_95
    replace c_95 : ¬ k < S.1 21 o := Nat.not_lt.mpr c_95
    refine sw_vret rfl dX2_oweOn_113 ?_
    exact ⟨rfl, hT.st (by rw [pOweOn, if_neg c_95]; rfl)⟩
  · rw [nI_leI (by first | omega | exact Nat.lt_of_le_of_lt (Nat.le_of_eq rfl) ht) (by first | omega | exact Nat.lt_of_le_of_lt (Nat.le_of_eq rfl) ht)] at c_95
    replace c_95 : k < S.1 21 o := Nat.not_le.mp c_95
    refine sw_aload_n 99 rfl rfl rfl dX2_oweOn_98 ?_
    refine sw_aload_n 100 rfl rfl rfl dX2_oweOn_99 ?_
    refine gf_X2_39 103 rfl hT.obj rfl rfl dX2_oweOn_100 ?_
    refine sw_iload 105 rfl rfl dX2_oweOn_103 ?_
    refine sw_iload 107 rfl rfl dX2_oweOn_105 ?_
    refine sw_lload 109 rfl rfl dX2_oweOn_107 ?_
    refine sw_lneg 110 rfl dX2_oweOn_109 ?_
    refine sw_callV 113 [] rfl cs_X2_135 rfl (Nat.le_of_ble_eq_true rfl) rfl hT.obj rfl rfl (ct_owe13 hT.1 _ _ hb ha _) rfl rfl (Nat.le_of_ble_eq_true rfl) dX2_oweOn_110 (fun v X hq => ?_) (fun E X hq => by obtain ⟨hv, -⟩ := hq; cases hv)
    obtain ⟨hv, hT1⟩ := hq
    cases hv
    replace hT := hT.tr hT1
    clear hT1
    refine sw_vret rfl dX2_oweOn_113 ?_
    exact ⟨rfl, hT.st (by rw [pOweOn, if_pos c_95]; rfl)⟩

theorem ct_in0 (v : Int32) (m : Nat) (hm : m < 2 ^ 31) : Ev γ mX2_in [.int v, .int (nI 0), .int (nI m)] X (fun oc X1 => oc = .inl (some (.int (b2 (isN v (m + 1))))) ∧ X1 = X) := (ct_in v (nI 0) (nI m)).mono (fun oc X1 h => ⟨by rw [h.1, b2_c (in_isN hm)], h.2⟩)
theorem ct_in1 (v : Int32) (m : Nat) (hm : m < 2 ^ 31) : Ev γ mX2_in [.int v, .int (nI 1), .int (nI m)] X (fun oc X1 => oc = .inl (some (.int (b2 (isR1 v m)))) ∧ X1 = X) := (ct_in v (nI 1) (nI m)).mono (fun oc X1 h => ⟨by rw [h.1, b2_c (in_isN1 hm)], h.2⟩)
theorem ct_goesWell0 (hR : TwR γ Mo aT X S) : Ev γ mX2_goesWell [.ref Mo, .int (nI 0)] X (fun oc X1 => oc = .inl (some (.int (nI 1))) ∧ TwF γ Mo aT X X1 (S.sI 0 0 (nI 0))) := (ct_goesWell hR 0 (by omega)).mono (fun oc X1 h => ⟨by rw [h.1, b2_t rfl], h.2⟩)
theorem ct_goesWellK (hR : TwR γ Mo aT X S) (k : Nat) (h0 : 0 < k) (hk : k < 100) : Ev γ mX2_goesWell [.ref Mo, .int (nI k)] X (fun oc X1 => oc = .inl (some (.int (nI 0))) ∧ TwF γ Mo aT X X1 (S.sI 0 0 (nI k))) := (ct_goesWell hR k hk).mono (fun oc X1 h => ⟨by rw [h.1, b2_f (by omega)], h.2⟩)
theorem ct_inC {n : Nat} (hn : n ≤ 40) (v : Int32) : Ev γ mX2_in [.int v, .int (nI 0), .int (nI n - nI 1)] X (fun oc X1 => oc = .inl (some (.int (b2 (isN v n)))) ∧ X1 = X) := (ct_in v (nI 0) (nI n - nI 1)).mono (fun oc X1 h => ⟨by rw [h.1, b2_c (in_isNp (by omega))], h.2⟩)
end T1
