/-! the reference: debts of ways, hours: written by prog/gen_t2.py -/
set_option maxRecDepth 100000
section T2
variable {γ : Gm} {Mo : Nat} {aT : Nat → Nat} {X X0 : Sh} {S : TS} {K : Nat}
set_option maxHeartbeats 4000000 in
theorem lp_takeBack {o f : Nat} : ∀ (n : Nat) (k : Nat) (X : Sh) (S : TS), TwF γ Mo aT X0 X S → WF K S → o < S.1 14 0 → n = S.1 22 o - 1 - k → k ≤ 12 → SW γ mX2_takeBack X0 X 2 [some (.ref Mo), some (.int (nI o)), some (.int (nI f)), some (.int (nI k))] [] (fun oc X1 => oc = .inl none ∧ TwF γ Mo aT X0 X1 (rep n k (fun j S => pOweOn S o j (-1)) S)) := by
  intro n
  induction n with
  | zero =>
    intro k X S hT hw ho hn hk
    have hno := hw.no
    have hm := hw.many ho
    refine sw_iload_n 3 rfl rfl dX2_takeBack_2 ?_
    refine sw_aload_n 4 rfl rfl rfl dX2_takeBack_3 ?_
    refine gf_X2_63 7 rfl hT.obj rfl rfl dX2_takeBack_4 ?_
    refine sw_iload_n 8 rfl rfl dX2_takeBack_7 ?_
    refine sw_iald 9 rfl (hT.arr 22 rfl) (by omega) (Nat.le_of_ble_eq_true rfl) dX2_takeBack_8 ?_
    refine sw_iconst 10 rfl (nI 1) rfl dX2_takeBack_9 ?_
    refine sw_isubN 11 rfl (by omega) dX2_takeBack_10 ?_
    refine sw_icmp_ge 27 14 (by decide) rfl dX2_takeBack_11 (fun c_11 => ?_) (fun c_11 => absurd (nI_le (by omega) (by omega)) c_11)
    clear c_11
    refine sw_vret rfl dX2_takeBack_27 ?_
    exact ⟨rfl, hT⟩
  | succ n ih =>
    intro k X S hT hw ho hn hk
    have hno := hw.no
    have hm := hw.many ho
    refine sw_iload_n 3 rfl rfl dX2_takeBack_2 ?_
    refine sw_aload_n 4 rfl rfl rfl dX2_takeBack_3 ?_
    refine gf_X2_63 7 rfl hT.obj rfl rfl dX2_takeBack_4 ?_
    refine sw_iload_n 8 rfl rfl dX2_takeBack_7 ?_
    refine sw_iald 9 rfl (hT.arr 22 rfl) (by omega) (Nat.le_of_ble_eq_true rfl) dX2_takeBack_8 ?_
    refine sw_iconst 10 rfl (nI 1) rfl dX2_takeBack_9 ?_
    refine sw_isubN 11 rfl (by omega) dX2_takeBack_10 ?_
    refine sw_icmp_ge 27 14 (by decide) rfl dX2_takeBack_11 (fun c_11 => absurd c_11 (nI_ge (by omega) (by omega))) (fun c_11 => ?_)
    clear c_11
    refine sw_aload_n 15 rfl rfl rfl dX2_takeBack_14 ?_
    refine sw_iload_n 16 rfl rfl dX2_takeBack_15 ?_
    refine sw_iload_n 17 rfl rfl dX2_takeBack_16 ?_
    refine sw_iconst 18 rfl (-1) rfl dX2_takeBack_17 ?_
    refine sw_callV 21 [] rfl cs_X2_139 rfl (Nat.le_of_ble_eq_true rfl) rfl hT.obj rfl rfl (ct_oweOn hT.1 o k (by omega) (by omega) (-1) (hw.wayB ho (by omega)) (hw.wayB (k := k + 1) ho (by omega)) (Nat.lt_of_le_of_lt (hw.aro ho (by omega)).2 (by omega)) (by omega)) rfl rfl (Nat.le_of_ble_eq_true rfl) dX2_takeBack_18 (fun v X hq => ?_) (fun E X hq => by obtain ⟨hv, -⟩ := hq; cases hv)
    obtain ⟨hv, hT1⟩ := hq
    cases hv
    replace hT := hT.tr hT1
    clear hT1
    refine sw_iinc 24 rfl [_, _, _, _] (nI (_ + 1)) rfl (nI_add _ 1) (Nat.le_of_ble_eq_true rfl) rfl dX2_takeBack_21 ?_
    refine sw_goto 2 (by decide) dX2_takeBack_24 ?_
    exact ih (k + 1) X _ hT (hw.long (pOweOn_N _ _ _ _) (pOweOn_I _ _ _ _)) (by rw [pOweOn_N]; exact ho) (by rw [pOweOn_N]; omega) (by omega)
set_option maxHeartbeats 4000000 in
theorem ct_takeBack (hR : TwR γ Mo aT X S) (hw : WF K S) (o k : Nat) (ho : o < S.1 14 0) (hk : k ≤ 12) : Ev γ mX2_takeBack [.ref Mo, .int (nI o), .int (nI k)] X (fun oc X1 => oc = .inl none ∧ TwF γ Mo aT X X1 (pTB S o k)) := by
  have hT := TwF.rf hR
  refine Ev.of (lv := [_, _, _, _]) 1 ⟨by decide +kernel, rfl, (Nat.le_of_ble_eq_true rfl)⟩ rfl ?_
  refine sw_iload_n 1 rfl rfl dX2_takeBack_0 ?_
  refine sw_istore_n 2 rfl [_, _, _, _] (Nat.le_of_ble_eq_true rfl) rfl dX2_takeBack_1 ?_
  exact lp_takeBack _ k X S hT hw ho rfl hk

set_option maxHeartbeats 4000000 in
theorem lp_placeOn {o b : Nat} (hb : b < 12) : ∀ (n : Nat) (k : Nat) (X : Sh), TwF γ Mo aT X0 X S → WF K S → o < S.1 14 0 → k + n = S.1 22 o → SW γ mX2_placeOn X0 X 5 [some (.ref Mo), some (.int (nI o)), some (.int (nI b)), some (.int (pPlace S o b k)), some (.int (nI k))] [] (fun oc X1 => oc = .inl (some (.int (pPlace S o b (S.1 22 o)))) ∧ TwF γ Mo aT X0 X1 (S)) := by
  intro n
  induction n with
  | zero =>
    intro k X hT hw ho hn
    have hno := hw.no
    have hm := hw.many ho
    refine sw_iload 7 rfl rfl dX2_placeOn_5 ?_
    refine sw_aload_n 8 rfl rfl rfl dX2_placeOn_7 ?_
    refine gf_X2_63 11 rfl hT.obj rfl rfl dX2_placeOn_8 ?_
    refine sw_iload_n 12 rfl rfl dX2_placeOn_11 ?_
    refine sw_iald 13 rfl (hT.arr 22 rfl) (by omega) (Nat.le_of_ble_eq_true rfl) dX2_placeOn_12 ?_
    refine sw_icmp_ge 45 16 (by decide) rfl dX2_placeOn_13 (fun c_13 => ?_) (fun c_13 => absurd (nI_le (by omega) (by omega)) c_13)
    clear c_13
    refine sw_iload_n 46 rfl rfl dX2_placeOn_45 ?_
    refine sw_iret rfl rfl dX2_placeOn_46 ?_
    rw [show k = S.1 22 o by omega]
    exact ⟨rfl, hT⟩
  | succ n ih =>
    intro k X hT hw ho hn
    have hno := hw.no
    have hm := hw.many ho
    have hwy := hw.wayB ho (show k < S.1 22 o by omega)
    refine sw_iload 7 rfl rfl dX2_placeOn_5 ?_
    refine sw_aload_n 8 rfl rfl rfl dX2_placeOn_7 ?_
    refine gf_X2_63 11 rfl hT.obj rfl rfl dX2_placeOn_8 ?_
    refine sw_iload_n 12 rfl rfl dX2_placeOn_11 ?_
    refine sw_iald 13 rfl (hT.arr 22 rfl) (by omega) (Nat.le_of_ble_eq_true rfl) dX2_placeOn_12 ?_
    refine sw_icmp_ge 45 16 (by decide) rfl dX2_placeOn_13 (fun c_13 => absurd c_13 (nI_ge (by omega) (by omega))) (fun c_13 => ?_)
    clear c_13
    refine sw_aload_n 17 rfl rfl rfl dX2_placeOn_16 ?_
    refine gf_X2_66 20 rfl hT.obj rfl rfl dX2_placeOn_17 ?_
    refine sw_bipush 22 rfl (nI 12) rfl dX2_placeOn_20 ?_
    refine sw_iload_n 23 rfl rfl dX2_placeOn_22 ?_
    refine sw_imulN 24 rfl dX2_placeOn_23 ?_
    refine sw_iload 26 rfl rfl dX2_placeOn_24 ?_
    refine sw_iaddN 27 rfl dX2_placeOn_26 ?_
    refine sw_iald 28 rfl (hT.arr 23 rfl) (by omega) (Nat.le_of_ble_eq_true rfl) dX2_placeOn_27 ?_
    refine sw_iload_n 29 rfl rfl dX2_placeOn_28 ?_
    refine sw_icmp_ne 37 32 (by decide) rfl dX2_placeOn_29 (fun c_29 => ?_) (fun c_29 => ?_)
    · rw [nI_eq (by omega) (by omega)] at c_29
      refine sw_iload_n 38 rfl rfl dX2_placeOn_37 ?_
      refine sw_istore_n 39 rfl [_, _, _, _, _] (Nat.le_of_ble_eq_true rfl) rfl dX2_placeOn_38 ?_
      refine sw_iinc 42 rfl [_, _, _, _, _] (nI (_ + 1)) rfl (nI_add _ 1) (Nat.le_of_ble_eq_true rfl) rfl dX2_placeOn_39 ?_
      refine sw_goto 5 (by decide) dX2_placeOn_42 ?_
      have h9 := ih (k + 1) X hT hw ho (by omega)
      rw [show pPlace S o b (k + 1) = pPlace S o b k from if_neg c_29] at h9
      exact h9
    · rw [nI_eq (by omega) (by omega)] at c_29
      refine sw_iload 34 rfl rfl dX2_placeOn_32 ?_
      refine sw_goto 38 (by decide) dX2_placeOn_34 ?_
      refine sw_istore_n 39 rfl [_, _, _, _, _] (Nat.le_of_ble_eq_true rfl) rfl dX2_placeOn_38 ?_
      refine sw_iinc 42 rfl [_, _, _, _, _] (nI (_ + 1)) rfl (nI_add _ 1) (Nat.le_of_ble_eq_true rfl) rfl dX2_placeOn_39 ?_
      refine sw_goto 5 (by decide) dX2_placeOn_42 ?_
      have h9 := ih (k + 1) X hT hw ho (by omega)
      rw [show pPlace S o b (k + 1) = nI k from if_pos c_29] at h9
      exact h9
set_option maxHeartbeats 4000000 in
theorem ct_placeOn (hR : TwR γ Mo aT X S) (hw : WF K S) (o b : Nat) (ho : o < S.1 14 0) (hb : b < 12) : Ev γ mX2_placeOn [.ref Mo, .int (nI o), .int (nI b)] X (fun oc X1 => oc = .inl (some (.int (pPlace S o b (S.1 22 o)))) ∧ TwF γ Mo aT X X1 (S)) := by
  have hT := TwF.rf hR
  refine Ev.of (lv := [_, _, _, _, _]) 2 ⟨by decide +kernel, rfl, (Nat.le_of_ble_eq_true rfl)⟩ rfl ?_
  refine sw_iconst 1 rfl (-1) rfl dX2_placeOn_0 ?_
  refine sw_istore_n 2 rfl [_, _, _, _, _] (Nat.le_of_ble_eq_true rfl) rfl dX2_placeOn_1 ?_
  refine sw_iconst 3 rfl (nI 0) rfl dX2_placeOn_2 ?_
  refine sw_istore 5 rfl [_, _, _, _, _] (Nat.le_of_ble_eq_true rfl) rfl dX2_placeOn_3 ?_
  exact lp_placeOn hb (S.1 22 o) 0 X hT hw ho (Nat.zero_add _)

set_option maxHeartbeats 4000000 in
theorem ct_goBack (hR : TwR γ Mo aT X S) (hw : WF K S) (o : Nat) (ho : o < S.1 14 0) : Ev γ mX2_goBack [.ref Mo, .int (nI o)] X (fun oc X1 => oc = .inl none ∧ TwF γ Mo aT X X1 (pGoBack S o)) := by
  have hT := TwF.rf hR
  refine Ev.of (lv := [_, _]) 0 ⟨by decide +kernel, rfl, (Nat.le_of_ble_eq_true rfl)⟩ rfl ?_
  have hno := hw.no
  have hm := hw.many ho
  have hf := hw.wayB ho (show 0 < S.1 22 o by omega)
  rw [Nat.add_zero] at hf
  refine sw_aload_n 1 rfl rfl rfl dX2_goBack_0 ?_
  refine sw_iload_n 2 rfl rfl dX2_goBack_1 ?_
  refine sw_iconst 3 rfl (nI 0) rfl dX2_goBack_2 ?_
  refine sw_callV 6 [] rfl cs_X2_162 rfl (Nat.le_of_ble_eq_true rfl) rfl hT.obj rfl rfl (ct_takeBack hT.1 hw o 0 ho (by omega)) rfl rfl (Nat.le_of_ble_eq_true rfl) dX2_goBack_3 (fun v X hq => ?_) (fun E X hq => by obtain ⟨hv, -⟩ := hq; cases hv)
  obtain ⟨hv, hT1⟩ := hq
  cases hv
  replace hT := hT.tr hT1
  clear hT1
  refine sw_aload_n 7 rfl rfl rfl dX2_goBack_6 ?_
  refine gf_X2_42 10 rfl hT.obj rfl rfl dX2_goBack_7 ?_
  refine sw_iload_n 11 rfl rfl dX2_goBack_10 ?_
  refine sw_aload_n 12 rfl rfl rfl dX2_goBack_11 ?_
  refine gf_X2_20 15 rfl hT.obj rfl rfl dX2_goBack_12 ?_
  refine sw_aload_n 16 rfl rfl rfl dX2_goBack_15 ?_
  refine sw_iload_n 17 rfl rfl dX2_goBack_16 ?_
  refine sw_callV 20 [_, _, _] rfl cs_X2_166 rfl (Nat.le_of_ble_eq_true rfl) rfl hT.obj rfl rfl (ct_firstOf hT.1 o (by omega)) rfl rfl (Nat.le_of_ble_eq_true rfl) dX2_goBack_17 (fun v X hq => ?_) (fun E X hq => by obtain ⟨hv, -⟩ := hq; cases hv)
  obtain ⟨hv, hT1⟩ := hq
  cases hv
  replace hT := hT.tr hT1
  clear hT1
  rw [pTB_N]
  refine sw_iald 21 rfl (hT.arr 7 rfl) hf (Nat.le_of_ble_eq_true rfl) dX2_goBack_20 ?_
  try simp only [sI_N, sI_L, sN_I, sN_L, sL_N, sL_I, sN_t, sI_t, sL_t, pOwe_N, pOwe_I, pOweBoth_N, pOweBoth_I, pTB_N, pTB_I, pGoBack_N, pOweOn_N, pOweOn_I, reduceIte, Nat.reduceEqDiff]
  refine sw_iconst 22 rfl (nI 2) rfl dX2_goBack_21 ?_
  refine sw_icmp_ne 29 25 (by decide) rfl dX2_goBack_22 (fun c_22 => ?_) (fun c_22 => ?_)
  · refine sw_iconst 30 rfl (nI 3) rfl dX2_goBack_29 ?_
    refine sw_iast 31 rfl (hT.arr 15 rfl) (by omega) (Nat.le_of_ble_eq_true rfl) dX2_goBack_30 (fun X hX => ?_)
    replace hT := hT.p15 hX
    clear hX
    refine sw_vret rfl dX2_goBack_31 ?_
    exact ⟨rfl, hT.st (by rw [pGoBack, if_neg c_22])⟩
  · refine sw_iconst 26 rfl (nI 5) rfl dX2_goBack_25 ?_
    refine sw_goto 30 (by decide) dX2_goBack_26 ?_
    refine sw_iast 31 rfl (hT.arr 15 rfl) (by omega) (Nat.le_of_ble_eq_true rfl) dX2_goBack_30 (fun X hX => ?_)
    replace hT := hT.p15 hX
    clear hX
    refine sw_vret rfl dX2_goBack_31 ?_
    exact ⟨rfl, hT.st (by rw [pGoBack, if_pos c_22])⟩

set_option maxHeartbeats 4000000 in
theorem ct_move (hR : TwR γ Mo aT X S) (hw : WF K S) (o : Nat) (ho : o < S.1 14 0) (hg : S.2.1 15 o = 0) : Ev γ mX2_move [.ref Mo, .int (nI o)] X (fun oc X1 => oc = .inl none ∧ TwF γ Mo aT X X1 (pMove S o)) := by
  have hT := TwF.rf hR
  refine Ev.of (lv := [_, _, _]) 1 ⟨by decide +kernel, rfl, (Nat.le_of_ble_eq_true rfl)⟩ rfl ?_
  have hno := hw.no
  have hm := hw.many ho
  have hgo := hw.going ho hg
  have hw1 := hw.wayB ho (show S.1 21 o < S.1 22 o by omega)
  have hw2 := hw.wayB ho (show S.1 21 o + 1 < S.1 22 o by omega)
  have ha := (hw.aro ho hgo).2
  refine sw_aload_n 1 rfl rfl rfl dX2_move_0 ?_
  refine gf_X2_60 4 rfl hT.obj rfl rfl dX2_move_1 ?_
  refine sw_iload_n 5 rfl rfl dX2_move_4 ?_
  refine sw_iald 6 rfl (hT.arr 21 rfl) (by omega) (Nat.le_of_ble_eq_true rfl) dX2_move_5 ?_
  refine sw_istore_n 7 rfl [_, _, _] (Nat.le_of_ble_eq_true rfl) rfl dX2_move_6 ?_
  refine sw_aload_n 8 rfl rfl rfl dX2_move_7 ?_
  refine gf_X2_60 11 rfl hT.obj rfl rfl dX2_move_8 ?_
  refine sw_iload_n 12 rfl rfl dX2_move_11 ?_
  refine sw_dup2 13 rfl rfl rfl dX2_move_12 ?_
  refine sw_iald 14 rfl (hT.arr 21 rfl) (by omega) (Nat.le_of_ble_eq_true rfl) dX2_move_13 ?_
  refine sw_iconst 15 rfl (nI 1) rfl dX2_move_14 ?_
  refine sw_iaddN 16 rfl dX2_move_15 ?_
  refine sw_iast 17 rfl (hT.arr 21 rfl) (by omega) (Nat.le_of_ble_eq_true rfl) dX2_move_16 (fun X hX => ?_)
  replace hT := hT.p21 hX
  clear hX
  refine sw_aload_n 18 rfl rfl rfl dX2_move_17 ?_
  refine sw_aload_n 19 rfl rfl rfl dX2_move_18 ?_
  refine gf_X2_39 22 rfl hT.obj rfl rfl dX2_move_19 ?_
  refine sw_aload_n 23 rfl rfl rfl dX2_move_22 ?_
  refine gf_X2_66 26 rfl hT.obj rfl rfl dX2_move_23 ?_
  refine sw_bipush 28 rfl (nI 12) rfl dX2_move_26 ?_
  refine sw_iload_n 29 rfl rfl dX2_move_28 ?_
  refine sw_imulN 30 rfl dX2_move_29 ?_
  refine sw_iload_n 31 rfl rfl dX2_move_30 ?_
  refine sw_iaddN 32 rfl dX2_move_31 ?_
  refine sw_iconst 33 rfl (nI 1) rfl dX2_move_32 ?_
  refine sw_iaddN 34 rfl dX2_move_33 ?_
  refine sw_iald 35 rfl (hT.arr 23 rfl) (by omega) (Nat.le_of_ble_eq_true rfl) dX2_move_34 ?_
  try simp only [sI_N, sI_L, sN_I, sN_L, sL_N, sL_I, sN_t, sI_t, sL_t, pOwe_N, pOwe_I, pOweBoth_N, pOweBoth_I, pTB_N, pTB_I, pGoBack_N, pOweOn_N, pOweOn_I, reduceIte, Nat.reduceEqDiff]
  refine sw_aload_n 36 rfl rfl rfl dX2_move_35 ?_
  refine gf_X2_66 39 rfl hT.obj rfl rfl dX2_move_36 ?_
  refine sw_bipush 41 rfl (nI 12) rfl dX2_move_39 ?_
  refine sw_iload_n 42 rfl rfl dX2_move_41 ?_
  refine sw_imulN 43 rfl dX2_move_42 ?_
  refine sw_iload_n 44 rfl rfl dX2_move_43 ?_
  refine sw_iaddN 45 rfl dX2_move_44 ?_
  refine sw_iald 46 rfl (hT.arr 23 rfl) (by omega) (Nat.le_of_ble_eq_true rfl) dX2_move_45 ?_
  try simp only [sI_N, sI_L, sN_I, sN_L, sL_N, sL_I, sN_t, sI_t, sL_t, pOwe_N, pOwe_I, pOweBoth_N, pOweBoth_I, pTB_N, pTB_I, pGoBack_N, pOweOn_N, pOweOn_I, reduceIte, Nat.reduceEqDiff]
  refine sw_aload_n 47 rfl rfl rfl dX2_move_46 ?_
  refine gf_X2_69 50 rfl hT.obj rfl rfl dX2_move_47 ?_
  refine sw_bipush 52 rfl (nI 12) rfl dX2_move_50 ?_
  refine sw_iload_n 53 rfl rfl dX2_move_52 ?_
  refine sw_imulN 54 rfl dX2_move_53 ?_
  refine sw_iload_n 55 rfl rfl dX2_move_54 ?_
  refine sw_iaddN 56 rfl dX2_move_55 ?_
  refine sw_iald 57 rfl (hT.arr 24 rfl) (by omega) (Nat.le_of_ble_eq_true rfl) dX2_move_56 ?_
  try simp only [sI_N, sI_L, sN_I, sN_L, sL_N, sL_I, sN_t, sI_t, sL_t, pOwe_N, pOwe_I, pOweBoth_N, pOweBoth_I, pTB_N, pTB_I, pGoBack_N, pOweOn_N, pOweOn_I, reduceIte, Nat.reduceEqDiff]
  refine sw_ineg 58 rfl dX2_move_57 ?_
  refine sw_topI (show -(nI _) = -(nI (S.1 24 (12 * o + S.1 21 o))) from rfl) ?_
  refine sw_i2l 59 rfl dX2_move_58 ?_
  refine sw_topL (show (-(nI (S.1 24 (12 * o + S.1 21 o)))).toInt64 = -(lN (S.1 24 (12 * o + S.1 21 o))) from neg_l (by omega)) ?_
  refine sw_callV 62 [] rfl cs_X2_135 rfl (Nat.le_of_ble_eq_true rfl) rfl hT.obj rfl rfl (ct_owe13 hT.1 _ _ hw2 hw1 _) rfl rfl (Nat.le_of_ble_eq_true rfl) dX2_move_59 (fun v X hq => ?_) (fun E X hq => by obtain ⟨hv, -⟩ := hq; cases hv)
  obtain ⟨hv, hT1⟩ := hq
  cases hv
  replace hT := hT.tr hT1
  clear hT1
  refine sw_aload_n 63 rfl rfl rfl dX2_move_62 ?_
  refine gf_X2_42 66 rfl hT.obj rfl rfl dX2_move_63 ?_
  refine sw_iload_n 67 rfl rfl dX2_move_66 ?_
  refine sw_aload_n 68 rfl rfl rfl dX2_move_67 ?_
  refine gf_X2_60 71 rfl hT.obj rfl rfl dX2_move_68 ?_
  refine sw_iload_n 72 rfl rfl dX2_move_71 ?_
  refine sw_iald 73 rfl (hT.arr 21 rfl) (by omega) (Nat.le_of_ble_eq_true rfl) dX2_move_72 ?_
  try simp only [sI_N, sI_L, sN_I, sN_L, sL_N, sL_I, sN_t, sI_t, sL_t, pOwe_N, pOwe_I, pOweBoth_N, pOweBoth_I, pTB_N, pTB_I, pGoBack_N, pOweOn_N, pOweOn_I, reduceIte, Nat.reduceEqDiff]
  refine sw_aload_n 74 rfl rfl rfl dX2_move_73 ?_
  refine gf_X2_63 77 rfl hT.obj rfl rfl dX2_move_74 ?_
  refine sw_iload_n 78 rfl rfl dX2_move_77 ?_
  refine sw_iald 79 rfl (hT.arr 22 rfl) (by omega) (Nat.le_of_ble_eq_true rfl) dX2_move_78 ?_
  try simp only [sI_N, sI_L, sN_I, sN_L, sL_N, sL_I, sN_t, sI_t, sL_t, pOwe_N, pOwe_I, pOweBoth_N, pOweBoth_I, pTB_N, pTB_I, pGoBack_N, pOweOn_N, pOweOn_I, reduceIte, Nat.reduceEqDiff]
  refine sw_iconst 80 rfl (nI 1) rfl dX2_move_79 ?_
  refine sw_isubN 81 rfl (by omega) dX2_move_80 ?_
  refine sw_icmp_ne 88 84 (by decide) rfl dX2_move_81 (fun c_81 => ?_) (fun c_81 => ?_)
  · rw [nI_eq (by omega) (by omega)] at c_81
    refine sw_iconst 89 rfl (nI 0) rfl dX2_move_88 ?_
    refine sw_iast 90 rfl (hT.arr 15 rfl) (by omega) (Nat.le_of_ble_eq_true rfl) dX2_move_89 (fun X hX => ?_)
    replace hT := hT.p15 hX
    clear hX
    refine sw_vret rfl dX2_move_90 ?_
    exact ⟨rfl, hT.st (by rw [pMove, if_neg (show ¬ S.1 21 o + 2 = S.1 22 o by omega)]; rfl)⟩
  · rw [nI_eq (by omega) (by omega)] at c_81
    refine sw_iconst 85 rfl (nI 1) rfl dX2_move_84 ?_
    refine sw_goto 89 (by decide) dX2_move_85 ?_
    refine sw_iast 90 rfl (hT.arr 15 rfl) (by omega) (Nat.le_of_ble_eq_true rfl) dX2_move_89 (fun X hX => ?_)
    replace hT := hT.p15 hX
    clear hX
    refine sw_vret rfl dX2_move_90 ?_
    exact ⟨rfl, hT.st (by rw [pMove, if_pos (show S.1 21 o + 2 = S.1 22 o by omega)]; rfl)⟩

set_option maxHeartbeats 4000000 in
theorem lp_comeAll  {Q : Ot → Sh → Prop} : ∀ (n k : Nat) (X : Sh) (S : TS), TwF γ Mo aT X0 X S → WF K S → k + n = S.1 25 0 → (∀ X1, TwF γ Mo aT X0 X1 (rep n k pCome S) → SW γ mX2_comeAll X0 X1 90 [some (.ref Mo), some (.int (nI (S.1 25 0)))] [] Q) → SW γ mX2_comeAll X0 X 2 [some (.ref Mo), some (.int (nI k))] [] Q := by
  intro n
  induction n with
  | zero =>
    intro k X S hT hw hn hex
    have hnc := hw.nc
    have hhr := hw.hr
    refine sw_iload_n 3 rfl rfl dX2_comeAll_2 ?_
    refine sw_aload_n 4 rfl rfl rfl dX2_comeAll_3 ?_
    refine gf_X2_200 7 rfl hT.obj rfl rfl dX2_comeAll_4 ?_
    refine sw_icmp_ge 90 10 (by decide) rfl dX2_comeAll_7 (fun c_7 => ?_) (fun c_7 => absurd (nI_le (by omega) (by omega)) c_7)
    clear c_7
    have h9 := hex X hT
    rw [show k = S.1 25 0 by omega]
    exact h9
  | succ n ih =>
    intro k X S hT hw hn hex
    have hnc := hw.nc
    have hhr := hw.hr
    refine sw_iload_n 3 rfl rfl dX2_comeAll_2 ?_
    refine sw_aload_n 4 rfl rfl rfl dX2_comeAll_3 ?_
    refine gf_X2_200 7 rfl hT.obj rfl rfl dX2_comeAll_4 ?_
    refine sw_icmp_ge 90 10 (by decide) rfl dX2_comeAll_7 (fun c_7 => absurd c_7 (nI_ge (by omega) (by omega))) (fun c_7 => ?_)
    clear c_7
    have hc := hw.cou (show k < S.1 25 0 by omega)
    obtain ⟨⟨hc1, hc2⟩, hc3, hc4, hc5, hc6⟩ := hc
    have hnb := hw.nb
    refine sw_aload_n 11 rfl rfl rfl dX2_comeAll_10 ?_
    refine gf_X2_84 14 rfl hT.obj rfl rfl dX2_comeAll_11 ?_
    refine sw_iload_n 15 rfl rfl dX2_comeAll_14 ?_
    refine sw_zald 16 rfl (hT.arr 30 rfl) (by omega) (Nat.le_of_ble_eq_true rfl) dX2_comeAll_15 ?_
    refine sw_if_ne 84 19 (by decide) rfl dX2_comeAll_16 (fun c_16 => ?_) (fun c_16 => ?_)
    · refine sw_iinc 87 rfl [_, _] (nI (_ + 1)) rfl (nI_add _ 1) (Nat.le_of_ble_eq_true rfl) rfl dX2_comeAll_84 ?_
      refine sw_goto 2 (by decide) dX2_comeAll_87 ?_
      exact ih (k + 1) X (pCome k S) (hT.st (by rw [pCome, if_neg (fun q => c_16 q.1)])) (hw.come (by omega)) (by rw [(pCome_C k S).1.2.2]; omega) (by rw [(pCome_C k S).1.2.2]; exact hex)
    · refine sw_aload_n 20 rfl rfl rfl dX2_comeAll_19 ?_
      refine gf_X2_81 23 rfl hT.obj rfl rfl dX2_comeAll_20 ?_
      refine sw_iload_n 24 rfl rfl dX2_comeAll_23 ?_
      refine sw_iald 25 rfl (hT.arr 29 rfl) (by omega) (Nat.le_of_ble_eq_true rfl) dX2_comeAll_24 ?_
      refine sw_aload_n 26 rfl rfl rfl dX2_comeAll_25 ?_
      refine gf_X2_194 29 rfl hT.obj rfl rfl dX2_comeAll_26 ?_
      refine sw_icmp_gt 84 32 (by decide) rfl dX2_comeAll_29 (fun c_29 => ?_) (fun c_29 => ?_)
      · rw [nI_ltI (by omega) (by omega)] at c_29
        refine sw_iinc 87 rfl [_, _] (nI (_ + 1)) rfl (nI_add _ 1) (Nat.le_of_ble_eq_true rfl) rfl dX2_comeAll_84 ?_
        refine sw_goto 2 (by decide) dX2_comeAll_87 ?_
        exact ih (k + 1) X (pCome k S) (hT.st (by rw [pCome, if_neg (fun q => absurd q.2 (Nat.not_le.mpr c_29))])) (hw.come (by omega)) (by rw [(pCome_C k S).1.2.2]; omega) (by rw [(pCome_C k S).1.2.2]; exact hex)
      · rw [nI_ltI (by omega) (by omega)] at c_29
        refine sw_aload_n 33 rfl rfl rfl dX2_comeAll_32 ?_
        refine gf_X2_84 36 rfl hT.obj rfl rfl dX2_comeAll_33 ?_
        refine sw_iload_n 37 rfl rfl dX2_comeAll_36 ?_
        refine sw_iconst 38 rfl (nI 1) rfl dX2_comeAll_37 ?_
        refine sw_zast 39 rfl (hT.arr 30 rfl) rfl (by omega) (Nat.le_of_ble_eq_true rfl) dX2_comeAll_38 (fun X hX => ?_)
        replace hT := hT.p30 hX
        clear hX
        refine sw_aload_n 40 rfl rfl rfl dX2_comeAll_39 ?_
        refine gf_X2_13 43 rfl hT.obj rfl rfl dX2_comeAll_40 ?_
        refine sw_aload_n 44 rfl rfl rfl dX2_comeAll_43 ?_
        refine gf_X2_78 47 rfl hT.obj rfl rfl dX2_comeAll_44 ?_
        refine sw_iload_n 48 rfl rfl dX2_comeAll_47 ?_
        refine sw_iald 49 rfl (hT.arr 28 rfl) (by omega) (Nat.le_of_ble_eq_true rfl) dX2_comeAll_48 ?_
        try simp only [sI_N, sI_L, sN_I, sN_L, sL_N, sL_I, sN_t, sI_t, sL_t, pOwe_N, pOwe_I, pOweBoth_N, pOweBoth_I, pTB_N, pTB_I, pGoBack_N, pOweOn_N, pOweOn_I, reduceIte, Nat.reduceEqDiff]
        refine sw_dup2 50 rfl rfl rfl dX2_comeAll_49 ?_
        refine sw_lald 51 rfl (hT.arr 5 rfl) (by omega) (Nat.le_of_ble_eq_true rfl) dX2_comeAll_50 ?_
        try simp only [sI_N, sI_L, sN_I, sN_L, sL_N, sL_I, sN_t, sI_t, sL_t, pOwe_N, pOwe_I, pOweBoth_N, pOweBoth_I, pTB_N, pTB_I, pGoBack_N, pOweOn_N, pOweOn_I, reduceIte, Nat.reduceEqDiff]
        refine sw_aload_n 52 rfl rfl rfl dX2_comeAll_51 ?_
        refine gf_X2_72 55 rfl hT.obj rfl rfl dX2_comeAll_52 ?_
        refine sw_iload_n 56 rfl rfl dX2_comeAll_55 ?_
        refine sw_iald 57 rfl (hT.arr 26 rfl) (by omega) (Nat.le_of_ble_eq_true rfl) dX2_comeAll_56 ?_
        try simp only [sI_N, sI_L, sN_I, sN_L, sL_N, sL_I, sN_t, sI_t, sL_t, pOwe_N, pOwe_I, pOweBoth_N, pOweBoth_I, pTB_N, pTB_I, pGoBack_N, pOweOn_N, pOweOn_I, reduceIte, Nat.reduceEqDiff]
        refine sw_i2l 58 rfl dX2_comeAll_57 ?_
        refine sw_topL (nI_l (by omega)) ?_
        refine sw_ladd 59 rfl dX2_comeAll_58 ?_
        refine sw_topL (lN_add _ _) ?_
        refine sw_last 60 rfl (hT.arr 5 rfl) (by omega) (Nat.le_of_ble_eq_true rfl) dX2_comeAll_59 (fun X hX => ?_)
        replace hT := hT.p5 hX
        clear hX
        refine sw_aload_n 61 rfl rfl rfl dX2_comeAll_60 ?_
        refine sw_aload_n 62 rfl rfl rfl dX2_comeAll_61 ?_
        refine gf_X2_75 65 rfl hT.obj rfl rfl dX2_comeAll_62 ?_
        refine sw_iload_n 66 rfl rfl dX2_comeAll_65 ?_
        refine sw_iald 67 rfl (hT.arr 27 rfl) (by omega) (Nat.le_of_ble_eq_true rfl) dX2_comeAll_66 ?_
        try simp only [sI_N, sI_L, sN_I, sN_L, sL_N, sL_I, sN_t, sI_t, sL_t, pOwe_N, pOwe_I, pOweBoth_N, pOweBoth_I, pTB_N, pTB_I, pGoBack_N, pOweOn_N, pOweOn_I, reduceIte, Nat.reduceEqDiff]
        refine sw_aload_n 68 rfl rfl rfl dX2_comeAll_67 ?_
        refine gf_X2_78 71 rfl hT.obj rfl rfl dX2_comeAll_68 ?_
        refine sw_iload_n 72 rfl rfl dX2_comeAll_71 ?_
        refine sw_iald 73 rfl (hT.arr 28 rfl) (by omega) (Nat.le_of_ble_eq_true rfl) dX2_comeAll_72 ?_
        try simp only [sI_N, sI_L, sN_I, sN_L, sL_N, sL_I, sN_t, sI_t, sL_t, pOwe_N, pOwe_I, pOweBoth_N, pOweBoth_I, pTB_N, pTB_I, pGoBack_N, pOweOn_N, pOweOn_I, reduceIte, Nat.reduceEqDiff]
        refine sw_aload_n 74 rfl rfl rfl dX2_comeAll_73 ?_
        refine gf_X2_72 77 rfl hT.obj rfl rfl dX2_comeAll_74 ?_
        refine sw_iload_n 78 rfl rfl dX2_comeAll_77 ?_
        refine sw_iald 79 rfl (hT.arr 26 rfl) (by omega) (Nat.le_of_ble_eq_true rfl) dX2_comeAll_78 ?_
        try simp only [sI_N, sI_L, sN_I, sN_L, sL_N, sL_I, sN_t, sI_t, sL_t, pOwe_N, pOwe_I, pOweBoth_N, pOweBoth_I, pTB_N, pTB_I, pGoBack_N, pOweOn_N, pOweOn_I, reduceIte, Nat.reduceEqDiff]
        refine sw_ineg 80 rfl dX2_comeAll_79 ?_
        refine sw_topI (show -(nI _) = -(nI (S.1 26 k)) from rfl) ?_
        refine sw_i2l 81 rfl dX2_comeAll_80 ?_
        refine sw_topL (show (-(nI (S.1 26 k))).toInt64 = -(lN (S.1 26 k)) from neg_l (by omega)) ?_
        refine sw_callV 84 [] rfl cs_X2_203 rfl (Nat.le_of_ble_eq_true rfl) rfl hT.obj rfl rfl (ct_oweBoth hT.1 (S.1 27 k) (S.1 28 k) (by omega) (by omega) _) rfl rfl (Nat.le_of_ble_eq_true rfl) dX2_comeAll_81 (fun v X hq => ?_) (fun E X hq => by obtain ⟨hv, -⟩ := hq; cases hv)
        obtain ⟨hv, hT1⟩ := hq
        cases hv
        replace hT := hT.tr hT1
        clear hT1
        refine sw_iinc 87 rfl [_, _] (nI (_ + 1)) rfl (nI_add _ 1) (Nat.le_of_ble_eq_true rfl) rfl dX2_comeAll_84 ?_
        refine sw_goto 2 (by decide) dX2_comeAll_87 ?_
        exact ih (k + 1) X (pCome k S) (hT.st (by rw [pCome, if_pos ⟨c_16, Nat.not_lt.mp c_29⟩])) (hw.come (by omega)) (by rw [(pCome_C k S).1.2.2]; omega) (by rw [(pCome_C k S).1.2.2]; exact hex)
set_option maxHeartbeats 4000000 in
theorem ct_comeAll (hR : TwR γ Mo aT X S) (hw : WF K S) : Ev γ mX2_comeAll [.ref Mo] X (fun oc X1 => oc = .inl none ∧ TwF γ Mo aT X X1 (rep (S.1 25 0) 0 pCome S)) := by
  have hT := TwF.rf hR
  refine Ev.of (lv := [_, _]) 1 ⟨by decide +kernel, rfl, (Nat.le_of_ble_eq_true rfl)⟩ rfl ?_
  refine sw_iconst 1 rfl (nI 0) rfl dX2_comeAll_0 ?_
  refine sw_istore_n 2 rfl [_, _] (Nat.le_of_ble_eq_true rfl) rfl dX2_comeAll_1 ?_
  refine lp_comeAll (S.1 25 0) 0 X S hT hw (Nat.zero_add _) (fun X hT => ?_)
  refine sw_vret rfl dX2_comeAll_90 ?_
  exact ⟨rfl, hT⟩

set_option maxHeartbeats 4000000 in
theorem lp_nh1  {Q : Ot → Sh → Prop} : ∀ (n k : Nat) (X : Sh) (S : TS), TwF γ Mo aT X0 X S → WF K S → k + n = S.1 3 0 → (∀ X1, TwF γ Mo aT X0 X1 (rep n k pHeal S) → SW γ mX2_nextHour X0 X1 65 [some (.ref Mo), some (.int (nI (S.1 3 0))), none] [] Q) → SW γ mX2_nextHour X0 X 12 [some (.ref Mo), some (.int (nI k)), none] [] Q := by
  intro n
  induction n with
  | zero =>
    intro k X S hT hw hn hex
    have hnb := hw.nb
    have hhr := hw.hr
    refine sw_iload_n 13 rfl rfl dX2_nextHour_12 ?_
    refine sw_aload_n 14 rfl rfl rfl dX2_nextHour_13 ?_
    refine gf_X2_113 17 rfl hT.obj rfl rfl dX2_nextHour_14 ?_
    refine sw_icmp_ge 65 20 (by decide) rfl dX2_nextHour_17 (fun c_17 => ?_) (fun c_17 => absurd (nI_le (by omega) (by omega)) c_17)
    clear c_17
    have h9 := hex X hT
    rw [show k = S.1 3 0 by omega]
    exact h9
  | succ n ih =>
    intro k X S hT hw hn hex
    have hnb := hw.nb
    have hhr := hw.hr
    refine sw_iload_n 13 rfl rfl dX2_nextHour_12 ?_
    refine sw_aload_n 14 rfl rfl rfl dX2_nextHour_13 ?_
    refine gf_X2_113 17 rfl hT.obj rfl rfl dX2_nextHour_14 ?_
    refine sw_icmp_ge 65 20 (by decide) rfl dX2_nextHour_17 (fun c_17 => absurd c_17 (nI_ge (by omega) (by omega))) (fun c_17 => ?_)
    clear c_17
    refine sw_aload_n 21 rfl rfl rfl dX2_nextHour_20 ?_
    refine gf_X2_20 24 rfl hT.obj rfl rfl dX2_nextHour_21 ?_
    refine sw_iload_n 25 rfl rfl dX2_nextHour_24 ?_
    refine sw_aload_n 26 rfl rfl rfl dX2_nextHour_25 ?_
    refine gf_X2_20 29 rfl hT.obj rfl rfl dX2_nextHour_26 ?_
    refine sw_iload_n 30 rfl rfl dX2_nextHour_29 ?_
    refine sw_iald 31 rfl (hT.arr 7 rfl) (by omega) (Nat.le_of_ble_eq_true rfl) dX2_nextHour_30 ?_
    refine sw_iconst 32 rfl (nI 1) rfl dX2_nextHour_31 ?_
    refine sw_icmp_ne 52 35 (by decide) rfl dX2_nextHour_32 (fun c_32 => ?_) (fun c_32 => ?_)
    · refine sw_aload_n 53 rfl rfl rfl dX2_nextHour_52 ?_
      refine gf_X2_20 56 rfl hT.obj rfl rfl dX2_nextHour_53 ?_
      refine sw_iload_n 57 rfl rfl dX2_nextHour_56 ?_
      refine sw_iald 58 rfl (hT.arr 7 rfl) (by omega) (Nat.le_of_ble_eq_true rfl) dX2_nextHour_57 ?_
      refine sw_iast 59 rfl (hT.arr 7 rfl) (by omega) (Nat.le_of_ble_eq_true rfl) dX2_nextHour_58 (fun X hX => ?_)
      replace hT := hT.p7 hX
      clear hX
      refine sw_iinc 62 rfl [_, _, _] (nI (_ + 1)) rfl (nI_add _ 1) (Nat.le_of_ble_eq_true rfl) rfl dX2_nextHour_59 ?_
      refine sw_goto 12 (by decide) dX2_nextHour_62 ?_
      exact ih (k + 1) X (pHeal k S) (hT.st (by rw [pHeal, if_neg (fun q => c_32 q.1)])) (hw.heal k) (by show k + 1 + n = S.1 3 0; omega) hex
    · refine sw_aload_n 36 rfl rfl rfl dX2_nextHour_35 ?_
      have hu := hw.until' (show k < 12 by omega)
      refine gf_X2_23 39 rfl hT.obj rfl rfl dX2_nextHour_36 ?_
      refine sw_iload_n 40 rfl rfl dX2_nextHour_39 ?_
      refine sw_iald 41 rfl (hT.arr 8 rfl) (by omega) (Nat.le_of_ble_eq_true rfl) dX2_nextHour_40 ?_
      refine sw_aload_n 42 rfl rfl rfl dX2_nextHour_41 ?_
      refine gf_X2_194 45 rfl hT.obj rfl rfl dX2_nextHour_42 ?_
      refine sw_icmp_gt 52 48 (by decide) rfl dX2_nextHour_45 (fun c_45 => ?_) (fun c_45 => ?_)
      · rw [nI_ltI (by omega) (by omega)] at c_45
        refine sw_aload_n 53 rfl rfl rfl dX2_nextHour_52 ?_
        refine gf_X2_20 56 rfl hT.obj rfl rfl dX2_nextHour_53 ?_
        refine sw_iload_n 57 rfl rfl dX2_nextHour_56 ?_
        refine sw_iald 58 rfl (hT.arr 7 rfl) (by omega) (Nat.le_of_ble_eq_true rfl) dX2_nextHour_57 ?_
        refine sw_iast 59 rfl (hT.arr 7 rfl) (by omega) (Nat.le_of_ble_eq_true rfl) dX2_nextHour_58 (fun X hX => ?_)
        replace hT := hT.p7 hX
        clear hX
        refine sw_iinc 62 rfl [_, _, _] (nI (_ + 1)) rfl (nI_add _ 1) (Nat.le_of_ble_eq_true rfl) rfl dX2_nextHour_59 ?_
        refine sw_goto 12 (by decide) dX2_nextHour_62 ?_
        exact ih (k + 1) X (pHeal k S) (hT.st (by rw [pHeal, if_neg (fun q => absurd q.2 (Nat.not_le.mpr c_45))])) (hw.heal k) (by show k + 1 + n = S.1 3 0; omega) hex
      · rw [nI_ltI (by omega) (by omega)] at c_45
        refine sw_iconst 49 rfl (nI 0) rfl dX2_nextHour_48 ?_
        refine sw_goto 58 (by decide) dX2_nextHour_49 ?_
        refine sw_iast 59 rfl (hT.arr 7 rfl) (by omega) (Nat.le_of_ble_eq_true rfl) dX2_nextHour_58 (fun X hX => ?_)
        replace hT := hT.p7 hX
        clear hX
        refine sw_iinc 62 rfl [_, _, _] (nI (_ + 1)) rfl (nI_add _ 1) (Nat.le_of_ble_eq_true rfl) rfl dX2_nextHour_59 ?_
        refine sw_goto 12 (by decide) dX2_nextHour_62 ?_
        exact ih (k + 1) X (pHeal k S) (hT.st (by rw [pHeal, if_pos ⟨c_32, Nat.not_lt.mp c_45⟩])) (hw.heal k) (by show k + 1 + n = S.1 3 0; omega) hex
set_option maxHeartbeats 4000000 in
theorem lp_nh2  {Q : Ot → Sh → Prop} : ∀ (n k : Nat) (X : Sh) (S : TS), TwF γ Mo aT X0 X S → WF K S → k + n = S.1 14 0 → (∀ X1, TwF γ Mo aT X0 X1 (rep n k pMoveIf S) → SW γ mX2_nextHour X0 X1 95 [some (.ref Mo), some (.int (nI (S.1 14 0))), none] [] Q) → SW γ mX2_nextHour X0 X 67 [some (.ref Mo), some (.int (nI k)), none] [] Q := by
  intro n
  induction n with
  | zero =>
    intro k X S hT hw hn hex
    have hno := hw.no
    refine sw_iload_n 68 rfl rfl dX2_nextHour_67 ?_
    refine sw_aload_n 69 rfl rfl rfl dX2_nextHour_68 ?_
    refine gf_X2_181 72 rfl hT.obj rfl rfl dX2_nextHour_69 ?_
    refine sw_icmp_ge 95 75 (by decide) rfl dX2_nextHour_72 (fun c_72 => ?_) (fun c_72 => absurd (nI_le (by omega) (by omega)) c_72)
    clear c_72
    have h9 := hex X hT
    rw [show k = S.1 14 0 by omega]
    exact h9
  | succ n ih =>
    intro k X S hT hw hn hex
    have hno := hw.no
    refine sw_iload_n 68 rfl rfl dX2_nextHour_67 ?_
    refine sw_aload_n 69 rfl rfl rfl dX2_nextHour_68 ?_
    refine gf_X2_181 72 rfl hT.obj rfl rfl dX2_nextHour_69 ?_
    refine sw_icmp_ge 95 75 (by decide) rfl dX2_nextHour_72 (fun c_72 => absurd c_72 (nI_ge (by omega) (by omega))) (fun c_72 => ?_)
    clear c_72
    refine sw_aload_n 76 rfl rfl rfl dX2_nextHour_75 ?_
    refine gf_X2_42 79 rfl hT.obj rfl rfl dX2_nextHour_76 ?_
    refine sw_iload_n 80 rfl rfl dX2_nextHour_79 ?_
    refine sw_iald 81 rfl (hT.arr 15 rfl) (by omega) (Nat.le_of_ble_eq_true rfl) dX2_nextHour_80 ?_
    refine sw_if_ne 89 84 (by decide) rfl dX2_nextHour_81 (fun c_81 => ?_) (fun c_81 => ?_)
    · refine sw_iinc 92 rfl [_, _, _] (nI (_ + 1)) rfl (nI_add _ 1) (Nat.le_of_ble_eq_true rfl) rfl dX2_nextHour_89 ?_
      refine sw_goto 67 (by decide) dX2_nextHour_92 ?_
      exact ih (k + 1) X (pMoveIf k S) (hT.st (by rw [pMoveIf, if_neg c_81])) (hw.moveIf (by omega)) (by rw [(pMoveIf_C k S).1.2.1]; omega) (by rw [(pMoveIf_C k S).1.2.1]; exact hex)
    · refine sw_aload_n 85 rfl rfl rfl dX2_nextHour_84 ?_
      refine sw_iload_n 86 rfl rfl dX2_nextHour_85 ?_
      refine sw_callV 89 [] rfl cs_X2_207 rfl (Nat.le_of_ble_eq_true rfl) rfl hT.obj rfl rfl (ct_move hT.1 hw k (by omega) c_81) rfl rfl (Nat.le_of_ble_eq_true rfl) dX2_nextHour_86 (fun v X hq => ?_) (fun E X hq => by obtain ⟨hv, -⟩ := hq; cases hv)
      obtain ⟨hv, hT1⟩ := hq
      cases hv
      replace hT := hT.tr hT1
      clear hT1
      refine sw_iinc 92 rfl [_, _, _] (nI (_ + 1)) rfl (nI_add _ 1) (Nat.le_of_ble_eq_true rfl) rfl dX2_nextHour_89 ?_
      refine sw_goto 67 (by decide) dX2_nextHour_92 ?_
      exact ih (k + 1) X (pMoveIf k S) (hT.st (by rw [pMoveIf, if_pos c_81])) (hw.moveIf (by omega)) (by rw [(pMoveIf_C k S).1.2.1]; omega) (by rw [(pMoveIf_C k S).1.2.1]; exact hex)
set_option maxHeartbeats 4000000 in
theorem lp_nh3  {Q : Ot → Sh → Prop} : ∀ (n k : Nat) (X : Sh) (S : TS), TwF γ Mo aT X0 X S → WF K S → k + n = S.1 14 0 → (∀ X1, TwF γ Mo aT X0 X1 (rep n k pOld S) → SW γ mX2_nextHour X0 X1 143 [some (.ref Mo), some (.int (nI (S.1 14 0))), none] [] Q) → SW γ mX2_nextHour X0 X 97 [some (.ref Mo), some (.int (nI k)), none] [] Q := by
  intro n
  induction n with
  | zero =>
    intro k X S hT hw hn hex
    have hno := hw.no
    have hhr := hw.hr
    refine sw_iload_n 98 rfl rfl dX2_nextHour_97 ?_
    refine sw_aload_n 99 rfl rfl rfl dX2_nextHour_98 ?_
    refine gf_X2_181 102 rfl hT.obj rfl rfl dX2_nextHour_99 ?_
    refine sw_icmp_ge 143 105 (by decide) rfl dX2_nextHour_102 (fun c_102 => ?_) (fun c_102 => absurd (nI_le (by omega) (by omega)) c_102)
    clear c_102
    have h9 := hex X hT
    rw [show k = S.1 14 0 by omega]
    exact h9
  | succ n ih =>
    intro k X S hT hw hn hex
    have hno := hw.no
    have hhr := hw.hr
    refine sw_iload_n 98 rfl rfl dX2_nextHour_97 ?_
    refine sw_aload_n 99 rfl rfl rfl dX2_nextHour_98 ?_
    refine gf_X2_181 102 rfl hT.obj rfl rfl dX2_nextHour_99 ?_
    refine sw_icmp_ge 143 105 (by decide) rfl dX2_nextHour_102 (fun c_102 => absurd c_102 (nI_ge (by omega) (by omega))) (fun c_102 => ?_)
    clear c_102
    have hsi := hw.since (show k < S.1 14 0 by omega)
    obtain ⟨qh, hq6, hqh⟩ := hw.how (show k < S.1 14 0 by omega)
    refine sw_aload_n 106 rfl rfl rfl dX2_nextHour_105 ?_
    refine gf_X2_42 109 rfl hT.obj rfl rfl dX2_nextHour_106 ?_
    refine sw_iload_n 110 rfl rfl dX2_nextHour_109 ?_
    refine sw_iald 111 rfl (hT.arr 15 rfl) (by omega) (Nat.le_of_ble_eq_true rfl) dX2_nextHour_110 ?_
    refine sw_iconst 112 rfl (nI 1) rfl dX2_nextHour_111 ?_
    refine sw_icmp_gt 137 115 (by decide) rfl dX2_nextHour_112 (fun c_112 => ?_) (fun c_112 => ?_)
    · replace c_112 : ¬ (S.2.1 15 k = 0 ∨ S.2.1 15 k = nI 1) := by
          rw [hqh] at c_112 ⊢
          rw [nI_ltI (by omega) (by omega)] at c_112
          rw [show (0 : Int32) = nI 0 from rfl, nI_eq (by omega) (by omega), nI_eq (by omega) (by omega)]
          omega
      refine sw_iinc 140 rfl [_, _, _] (nI (_ + 1)) rfl (nI_add _ 1) (Nat.le_of_ble_eq_true rfl) rfl dX2_nextHour_137 ?_
      refine sw_goto 97 (by decide) dX2_nextHour_140 ?_
      exact ih (k + 1) X (pOld k S) (hT.st (by rw [pOld, if_neg (fun q => c_112 q.1)])) (hw.old k) (by rw [pOld_N]; omega) (by rw [pOld_N]; exact hex)
    · replace c_112 : S.2.1 15 k = 0 ∨ S.2.1 15 k = nI 1 := by
          rw [hqh] at c_112 ⊢
          rw [nI_ltI (by omega) (by omega)] at c_112
          rw [show (0 : Int32) = nI 0 from rfl, nI_eq (by omega) (by omega), nI_eq (by omega) (by omega)]
          omega
      refine sw_aload_n 116 rfl rfl rfl dX2_nextHour_115 ?_
      refine gf_X2_194 119 rfl hT.obj rfl rfl dX2_nextHour_116 ?_
      refine sw_aload_n 120 rfl rfl rfl dX2_nextHour_119 ?_
      refine gf_X2_57 123 rfl hT.obj rfl rfl dX2_nextHour_120 ?_
      refine sw_iload_n 124 rfl rfl dX2_nextHour_123 ?_
      refine sw_iald 125 rfl (hT.arr 20 rfl) (by omega) (Nat.le_of_ble_eq_true rfl) dX2_nextHour_124 ?_
      refine sw_isubN 126 rfl (by omega) dX2_nextHour_125 ?_
      refine sw_sipush 129 rfl (nI 240) rfl dX2_nextHour_126 ?_
      refine sw_icmp_lt 137 132 (by decide) rfl dX2_nextHour_129 (fun c_129 => ?_) (fun c_129 => ?_)
      · rw [nI_ltI (by omega) (by omega)] at c_129
        refine sw_iinc 140 rfl [_, _, _] (nI (_ + 1)) rfl (nI_add _ 1) (Nat.le_of_ble_eq_true rfl) rfl dX2_nextHour_137 ?_
        refine sw_goto 97 (by decide) dX2_nextHour_140 ?_
        exact ih (k + 1) X (pOld k S) (hT.st (by rw [pOld, if_neg (fun q => absurd q.2 (by omega))])) (hw.old k) (by rw [pOld_N]; omega) (by rw [pOld_N]; exact hex)
      · rw [nI_ltI (by omega) (by omega)] at c_129
        refine sw_aload_n 133 rfl rfl rfl dX2_nextHour_132 ?_
        refine sw_iload_n 134 rfl rfl dX2_nextHour_133 ?_
        refine sw_callV 137 [] rfl cs_X2_177 rfl (Nat.le_of_ble_eq_true rfl) rfl hT.obj rfl rfl (ct_goBack hT.1 hw k (by omega)) rfl rfl (Nat.le_of_ble_eq_true rfl) dX2_nextHour_134 (fun v X hq => ?_) (fun E X hq => by obtain ⟨hv, -⟩ := hq; cases hv)
        obtain ⟨hv, hT1⟩ := hq
        cases hv
        replace hT := hT.tr hT1
        clear hT1
        refine sw_iinc 140 rfl [_, _, _] (nI (_ + 1)) rfl (nI_add _ 1) (Nat.le_of_ble_eq_true rfl) rfl dX2_nextHour_137 ?_
        refine sw_goto 97 (by decide) dX2_nextHour_140 ?_
        exact ih (k + 1) X (pOld k S) (hT.st (by rw [pOld, if_pos ⟨c_112, by omega⟩])) (hw.old k) (by rw [pOld_N]; omega) (by rw [pOld_N]; exact hex)
set_option maxHeartbeats 4000000 in
theorem lp_nh4 (hK : K < 2 ^ 31) {Q : Ot → Sh → Prop} : ∀ (n k : Nat) (X : Sh) (S : TS), TwF γ Mo aT X0 X S → WF K S → k + n = S.1 14 0 → (∀ X1, TwF γ Mo aT X0 X1 (rep n k pGive S) → SW γ mX2_nextHour X0 X1 240 [some (.ref Mo), some (.int (nI (S.1 14 0))), none] [] Q) → SW γ mX2_nextHour X0 X 145 [some (.ref Mo), some (.int (nI k)), none] [] Q := by
  intro n
  induction n with
  | zero =>
    intro k X S hT hw hn hex
    have hno := hw.no
    refine sw_iload_n 146 rfl rfl dX2_nextHour_145 ?_
    refine sw_aload_n 147 rfl rfl rfl dX2_nextHour_146 ?_
    refine gf_X2_181 150 rfl hT.obj rfl rfl dX2_nextHour_147 ?_
    refine sw_icmp_ge 240 153 (by decide) rfl dX2_nextHour_150 (fun c_150 => ?_) (fun c_150 => absurd (nI_le (by omega) (by omega)) c_150)
    clear c_150
    have h9 := hex X hT
    rw [show k = S.1 14 0 by omega]
    exact h9
  | succ n ih =>
    intro k X S hT hw hn hex
    have hno := hw.no
    refine sw_iload_n 146 rfl rfl dX2_nextHour_145 ?_
    refine sw_aload_n 147 rfl rfl rfl dX2_nextHour_146 ?_
    refine gf_X2_181 150 rfl hT.obj rfl rfl dX2_nextHour_147 ?_
    refine sw_icmp_ge 240 153 (by decide) rfl dX2_nextHour_150 (fun c_150 => absurd c_150 (nI_ge (by omega) (by omega))) (fun c_150 => ?_)
    clear c_150
    have hm := hw.many (show k < S.1 14 0 by omega)
    have hf := hw.wayB (show k < S.1 14 0 by omega) (show 0 < S.1 22 k by omega)
    rw [Nat.add_zero] at hf
    have hga := hw.gave (show k < S.1 14 0 by omega)
    have hca := hw.cash hf
    refine sw_aload_n 154 rfl rfl rfl dX2_nextHour_153 ?_
    refine sw_iload_n 155 rfl rfl dX2_nextHour_154 ?_
    refine sw_callV 158 [] rfl cs_X2_166 rfl (Nat.le_of_ble_eq_true rfl) rfl hT.obj rfl rfl (ct_firstOf hT.1 k (by omega)) rfl rfl (Nat.le_of_ble_eq_true rfl) dX2_nextHour_155 (fun v X hq => ?_) (fun E X hq => by obtain ⟨hv, -⟩ := hq; cases hv)
    obtain ⟨hv, hT1⟩ := hq
    cases hv
    replace hT := hT.tr hT1
    clear hT1
    refine sw_istore_n 159 rfl [_, _, _] (Nat.le_of_ble_eq_true rfl) rfl dX2_nextHour_158 ?_
    refine sw_aload_n 160 rfl rfl rfl dX2_nextHour_159 ?_
    refine gf_X2_42 163 rfl hT.obj rfl rfl dX2_nextHour_160 ?_
    refine sw_iload_n 164 rfl rfl dX2_nextHour_163 ?_
    refine sw_iald 165 rfl (hT.arr 15 rfl) (by omega) (Nat.le_of_ble_eq_true rfl) dX2_nextHour_164 ?_
    refine sw_iconst 166 rfl (nI 3) rfl dX2_nextHour_165 ?_
    refine sw_icmp_ne 234 169 (by decide) rfl dX2_nextHour_166 (fun c_166 => ?_) (fun c_166 => ?_)
    · refine sw_iinc 237 rfl [_, _, _] (nI (_ + 1)) rfl (nI_add _ 1) (Nat.le_of_ble_eq_true rfl) rfl dX2_nextHour_234 ?_
      refine sw_goto 145 (by decide) dX2_nextHour_237 ?_
      refine sw_fgt (lvle_c (lvle_c (lvle_n lvle_nil))) ?_
      exact ih (k + 1) X (pGive k S) (hT.st (by rw [pGive, if_neg (fun q => c_166 q.1)])) (hw.give k) (by rw [(pGive_C k S).1.2.1]; omega) (by rw [(pGive_C k S).1.2.1]; exact hex)
    · refine sw_aload_n 170 rfl rfl rfl dX2_nextHour_169 ?_
      refine gf_X2_20 173 rfl hT.obj rfl rfl dX2_nextHour_170 ?_
      refine sw_iload_n 174 rfl rfl dX2_nextHour_173 ?_
      refine sw_iald 175 rfl (hT.arr 7 rfl) hf (Nat.le_of_ble_eq_true rfl) dX2_nextHour_174 ?_
      refine sw_if_ne 234 178 (by decide) rfl dX2_nextHour_175 (fun c_175 => ?_) (fun c_175 => ?_)
      · refine sw_iinc 237 rfl [_, _, _] (nI (_ + 1)) rfl (nI_add _ 1) (Nat.le_of_ble_eq_true rfl) rfl dX2_nextHour_234 ?_
        refine sw_goto 145 (by decide) dX2_nextHour_237 ?_
        refine sw_fgt (lvle_c (lvle_c (lvle_n lvle_nil))) ?_
        exact ih (k + 1) X (pGive k S) (hT.st (by rw [pGive, if_neg (fun q => c_175 q.2.1)])) (hw.give k) (by rw [(pGive_C k S).1.2.1]; omega) (by rw [(pGive_C k S).1.2.1]; exact hex)
      · refine sw_aload_n 179 rfl rfl rfl dX2_nextHour_178 ?_
        refine gf_X2_13 182 rfl hT.obj rfl rfl dX2_nextHour_179 ?_
        refine sw_iload_n 183 rfl rfl dX2_nextHour_182 ?_
        refine sw_lald 184 rfl (hT.arr 5 rfl) hf (Nat.le_of_ble_eq_true rfl) dX2_nextHour_183 ?_
        refine sw_aload_n 185 rfl rfl rfl dX2_nextHour_184 ?_
        refine gf_X2_48 188 rfl hT.obj rfl rfl dX2_nextHour_185 ?_
        refine sw_iload_n 189 rfl rfl dX2_nextHour_188 ?_
        refine sw_iald 190 rfl (hT.arr 17 rfl) (by omega) (Nat.le_of_ble_eq_true rfl) dX2_nextHour_189 ?_
        refine sw_i2l 191 rfl dX2_nextHour_190 ?_
        refine sw_topL (nI_l (by omega)) ?_
        refine sw_llt 234 192 195 rfl (by decide) rfl dX2_nextHour_191 dX2_nextHour_192 (fun c_191 => ?_) (fun c_191 => ?_)
        · rw [pk_lLT (by omega) (by omega)] at c_191
          refine sw_iinc 237 rfl [_, _, _] (nI (_ + 1)) rfl (nI_add _ 1) (Nat.le_of_ble_eq_true rfl) rfl dX2_nextHour_234 ?_
          refine sw_goto 145 (by decide) dX2_nextHour_237 ?_
          refine sw_fgt (lvle_c (lvle_c (lvle_n lvle_nil))) ?_
          exact ih (k + 1) X (pGive k S) (hT.st (by rw [pGive, if_neg (fun q => absurd q.2.2 (Nat.not_le.mpr c_191))])) (hw.give k) (by rw [(pGive_C k S).1.2.1]; omega) (by rw [(pGive_C k S).1.2.1]; exact hex)
        · rw [pk_lLT (by omega) (by omega)] at c_191
          refine sw_aload_n 196 rfl rfl rfl dX2_nextHour_195 ?_
          refine gf_X2_13 199 rfl hT.obj rfl rfl dX2_nextHour_196 ?_
          refine sw_iload_n 200 rfl rfl dX2_nextHour_199 ?_
          refine sw_dup2 201 rfl rfl rfl dX2_nextHour_200 ?_
          refine sw_lald 202 rfl (hT.arr 5 rfl) hf (Nat.le_of_ble_eq_true rfl) dX2_nextHour_201 ?_
          refine sw_aload_n 203 rfl rfl rfl dX2_nextHour_202 ?_
          refine gf_X2_48 206 rfl hT.obj rfl rfl dX2_nextHour_203 ?_
          refine sw_iload_n 207 rfl rfl dX2_nextHour_206 ?_
          refine sw_iald 208 rfl (hT.arr 17 rfl) (by omega) (Nat.le_of_ble_eq_true rfl) dX2_nextHour_207 ?_
          refine sw_i2l 209 rfl dX2_nextHour_208 ?_
          refine sw_topL (nI_l (by omega)) ?_
          refine sw_lsub 210 rfl dX2_nextHour_209 ?_
          refine sw_topL (lN_sub (Nat.not_lt.mp c_191)) ?_
          refine sw_last 211 rfl (hT.arr 5 rfl) hf (Nat.le_of_ble_eq_true rfl) dX2_nextHour_210 (fun X hX => ?_)
          replace hT := hT.p5 hX
          clear hX
          refine sw_aload_n 212 rfl rfl rfl dX2_nextHour_211 ?_
          refine gf_X2_97 215 rfl hT.obj rfl rfl dX2_nextHour_212 ?_
          refine sw_iconst 216 rfl (nI 2) rfl dX2_nextHour_215 ?_
          refine sw_dup2 217 rfl rfl rfl dX2_nextHour_216 ?_
          refine sw_lald 218 rfl (hT.arr 34 rfl) (by omega) (Nat.le_of_ble_eq_true rfl) dX2_nextHour_217 ?_
          try simp only [sI_N, sI_L, sN_I, sN_L, sL_N, sL_I, sN_t, sI_t, sL_t, pOwe_N, pOwe_I, pOweBoth_N, pOweBoth_I, pTB_N, pTB_I, pGoBack_N, pOweOn_N, pOweOn_I, reduceIte, Nat.reduceEqDiff]
          refine sw_aload_n 219 rfl rfl rfl dX2_nextHour_218 ?_
          refine gf_X2_48 222 rfl hT.obj rfl rfl dX2_nextHour_219 ?_
          refine sw_iload_n 223 rfl rfl dX2_nextHour_222 ?_
          refine sw_iald 224 rfl (hT.arr 17 rfl) (by omega) (Nat.le_of_ble_eq_true rfl) dX2_nextHour_223 ?_
          try simp only [sI_N, sI_L, sN_I, sN_L, sL_N, sL_I, sN_t, sI_t, sL_t, pOwe_N, pOwe_I, pOweBoth_N, pOweBoth_I, pTB_N, pTB_I, pGoBack_N, pOweOn_N, pOweOn_I, reduceIte, Nat.reduceEqDiff]
          refine sw_i2l 225 rfl dX2_nextHour_224 ?_
          refine sw_topL (nI_l (by omega)) ?_
          refine sw_ladd 226 rfl dX2_nextHour_225 ?_
          refine sw_last 227 rfl (hT.arr 34 rfl) (by omega) (Nat.le_of_ble_eq_true rfl) dX2_nextHour_226 (fun X hX => ?_)
          replace hT := hT.p34 hX
          clear hX
          refine sw_aload_n 228 rfl rfl rfl dX2_nextHour_227 ?_
          refine gf_X2_42 231 rfl hT.obj rfl rfl dX2_nextHour_228 ?_
          refine sw_iload_n 232 rfl rfl dX2_nextHour_231 ?_
          refine sw_iconst 233 rfl (nI 4) rfl dX2_nextHour_232 ?_
          refine sw_iast 234 rfl (hT.arr 15 rfl) (by omega) (Nat.le_of_ble_eq_true rfl) dX2_nextHour_233 (fun X hX => ?_)
          replace hT := hT.p15 hX
          clear hX
          refine sw_iinc 237 rfl [_, _, _] (nI (_ + 1)) rfl (nI_add _ 1) (Nat.le_of_ble_eq_true rfl) rfl dX2_nextHour_234 ?_
          refine sw_goto 145 (by decide) dX2_nextHour_237 ?_
          refine sw_fgt (lvle_c (lvle_c (lvle_n lvle_nil))) ?_
          exact ih (k + 1) X (pGive k S) (hT.st (by rw [pGive, if_pos ⟨c_166, c_175, Nat.not_lt.mp c_191⟩])) (hw.give k) (by rw [(pGive_C k S).1.2.1]; omega) (by rw [(pGive_C k S).1.2.1]; exact hex)
set_option maxHeartbeats 4000000 in
theorem ct_nextHour (hR : TwR γ Mo aT X S) (hw : WF K S) (hK : K < 2 ^ 31) (hh : S.1 1 0 + 1 ≤ 40000) : Ev γ mX2_nextHour [.ref Mo] X (fun oc X1 => oc = .inl none ∧ TwF γ Mo aT X X1 (pHour S)) := by
  have hT := TwF.rf hR
  refine Ev.of (lv := [_, _, _]) 2 ⟨by decide +kernel, rfl, (Nat.le_of_ble_eq_true rfl)⟩ rfl ?_
  have hhr := hw.hr
  have w1 := pH1_W hw hh
  have w2 := pH2_W hw hh
  have w3 := pH3_W hw hh
  have w4 := pH4_W hw hh
  have w5 := pH5_W hw hh
  refine sw_aload_n 1 rfl rfl rfl dX2_nextHour_0 ?_
  refine sw_dup 2 rfl rfl dX2_nextHour_1 ?_
  refine gf_X2_194 5 rfl hT.obj rfl rfl dX2_nextHour_2 ?_
  refine sw_iconst 6 rfl (nI 1) rfl dX2_nextHour_5 ?_
  refine sw_iaddN 7 rfl dX2_nextHour_6 ?_
  refine pf_X2_194 10 rfl hT.obj (Nat.le_of_ble_eq_true rfl) rfl dX2_nextHour_7 (fun X hX => ?_)
  replace hT := hT.p1 hX
  clear hX
  refine sw_iconst 11 rfl (nI 0) rfl dX2_nextHour_10 ?_
  refine sw_istore_n 12 rfl [_, _, _] (Nat.le_of_ble_eq_true rfl) rfl dX2_nextHour_11 ?_
  refine lp_nh1 (S.1 3 0) 0 X (pH1 S) hT w1.1 (Nat.zero_add _) (fun X hT => ?_)
  rw [show rep (S.1 3 0) 0 pHeal (pH1 S) = pH2 S from rfl] at hT
  refine sw_iconst 66 rfl (nI 0) rfl dX2_nextHour_65 ?_
  refine sw_istore_n 67 rfl [_, _, _] (Nat.le_of_ble_eq_true rfl) rfl dX2_nextHour_66 ?_
  refine lp_nh2 (S.1 14 0) 0 X (pH2 S) hT w2.1 (by rw [w2.2.1.2.1, Nat.zero_add]) (fun X hT => ?_)
  rw [show rep (S.1 14 0) 0 pMoveIf (pH2 S) = pH3 S from rfl] at hT
  refine sw_iconst 96 rfl (nI 0) rfl dX2_nextHour_95 ?_
  refine sw_istore_n 97 rfl [_, _, _] (Nat.le_of_ble_eq_true rfl) rfl dX2_nextHour_96 ?_
  refine lp_nh3 (S.1 14 0) 0 X (pH3 S) hT w3.1 (by rw [w3.2.1.2.1, Nat.zero_add]) (fun X hT => ?_)
  rw [show rep (S.1 14 0) 0 pOld (pH3 S) = pH4 S from rfl] at hT
  refine sw_iconst 144 rfl (nI 0) rfl dX2_nextHour_143 ?_
  refine sw_istore_n 145 rfl [_, _, _] (Nat.le_of_ble_eq_true rfl) rfl dX2_nextHour_144 ?_
  refine lp_nh4 hK (S.1 14 0) 0 X (pH4 S) hT w4.1 (by rw [w4.2.1.2.1, Nat.zero_add]) (fun X hT => ?_)
  rw [show rep (S.1 14 0) 0 pGive (pH4 S) = pH5 S from rfl] at hT
  refine sw_aload_n 241 rfl rfl rfl dX2_nextHour_240 ?_
  refine sw_callV 244 [] rfl cs_X2_210 rfl (Nat.le_of_ble_eq_true rfl) rfl hT.obj rfl rfl (ct_comeAll hT.1 w5.1) rfl rfl (Nat.le_of_ble_eq_true rfl) dX2_nextHour_241 (fun v X hq => ?_) (fun E X hq => by obtain ⟨hv, -⟩ := hq; cases hv)
  obtain ⟨hv, hT1⟩ := hq
  cases hv
  replace hT := hT.tr hT1
  refine sw_vret rfl dX2_nextHour_244 ?_
  exact ⟨rfl, hT.st (by rw [w5.2.1.2.2]; rfl)⟩

set_option maxHeartbeats 4000000 in
theorem lp_pass (hK : K < 2 ^ 31) {m : Nat} (hm : m ≤ 500) {Q : Ot → Sh → Prop} : ∀ (n k : Nat) (X : Sh) (S : TS), TwF γ Mo aT X0 X S → WF K S → S.1 1 0 + n ≤ 40000 → k + n = m → (∀ X1, TwF γ Mo aT X0 X1 (rep n k (fun _ T => pHour T) S) → SW γ mX2_pass X0 X1 42 [some (.ref Mo), some (.int (nI m)), some (.int (nI m))] [] Q) → SW γ mX2_pass X0 X 27 [some (.ref Mo), some (.int (nI m)), some (.int (nI k))] [] Q := by
  intro n
  induction n with
  | zero =>
    intro k X S hT hw h3 hn hex
    refine sw_iload_n 28 rfl rfl dX2_pass_27 ?_
    refine sw_iload_n 29 rfl rfl dX2_pass_28 ?_
    refine sw_icmp_ge 42 32 (by decide) rfl dX2_pass_29 (fun c_29 => ?_) (fun c_29 => absurd (nI_le (by omega) (by omega)) c_29)
    clear c_29
    have h9 := hex X hT
    rw [show k = m by omega]
    exact h9
  | succ n ih =>
    intro k X S hT hw h3 hn hex
    refine sw_iload_n 28 rfl rfl dX2_pass_27 ?_
    refine sw_iload_n 29 rfl rfl dX2_pass_28 ?_
    refine sw_icmp_ge 42 32 (by decide) rfl dX2_pass_29 (fun c_29 => absurd c_29 (nI_ge (by omega) (by omega))) (fun c_29 => ?_)
    clear c_29
    refine sw_aload_n 33 rfl rfl rfl dX2_pass_32 ?_
    refine sw_callV 36 [] rfl cs_X2_213 rfl (Nat.le_of_ble_eq_true rfl) rfl hT.obj rfl rfl (ct_nextHour hT.1 hw hK (by omega)) rfl rfl (Nat.le_of_ble_eq_true rfl) dX2_pass_33 (fun v X hq => ?_) (fun E X hq => by obtain ⟨hv, -⟩ := hq; cases hv)
    obtain ⟨hv, hT1⟩ := hq
    cases hv
    replace hT := hT.tr hT1
    clear hT1
    refine sw_iinc 39 rfl [_, _, _] (nI (_ + 1)) rfl (nI_add _ 1) (Nat.le_of_ble_eq_true rfl) rfl dX2_pass_36 ?_
    refine sw_goto 27 (by decide) dX2_pass_39 ?_
    obtain ⟨v1, v2, v3⟩ := pHour_W hw (by omega)
    exact ih (k + 1) X (pHour S) hT v1 (by rw [v3]; omega) (by omega) hex
set_option maxHeartbeats 4000000 in
theorem ct_pass (hR : TwR γ Mo aT X S) (hw : WF K S) (hK : K < 2 ^ 31) (hh : S.1 1 0 + 500 ≤ 40000) (h : Int32) : Ev γ mX2_pass [.ref Mo, .int h] X (fun oc X1 => oc = .inl (some (.int (rPass S h))) ∧ TwF γ Mo aT X X1 (sPass S h)) := by
  have hT := TwF.rf hR
  refine Ev.of (lv := [_, _, _]) 1 ⟨by decide +kernel, rfl, (Nat.le_of_ble_eq_true rfl)⟩ rfl ?_
  refine sw_aload_n 1 rfl rfl rfl dX2_pass_0 ?_
  refine sw_iload_n 2 rfl rfl dX2_pass_1 ?_
  refine sw_iconst 3 rfl (nI 1) rfl dX2_pass_2 ?_
  refine sw_sipush 6 rfl (nI 500) rfl dX2_pass_3 ?_
  refine sw_callS 9 [_] rfl cs_X2_116 rfl (Nat.le_of_ble_eq_true rfl) rfl (ct_in1 _ 500 (by omega)) rfl rfl (Nat.le_of_ble_eq_true rfl) dX2_pass_6 (fun v X hq => ?_) (fun E X hq => by obtain ⟨hv, -⟩ := hq; cases hv)
  obtain ⟨hv, rfl⟩ := hq
  cases hv
  refine sw_if_eq 16 12 (by decide) rfl dX2_pass_9 (fun c_9 => ?_) (fun c_9 => ?_)
  · rw [b2_0] at c_9
    have e_9 := c_9
    refine sw_iconst 17 rfl (nI 1) rfl dX2_pass_16 ?_
    refine sw_callV 20 [] rfl cs_X2_124 rfl (Nat.le_of_ble_eq_true rfl) rfl hT.obj rfl rfl (ct_goesWellK hT.1 1 (by omega) (by omega)) rfl rfl (Nat.le_of_ble_eq_true rfl) dX2_pass_17 (fun v X hq => ?_) (fun E X hq => by obtain ⟨hv, -⟩ := hq; cases hv)
    obtain ⟨hv, hT1⟩ := hq
    cases hv
    replace hT := hT.tr hT1
    clear hT1
    refine sw_if_ne 25 23 (by decide) rfl dX2_pass_20 (fun c_20 => absurd (by decide) c_20) (fun c_20 => ?_)
    clear c_20
    refine sw_iconst 24 rfl (nI 0) rfl dX2_pass_23 ?_
    refine sw_iret rfl rfl dX2_pass_24 ?_
    exact ⟨by simp [rPass, kPass, cif, e_9], hT.st (by simp [sPass, kPass, cif, tk, e_9])⟩
  · rw [b2_n] at c_9
    have e_9 := c_9
    have e_9 := c_9
    obtain ⟨m, hm1, hm2, rfl⟩ := c_9
    refine sw_iconst 13 rfl (nI 0) rfl dX2_pass_12 ?_
    refine sw_goto 17 (by decide) dX2_pass_13 ?_
    refine sw_callV 20 [] rfl cs_X2_124 rfl (Nat.le_of_ble_eq_true rfl) rfl hT.obj rfl rfl (ct_goesWell0 hT.1) rfl rfl (Nat.le_of_ble_eq_true rfl) dX2_pass_17 (fun v X hq => ?_) (fun E X hq => by obtain ⟨hv, -⟩ := hq; cases hv)
    obtain ⟨hv, hT1⟩ := hq
    cases hv
    replace hT := hT.tr hT1
    clear hT1
    refine sw_if_ne 25 23 (by decide) rfl dX2_pass_20 (fun c_20 => ?_) (fun c_20 => absurd c_20 (by decide))
    clear c_20
    refine sw_iconst 26 rfl (nI 0) rfl dX2_pass_25 ?_
    refine sw_istore_n 27 rfl [_, _, _] (Nat.le_of_ble_eq_true rfl) rfl dX2_pass_26 ?_
    have e0 : ix (nI m) = m := nI_clamp (by omega)
    have hw0 : WF K (S.sI 0 0 (nI 0)) := hw.thrown _
    refine lp_pass hK hm2 m 0 X (S.sI 0 0 (nI 0)) hT hw0 (by show S.1 1 0 + m ≤ 40000; omega) (Nat.zero_add _) (fun X hT => ?_)
    have hk : kPass (nI m) = 0 := cif_t e_9
    refine sw_aload_n 43 rfl rfl rfl dX2_pass_42 ?_
    refine gf_X2_194 46 rfl hT.obj rfl rfl dX2_pass_43 ?_
    refine sw_iret rfl rfl dX2_pass_46 ?_
    refine ⟨?_, hT.st (by rw [sPass, cif_t hk, e0]; rfl)⟩
    rw [rPass, cif_t hk, e0, show (rep m 0 (fun _ T => pHour T) (S.sI 0 0 (nI 0))).1 1 0 = S.1 1 0 + m from (pPass_W hw0 m (by show S.1 1 0 + m ≤ 40000; omega)).2.2]

end T2
