/-! the reference's orders and blows: written by prog/gen_t8.py -/
def WyO (S : TS) (o : Nat) : Prop := o < 40 ∧ (1 ≤ S.1 22 o ∧ S.1 22 o ≤ 12) ∧ (∀ k, k < S.1 22 o → S.1 23 (12 * o + k) < 12) ∧ (∀ k, k + 1 < S.1 22 o → S.1 24 (12 * o + k) < 2 ^ 31) ∧ S.1 21 o < 2 ^ 31
theorem WyO.c {S T : TS} {o : Nat} (h : WyO S o) (e : T.1 = S.1) : WyO T o := by unfold WyO; rw [e]; exact h
def LyO (T : TS) (o f N : Nat) : Prop := o < 40 ∧ f + N ≤ 12 ∧ 1 ≤ N ∧ T.1 16 o ≤ 1000000 ∧ T.1 21 o < 2 ^ 31 ∧ (∀ k, k < N → T.1 37 k < 12 ∧ T.1 35 (T.1 37 k) ≤ 1200000)
theorem LyO.c {S T : TS} {o f N : Nat} (h : LyO S o f N) (e : ∀ j, j ≠ 22 → j ≠ 23 → j ≠ 24 → T.1 j = S.1 j) : LyO T o f N := by
  unfold LyO
  rw [e 16 (by omega) (by omega) (by omega), e 21 (by omega) (by omega) (by omega), e 37 (by omega) (by omega) (by omega), e 35 (by omega) (by omega) (by omega)]
  exact h
theorem pLay2_c (o f k : Nat) (U : TS) : ∀ j, j ≠ 24 → (pLay2 o f k U).1 j = U.1 j := fun j hj => by unfold pLay2; rw [pOweOn_N]; exact sN_o _ _ _ hj
set_option maxRecDepth 100000
section T8
variable {γ : Gm} {Mo : Nat} {aT : Nat → Nat} {X X0 : Sh} {S : TS} {K : Nat}
set_option maxHeartbeats 4000000 in
theorem lp_takeBackW {o f : Nat} : ∀ (n : Nat) (k : Nat) (X : Sh) (S : TS), TwF γ Mo aT X0 X S → WyO S o → n = S.1 22 o - 1 - k → k ≤ 12 → SW γ mX2_takeBack X0 X 2 [some (.ref Mo), some (.int (nI o)), some (.int (nI f)), some (.int (nI k))] [] (fun oc X1 => oc = .inl none ∧ TwF γ Mo aT X0 X1 (rep n k (fun j S => pOweOn S o j (-1)) S)) := by
  intro n
  induction n with
  | zero =>
    intro k X S hT hw hn hk
    have hno := hw.1
    have hm := hw.2.1
    refine sw_iload_n 3 rfl rfl dX2_takeBack_2 ?_
    refine sw_aload_n 4 rfl rfl rfl dX2_takeBack_3 ?_
    refine gf_X2_63 7 rfl hT.obj rfl rfl dX2_takeBack_4 ?_
    refine sw_iload_n 8 rfl rfl dX2_takeBack_7 ?_
    refine sw_iald 9 rfl (hT.arr 22 rfl) (by omega) (Nat.le_of_ble_eq_true rfl) dX2_takeBack_8 ?_
    refine sw_iconst 10 rfl (nI 1) rfl dX2_takeBack_9 ?_
    refine sw_isubN 11 rfl (by omega) dX2_takeBack_10 ?_
    refine sw_icmp_ge 27 14 (by decide) rfl dX2_takeBack_11 (fun c_11 => ?_) (fun c_11 => absurd (nI_le (by omega) (by omega)) c_11)
    clear c_11
    refine sw_vret rfl dX2_takeBack_27 ?_
    exact ⟨rfl, hT⟩
  | succ n ih =>
    intro k X S hT hw hn hk
    have hno := hw.1
    have hm := hw.2.1
    refine sw_iload_n 3 rfl rfl dX2_takeBack_2 ?_
    refine sw_aload_n 4 rfl rfl rfl dX2_takeBack_3 ?_
    refine gf_X2_63 7 rfl hT.obj rfl rfl dX2_takeBack_4 ?_
    refine sw_iload_n 8 rfl rfl dX2_takeBack_7 ?_
    refine sw_iald 9 rfl (hT.arr 22 rfl) (by omega) (Nat.le_of_ble_eq_true rfl) dX2_takeBack_8 ?_
    refine sw_iconst 10 rfl (nI 1) rfl dX2_takeBack_9 ?_
    refine sw_isubN 11 rfl (by omega) dX2_takeBack_10 ?_
    refine sw_icmp_ge 27 14 (by decide) rfl dX2_takeBack_11 (fun c_11 => absurd c_11 (nI_ge (by omega) (by omega))) (fun c_11 => ?_)
    clear c_11
    refine sw_aload_n 15 rfl rfl rfl dX2_takeBack_14 ?_
    refine sw_iload_n 16 rfl rfl dX2_takeBack_15 ?_
    refine sw_iload_n 17 rfl rfl dX2_takeBack_16 ?_
    refine sw_iconst 18 rfl (-1) rfl dX2_takeBack_17 ?_
    refine sw_callV 21 [] rfl cs_X2_139 rfl (Nat.le_of_ble_eq_true rfl) rfl hT.obj rfl rfl (ct_oweOn hT.1 o k (by omega) (by omega) (-1) (hw.2.2.1 k (by omega)) (hw.2.2.1 (k + 1) (by omega)) (hw.2.2.2.1 k (by omega)) hw.2.2.2.2) rfl rfl (Nat.le_of_ble_eq_true rfl) dX2_takeBack_18 (fun v X hq => ?_) (fun E X hq => by obtain ⟨hv, -⟩ := hq; cases hv)
    obtain ⟨hv, hT1⟩ := hq
    cases hv
    replace hT := hT.tr hT1
    clear hT1
    refine sw_iinc 24 rfl [_, _, _, _] (nI (_ + 1)) rfl (nI_add _ 1) (Nat.le_of_ble_eq_true rfl) rfl dX2_takeBack_21 ?_
    refine sw_goto 2 (by decide) dX2_takeBack_24 ?_
    exact ih (k + 1) X _ hT (hw.c (pOweOn_N _ _ _ _)) (by rw [pOweOn_N]; omega) (by omega)
set_option maxHeartbeats 4000000 in
theorem ct_takeBackW (hR : TwR γ Mo aT X S) (o k : Nat) (hw : WyO S o) (hk : k ≤ 12) : Ev γ mX2_takeBack [.ref Mo, .int (nI o), .int (nI k)] X (fun oc X1 => oc = .inl none ∧ TwF γ Mo aT X X1 (pTB S o k)) := by
  have hT := TwF.rf hR
  refine Ev.of (lv := [_, _, _, _]) 1 ⟨by decide +kernel, rfl, (Nat.le_of_ble_eq_true rfl)⟩ rfl ?_
  refine sw_iload_n 1 rfl rfl dX2_takeBack_0 ?_
  refine sw_istore_n 2 rfl [_, _, _, _] (Nat.le_of_ble_eq_true rfl) rfl dX2_takeBack_1 ?_
  exact lp_takeBackW _ k X S hT hw rfl hk

set_option maxHeartbeats 4000000 in
theorem ct_goBackW (hR : TwR γ Mo aT X S) (o : Nat) (hw : WyO S o) : Ev γ mX2_goBack [.ref Mo, .int (nI o)] X (fun oc X1 => oc = .inl none ∧ TwF γ Mo aT X X1 (pGoBack S o)) := by
  have hT := TwF.rf hR
  refine Ev.of (lv := [_, _]) 0 ⟨by decide +kernel, rfl, (Nat.le_of_ble_eq_true rfl)⟩ rfl ?_
  have hno := hw.1
  have hm := hw.2.1
  have hf := hw.2.2.1 0 (by omega)
  rw [Nat.add_zero] at hf
  refine sw_aload_n 1 rfl rfl rfl dX2_goBack_0 ?_
  refine sw_iload_n 2 rfl rfl dX2_goBack_1 ?_
  refine sw_iconst 3 rfl (nI 0) rfl dX2_goBack_2 ?_
  refine sw_callV 6 [] rfl cs_X2_162 rfl (Nat.le_of_ble_eq_true rfl) rfl hT.obj rfl rfl (ct_takeBackW hT.1 o 0 hw (by omega)) rfl rfl (Nat.le_of_ble_eq_true rfl) dX2_goBack_3 (fun v X hq => ?_) (fun E X hq => by obtain ⟨hv, -⟩ := hq; cases hv)
  obtain ⟨hv, hT1⟩ := hq
  cases hv
  replace hT := hT.tr hT1
  clear hT1
  refine sw_aload_n 7 rfl rfl rfl dX2_goBack_6 ?_
  refine gf_X2_42 10 rfl hT.obj rfl rfl dX2_goBack_7 ?_
  refine sw_iload_n 11 rfl rfl dX2_goBack_10 ?_
  refine sw_aload_n 12 rfl rfl rfl dX2_goBack_11 ?_
  refine gf_X2_20 15 rfl hT.obj rfl rfl dX2_goBack_12 ?_
  refine sw_aload_n 16 rfl rfl rfl dX2_goBack_15 ?_
  refine sw_iload_n 17 rfl rfl dX2_goBack_16 ?_
  refine sw_callV 20 [_, _, _] rfl cs_X2_166 rfl (Nat.le_of_ble_eq_true rfl) rfl hT.obj rfl rfl (ct_firstOf hT.1 o (by omega)) rfl rfl (Nat.le_of_ble_eq_true rfl) dX2_goBack_17 (fun v X hq => ?_) (fun E X hq => by obtain ⟨hv, -⟩ := hq; cases hv)
  obtain ⟨hv, hT1⟩ := hq
  cases hv
  replace hT := hT.tr hT1
  clear hT1
  rw [pTB_N]
  refine sw_iald 21 rfl (hT.arr 7 rfl) hf (Nat.le_of_ble_eq_true rfl) dX2_goBack_20 ?_
  try simp only [sI_N, sI_L, sN_I, sN_L, sL_N, sL_I, sN_t, sI_t, sL_t, pOwe_N, pOwe_I, pOweBoth_N, pOweBoth_I, pTB_N, pTB_I, pGoBack_N, pOweOn_N, pOweOn_I, reduceIte, Nat.reduceEqDiff]
  refine sw_iconst 22 rfl (nI 2) rfl dX2_goBack_21 ?_
  refine sw_icmp_ne 29 25 (by decide) rfl dX2_goBack_22 (fun c_22 => ?_) (fun c_22 => ?_)
  · refine sw_iconst 30 rfl (nI 3) rfl dX2_goBack_29 ?_
    refine sw_iast 31 rfl (hT.arr 15 rfl) (by omega) (Nat.le_of_ble_eq_true rfl) dX2_goBack_30 (fun X hX => ?_)
    replace hT := hT.p15 hX
    clear hX
    refine sw_vret rfl dX2_goBack_31 ?_
    exact ⟨rfl, hT.st (by rw [pGoBack, if_neg c_22])⟩
  · refine sw_iconst 26 rfl (nI 5) rfl dX2_goBack_25 ?_
    refine sw_goto 30 (by decide) dX2_goBack_26 ?_
    refine sw_iast 31 rfl (hT.arr 15 rfl) (by omega) (Nat.le_of_ble_eq_true rfl) dX2_goBack_30 (fun X hX => ?_)
    replace hT := hT.p15 hX
    clear hX
    refine sw_vret rfl dX2_goBack_31 ?_
    exact ⟨rfl, hT.st (by rw [pGoBack, if_pos c_22])⟩

set_option maxHeartbeats 4000000 in
theorem lp_lay1 {o f N : Nat} {Q : Ot → Sh → Prop} : ∀ (n k : Nat) (X : Sh) (T : TS), TwF γ Mo aT X0 X T → LyO T o f N → k + n = N → (∀ X1, TwF γ Mo aT X0 X1 (rep n k (pLay1 o f) T) → SW γ mX2_lay X0 X1 45 [some (.ref Mo), some (.int (nI o)), some (.int (nI f)), some (.int (nI N)), none] [] Q) → SW γ mX2_lay X0 X 12 [some (.ref Mo), some (.int (nI o)), some (.int (nI f)), some (.int (nI N)), some (.int (nI k))] [] Q := by
  intro n
  induction n with
  | zero =>
    intro k X T hT hL hn hex
    have hm := hL.2.1
    have ho := hL.1
    refine sw_iload 14 rfl rfl dX2_lay_12 ?_
    refine sw_iload_n 15 rfl rfl dX2_lay_14 ?_
    refine sw_icmp_ge 45 18 (by decide) rfl dX2_lay_15 (fun c_15 => ?_) (fun c_15 => absurd (nI_le (by omega) (by omega)) c_15)
    clear c_15
    refine sw_fgt (lvle_c (lvle_c (lvle_c (lvle_c (lvle_n lvle_nil))))) ?_
    exact hex X hT
  | succ n ih =>
    intro k X T hT hL hn hex
    have hm := hL.2.1
    have ho := hL.1
    refine sw_iload 14 rfl rfl dX2_lay_12 ?_
    refine sw_iload_n 15 rfl rfl dX2_lay_14 ?_
    refine sw_icmp_ge 45 18 (by decide) rfl dX2_lay_15 (fun c_15 => absurd c_15 (nI_ge (by omega) (by omega))) (fun c_15 => ?_)
    clear c_15
    refine sw_aload_n 19 rfl rfl rfl dX2_lay_18 ?_
    refine gf_X2_66 22 rfl hT.obj rfl rfl dX2_lay_19 ?_
    refine sw_bipush 24 rfl (nI 12) rfl dX2_lay_22 ?_
    refine sw_iload_n 25 rfl rfl dX2_lay_24 ?_
    refine sw_imulN 26 rfl dX2_lay_25 ?_
    refine sw_iload_n 27 rfl rfl dX2_lay_26 ?_
    refine sw_iaddN 28 rfl dX2_lay_27 ?_
    refine sw_iload 30 rfl rfl dX2_lay_28 ?_
    refine sw_iaddN 31 rfl dX2_lay_30 ?_
    refine sw_aload_n 32 rfl rfl rfl dX2_lay_31 ?_
    refine gf_X2_106 35 rfl hT.obj rfl rfl dX2_lay_32 ?_
    refine sw_iload 37 rfl rfl dX2_lay_35 ?_
    refine sw_iald 38 rfl (hT.arr 37 rfl) (by omega) (Nat.le_of_ble_eq_true rfl) dX2_lay_37 ?_
    refine sw_iast 39 rfl (hT.arr 23 rfl) (by omega) (Nat.le_of_ble_eq_true rfl) dX2_lay_38 (fun X hX => ?_)
    replace hT := hT.p23 hX
    clear hX
    refine sw_iinc 42 rfl [_, _, _, _, _] (nI (_ + 1)) rfl (nI_add _ 1) (Nat.le_of_ble_eq_true rfl) rfl dX2_lay_39 ?_
    refine sw_goto 12 (by decide) dX2_lay_42 ?_
    exact ih (k + 1) X (pLay1 o f k T) hT (hL.c (fun j a b c => sN_o _ _ _ b)) (by omega) hex
set_option maxHeartbeats 4000000 in
theorem lp_lay2 {o f N : Nat} {Q : Ot → Sh → Prop} : ∀ (n k : Nat) (X : Sh) (T : TS), TwF γ Mo aT X0 X T → LyO T o f N → (∀ k, k < N → T.1 23 (12 * o + f + k) < 12) → k + n = N - 1 → (∀ X1, TwF γ Mo aT X0 X1 (rep n k (pLay2 o f) T) → SW γ mX2_lay X0 X1 109 [some (.ref Mo), some (.int (nI o)), some (.int (nI f)), some (.int (nI N)), none] [] Q) → SW γ mX2_lay X0 X 48 [some (.ref Mo), some (.int (nI o)), some (.int (nI f)), some (.int (nI N)), some (.int (nI k))] [] Q := by
  intro n
  induction n with
  | zero =>
    intro k X T hT hL hW hn hex
    have hm := hL.2.1
    have ho := hL.1
    have hN := hL.2.2.1
    have ham := hL.2.2.2.1
    have hat := hL.2.2.2.2.1
    have hfd := hL.2.2.2.2.2
    refine sw_iload 50 rfl rfl dX2_lay_48 ?_
    refine sw_iload_n 51 rfl rfl dX2_lay_50 ?_
    refine sw_iconst 52 rfl (nI 1) rfl dX2_lay_51 ?_
    refine sw_isubN 53 rfl (by omega) dX2_lay_52 ?_
    refine sw_icmp_ge 109 56 (by decide) rfl dX2_lay_53 (fun c_53 => ?_) (fun c_53 => absurd (nI_le (by omega) (by omega)) c_53)
    clear c_53
    refine sw_fgt (lvle_c (lvle_c (lvle_c (lvle_c (lvle_n lvle_nil))))) ?_
    exact hex X hT
  | succ n ih =>
    intro k X T hT hL hW hn hex
    have hm := hL.2.1
    have ho := hL.1
    have hN := hL.2.2.1
    have ham := hL.2.2.2.1
    have hat := hL.2.2.2.2.1
    have hfd := hL.2.2.2.2.2
    refine sw_iload 50 rfl rfl dX2_lay_48 ?_
    refine sw_iload_n 51 rfl rfl dX2_lay_50 ?_
    refine sw_iconst 52 rfl (nI 1) rfl dX2_lay_51 ?_
    refine sw_isubN 53 rfl (by omega) dX2_lay_52 ?_
    refine sw_icmp_ge 109 56 (by decide) rfl dX2_lay_53 (fun c_53 => absurd c_53 (nI_ge (by omega) (by omega))) (fun c_53 => ?_)
    clear c_53
    have hf1 := hfd (k + 1) (by omega)
    have hw1 := hW k (by omega)
    have hw2 := hW (k + 1) (by omega)
    refine sw_aload_n 57 rfl rfl rfl dX2_lay_56 ?_
    refine gf_X2_69 60 rfl hT.obj rfl rfl dX2_lay_57 ?_
    refine sw_bipush 62 rfl (nI 12) rfl dX2_lay_60 ?_
    refine sw_iload_n 63 rfl rfl dX2_lay_62 ?_
    refine sw_imulN 64 rfl dX2_lay_63 ?_
    refine sw_iload_n 65 rfl rfl dX2_lay_64 ?_
    refine sw_iaddN 66 rfl dX2_lay_65 ?_
    refine sw_iload 68 rfl rfl dX2_lay_66 ?_
    refine sw_iaddN 69 rfl dX2_lay_68 ?_
    refine sw_aload_n 70 rfl rfl rfl dX2_lay_69 ?_
    refine gf_X2_45 73 rfl hT.obj rfl rfl dX2_lay_70 ?_
    refine sw_iload_n 74 rfl rfl dX2_lay_73 ?_
    refine sw_iald 75 rfl (hT.arr 16 rfl) (by omega) (Nat.le_of_ble_eq_true rfl) dX2_lay_74 ?_
    refine sw_i2l 76 rfl dX2_lay_75 ?_
    refine sw_topL (nI_l (by omega)) ?_
    refine sw_aload_n 77 rfl rfl rfl dX2_lay_76 ?_
    refine gf_X2_100 80 rfl hT.obj rfl rfl dX2_lay_77 ?_
    refine sw_aload_n 81 rfl rfl rfl dX2_lay_80 ?_
    refine gf_X2_106 84 rfl hT.obj rfl rfl dX2_lay_81 ?_
    refine sw_iload 86 rfl rfl dX2_lay_84 ?_
    refine sw_iconst 87 rfl (nI 1) rfl dX2_lay_86 ?_
    refine sw_iaddN 88 rfl dX2_lay_87 ?_
    refine sw_iald 89 rfl (hT.arr 37 rfl) (by omega) (Nat.le_of_ble_eq_true rfl) dX2_lay_88 ?_
    refine sw_lald 90 rfl (hT.arr 35 rfl) hf1.1 (Nat.le_of_ble_eq_true rfl) dX2_lay_89 ?_
    refine sw_ladd 91 rfl dX2_lay_90 ?_
    refine sw_topL (lN_add _ _) ?_
    refine sw_l2i 92 rfl dX2_lay_91 ?_
    refine sw_topI (lN_i _) ?_
    refine sw_iast 93 rfl (hT.arr 24 rfl) (by omega) (Nat.le_of_ble_eq_true rfl) dX2_lay_92 (fun X hX => ?_)
    replace hT := hT.p24 hX
    clear hX
    refine sw_aload_n 94 rfl rfl rfl dX2_lay_93 ?_
    refine sw_iload_n 95 rfl rfl dX2_lay_94 ?_
    refine sw_iload_n 96 rfl rfl dX2_lay_95 ?_
    refine sw_iload 98 rfl rfl dX2_lay_96 ?_
    refine sw_iaddN 99 rfl dX2_lay_98 ?_
    refine sw_iconst 100 rfl (nI 1) rfl dX2_lay_99 ?_
    refine sw_callV 103 [] rfl cs_X2_139 rfl (Nat.le_of_ble_eq_true rfl) rfl hT.obj rfl rfl (ct_oweOn hT.1 o (f + k) (by omega) (by omega) (nI 1) (by rw [show 12 * o + (f + k) = 12 * o + f + k by omega]; exact hw1) (by rw [show 12 * o + (f + k) + 1 = 12 * o + f + (k + 1) by omega]; exact hw2) (by rw [show 12 * o + (f + k) = 12 * o + f + k by omega, sN_eq]; omega) hat) rfl rfl (Nat.le_of_ble_eq_true rfl) dX2_lay_100 (fun v X hq => ?_) (fun E X hq => by obtain ⟨hv, -⟩ := hq; cases hv)
    obtain ⟨hv, hT1⟩ := hq
    cases hv
    replace hT := hT.tr hT1
    clear hT1
    refine sw_iinc 106 rfl [_, _, _, _, _] (nI (_ + 1)) rfl (nI_add _ 1) (Nat.le_of_ble_eq_true rfl) rfl dX2_lay_103 ?_
    refine sw_goto 48 (by decide) dX2_lay_106 ?_
    exact ih (k + 1) X (pLay2 o f k T) hT (hL.c (fun j a b c => pLay2_c _ _ _ _ j c)) (by rw [pLay2_c _ _ _ _ 23 (by omega)]; exact hW) (by omega) hex
set_option maxHeartbeats 4000000 in
theorem ct_lay (hR : TwR γ Mo aT X S) (o f N : Nat) (hL : LyO S o f N) : Ev γ mX2_lay [.ref Mo, .int (nI o), .int (nI f), .int (nI N)] X (fun oc X1 => oc = .inl none ∧ TwF γ Mo aT X X1 (pLay S o f N)) := by
  have hT := TwF.rf hR
  have ho := hL.1
  have hm := hL.2.1
  have hN := hL.2.2.1
  refine Ev.of (lv := [_, _, _, _, _]) 1 ⟨by decide +kernel, rfl, (Nat.le_of_ble_eq_true rfl)⟩ rfl ?_
  refine sw_aload_n 1 rfl rfl rfl dX2_lay_0 ?_
  refine gf_X2_63 4 rfl hT.obj rfl rfl dX2_lay_1 ?_
  refine sw_iload_n 5 rfl rfl dX2_lay_4 ?_
  refine sw_iload_n 6 rfl rfl dX2_lay_5 ?_
  refine sw_iload_n 7 rfl rfl dX2_lay_6 ?_
  refine sw_iaddN 8 rfl dX2_lay_7 ?_
  refine sw_iast 9 rfl (hT.arr 22 rfl) (by omega) (Nat.le_of_ble_eq_true rfl) dX2_lay_8 (fun X hX => ?_)
  replace hT := hT.p22 hX
  clear hX
  refine sw_iconst 10 rfl (nI 0) rfl dX2_lay_9 ?_
  refine sw_istore 12 rfl [_, _, _, _, _] (Nat.le_of_ble_eq_true rfl) rfl dX2_lay_10 ?_
  refine lp_lay1 N 0 X _ hT (hL.c (fun j a b c => sN_o _ _ _ a)) (Nat.zero_add _) (fun X hT => ?_)
  refine sw_iconst 46 rfl (nI 0) rfl dX2_lay_45 ?_
  refine sw_istore 48 rfl [_, _, _, _, _] (Nat.le_of_ble_eq_true rfl) rfl dX2_lay_46 ?_
  obtain ⟨g1, g2, g3⟩ := lay1_v (o := o) (f := f) N 0 (S.sN 22 o (f + N))
  refine lp_lay2 (N - 1) 0 X _ hT (hL.c (fun j a b c => (g1 j b).trans (sN_o _ _ _ a))) (fun k hk => ?_) (Nat.zero_add _) (fun X hT => ?_)
  · rw [g3, if_pos (by omega), sN_o _ _ _ (show (37 : Nat) ≠ 22 by omega)]
    exact (hL.2.2.2.2.2 _ (by omega)).1
  refine sw_vret rfl dX2_lay_109 ?_
  exact ⟨rfl, hT⟩

end T8
