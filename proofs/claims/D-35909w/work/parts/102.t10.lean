/-! the reference's orders and blows, the calls: written by prog/gen_t10.py -/
theorem WF.fail {T : TS} {K B b o : Nat} (h : WF K T) (hO : OW B T) (hB : B + 192000000 ≤ 2 ^ 60) (ho : o < T.1 14 0) : WF K (pFail b o T) ∧ OW (B + 600000000) (pFail b o T) ∧ (pFail b o T).1 14 = T.1 14 ∧ (pFail b o T).1 3 = T.1 3 := by
  unfold pFail
  by_cases q : T.2.1 15 o = 0 ∧ nI (T.1 21 o) < pPlace T o b (T.1 22 o)
  · rw [cif_t q]; exact h.els hO hB ho q.1
  · rw [cif_f q]; exact ⟨h, hO.up (by omega), rfl, rfl⟩
theorem WF.fails {T : TS} {K B b : Nat} (h : WF K T) (hO : OW B T) (hB : B + 25000000000 ≤ 2 ^ 60) : WF K (pFails b T) ∧ OW (B + 24000000000) (pFails b T) ∧ (pFails b T).1 14 = T.1 14 ∧ (pFails b T).1 3 = T.1 3 := by
  have hno := h.no
  have := rep_inv2 (P := fun i U => WF K U ∧ OW (B + 600000000 * i) U ∧ U.1 14 = T.1 14 ∧ U.1 3 = T.1 3) (f := pFail b) (T.1 14 0) 0 T ⟨h, hO.up (by omega), rfl, rfl⟩ (fun i U h1 h2 h3 => by
    obtain ⟨a1, a2, a3, a4⟩ := h3
    obtain ⟨b1, b2, b3, b4⟩ := a1.fail (b := b) (o := i) a2 (by omega) (by rw [a3]; omega)
    exact ⟨b1, b2.up (by omega), b3.trans a3, b4.trans a4⟩)
  exact ⟨this.1, this.2.1.up (by omega), this.2.2⟩
theorem WF.sState {S : TS} {K : Nat} (h : WF K S) (b q : Nat) (hq : q < 3) : WF K (S.sI 7 b (nI q)) := by
  refine ⟨h.1, fun b' hb => ?_, h.2.2.1, fun o' ho => wOrd_g rfl (h.2.2.2.1 o' ho), h.2.2.2.2.1, h.2.2.2.2.2.1, h.2.2.2.2.2.2⟩
  obtain ⟨a1, a2, a3, a4, a5⟩ := h.2.1 b' hb
  refine ⟨a1, a2, a3, ?_, cashp_c (S := S) a5 (Nat.le_refl _) rfl (fun c _ => ⟨rfl, rfl, rfl⟩)⟩
  by_cases e : b' = b
  · subst e
    rw [sI_eq]
    exact ⟨q, hq, rfl⟩
  · rw [sI_ne _ _ _ e]; exact a4
theorem WF.sUntil {S : TS} {K : Nat} (h : WF K S) (b v : Nat) (hv : v ≤ 50000) : WF K (S.sN 8 b v) := by
  refine ⟨h.1, fun b' hb => ?_, h.2.2.1, fun o' ho => h.2.2.2.1 o' ho, h.2.2.2.2.1, h.2.2.2.2.2.1, h.2.2.2.2.2.2⟩
  obtain ⟨a1, a2, a3, a4, a5⟩ := h.2.1 b' hb
  refine ⟨a1, a2, ?_, a4, cashp_c (S := S) a5 (Nat.le_refl _) rfl (fun c _ => ⟨rfl, rfl, rfl⟩)⟩
  by_cases e : b' = b
  · subst e
    rw [sN_eq]; exact hv
  · rw [sN_ne _ _ _ e]; exact a3
theorem bit01_s {S : TS} {k i : Nat} {v : Int32} (hv : bit01 v) {j : Nat} (h : bit01 (S.2.1 k j)) : bit01 ((S.sI k i v).2.1 k j) := by
  by_cases e : j = i
  · subst e; rw [sI_eq]; exact hv
  · rw [sI_ne _ _ _ e]; exact h
theorem WF.sRd {S : TS} {K : Nat} (h : WF K S) (b : Nat) : WF K (S.sI 9 b (nI 1)) := by
  refine ⟨h.1, fun b' hb => ?_, h.2.2.1, fun o' ho => wOrd_g rfl (h.2.2.2.1 o' ho), h.2.2.2.2.1, h.2.2.2.2.2.1, fun i => ⟨bit01_s (Or.inr rfl) (h.bits i).1, (h.bits i).2⟩⟩
  obtain ⟨a1, a2, a3, a4, a5⟩ := h.2.1 b' hb
  exact ⟨a1, a2, a3, a4, cashp_c (S := S) a5 (Nat.le_refl _) rfl (fun c _ => ⟨rfl, rfl, rfl⟩)⟩
theorem WF.raid {S : TS} {K : Nat} (h : WF K S) (b : Nat) : WF K (pRaid S b) := by
  have hh := h.hr
  have h1 : WF K (((tk S 0).sN 5 b 0).sL 34 4 (S.2.2 34 4 + lN (S.1 5 b))) := ((h.thrown _).cashLe (Nat.zero_le _)).long rfl rfl
  exact ((h1.sState b 1 (by omega)).sUntil b _ (by omega)).sRd b
theorem WF.brk {S : TS} {K B b o : Nat} (h : WF K S) (hO : OW B S) (hB : B + 192000000 ≤ 2 ^ 60) (ho : o < S.1 14 0) : WF K (pBrk b o S) ∧ OW (B + 192000000) (pBrk b o S) ∧ ∀ j, j ≠ 99 → (pBrk b o S).1 j = S.1 j := by
  unfold pBrk
  by_cases q : S.1 23 (12 * o) = b ∧ (S.2.1 15 o = 0 ∨ S.2.1 15 o = nI 3)
  · rw [cif_t q]
    have hm := h.many ho
    by_cases z : S.2.1 15 o = 0
    · rw [if_pos z]
      have h1 : WF K (pTB S o 0) := h.long (pTB_N _ _ _) (pTB_I _ _ _)
      refine ⟨(h1.sHow (o := o) 5 (by omega) (by omega) (by omega) (by omega)).eq99 (eq99.sN _ _), (hO.tb (by omega) o 0 hm.2.1 (fun j hj => (h.aro ho hj).2)).eq rfl, fun j hj => ?_⟩
      rw [sN_o _ _ _ hj, sI_N, pTB_N]
    · rw [if_neg z]
      exact ⟨(h.sHow (o := o) 5 (by omega) (by omega) (by omega) (by omega)).eq99 (eq99.sN _ _), hO.up (by omega), fun j hj => sN_o _ _ _ hj⟩
  · rw [cif_f q]; exact ⟨h, hO.up (by omega), fun _ _ => rfl⟩
set_option maxRecDepth 100000
section T10
variable {γ : Gm} {Mo : Nat} {aT : Nat → Nat} {X X0 : Sh} {S : TS} {K B : Nat}
set_option maxHeartbeats 4000000 in
theorem lp_fails {b : Nat} (hb : b < 12) (hB : B + 25000000000 ≤ 2 ^ 60) {Q : Ot → Sh → Prop} : ∀ (n k : Nat) (X : Sh) (T : TS), TwF γ Mo aT X0 X T → WF K T → OW (B + 600000000 * k) T → k + n ≤ 40 → k + n = T.1 14 0 → (∀ X1, TwF γ Mo aT X0 X1 (rep n k (pFail b) T) → SW γ mX2_failsFor X0 X1 45 [some (.ref Mo), some (.int (nI b)), none] [] Q) → SW γ mX2_failsFor X0 X 2 [some (.ref Mo), some (.int (nI b)), some (.int (nI k))] [] Q := by
  intro n
  induction n with
  | zero =>
    intro k X T hT hw hO hno hn hex
    refine sw_iload_n 3 rfl rfl dX2_failsFor_2 ?_
    refine sw_aload_n 4 rfl rfl rfl dX2_failsFor_3 ?_
    refine gf_X2_181 7 rfl hT.obj rfl rfl dX2_failsFor_4 ?_
    refine sw_icmp_ge 45 10 (by decide) rfl dX2_failsFor_7 (fun c_7 => ?_) (fun c_7 => absurd (nI_le (by omega) (by omega)) c_7)
    clear c_7
    refine sw_fgt (lvle_c (lvle_c (lvle_n lvle_nil))) ?_
    exact hex X hT
  | succ n ih =>
    intro k X T hT hw hO hno hn hex
    refine sw_iload_n 3 rfl rfl dX2_failsFor_2 ?_
    refine sw_aload_n 4 rfl rfl rfl dX2_failsFor_3 ?_
    refine gf_X2_181 7 rfl hT.obj rfl rfl dX2_failsFor_4 ?_
    refine sw_icmp_ge 45 10 (by decide) rfl dX2_failsFor_7 (fun c_7 => absurd c_7 (nI_ge (by omega) (by omega))) (fun c_7 => ?_)
    clear c_7
    refine sw_aload_n 11 rfl rfl rfl dX2_failsFor_10 ?_
    refine gf_X2_42 14 rfl hT.obj rfl rfl dX2_failsFor_11 ?_
    refine sw_iload_n 15 rfl rfl dX2_failsFor_14 ?_
    refine sw_iald 16 rfl (hT.arr 15 rfl) (by omega) (Nat.le_of_ble_eq_true rfl) dX2_failsFor_15 ?_
    refine sw_if_ne 39 19 (by decide) rfl dX2_failsFor_16 (fun c_16 => ?_) (fun c_16 => ?_)
    · refine sw_iinc 42 rfl [_, _, _] (nI (_ + 1)) rfl (nI_add _ 1) (Nat.le_of_ble_eq_true rfl) rfl dX2_failsFor_39 ?_
      refine sw_goto 2 (by decide) dX2_failsFor_42 ?_
      have e8 : pFail b k T = T := cif_f (fun q => c_16 q.1)
      have hs := hw.fail (b := b) (o := k) hO (by omega) (by omega)
      exact ih (k + 1) X (pFail b k T) (by rw [e8]; exact hT) hs.1 (hs.2.1.up (by omega)) (by omega) (by rw [hs.2.2.1]; omega) hex
    · refine sw_aload_n 20 rfl rfl rfl dX2_failsFor_19 ?_
      refine sw_iload_n 21 rfl rfl dX2_failsFor_20 ?_
      refine sw_iload_n 22 rfl rfl dX2_failsFor_21 ?_
      have hmk := hw.many (show k < T.1 14 0 by omega)
      refine sw_callV 25 [] rfl cs_X2_184 rfl (Nat.le_of_ble_eq_true rfl) rfl hT.obj rfl rfl (ct_placeOn hT.1 hw k b (by omega) hb) rfl rfl (Nat.le_of_ble_eq_true rfl) dX2_failsFor_22 (fun v X hq => ?_) (fun E X hq => by obtain ⟨hv, -⟩ := hq; cases hv)
      obtain ⟨hv, hT1⟩ := hq
      cases hv
      replace hT := hT.tr hT1
      clear hT1
      refine sw_aload_n 26 rfl rfl rfl dX2_failsFor_25 ?_
      refine gf_X2_60 29 rfl hT.obj rfl rfl dX2_failsFor_26 ?_
      refine sw_iload_n 30 rfl rfl dX2_failsFor_29 ?_
      refine sw_iald 31 rfl (hT.arr 21 rfl) (by omega) (Nat.le_of_ble_eq_true rfl) dX2_failsFor_30 ?_
      refine sw_icmp_le 39 34 (by decide) rfl dX2_failsFor_31 (fun c_31 => ?_) (fun c_31 => ?_)
      · refine sw_iinc 42 rfl [_, _, _] (nI (_ + 1)) rfl (nI_add _ 1) (Nat.le_of_ble_eq_true rfl) rfl dX2_failsFor_39 ?_
        refine sw_goto 2 (by decide) dX2_failsFor_42 ?_
        have e8 : pFail b k T = T := cif_f (fun q => absurd q.2 (Int32.not_lt.mpr c_31))
        have hs := hw.fail (b := b) (o := k) hO (by omega) (by omega)
        exact ih (k + 1) X (pFail b k T) (by rw [e8]; exact hT) hs.1 (hs.2.1.up (by omega)) (by omega) (by rw [hs.2.2.1]; omega) hex
      · refine sw_aload_n 35 rfl rfl rfl dX2_failsFor_34 ?_
        refine sw_iload_n 36 rfl rfl dX2_failsFor_35 ?_
        refine sw_callV 39 [] rfl cs_X2_188 rfl (Nat.le_of_ble_eq_true rfl) rfl hT.obj rfl rfl (ct_goElsewhere hT.1 hw hO (by omega) k (by omega) c_16) rfl rfl (Nat.le_of_ble_eq_true rfl) dX2_failsFor_36 (fun v X hq => ?_) (fun E X hq => by obtain ⟨hv, -⟩ := hq; cases hv)
        obtain ⟨hv, hT1⟩ := hq
        cases hv
        replace hT := hT.tr hT1
        clear hT1
        refine sw_iinc 42 rfl [_, _, _] (nI (_ + 1)) rfl (nI_add _ 1) (Nat.le_of_ble_eq_true rfl) rfl dX2_failsFor_39 ?_
        refine sw_goto 2 (by decide) dX2_failsFor_42 ?_
        have e8 : pFail b k T = pElse k T := cif_t ⟨c_16, Int32.not_le.mp c_31⟩
        have hs := hw.fail (b := b) (o := k) hO (by omega) (by omega)
        exact ih (k + 1) X (pFail b k T) (by rw [e8]; exact hT) hs.1 (hs.2.1.up (by omega)) (by omega) (by rw [hs.2.2.1]; omega) hex
set_option maxHeartbeats 4000000 in
theorem ct_failsFor (hR : TwR γ Mo aT X S) (hw : WF K S) (hO : OW B S) (hB : B + 25000000000 ≤ 2 ^ 60) (b : Nat) (hb : b < 12) : Ev γ mX2_failsFor [.ref Mo, .int (nI b)] X (fun oc X1 => oc = .inl none ∧ TwF γ Mo aT X X1 (pFails b S)) := by
  have hT := TwF.rf hR
  have hno := hw.no
  refine Ev.of (lv := [_, _, _]) 1 ⟨by decide +kernel, rfl, (Nat.le_of_ble_eq_true rfl)⟩ rfl ?_
  refine sw_iconst 1 rfl (nI 0) rfl dX2_failsFor_0 ?_
  refine sw_istore_n 2 rfl [_, _, _] (Nat.le_of_ble_eq_true rfl) rfl dX2_failsFor_1 ?_
  refine lp_fails hb hB (S.1 14 0) 0 X S hT hw (hO.up (by omega)) (by omega) (Nat.zero_add _) (fun X hT => ?_)
  refine sw_vret rfl dX2_failsFor_45 ?_
  exact ⟨rfl, hT⟩

set_option maxHeartbeats 4000000 in
theorem ct_raid (hR : TwR γ Mo aT X S) (hw : WF K S) (hK : K < 2 ^ 31) (hO : OW B S) (hB : B + 25000000000 ≤ 2 ^ 60) (b : Int32) : Ev γ mX2_raid [.ref Mo, .int b] X (fun oc X1 => oc = .inl (some (.int (rRaid S b))) ∧ TwF γ Mo aT X X1 (sRaid S b)) := by
  have hT := TwF.rf hR
  have hnb := hw.nb
  have hno := hw.no
  have hnc := hw.nc
  have hhr := hw.hr
  refine Ev.of (lv := [_, _, _, _]) 2 ⟨by decide +kernel, rfl, (Nat.le_of_ble_eq_true rfl)⟩ rfl ?_
  refine sw_aload_n 1 rfl rfl rfl dX2_raid_0 ?_
  refine sw_iload_n 2 rfl rfl dX2_raid_1 ?_
  refine sw_callV 5 [] rfl cs_X2_120 rfl (Nat.le_of_ble_eq_true rfl) rfl hT.obj rfl rfl (ct_isBroker hT.1 (by omega) _) rfl rfl (Nat.le_of_ble_eq_true rfl) dX2_raid_2 (fun v X hq => ?_) (fun E X hq => by obtain ⟨hv, -⟩ := hq; cases hv)
  obtain ⟨hv, hT1⟩ := hq
  cases hv
  replace hT := hT.tr hT1
  clear hT1
  refine sw_istore_n 6 rfl [_, _, _, _] (Nat.le_of_ble_eq_true rfl) rfl dX2_raid_5 ?_
  refine sw_aload_n 7 rfl rfl rfl dX2_raid_6 ?_
  refine sw_iload_n 8 rfl rfl dX2_raid_7 ?_
  refine sw_if_ne 15 11 (by decide) rfl dX2_raid_8 (fun c_8 => ?_) (fun c_8 => ?_)
  · rw [b2_n] at c_8
    have e_8 := c_8
    obtain ⟨i, hi, rfl⟩ := c_8
    have xi : ix (nI i) = i := ix_nI (by omega)
    refine sw_aload_n 16 rfl rfl rfl dX2_raid_15 ?_
    refine gf_X2_20 19 rfl hT.obj rfl rfl dX2_raid_16 ?_
    refine sw_iload_n 20 rfl rfl dX2_raid_19 ?_
    refine sw_iald 21 rfl (hT.arr 7 rfl) (by omega) (Nat.le_of_ble_eq_true rfl) dX2_raid_20 ?_
    refine sw_if_eq 28 24 (by decide) rfl dX2_raid_21 (fun c_21 => ?_) (fun c_21 => ?_)
    · refine sw_iconst 29 rfl (nI 0) rfl dX2_raid_28 ?_
      refine sw_callV 32 [] rfl cs_X2_124 rfl (Nat.le_of_ble_eq_true rfl) rfl hT.obj rfl rfl (ct_goesWell0 hT.1) rfl rfl (Nat.le_of_ble_eq_true rfl) dX2_raid_29 (fun v X hq => ?_) (fun E X hq => by obtain ⟨hv, -⟩ := hq; cases hv)
      obtain ⟨hv, hT1⟩ := hq
      cases hv
      replace hT := hT.tr hT1
      clear hT1
      refine sw_if_ne 37 35 (by decide) rfl dX2_raid_32 (fun c_32 => ?_) (fun c_32 => absurd c_32 (by decide))
      clear c_32
      refine sw_aload_n 38 rfl rfl rfl dX2_raid_37 ?_
      refine gf_X2_13 41 rfl hT.obj rfl rfl dX2_raid_38 ?_
      refine sw_iload_n 42 rfl rfl dX2_raid_41 ?_
      refine sw_lald 43 rfl (hT.arr 5 rfl) (by omega) (Nat.le_of_ble_eq_true rfl) dX2_raid_42 ?_
      try simp only [sI_N, sI_L, sN_I, sN_L, sL_N, sL_I, sN_t, sI_t, sL_t, pOwe_N, pOwe_I, pOweBoth_N, pOweBoth_I, pTB_N, pTB_I, pGoBack_N, pOweOn_N, pOweOn_I, reduceIte, Nat.reduceEqDiff]
      have hci := hw.cash (show i < 12 by omega)
      refine sw_l2i 44 rfl dX2_raid_43 ?_
      refine sw_topI (lN_i _) ?_
      refine sw_istore_n 45 rfl [_, _, _, _] (Nat.le_of_ble_eq_true rfl) rfl dX2_raid_44 ?_
      refine sw_aload_n 46 rfl rfl rfl dX2_raid_45 ?_
      refine gf_X2_13 49 rfl hT.obj rfl rfl dX2_raid_46 ?_
      refine sw_iload_n 50 rfl rfl dX2_raid_49 ?_
      refine sw_lconst 51 rfl 0 rfl dX2_raid_50 ?_
      refine sw_last 52 rfl (hT.arr 5 rfl) (by omega) (Nat.le_of_ble_eq_true rfl) dX2_raid_51 (fun X hX => ?_)
      replace hT := hT.p5 hX
      clear hX
      refine sw_aload_n 53 rfl rfl rfl dX2_raid_52 ?_
      refine gf_X2_97 56 rfl hT.obj rfl rfl dX2_raid_53 ?_
      refine sw_iconst 57 rfl (nI 4) rfl dX2_raid_56 ?_
      refine sw_dup2 58 rfl rfl rfl dX2_raid_57 ?_
      refine sw_lald 59 rfl (hT.arr 34 rfl) (by omega) (Nat.le_of_ble_eq_true rfl) dX2_raid_58 ?_
      try simp only [sI_N, sI_L, sN_I, sN_L, sL_N, sL_I, sN_t, sI_t, sL_t, pOwe_N, pOwe_I, pOweBoth_N, pOweBoth_I, pTB_N, pTB_I, pGoBack_N, pOweOn_N, pOweOn_I, reduceIte, Nat.reduceEqDiff]
      refine sw_iload_n 60 rfl rfl dX2_raid_59 ?_
      refine sw_i2l 61 rfl dX2_raid_60 ?_
      refine sw_topL (nI_l (by omega)) ?_
      refine sw_ladd 62 rfl dX2_raid_61 ?_
      refine sw_last 63 rfl (hT.arr 34 rfl) (by omega) (Nat.le_of_ble_eq_true rfl) dX2_raid_62 (fun X hX => ?_)
      replace hT := hT.p34 hX
      clear hX
      refine sw_aload_n 64 rfl rfl rfl dX2_raid_63 ?_
      refine gf_X2_20 67 rfl hT.obj rfl rfl dX2_raid_64 ?_
      refine sw_iload_n 68 rfl rfl dX2_raid_67 ?_
      refine sw_iconst 69 rfl (nI 1) rfl dX2_raid_68 ?_
      refine sw_iast 70 rfl (hT.arr 7 rfl) (by omega) (Nat.le_of_ble_eq_true rfl) dX2_raid_69 (fun X hX => ?_)
      replace hT := hT.p7 hX
      clear hX
      refine sw_aload_n 71 rfl rfl rfl dX2_raid_70 ?_
      refine gf_X2_23 74 rfl hT.obj rfl rfl dX2_raid_71 ?_
      refine sw_iload_n 75 rfl rfl dX2_raid_74 ?_
      refine sw_aload_n 76 rfl rfl rfl dX2_raid_75 ?_
      refine gf_X2_194 79 rfl hT.obj rfl rfl dX2_raid_76 ?_
      try simp only [sI_N, sI_L, sN_I, sN_L, sL_N, sL_I, sN_t, sI_t, sL_t, pOwe_N, pOwe_I, pOweBoth_N, pOweBoth_I, pTB_N, pTB_I, pGoBack_N, pOweOn_N, pOweOn_I, reduceIte, Nat.reduceEqDiff]
      refine sw_sipush 82 rfl (nI 720) rfl dX2_raid_79 ?_
      refine sw_iaddN 83 rfl dX2_raid_82 ?_
      refine sw_iast 84 rfl (hT.arr 8 rfl) (by omega) (Nat.le_of_ble_eq_true rfl) dX2_raid_83 (fun X hX => ?_)
      replace hT := hT.p8 hX
      clear hX
      refine sw_aload_n 85 rfl rfl rfl dX2_raid_84 ?_
      refine gf_X2_26 88 rfl hT.obj rfl rfl dX2_raid_85 ?_
      refine sw_iload_n 89 rfl rfl dX2_raid_88 ?_
      refine sw_iconst 90 rfl (nI 1) rfl dX2_raid_89 ?_
      refine sw_zast 91 rfl (hT.arr 9 rfl) rfl (by omega) (Nat.le_of_ble_eq_true rfl) dX2_raid_90 (fun X hX => ?_)
      replace hT := hT.p9 hX
      clear hX
      refine sw_aload_n 92 rfl rfl rfl dX2_raid_91 ?_
      refine sw_iload_n 93 rfl rfl dX2_raid_92 ?_
      have hwR := hw.raid i
      have hOR : OW B (pRaid S i) := hO.eq rfl
      refine sw_callV 96 [] rfl cs_X2_191 rfl (Nat.le_of_ble_eq_true rfl) rfl hT.obj rfl rfl (ct_failsFor (K := K) (B := B) (S := pRaid S i) hT.1 hwR hOR hB i (by omega)) rfl rfl (Nat.le_of_ble_eq_true rfl) dX2_raid_93 (fun v X hq => ?_) (fun E X hq => by obtain ⟨hv, -⟩ := hq; cases hv)
      obtain ⟨hv, hT1⟩ := hq
      cases hv
      replace hT := hT.tr hT1
      clear hT1
      refine sw_iload_n 97 rfl rfl dX2_raid_96 ?_
      refine sw_iret rfl rfl dX2_raid_97 ?_
      exact ⟨by simp [rRaid, kRaid, cif, e_8, xi, c_21], hT.st (by simp [sRaid, kRaid, cif, tk, e_8, xi, c_21])⟩
    · refine sw_iconst 25 rfl (nI 2) rfl dX2_raid_24 ?_
      refine sw_goto 29 (by decide) dX2_raid_25 ?_
      refine sw_callV 32 [] rfl cs_X2_124 rfl (Nat.le_of_ble_eq_true rfl) rfl hT.obj rfl rfl (ct_goesWellK hT.1 2 (by omega) (by omega)) rfl rfl (Nat.le_of_ble_eq_true rfl) dX2_raid_29 (fun v X hq => ?_) (fun E X hq => by obtain ⟨hv, -⟩ := hq; cases hv)
      obtain ⟨hv, hT1⟩ := hq
      cases hv
      replace hT := hT.tr hT1
      clear hT1
      refine sw_if_ne 37 35 (by decide) rfl dX2_raid_32 (fun c_32 => absurd (by decide) c_32) (fun c_32 => ?_)
      clear c_32
      refine sw_iconst 36 rfl (nI 0) rfl dX2_raid_35 ?_
      refine sw_iret rfl rfl dX2_raid_36 ?_
      exact ⟨by simp [rRaid, kRaid, cif, e_8, xi, c_21], hT.st (by simp [sRaid, kRaid, cif, tk, e_8, xi, c_21])⟩
  · rw [b2_0] at c_8
    have e_8 := c_8
    refine sw_iconst 12 rfl (nI 1) rfl dX2_raid_11 ?_
    refine sw_goto 29 (by decide) dX2_raid_12 ?_
    refine sw_callV 32 [] rfl cs_X2_124 rfl (Nat.le_of_ble_eq_true rfl) rfl hT.obj rfl rfl (ct_goesWellK hT.1 1 (by omega) (by omega)) rfl rfl (Nat.le_of_ble_eq_true rfl) dX2_raid_29 (fun v X hq => ?_) (fun E X hq => by obtain ⟨hv, -⟩ := hq; cases hv)
    obtain ⟨hv, hT1⟩ := hq
    cases hv
    replace hT := hT.tr hT1
    clear hT1
    refine sw_if_ne 37 35 (by decide) rfl dX2_raid_32 (fun c_32 => absurd (by decide) c_32) (fun c_32 => ?_)
    clear c_32
    refine sw_iconst 36 rfl (nI 0) rfl dX2_raid_35 ?_
    refine sw_iret rfl rfl dX2_raid_36 ?_
    exact ⟨by simp [rRaid, kRaid, cif, e_8], hT.st (by simp [sRaid, kRaid, cif, tk, e_8])⟩

set_option maxHeartbeats 4000000 in
theorem lp_brk {b : Nat} {z : Int32} (hb : b < 12) (hB : B + 25000000000 ≤ 2 ^ 60) {Q : Ot → Sh → Prop} : ∀ (n k : Nat) (X : Sh) (T : TS), TwF γ Mo aT X0 X T → WF K T → OW (B + 192000000 * k) T → k + n ≤ 40 → T.1 99 0 ≤ k → k + n = T.1 14 0 → (∀ X1, TwF γ Mo aT X0 X1 (rep n k (pBrk b) T) → SW γ mX2_breakWord X0 X1 124 [some (.ref Mo), some (.int (nI b)), some (.int z), some (.int (nI ((rep n k (pBrk b) T).1 99 0))), none] [] Q) → SW γ mX2_breakWord X0 X 50 [some (.ref Mo), some (.int (nI b)), some (.int z), some (.int (nI (T.1 99 0))), some (.int (nI k))] [] Q := by
  intro n
  induction n with
  | zero =>
    intro k X T hT hw hO hno h99 hn hex
    refine sw_iload 52 rfl rfl dX2_breakWord_50 ?_
    refine sw_aload_n 53 rfl rfl rfl dX2_breakWord_52 ?_
    refine gf_X2_181 56 rfl hT.obj rfl rfl dX2_breakWord_53 ?_
    refine sw_icmp_ge 124 59 (by decide) rfl dX2_breakWord_56 (fun c_56 => ?_) (fun c_56 => absurd (nI_le (by omega) (by omega)) c_56)
    clear c_56
    refine sw_fgt (lvle_c (lvle_c (lvle_c (lvle_c (lvle_n lvle_nil))))) ?_
    exact hex X hT
  | succ n ih =>
    intro k X T hT hw hO hno h99 hn hex
    refine sw_iload 52 rfl rfl dX2_breakWord_50 ?_
    refine sw_aload_n 53 rfl rfl rfl dX2_breakWord_52 ?_
    refine gf_X2_181 56 rfl hT.obj rfl rfl dX2_breakWord_53 ?_
    refine sw_icmp_ge 124 59 (by decide) rfl dX2_breakWord_56 (fun c_56 => absurd c_56 (nI_ge (by omega) (by omega))) (fun c_56 => ?_)
    clear c_56
    have hmk := hw.many (show k < T.1 14 0 by omega)
    have hf := hw.wayB (show k < T.1 14 0 by omega) (show 0 < T.1 22 k by omega)
    rw [Nat.add_zero] at hf
    refine sw_aload_n 60 rfl rfl rfl dX2_breakWord_59 ?_
    refine sw_iload 62 rfl rfl dX2_breakWord_60 ?_
    refine sw_callV 65 [] rfl cs_X2_166 rfl (Nat.le_of_ble_eq_true rfl) rfl hT.obj rfl rfl (ct_firstOf hT.1 k (by omega)) rfl rfl (Nat.le_of_ble_eq_true rfl) dX2_breakWord_62 (fun v X hq => ?_) (fun E X hq => by obtain ⟨hv, -⟩ := hq; cases hv)
    obtain ⟨hv, hT1⟩ := hq
    cases hv
    replace hT := hT.tr hT1
    clear hT1
    refine sw_iload_n 66 rfl rfl dX2_breakWord_65 ?_
    refine sw_icmp_ne 118 69 (by decide) rfl dX2_breakWord_66 (fun c_66 => ?_) (fun c_66 => ?_)
    · rw [nI_eq (by omega) (by omega)] at c_66
      refine sw_iinc 121 rfl [_, _, _, _, _] (nI (_ + 1)) rfl (nI_add _ 1) (Nat.le_of_ble_eq_true rfl) rfl dX2_breakWord_118 ?_
      refine sw_goto 50 (by decide) dX2_breakWord_121 ?_
      have e8 : pBrk b k T = T := cif_f (fun q => c_66 q.1)
      have hs := hw.brk (b := b) (o := k) hO (by omega) (by omega)
      have h9 := ih (k + 1) X (pBrk b k T) (by rw [e8]; exact hT) hs.1 (hs.2.1.up (by omega)) (by omega) ?_ (by rw [hs.2.2 14 (by omega)]; omega) hex
      · rw [show (pBrk b k T).1 99 0 = T.1 99 0 from by rw [e8]] at h9
        exact h9
      · rw [show (pBrk b k T).1 99 0 = T.1 99 0 from by rw [e8]]; omega
    · rw [nI_eq (by omega) (by omega)] at c_66
      refine sw_aload_n 70 rfl rfl rfl dX2_breakWord_69 ?_
      refine gf_X2_42 73 rfl hT.obj rfl rfl dX2_breakWord_70 ?_
      refine sw_iload 75 rfl rfl dX2_breakWord_73 ?_
      refine sw_iald 76 rfl (hT.arr 15 rfl) (by omega) (Nat.le_of_ble_eq_true rfl) dX2_breakWord_75 ?_
      refine sw_if_eq 90 79 (by decide) rfl dX2_breakWord_76 (fun c_76 => ?_) (fun c_76 => ?_)
      · refine sw_aload_n 91 rfl rfl rfl dX2_breakWord_90 ?_
        refine gf_X2_42 94 rfl hT.obj rfl rfl dX2_breakWord_91 ?_
        refine sw_iload 96 rfl rfl dX2_breakWord_94 ?_
        refine sw_iald 97 rfl (hT.arr 15 rfl) (by omega) (Nat.le_of_ble_eq_true rfl) dX2_breakWord_96 ?_
        refine sw_if_ne 107 100 (by decide) rfl dX2_breakWord_97 (fun c_97 => ?_) (fun c_97 => ?_)
        · refine sw_aload_n 108 rfl rfl rfl dX2_breakWord_107 ?_
          refine gf_X2_42 111 rfl hT.obj rfl rfl dX2_breakWord_108 ?_
          refine sw_iload 113 rfl rfl dX2_breakWord_111 ?_
          refine sw_iconst 114 rfl (nI 5) rfl dX2_breakWord_113 ?_
          refine sw_iast 115 rfl (hT.arr 15 rfl) (by omega) (Nat.le_of_ble_eq_true rfl) dX2_breakWord_114 (fun X hX => ?_)
          replace hT := hT.p15 hX
          clear hX
          refine sw_iinc 118 rfl [_, _, _, _, _] (nI (_ + 1)) rfl (nI_add _ 1) (Nat.le_of_ble_eq_true rfl) rfl dX2_breakWord_115 ?_
          refine sw_iinc 121 rfl [_, _, _, _, _] (nI (_ + 1)) rfl (nI_add _ 1) (Nat.le_of_ble_eq_true rfl) rfl dX2_breakWord_118 ?_
          refine sw_goto 50 (by decide) dX2_breakWord_121 ?_
          exact absurd c_76 c_97
        · refine sw_aload_n 101 rfl rfl rfl dX2_breakWord_100 ?_
          refine sw_iload 103 rfl rfl dX2_breakWord_101 ?_
          refine sw_iconst 104 rfl (nI 0) rfl dX2_breakWord_103 ?_
          refine sw_callV 107 [] rfl cs_X2_162 rfl (Nat.le_of_ble_eq_true rfl) rfl hT.obj rfl rfl (ct_takeBack hT.1 hw k 0 (by omega) (by omega)) rfl rfl (Nat.le_of_ble_eq_true rfl) dX2_breakWord_104 (fun v X hq => ?_) (fun E X hq => by obtain ⟨hv, -⟩ := hq; cases hv)
          obtain ⟨hv, hT1⟩ := hq
          cases hv
          replace hT := hT.tr hT1
          clear hT1
          refine sw_aload_n 108 rfl rfl rfl dX2_breakWord_107 ?_
          refine gf_X2_42 111 rfl hT.obj rfl rfl dX2_breakWord_108 ?_
          refine sw_iload 113 rfl rfl dX2_breakWord_111 ?_
          refine sw_iconst 114 rfl (nI 5) rfl dX2_breakWord_113 ?_
          refine sw_iast 115 rfl (hT.arr 15 rfl) (by omega) (Nat.le_of_ble_eq_true rfl) dX2_breakWord_114 (fun X hX => ?_)
          replace hT := hT.p15 hX
          clear hX
          refine sw_iinc 118 rfl [_, _, _, _, _] (nI (_ + 1)) rfl (nI_add _ 1) (Nat.le_of_ble_eq_true rfl) rfl dX2_breakWord_115 ?_
          refine sw_iinc 121 rfl [_, _, _, _, _] (nI (_ + 1)) rfl (nI_add _ 1) (Nat.le_of_ble_eq_true rfl) rfl dX2_breakWord_118 ?_
          refine sw_goto 50 (by decide) dX2_breakWord_121 ?_
          have e8 : pBrk b k T = ((pTB T k 0).sI 15 k (nI 5)).sN 99 0 (T.1 99 0 + 1) := (cif_t ⟨c_66, Or.inl c_76⟩).trans (by rw [if_pos c_76])
          have hs := hw.brk (b := b) (o := k) hO (by omega) (by omega)
          have h9 := ih (k + 1) X (pBrk b k T) (by rw [e8]; exact hT.to99 (eq99.sN _ _)) hs.1 (hs.2.1.up (by omega)) (by omega) ?_ (by rw [hs.2.2 14 (by omega)]; omega) hex
          · rw [show (pBrk b k T).1 99 0 = T.1 99 0 + 1 from by rw [e8]; exact sN_eq _ _ _ _] at h9
            exact h9
          · rw [show (pBrk b k T).1 99 0 = T.1 99 0 + 1 from by rw [e8]; exact sN_eq _ _ _ _]; omega
      · refine sw_aload_n 80 rfl rfl rfl dX2_breakWord_79 ?_
        refine gf_X2_42 83 rfl hT.obj rfl rfl dX2_breakWord_80 ?_
        refine sw_iload 85 rfl rfl dX2_breakWord_83 ?_
        refine sw_iald 86 rfl (hT.arr 15 rfl) (by omega) (Nat.le_of_ble_eq_true rfl) dX2_breakWord_85 ?_
        refine sw_iconst 87 rfl (nI 3) rfl dX2_breakWord_86 ?_
        refine sw_icmp_ne 118 90 (by decide) rfl dX2_breakWord_87 (fun c_87 => ?_) (fun c_87 => ?_)
        · refine sw_iinc 121 rfl [_, _, _, _, _] (nI (_ + 1)) rfl (nI_add _ 1) (Nat.le_of_ble_eq_true rfl) rfl dX2_breakWord_118 ?_
          refine sw_goto 50 (by decide) dX2_breakWord_121 ?_
          have e8 : pBrk b k T = T := cif_f (fun q => q.2.elim c_76 c_87)
          have hs := hw.brk (b := b) (o := k) hO (by omega) (by omega)
          have h9 := ih (k + 1) X (pBrk b k T) (by rw [e8]; exact hT) hs.1 (hs.2.1.up (by omega)) (by omega) ?_ (by rw [hs.2.2 14 (by omega)]; omega) hex
          · rw [show (pBrk b k T).1 99 0 = T.1 99 0 from by rw [e8]] at h9
            exact h9
          · rw [show (pBrk b k T).1 99 0 = T.1 99 0 from by rw [e8]]; omega
        · refine sw_aload_n 91 rfl rfl rfl dX2_breakWord_90 ?_
          refine gf_X2_42 94 rfl hT.obj rfl rfl dX2_breakWord_91 ?_
          refine sw_iload 96 rfl rfl dX2_breakWord_94 ?_
          refine sw_iald 97 rfl (hT.arr 15 rfl) (by omega) (Nat.le_of_ble_eq_true rfl) dX2_breakWord_96 ?_
          refine sw_if_ne 107 100 (by decide) rfl dX2_breakWord_97 (fun c_97 => ?_) (fun c_97 => ?_)
          · refine sw_aload_n 108 rfl rfl rfl dX2_breakWord_107 ?_
            refine gf_X2_42 111 rfl hT.obj rfl rfl dX2_breakWord_108 ?_
            refine sw_iload 113 rfl rfl dX2_breakWord_111 ?_
            refine sw_iconst 114 rfl (nI 5) rfl dX2_breakWord_113 ?_
            refine sw_iast 115 rfl (hT.arr 15 rfl) (by omega) (Nat.le_of_ble_eq_true rfl) dX2_breakWord_114 (fun X hX => ?_)
            replace hT := hT.p15 hX
            clear hX
            refine sw_iinc 118 rfl [_, _, _, _, _] (nI (_ + 1)) rfl (nI_add _ 1) (Nat.le_of_ble_eq_true rfl) rfl dX2_breakWord_115 ?_
            refine sw_iinc 121 rfl [_, _, _, _, _] (nI (_ + 1)) rfl (nI_add _ 1) (Nat.le_of_ble_eq_true rfl) rfl dX2_breakWord_118 ?_
            refine sw_goto 50 (by decide) dX2_breakWord_121 ?_
            have e8 : pBrk b k T = (T.sI 15 k (nI 5)).sN 99 0 (T.1 99 0 + 1) := (cif_t ⟨c_66, Or.inr c_87⟩).trans (by rw [if_neg c_76])
            have hs := hw.brk (b := b) (o := k) hO (by omega) (by omega)
            have h9 := ih (k + 1) X (pBrk b k T) (by rw [e8]; exact hT.to99 (eq99.sN _ _)) hs.1 (hs.2.1.up (by omega)) (by omega) ?_ (by rw [hs.2.2 14 (by omega)]; omega) hex
            · rw [show (pBrk b k T).1 99 0 = T.1 99 0 + 1 from by rw [e8]; exact sN_eq _ _ _ _] at h9
              exact h9
            · rw [show (pBrk b k T).1 99 0 = T.1 99 0 + 1 from by rw [e8]; exact sN_eq _ _ _ _]; omega
          · refine sw_aload_n 101 rfl rfl rfl dX2_breakWord_100 ?_
            refine sw_iload 103 rfl rfl dX2_breakWord_101 ?_
            refine sw_iconst 104 rfl (nI 0) rfl dX2_breakWord_103 ?_
            refine sw_callV 107 [] rfl cs_X2_162 rfl (Nat.le_of_ble_eq_true rfl) rfl hT.obj rfl rfl (ct_takeBack hT.1 hw k 0 (by omega) (by omega)) rfl rfl (Nat.le_of_ble_eq_true rfl) dX2_breakWord_104 (fun v X hq => ?_) (fun E X hq => by obtain ⟨hv, -⟩ := hq; cases hv)
            obtain ⟨hv, hT1⟩ := hq
            cases hv
            replace hT := hT.tr hT1
            clear hT1
            refine sw_aload_n 108 rfl rfl rfl dX2_breakWord_107 ?_
            refine gf_X2_42 111 rfl hT.obj rfl rfl dX2_breakWord_108 ?_
            refine sw_iload 113 rfl rfl dX2_breakWord_111 ?_
            refine sw_iconst 114 rfl (nI 5) rfl dX2_breakWord_113 ?_
            refine sw_iast 115 rfl (hT.arr 15 rfl) (by omega) (Nat.le_of_ble_eq_true rfl) dX2_breakWord_114 (fun X hX => ?_)
            replace hT := hT.p15 hX
            clear hX
            refine sw_iinc 118 rfl [_, _, _, _, _] (nI (_ + 1)) rfl (nI_add _ 1) (Nat.le_of_ble_eq_true rfl) rfl dX2_breakWord_115 ?_
            refine sw_iinc 121 rfl [_, _, _, _, _] (nI (_ + 1)) rfl (nI_add _ 1) (Nat.le_of_ble_eq_true rfl) rfl dX2_breakWord_118 ?_
            refine sw_goto 50 (by decide) dX2_breakWord_121 ?_
            exact absurd c_97 c_76
set_option maxHeartbeats 4000000 in
theorem ct_breakWord (hR : TwR γ Mo aT X S) (hw : WF K S) (hO : OW B S) (hB : B + 50000000000 ≤ 2 ^ 60) (b : Int32) : Ev γ mX2_breakWord [.ref Mo, .int b] X (fun oc X1 => oc = .inl (some (.int (rBrk S b))) ∧ TwF γ Mo aT X X1 (sBrk S b)) := by
  have hT := TwF.rf hR
  have hnb := hw.nb
  have hno := hw.no
  have hnc := hw.nc
  have hhr := hw.hr
  refine Ev.of (lv := [_, _, _, _, _]) 3 ⟨by decide +kernel, rfl, (Nat.le_of_ble_eq_true rfl)⟩ rfl ?_
  refine sw_aload_n 1 rfl rfl rfl dX2_breakWord_0 ?_
  refine sw_iload_n 2 rfl rfl dX2_breakWord_1 ?_
  refine sw_callV 5 [] rfl cs_X2_120 rfl (Nat.le_of_ble_eq_true rfl) rfl hT.obj rfl rfl (ct_isBroker hT.1 (by omega) _) rfl rfl (Nat.le_of_ble_eq_true rfl) dX2_breakWord_2 (fun v X hq => ?_) (fun E X hq => by obtain ⟨hv, -⟩ := hq; cases hv)
  obtain ⟨hv, hT1⟩ := hq
  cases hv
  replace hT := hT.tr hT1
  clear hT1
  refine sw_istore_n 6 rfl [_, _, _, _, _] (Nat.le_of_ble_eq_true rfl) rfl dX2_breakWord_5 ?_
  refine sw_aload_n 7 rfl rfl rfl dX2_breakWord_6 ?_
  refine sw_iload_n 8 rfl rfl dX2_breakWord_7 ?_
  refine sw_if_ne 15 11 (by decide) rfl dX2_breakWord_8 (fun c_8 => ?_) (fun c_8 => ?_)
  · rw [b2_n] at c_8
    have e_8 := c_8
    obtain ⟨i, hi, rfl⟩ := c_8
    have xi : ix (nI i) = i := ix_nI (by omega)
    refine sw_aload_n 16 rfl rfl rfl dX2_breakWord_15 ?_
    refine gf_X2_20 19 rfl hT.obj rfl rfl dX2_breakWord_16 ?_
    refine sw_iload_n 20 rfl rfl dX2_breakWord_19 ?_
    refine sw_iald 21 rfl (hT.arr 7 rfl) (by omega) (Nat.le_of_ble_eq_true rfl) dX2_breakWord_20 ?_
    refine sw_iconst 22 rfl (nI 2) rfl dX2_breakWord_21 ?_
    refine sw_icmp_ne 29 25 (by decide) rfl dX2_breakWord_22 (fun c_22 => ?_) (fun c_22 => ?_)
    · refine sw_iconst 30 rfl (nI 0) rfl dX2_breakWord_29 ?_
      refine sw_callV 33 [] rfl cs_X2_124 rfl (Nat.le_of_ble_eq_true rfl) rfl hT.obj rfl rfl (ct_goesWell0 hT.1) rfl rfl (Nat.le_of_ble_eq_true rfl) dX2_breakWord_30 (fun v X hq => ?_) (fun E X hq => by obtain ⟨hv, -⟩ := hq; cases hv)
      obtain ⟨hv, hT1⟩ := hq
      cases hv
      replace hT := hT.tr hT1
      clear hT1
      refine sw_if_ne 38 36 (by decide) rfl dX2_breakWord_33 (fun c_33 => ?_) (fun c_33 => absurd c_33 (by decide))
      clear c_33
      refine sw_aload_n 39 rfl rfl rfl dX2_breakWord_38 ?_
      refine gf_X2_20 42 rfl hT.obj rfl rfl dX2_breakWord_39 ?_
      refine sw_iload_n 43 rfl rfl dX2_breakWord_42 ?_
      refine sw_iconst 44 rfl (nI 2) rfl dX2_breakWord_43 ?_
      refine sw_iast 45 rfl (hT.arr 7 rfl) (by omega) (Nat.le_of_ble_eq_true rfl) dX2_breakWord_44 (fun X hX => ?_)
      replace hT := hT.p7 hX
      clear hX
      refine sw_iconst 46 rfl (nI 0) rfl dX2_breakWord_45 ?_
      refine sw_istore_n 47 rfl [_, _, _, _, _] (Nat.le_of_ble_eq_true rfl) rfl dX2_breakWord_46 ?_
      refine sw_iconst 48 rfl (nI 0) rfl dX2_breakWord_47 ?_
      refine sw_istore 50 rfl [_, _, _, _, _] (Nat.le_of_ble_eq_true rfl) rfl dX2_breakWord_48 ?_
      have hk : kBrk S (nI i) = 0 := by simp [kBrk, cif, e_8, xi, c_22]
      have hT9 := hT.to99 (eq99.sN _ 0)
      have hw0 : WF K ((((tk S 0).sI 7 i (nI 2)).sN 99 0 0)) := ((hw.thrown _).sState i 2 (by omega)).eq99 (eq99.sN _ _)
      refine lp_brk (K := K) (B := B) (b := i) (by omega) (by omega) (S.1 14 0) 0 X _ hT9 hw0 (hO.up (by omega)) (by omega) (Nat.le_refl 0) (Nat.zero_add _) (fun X hT => ?_)
      rw [show rep (S.1 14 0) 0 (pBrk i) (((S.sI 0 0 (nI 0)).sI 7 i (nI 2)).sN 99 0 0) = pBrks S i from rfl] at hT ⊢
      have hwO := rep_inv2 (P := fun j U => WF K U ∧ OW (B + 192000000 * j) U ∧ U.1 14 = S.1 14) (f := pBrk i) (S.1 14 0) 0 _ ⟨hw0, hO.up (by omega), rfl⟩ (fun j U h1 h2 h3 => by
        have hs := h3.1.brk (b := i) (o := j) h3.2.1 (by omega) (by rw [h3.2.2]; omega)
        exact ⟨hs.1, hs.2.1.up (by omega), (hs.2.2 14 (by omega)).trans h3.2.2⟩)
      have hwB : WF K (pBrks S i) := hwO.1
      have hOB : OW (B + 24000000000) (pBrks S i) := hwO.2.1.up (by omega)
      refine sw_aload_n 125 rfl rfl rfl dX2_breakWord_124 ?_
      refine sw_iload_n 126 rfl rfl dX2_breakWord_125 ?_
      refine sw_callV 129 [] rfl cs_X2_191 rfl (Nat.le_of_ble_eq_true rfl) rfl hT.obj rfl rfl (ct_failsFor (K := K) (B := B + 24000000000) (S := pBrks S i) hT.1 hwB hOB (by omega) i (by omega)) rfl rfl (Nat.le_of_ble_eq_true rfl) dX2_breakWord_126 (fun v X hq => ?_) (fun E X hq => by obtain ⟨hv, -⟩ := hq; cases hv)
      obtain ⟨hv, hT1⟩ := hq
      cases hv
      replace hT := hT.tr hT1
      clear hT1
      refine sw_iload_n 130 rfl rfl dX2_breakWord_129 ?_
      refine sw_iret rfl rfl dX2_breakWord_130 ?_
      exact ⟨by rw [rBrk, cif_t hk, xi], hT.st (by rw [sBrk, cif_t hk, xi])⟩
    · refine sw_iconst 26 rfl (nI 2) rfl dX2_breakWord_25 ?_
      refine sw_goto 30 (by decide) dX2_breakWord_26 ?_
      refine sw_callV 33 [] rfl cs_X2_124 rfl (Nat.le_of_ble_eq_true rfl) rfl hT.obj rfl rfl (ct_goesWellK hT.1 2 (by omega) (by omega)) rfl rfl (Nat.le_of_ble_eq_true rfl) dX2_breakWord_30 (fun v X hq => ?_) (fun E X hq => by obtain ⟨hv, -⟩ := hq; cases hv)
      obtain ⟨hv, hT1⟩ := hq
      cases hv
      replace hT := hT.tr hT1
      clear hT1
      refine sw_if_ne 38 36 (by decide) rfl dX2_breakWord_33 (fun c_33 => absurd (by decide) c_33) (fun c_33 => ?_)
      clear c_33
      refine sw_iconst 37 rfl (nI 0) rfl dX2_breakWord_36 ?_
      refine sw_iret rfl rfl dX2_breakWord_37 ?_
      exact ⟨by simp [rBrk, kBrk, cif, e_8, xi, c_22], hT.st (by simp [sBrk, kBrk, cif, tk, e_8, xi, c_22])⟩
  · rw [b2_0] at c_8
    have e_8 := c_8
    refine sw_iconst 12 rfl (nI 1) rfl dX2_breakWord_11 ?_
    refine sw_goto 30 (by decide) dX2_breakWord_12 ?_
    refine sw_callV 33 [] rfl cs_X2_124 rfl (Nat.le_of_ble_eq_true rfl) rfl hT.obj rfl rfl (ct_goesWellK hT.1 1 (by omega) (by omega)) rfl rfl (Nat.le_of_ble_eq_true rfl) dX2_breakWord_30 (fun v X hq => ?_) (fun E X hq => by obtain ⟨hv, -⟩ := hq; cases hv)
    obtain ⟨hv, hT1⟩ := hq
    cases hv
    replace hT := hT.tr hT1
    clear hT1
    refine sw_if_ne 38 36 (by decide) rfl dX2_breakWord_33 (fun c_33 => absurd (by decide) c_33) (fun c_33 => ?_)
    clear c_33
    refine sw_iconst 37 rfl (nI 0) rfl dX2_breakWord_36 ?_
    refine sw_iret rfl rfl dX2_breakWord_37 ?_
    exact ⟨by simp [rBrk, kBrk, cif, e_8], hT.st (by simp [sBrk, kBrk, cif, tk, e_8])⟩

end T10
