/-! the reference's search of ways: written by prog/gen_t7.py -/
set_option maxRecDepth 100000
section T7
variable {γ : Gm} {Mo : Nat} {aT : Nat → Nat} {X X0 : Sh} {S : TS} {K last amt w first : Nat}
set_option maxHeartbeats 4000000 in
theorem lp_fw0 (hw : WF K S) (hm : amt ≤ 1000000) (hl : last < S.1 3 0) (hwo : w < 4096) {Q : Ot → Sh → Prop} : ∀ (n k j : Nat) (X : Sh) (T : TS), TwF γ Mo aT X0 X T → eqW T S → k + n = S.1 3 0 → (∀ X1, TwF γ Mo aT X0 X1 (rep n k (pFW0 last amt w) T) → SW γ mX2_findWays X0 X1 71 [some (.ref Mo), some (.int (nI last)), some (.int (nI amt)), some (.int (nI w)), none, none, none, none, none, none] [] Q) → SW γ mX2_findWays X0 X 3 [some (.ref Mo), some (.int (nI last)), some (.int (nI amt)), some (.int (nI w)), some (.int (nI k)), none, none, none, none, none] [] Q := by
  have hnb := hw.nb
  intro n
  induction n with
  | zero =>
    intro k j X T hT hI hn hex
    have en : T.1 3 0 = S.1 3 0 := hI.nb
    have hnb2 : T.1 3 0 ≤ 12 := by omega
    refine sw_iload 5 rfl rfl dX2_findWays_3 ?_
    refine sw_aload_n 6 rfl rfl rfl dX2_findWays_5 ?_
    refine gf_X2_113 9 rfl hT.obj rfl rfl dX2_findWays_6 ?_
    refine sw_icmp_ge 71 12 (by decide) rfl dX2_findWays_9 (fun c_9 => ?_) (fun c_9 => absurd (nI_le (by omega) (by omega)) c_9)
    clear c_9
    refine sw_fgt (lvle_c (lvle_c (lvle_c (lvle_c (lvle_n (lvle_c (lvle_c (lvle_c (lvle_c (lvle_c lvle_nil)))))))))) ?_
    exact hex X hT
  | succ n ih =>
    intro k j X T hT hI hn hex
    have en : T.1 3 0 = S.1 3 0 := hI.nb
    have hnb2 : T.1 3 0 ≤ 12 := by omega
    have hb2 : w / 2 ^ k % 2 < 2 := Nat.mod_lt _ (by omega)
    have hrt := (eqW.wf hw hI).rate (b := k) (by omega)
    refine sw_iload 5 rfl rfl dX2_findWays_3 ?_
    refine sw_aload_n 6 rfl rfl rfl dX2_findWays_5 ?_
    refine gf_X2_113 9 rfl hT.obj rfl rfl dX2_findWays_6 ?_
    refine sw_icmp_ge 71 12 (by decide) rfl dX2_findWays_9 (fun c_9 => absurd c_9 (nI_ge (by omega) (by omega))) (fun c_9 => ?_)
    clear c_9
    refine sw_aload_n 13 rfl rfl rfl dX2_findWays_12 ?_
    refine gf_X2_100 16 rfl hT.obj rfl rfl dX2_findWays_13 ?_
    refine sw_iload 18 rfl rfl dX2_findWays_16 ?_
    refine sw_iload 20 rfl rfl dX2_findWays_18 ?_
    refine sw_iload_n 21 rfl rfl dX2_findWays_20 ?_
    refine sw_icmp_ne 53 24 (by decide) rfl dX2_findWays_21 (fun c_21 => ?_) (fun c_21 => ?_)
    · rw [nI_eq (by omega) (by omega)] at c_21
      refine sw_ldc2 56 rfl q1118 dX2_findWays_53 ?_
      refine sw_topL (show (1000000000000 : Int64) = lN 1000000000000 from rfl) ?_
      refine sw_last 57 rfl (hT.arr 35 rfl) (by omega) (Nat.le_of_ble_eq_true rfl) dX2_findWays_56 (fun X hX => ?_)
      replace hT := hT.p35 hX
      clear hX
      refine sw_aload_n 58 rfl rfl rfl dX2_findWays_57 ?_
      refine gf_X2_103 61 rfl hT.obj rfl rfl dX2_findWays_58 ?_
      refine sw_iload 63 rfl rfl dX2_findWays_61 ?_
      refine sw_iconst 64 rfl (nI 1) rfl dX2_findWays_63 ?_
      refine sw_iast 65 rfl (hT.arr 36 rfl) (by omega) (Nat.le_of_ble_eq_true rfl) dX2_findWays_64 (fun X hX => ?_)
      replace hT := hT.p36 hX
      clear hX
      refine sw_iinc 68 rfl [_, _, _, _, _, _, _, _, _, _] (nI (_ + 1)) rfl (nI_add _ 1) (Nat.le_of_ble_eq_true rfl) rfl dX2_findWays_65 ?_
      refine sw_goto 3 (by decide) dX2_findWays_68 ?_
      have e8 : pFW0 last amt w k T = _ := rfl
      refine ih (k + 1) j X (pFW0 last amt w k T) ?_ ((pFW0_W last amt w k T).tr hI) (by omega) hex
      unfold pFW0
      rw [cif_f (show ¬ (k = last ∧ T.2.1 7 k = 0 ∧ bitOf w k = 0) from fun q => c_21 q.1)]
      exact hT
    · rw [nI_eq (by omega) (by omega)] at c_21
      refine sw_aload_n 25 rfl rfl rfl dX2_findWays_24 ?_
      refine gf_X2_20 28 rfl hT.obj rfl rfl dX2_findWays_25 ?_
      refine sw_iload 30 rfl rfl dX2_findWays_28 ?_
      refine sw_iald 31 rfl (hT.arr 7 rfl) (by omega) (Nat.le_of_ble_eq_true rfl) dX2_findWays_30 ?_
      refine sw_if_ne 53 34 (by decide) rfl dX2_findWays_31 (fun c_31 => ?_) (fun c_31 => ?_)
      · refine sw_ldc2 56 rfl q1118 dX2_findWays_53 ?_
        refine sw_topL (show (1000000000000 : Int64) = lN 1000000000000 from rfl) ?_
        refine sw_last 57 rfl (hT.arr 35 rfl) (by omega) (Nat.le_of_ble_eq_true rfl) dX2_findWays_56 (fun X hX => ?_)
        replace hT := hT.p35 hX
        clear hX
        refine sw_aload_n 58 rfl rfl rfl dX2_findWays_57 ?_
        refine gf_X2_103 61 rfl hT.obj rfl rfl dX2_findWays_58 ?_
        refine sw_iload 63 rfl rfl dX2_findWays_61 ?_
        refine sw_iconst 64 rfl (nI 1) rfl dX2_findWays_63 ?_
        refine sw_iast 65 rfl (hT.arr 36 rfl) (by omega) (Nat.le_of_ble_eq_true rfl) dX2_findWays_64 (fun X hX => ?_)
        replace hT := hT.p36 hX
        clear hX
        refine sw_iinc 68 rfl [_, _, _, _, _, _, _, _, _, _] (nI (_ + 1)) rfl (nI_add _ 1) (Nat.le_of_ble_eq_true rfl) rfl dX2_findWays_65 ?_
        refine sw_goto 3 (by decide) dX2_findWays_68 ?_
        have e8 : pFW0 last amt w k T = _ := rfl
        refine ih (k + 1) j X (pFW0 last amt w k T) ?_ ((pFW0_W last amt w k T).tr hI) (by omega) hex
        unfold pFW0
        rw [cif_f (show ¬ (k = last ∧ T.2.1 7 k = 0 ∧ bitOf w k = 0) from fun q => c_31 q.2.1)]
        exact hT
      · refine sw_iload_n 35 rfl rfl dX2_findWays_34 ?_
        refine sw_iload 37 rfl rfl dX2_findWays_35 ?_
        refine sw_ishr 38 rfl dX2_findWays_37 ?_
        refine sw_iconst 39 rfl (nI 1) rfl dX2_findWays_38 ?_
        refine sw_iand 40 rfl dX2_findWays_39 ?_
        refine sw_topI (bit_sh (by omega) (by omega)) ?_
        refine sw_if_ne 53 43 (by decide) rfl dX2_findWays_40 (fun c_40 => ?_) (fun c_40 => ?_)
        · rw [show (0 : Int32) = nI 0 from rfl, nI_eq (by omega) (by omega)] at c_40
          refine sw_ldc2 56 rfl q1118 dX2_findWays_53 ?_
          refine sw_topL (show (1000000000000 : Int64) = lN 1000000000000 from rfl) ?_
          refine sw_last 57 rfl (hT.arr 35 rfl) (by omega) (Nat.le_of_ble_eq_true rfl) dX2_findWays_56 (fun X hX => ?_)
          replace hT := hT.p35 hX
          clear hX
          refine sw_aload_n 58 rfl rfl rfl dX2_findWays_57 ?_
          refine gf_X2_103 61 rfl hT.obj rfl rfl dX2_findWays_58 ?_
          refine sw_iload 63 rfl rfl dX2_findWays_61 ?_
          refine sw_iconst 64 rfl (nI 1) rfl dX2_findWays_63 ?_
          refine sw_iast 65 rfl (hT.arr 36 rfl) (by omega) (Nat.le_of_ble_eq_true rfl) dX2_findWays_64 (fun X hX => ?_)
          replace hT := hT.p36 hX
          clear hX
          refine sw_iinc 68 rfl [_, _, _, _, _, _, _, _, _, _] (nI (_ + 1)) rfl (nI_add _ 1) (Nat.le_of_ble_eq_true rfl) rfl dX2_findWays_65 ?_
          refine sw_goto 3 (by decide) dX2_findWays_68 ?_
          have e8 : pFW0 last amt w k T = _ := rfl
          refine ih (k + 1) j X (pFW0 last amt w k T) ?_ ((pFW0_W last amt w k T).tr hI) (by omega) hex
          unfold pFW0
          rw [cif_f (show ¬ (k = last ∧ T.2.1 7 k = 0 ∧ bitOf w k = 0) from fun q => c_40 q.2.2)]
          exact hT
        · rw [show (0 : Int32) = nI 0 from rfl, nI_eq (by omega) (by omega)] at c_40
          refine sw_aload_n 44 rfl rfl rfl dX2_findWays_43 ?_
          refine sw_iload 46 rfl rfl dX2_findWays_44 ?_
          refine sw_iload_n 47 rfl rfl dX2_findWays_46 ?_
          refine sw_callV 50 [_, _] rfl cs_X2_153 rfl (Nat.le_of_ble_eq_true rfl) rfl hT.obj rfl rfl (ct_feeOf hT.1 k amt (by omega) hm hrt) rfl rfl (Nat.le_of_ble_eq_true rfl) dX2_findWays_47 (fun v X hq => ?_) (fun E X hq => by obtain ⟨hv, -⟩ := hq; cases hv)
          obtain ⟨hv, hT1⟩ := hq
          cases hv
          replace hT := hT.tr hT1
          clear hT1
          refine sw_goto 56 (by decide) dX2_findWays_50 ?_
          refine sw_last 57 rfl (hT.arr 35 rfl) (by omega) (Nat.le_of_ble_eq_true rfl) dX2_findWays_56 (fun X hX => ?_)
          replace hT := hT.p35 hX
          clear hX
          refine sw_aload_n 58 rfl rfl rfl dX2_findWays_57 ?_
          refine gf_X2_103 61 rfl hT.obj rfl rfl dX2_findWays_58 ?_
          refine sw_iload 63 rfl rfl dX2_findWays_61 ?_
          refine sw_iconst 64 rfl (nI 1) rfl dX2_findWays_63 ?_
          refine sw_iast 65 rfl (hT.arr 36 rfl) (by omega) (Nat.le_of_ble_eq_true rfl) dX2_findWays_64 (fun X hX => ?_)
          replace hT := hT.p36 hX
          clear hX
          refine sw_iinc 68 rfl [_, _, _, _, _, _, _, _, _, _] (nI (_ + 1)) rfl (nI_add _ 1) (Nat.le_of_ble_eq_true rfl) rfl dX2_findWays_65 ?_
          refine sw_goto 3 (by decide) dX2_findWays_68 ?_
          have e8 : pFW0 last amt w k T = _ := rfl
          refine ih (k + 1) j X (pFW0 last amt w k T) ?_ ((pFW0_W last amt w k T).tr hI) (by omega) hex
          unfold pFW0
          rw [cif_t (show k = last ∧ T.2.1 7 k = 0 ∧ bitOf w k = 0 from ⟨c_21, c_31, c_40⟩)]
          exact hT
set_option maxHeartbeats 4000000 in
theorem lp_fwc {a r : Nat} (hw : WF K S) (hm : amt ≤ 1000000) (hl : last < S.1 3 0) (hwo : w < 4096) (ha : a < S.1 3 0) {Q : Ot → Sh → Prop} : ∀ (n k j : Nat) (X : Sh) (T : TS), TwF γ Mo aT X0 X T → IW S last amt w j T ∧ j + n ≤ 3000 → k + n = S.1 3 0 → (∀ X1, TwF γ Mo aT X0 X1 (rep n k (pFWc last amt w a) T) → SW γ mX2_findWays X0 X1 249 [some (.ref Mo), some (.int (nI last)), some (.int (nI amt)), some (.int (nI w)), some (.int (nI r)), some (.int (nI a)), none, none, none, none] [] Q) → SW γ mX2_findWays X0 X 98 [some (.ref Mo), some (.int (nI last)), some (.int (nI amt)), some (.int (nI w)), some (.int (nI r)), some (.int (nI a)), some (.int (nI k)), none, none, none] [] Q := by
  have hnb := hw.nb
  intro n
  induction n with
  | zero =>
    intro k j X T hT ⟨hI, hj⟩ hn hex
    have en : T.1 3 0 = S.1 3 0 := hI.1.nb
    have hnb2 : T.1 3 0 ≤ 12 := by omega
    refine sw_iload 100 rfl rfl dX2_findWays_98 ?_
    refine sw_aload_n 101 rfl rfl rfl dX2_findWays_100 ?_
    refine gf_X2_113 104 rfl hT.obj rfl rfl dX2_findWays_101 ?_
    refine sw_icmp_ge 249 107 (by decide) rfl dX2_findWays_104 (fun c_104 => ?_) (fun c_104 => absurd (nI_le (by omega) (by omega)) c_104)
    clear c_104
    refine sw_fgt (lvle_c (lvle_c (lvle_c (lvle_c (lvle_c (lvle_c (lvle_n (lvle_n (lvle_n (lvle_n lvle_nil)))))))))) ?_
    exact hex X hT
  | succ n ih =>
    intro k j X T hT ⟨hI, hj⟩ hn hex
    have en : T.1 3 0 = S.1 3 0 := hI.1.nb
    have hnb2 : T.1 3 0 ≤ 12 := by omega
    have hr := (relax hw hm (by omega) hI ha (show k < S.1 3 0 by omega)).1
    have hb2 : w / 2 ^ a % 2 < 2 := Nat.mod_lt _ (by omega)
    have hwT := eqW.wf hw hI.1
    have hrt := hwT.rate (b := a) (by omega)
    have hfe := pFee_le (S := T) (b := a) hm hrt
    have hl1 := hwT.lim (12 * k + a)
    have la := (hI.2.1 a ha).1
    have lb := (hI.2.1 k (by omega)).1
    have fa : T.1 35 a ≤ 1000000000000 := by have := la.2.1; rcases la.2.2 with q | q <;> (unfold FARn at *; omega)
    have fb : T.1 35 k ≤ 1000000000000 := by have := lb.2.1; rcases lb.2.2 with q | q <;> (unfold FARn at *; omega)
    have ga := la.2.1
    have gb := lb.2.1
    refine sw_iload 100 rfl rfl dX2_findWays_98 ?_
    refine sw_aload_n 101 rfl rfl rfl dX2_findWays_100 ?_
    refine gf_X2_113 104 rfl hT.obj rfl rfl dX2_findWays_101 ?_
    refine sw_icmp_ge 249 107 (by decide) rfl dX2_findWays_104 (fun c_104 => absurd c_104 (nI_ge (by omega) (by omega))) (fun c_104 => ?_)
    clear c_104
    refine sw_iload 109 rfl rfl dX2_findWays_107 ?_
    refine sw_iload_n 110 rfl rfl dX2_findWays_109 ?_
    refine sw_icmp_eq 148 113 (by decide) rfl dX2_findWays_110 (fun c_110 => ?_) (fun c_110 => ?_)
    · rw [nI_eq (by omega) (by omega)] at c_110
      refine sw_iconst 149 rfl (nI 0) rfl dX2_findWays_148 ?_
      refine sw_istore 151 rfl [_, _, _, _, _, _, _, _, _, _] (Nat.le_of_ble_eq_true rfl) rfl dX2_findWays_149 ?_
      refine sw_aload_n 152 rfl rfl rfl dX2_findWays_151 ?_
      refine sw_iload 154 rfl rfl dX2_findWays_152 ?_
      refine sw_iload_n 155 rfl rfl dX2_findWays_154 ?_
      refine sw_callV 158 [] rfl cs_X2_153 rfl (Nat.le_of_ble_eq_true rfl) rfl hT.obj rfl rfl (ct_feeOf hT.1 a amt (by omega) hm hrt) rfl rfl (Nat.le_of_ble_eq_true rfl) dX2_findWays_155 (fun v X hq => ?_) (fun E X hq => by obtain ⟨hv, -⟩ := hq; cases hv)
      obtain ⟨hv, hT1⟩ := hq
      cases hv
      replace hT := hT.tr hT1
      clear hT1
      refine sw_aload_n 159 rfl rfl rfl dX2_findWays_158 ?_
      refine gf_X2_100 162 rfl hT.obj rfl rfl dX2_findWays_159 ?_
      refine sw_iload 164 rfl rfl dX2_findWays_162 ?_
      refine sw_lald 165 rfl (hT.arr 35 rfl) (by omega) (Nat.le_of_ble_eq_true rfl) dX2_findWays_164 ?_
      refine sw_ladd 166 rfl dX2_findWays_165 ?_
      refine sw_topL (lN_add _ _) ?_
      refine sw_lstore 168 rfl [_, _, _, _, _, _, _, _, _, _] (Nat.le_of_ble_eq_true rfl) rfl dX2_findWays_166 ?_
      refine sw_iload 170 rfl rfl dX2_findWays_168 ?_
      refine sw_if_eq 243 173 (by decide) rfl dX2_findWays_170 (fun c_170 => ?_) (fun c_170 => absurd (by decide) c_170)
      clear c_170
      refine sw_iinc 246 rfl [_, _, _, _, _, _, _, _, _, _] (nI (_ + 1)) rfl (nI_add _ 1) (Nat.le_of_ble_eq_true rfl) rfl dX2_findWays_243 ?_
      refine sw_goto 98 (by decide) dX2_findWays_246 ?_
      have e8 : pFWc last amt w a k T = T := pFWc_f (fun q => q.1.1.1 c_110)
      have h9 := ih (k + 1) (j + 1) X (pFWc last amt w a k T) (by rw [e8]; exact hT) ⟨hr, by omega⟩ (by omega) hex
      refine sw_fgt (lvle_c (lvle_c (lvle_c (lvle_c (lvle_c (lvle_c (lvle_c (lvle_n (lvle_n (lvle_n lvle_nil)))))))))) ?_
      exact h9
    · rw [nI_eq (by omega) (by omega)] at c_110
      refine sw_aload_n 114 rfl rfl rfl dX2_findWays_113 ?_
      refine gf_X2_20 117 rfl hT.obj rfl rfl dX2_findWays_114 ?_
      refine sw_iload 119 rfl rfl dX2_findWays_117 ?_
      refine sw_iald 120 rfl (hT.arr 7 rfl) (by omega) (Nat.le_of_ble_eq_true rfl) dX2_findWays_119 ?_
      refine sw_if_ne 148 123 (by decide) rfl dX2_findWays_120 (fun c_120 => ?_) (fun c_120 => ?_)
      · refine sw_iconst 149 rfl (nI 0) rfl dX2_findWays_148 ?_
        refine sw_istore 151 rfl [_, _, _, _, _, _, _, _, _, _] (Nat.le_of_ble_eq_true rfl) rfl dX2_findWays_149 ?_
        refine sw_aload_n 152 rfl rfl rfl dX2_findWays_151 ?_
        refine sw_iload 154 rfl rfl dX2_findWays_152 ?_
        refine sw_iload_n 155 rfl rfl dX2_findWays_154 ?_
        refine sw_callV 158 [] rfl cs_X2_153 rfl (Nat.le_of_ble_eq_true rfl) rfl hT.obj rfl rfl (ct_feeOf hT.1 a amt (by omega) hm hrt) rfl rfl (Nat.le_of_ble_eq_true rfl) dX2_findWays_155 (fun v X hq => ?_) (fun E X hq => by obtain ⟨hv, -⟩ := hq; cases hv)
        obtain ⟨hv, hT1⟩ := hq
        cases hv
        replace hT := hT.tr hT1
        clear hT1
        refine sw_aload_n 159 rfl rfl rfl dX2_findWays_158 ?_
        refine gf_X2_100 162 rfl hT.obj rfl rfl dX2_findWays_159 ?_
        refine sw_iload 164 rfl rfl dX2_findWays_162 ?_
        refine sw_lald 165 rfl (hT.arr 35 rfl) (by omega) (Nat.le_of_ble_eq_true rfl) dX2_findWays_164 ?_
        refine sw_ladd 166 rfl dX2_findWays_165 ?_
        refine sw_topL (lN_add _ _) ?_
        refine sw_lstore 168 rfl [_, _, _, _, _, _, _, _, _, _] (Nat.le_of_ble_eq_true rfl) rfl dX2_findWays_166 ?_
        refine sw_iload 170 rfl rfl dX2_findWays_168 ?_
        refine sw_if_eq 243 173 (by decide) rfl dX2_findWays_170 (fun c_170 => ?_) (fun c_170 => absurd (by decide) c_170)
        clear c_170
        refine sw_iinc 246 rfl [_, _, _, _, _, _, _, _, _, _] (nI (_ + 1)) rfl (nI_add _ 1) (Nat.le_of_ble_eq_true rfl) rfl dX2_findWays_243 ?_
        refine sw_goto 98 (by decide) dX2_findWays_246 ?_
        have e8 : pFWc last amt w a k T = T := pFWc_f (fun q => c_120 q.1.1.2.1)
        have h9 := ih (k + 1) (j + 1) X (pFWc last amt w a k T) (by rw [e8]; exact hT) ⟨hr, by omega⟩ (by omega) hex
        refine sw_fgt (lvle_c (lvle_c (lvle_c (lvle_c (lvle_c (lvle_c (lvle_c (lvle_n (lvle_n (lvle_n lvle_nil)))))))))) ?_
        exact h9
      · refine sw_iload_n 124 rfl rfl dX2_findWays_123 ?_
        refine sw_iload 126 rfl rfl dX2_findWays_124 ?_
        refine sw_ishr 127 rfl dX2_findWays_126 ?_
        refine sw_iconst 128 rfl (nI 1) rfl dX2_findWays_127 ?_
        refine sw_iand 129 rfl dX2_findWays_128 ?_
        refine sw_topI (bit_sh (by omega) (by omega)) ?_
        refine sw_if_ne 148 132 (by decide) rfl dX2_findWays_129 (fun c_129 => ?_) (fun c_129 => ?_)
        · rw [show (0 : Int32) = nI 0 from rfl, nI_eq (by omega) (by omega)] at c_129
          refine sw_iconst 149 rfl (nI 0) rfl dX2_findWays_148 ?_
          refine sw_istore 151 rfl [_, _, _, _, _, _, _, _, _, _] (Nat.le_of_ble_eq_true rfl) rfl dX2_findWays_149 ?_
          refine sw_aload_n 152 rfl rfl rfl dX2_findWays_151 ?_
          refine sw_iload 154 rfl rfl dX2_findWays_152 ?_
          refine sw_iload_n 155 rfl rfl dX2_findWays_154 ?_
          refine sw_callV 158 [] rfl cs_X2_153 rfl (Nat.le_of_ble_eq_true rfl) rfl hT.obj rfl rfl (ct_feeOf hT.1 a amt (by omega) hm hrt) rfl rfl (Nat.le_of_ble_eq_true rfl) dX2_findWays_155 (fun v X hq => ?_) (fun E X hq => by obtain ⟨hv, -⟩ := hq; cases hv)
          obtain ⟨hv, hT1⟩ := hq
          cases hv
          replace hT := hT.tr hT1
          clear hT1
          refine sw_aload_n 159 rfl rfl rfl dX2_findWays_158 ?_
          refine gf_X2_100 162 rfl hT.obj rfl rfl dX2_findWays_159 ?_
          refine sw_iload 164 rfl rfl dX2_findWays_162 ?_
          refine sw_lald 165 rfl (hT.arr 35 rfl) (by omega) (Nat.le_of_ble_eq_true rfl) dX2_findWays_164 ?_
          refine sw_ladd 166 rfl dX2_findWays_165 ?_
          refine sw_topL (lN_add _ _) ?_
          refine sw_lstore 168 rfl [_, _, _, _, _, _, _, _, _, _] (Nat.le_of_ble_eq_true rfl) rfl dX2_findWays_166 ?_
          refine sw_iload 170 rfl rfl dX2_findWays_168 ?_
          refine sw_if_eq 243 173 (by decide) rfl dX2_findWays_170 (fun c_170 => ?_) (fun c_170 => absurd (by decide) c_170)
          clear c_170
          refine sw_iinc 246 rfl [_, _, _, _, _, _, _, _, _, _] (nI (_ + 1)) rfl (nI_add _ 1) (Nat.le_of_ble_eq_true rfl) rfl dX2_findWays_243 ?_
          refine sw_goto 98 (by decide) dX2_findWays_246 ?_
          have e8 : pFWc last amt w a k T = T := pFWc_f (fun q => c_129 q.1.1.2.2)
          have h9 := ih (k + 1) (j + 1) X (pFWc last amt w a k T) (by rw [e8]; exact hT) ⟨hr, by omega⟩ (by omega) hex
          refine sw_fgt (lvle_c (lvle_c (lvle_c (lvle_c (lvle_c (lvle_c (lvle_c (lvle_n (lvle_n (lvle_n lvle_nil)))))))))) ?_
          exact h9
        · rw [show (0 : Int32) = nI 0 from rfl, nI_eq (by omega) (by omega)] at c_129
          refine sw_aload_n 133 rfl rfl rfl dX2_findWays_132 ?_
          refine sw_iload 135 rfl rfl dX2_findWays_133 ?_
          refine sw_iload 137 rfl rfl dX2_findWays_135 ?_
          refine sw_iload_n 138 rfl rfl dX2_findWays_137 ?_
          refine sw_callV 141 [] rfl cs_X2_156 rfl (Nat.le_of_ble_eq_true rfl) rfl hT.obj rfl rfl (ct_canOwe hT.1 a k amt (by omega) (by omega) hm (by omega) (by omega)) rfl rfl (Nat.le_of_ble_eq_true rfl) dX2_findWays_138 (fun v X hq => ?_) (fun E X hq => by obtain ⟨hv, -⟩ := hq; cases hv)
          obtain ⟨hv, hT1⟩ := hq
          cases hv
          replace hT := hT.tr hT1
          clear hT1
          refine sw_if_eq 148 144 (by decide) rfl dX2_findWays_141 (fun c_141 => ?_) (fun c_141 => ?_)
          · rw [b2_0] at c_141
            have e_141 := c_141
            refine sw_iconst 149 rfl (nI 0) rfl dX2_findWays_148 ?_
            refine sw_istore 151 rfl [_, _, _, _, _, _, _, _, _, _] (Nat.le_of_ble_eq_true rfl) rfl dX2_findWays_149 ?_
            refine sw_aload_n 152 rfl rfl rfl dX2_findWays_151 ?_
            refine sw_iload 154 rfl rfl dX2_findWays_152 ?_
            refine sw_iload_n 155 rfl rfl dX2_findWays_154 ?_
            refine sw_callV 158 [] rfl cs_X2_153 rfl (Nat.le_of_ble_eq_true rfl) rfl hT.obj rfl rfl (ct_feeOf hT.1 a amt (by omega) hm hrt) rfl rfl (Nat.le_of_ble_eq_true rfl) dX2_findWays_155 (fun v X hq => ?_) (fun E X hq => by obtain ⟨hv, -⟩ := hq; cases hv)
            obtain ⟨hv, hT1⟩ := hq
            cases hv
            replace hT := hT.tr hT1
            clear hT1
            refine sw_aload_n 159 rfl rfl rfl dX2_findWays_158 ?_
            refine gf_X2_100 162 rfl hT.obj rfl rfl dX2_findWays_159 ?_
            refine sw_iload 164 rfl rfl dX2_findWays_162 ?_
            refine sw_lald 165 rfl (hT.arr 35 rfl) (by omega) (Nat.le_of_ble_eq_true rfl) dX2_findWays_164 ?_
            refine sw_ladd 166 rfl dX2_findWays_165 ?_
            refine sw_topL (lN_add _ _) ?_
            refine sw_lstore 168 rfl [_, _, _, _, _, _, _, _, _, _] (Nat.le_of_ble_eq_true rfl) rfl dX2_findWays_166 ?_
            refine sw_iload 170 rfl rfl dX2_findWays_168 ?_
            refine sw_if_eq 243 173 (by decide) rfl dX2_findWays_170 (fun c_170 => ?_) (fun c_170 => absurd (by decide) c_170)
            clear c_170
            refine sw_iinc 246 rfl [_, _, _, _, _, _, _, _, _, _] (nI (_ + 1)) rfl (nI_add _ 1) (Nat.le_of_ble_eq_true rfl) rfl dX2_findWays_243 ?_
            refine sw_goto 98 (by decide) dX2_findWays_246 ?_
            have e8 : pFWc last amt w a k T = T := pFWc_f (fun q => e_141 q.1.2)
            have h9 := ih (k + 1) (j + 1) X (pFWc last amt w a k T) (by rw [e8]; exact hT) ⟨hr, by omega⟩ (by omega) hex
            refine sw_fgt (lvle_c (lvle_c (lvle_c (lvle_c (lvle_c (lvle_c (lvle_c (lvle_n (lvle_n (lvle_n lvle_nil)))))))))) ?_
            exact h9
          · rw [b2_n] at c_141
            have e_141 := c_141
            refine sw_iconst 145 rfl (nI 1) rfl dX2_findWays_144 ?_
            refine sw_goto 149 (by decide) dX2_findWays_145 ?_
            refine sw_istore 151 rfl [_, _, _, _, _, _, _, _, _, _] (Nat.le_of_ble_eq_true rfl) rfl dX2_findWays_149 ?_
            refine sw_aload_n 152 rfl rfl rfl dX2_findWays_151 ?_
            refine sw_iload 154 rfl rfl dX2_findWays_152 ?_
            refine sw_iload_n 155 rfl rfl dX2_findWays_154 ?_
            refine sw_callV 158 [] rfl cs_X2_153 rfl (Nat.le_of_ble_eq_true rfl) rfl hT.obj rfl rfl (ct_feeOf hT.1 a amt (by omega) hm hrt) rfl rfl (Nat.le_of_ble_eq_true rfl) dX2_findWays_155 (fun v X hq => ?_) (fun E X hq => by obtain ⟨hv, -⟩ := hq; cases hv)
            obtain ⟨hv, hT1⟩ := hq
            cases hv
            replace hT := hT.tr hT1
            clear hT1
            refine sw_aload_n 159 rfl rfl rfl dX2_findWays_158 ?_
            refine gf_X2_100 162 rfl hT.obj rfl rfl dX2_findWays_159 ?_
            refine sw_iload 164 rfl rfl dX2_findWays_162 ?_
            refine sw_lald 165 rfl (hT.arr 35 rfl) (by omega) (Nat.le_of_ble_eq_true rfl) dX2_findWays_164 ?_
            refine sw_ladd 166 rfl dX2_findWays_165 ?_
            refine sw_topL (lN_add _ _) ?_
            refine sw_lstore 168 rfl [_, _, _, _, _, _, _, _, _, _] (Nat.le_of_ble_eq_true rfl) rfl dX2_findWays_166 ?_
            refine sw_iload 170 rfl rfl dX2_findWays_168 ?_
            refine sw_if_eq 243 173 (by decide) rfl dX2_findWays_170 (fun c_170 => absurd c_170 (by decide)) (fun c_170 => ?_)
            clear c_170
            refine sw_lload 175 rfl rfl dX2_findWays_173 ?_
            refine sw_aload_n 176 rfl rfl rfl dX2_findWays_175 ?_
            refine gf_X2_100 179 rfl hT.obj rfl rfl dX2_findWays_176 ?_
            refine sw_iload 181 rfl rfl dX2_findWays_179 ?_
            refine sw_lald 182 rfl (hT.arr 35 rfl) (by omega) (Nat.le_of_ble_eq_true rfl) dX2_findWays_181 ?_
            refine sw_llt 218 183 186 rfl (by decide) rfl dX2_findWays_182 dX2_findWays_183 (fun c_182 => ?_) (fun c_182 => ?_)
            · rw [pk_lLT (by omega) (by omega)] at c_182
              refine sw_aload_n 219 rfl rfl rfl dX2_findWays_218 ?_
              refine gf_X2_100 222 rfl hT.obj rfl rfl dX2_findWays_219 ?_
              refine sw_iload 224 rfl rfl dX2_findWays_222 ?_
              refine sw_lload 226 rfl rfl dX2_findWays_224 ?_
              refine sw_last 227 rfl (hT.arr 35 rfl) (by omega) (Nat.le_of_ble_eq_true rfl) dX2_findWays_226 (fun X hX => ?_)
              replace hT := hT.p35 hX
              clear hX
              refine sw_aload_n 228 rfl rfl rfl dX2_findWays_227 ?_
              refine gf_X2_103 231 rfl hT.obj rfl rfl dX2_findWays_228 ?_
              refine sw_iload 233 rfl rfl dX2_findWays_231 ?_
              refine sw_aload_n 234 rfl rfl rfl dX2_findWays_233 ?_
              refine gf_X2_103 237 rfl hT.obj rfl rfl dX2_findWays_234 ?_
              refine sw_iload 239 rfl rfl dX2_findWays_237 ?_
              refine sw_iald 240 rfl (hT.arr 36 rfl) (by omega) (Nat.le_of_ble_eq_true rfl) dX2_findWays_239 ?_
              try simp only [sI_N, sI_L, sN_I, sN_L, sL_N, sL_I, sN_t, sI_t, sL_t, pOwe_N, pOwe_I, pOweBoth_N, pOweBoth_I, pTB_N, pTB_I, pGoBack_N, pOweOn_N, pOweOn_I, reduceIte, Nat.reduceEqDiff]
              refine sw_iconst 241 rfl (nI 1) rfl dX2_findWays_240 ?_
              refine sw_iaddN 242 rfl dX2_findWays_241 ?_
              refine sw_iast 243 rfl (hT.arr 36 rfl) (by omega) (Nat.le_of_ble_eq_true rfl) dX2_findWays_242 (fun X hX => ?_)
              replace hT := hT.p36 hX
              clear hX
              refine sw_iinc 246 rfl [_, _, _, _, _, _, _, _, _, _] (nI (_ + 1)) rfl (nI_add _ 1) (Nat.le_of_ble_eq_true rfl) rfl dX2_findWays_243 ?_
              refine sw_goto 98 (by decide) dX2_findWays_246 ?_
              have e8 := pFWc_t (show (wGo T last w a ∧ pCan T a k amt) ∧ _ from ⟨⟨⟨c_110, c_120, c_129⟩, e_141⟩, Or.inl c_182⟩)
              have h9 := ih (k + 1) (j + 1) X (pFWc last amt w a k T) (by rw [e8]; exact hT) ⟨hr, by omega⟩ (by omega) hex
              refine sw_fgt (lvle_c (lvle_c (lvle_c (lvle_c (lvle_c (lvle_c (lvle_c (lvle_n (lvle_n (lvle_n lvle_nil)))))))))) ?_
              exact h9
            · rw [pk_lLT (by omega) (by omega)] at c_182
              refine sw_lload 188 rfl rfl dX2_findWays_186 ?_
              refine sw_aload_n 189 rfl rfl rfl dX2_findWays_188 ?_
              refine gf_X2_100 192 rfl hT.obj rfl rfl dX2_findWays_189 ?_
              refine sw_iload 194 rfl rfl dX2_findWays_192 ?_
              refine sw_lald 195 rfl (hT.arr 35 rfl) (by omega) (Nat.le_of_ble_eq_true rfl) dX2_findWays_194 ?_
              refine sw_lne 243 196 199 rfl (by decide) rfl dX2_findWays_195 dX2_findWays_196 (fun c_195 => ?_) (fun c_195 => ?_)
              · rw [pk_lEQ (by omega) (by omega)] at c_195
                refine sw_iinc 246 rfl [_, _, _, _, _, _, _, _, _, _] (nI (_ + 1)) rfl (nI_add _ 1) (Nat.le_of_ble_eq_true rfl) rfl dX2_findWays_243 ?_
                refine sw_goto 98 (by decide) dX2_findWays_246 ?_
                have e8 : pFWc last amt w a k T = T := pFWc_f (fun q => q.2.elim (fun z => c_182 z) (fun z => c_195 z.1))
                have h9 := ih (k + 1) (j + 1) X (pFWc last amt w a k T) (by rw [e8]; exact hT) ⟨hr, by omega⟩ (by omega) hex
                refine sw_fgt (lvle_c (lvle_c (lvle_c (lvle_c (lvle_c (lvle_c (lvle_c (lvle_n (lvle_n (lvle_n lvle_nil)))))))))) ?_
                exact h9
              · rw [pk_lEQ (by omega) (by omega)] at c_195
                refine sw_aload_n 200 rfl rfl rfl dX2_findWays_199 ?_
                refine gf_X2_103 203 rfl hT.obj rfl rfl dX2_findWays_200 ?_
                refine sw_iload 205 rfl rfl dX2_findWays_203 ?_
                refine sw_iald 206 rfl (hT.arr 36 rfl) (by omega) (Nat.le_of_ble_eq_true rfl) dX2_findWays_205 ?_
                refine sw_iconst 207 rfl (nI 1) rfl dX2_findWays_206 ?_
                refine sw_iaddN 208 rfl dX2_findWays_207 ?_
                refine sw_aload_n 209 rfl rfl rfl dX2_findWays_208 ?_
                refine gf_X2_103 212 rfl hT.obj rfl rfl dX2_findWays_209 ?_
                refine sw_iload 214 rfl rfl dX2_findWays_212 ?_
                refine sw_iald 215 rfl (hT.arr 36 rfl) (by omega) (Nat.le_of_ble_eq_true rfl) dX2_findWays_214 ?_
                refine sw_icmp_ge 243 218 (by decide) rfl dX2_findWays_215 (fun c_215 => ?_) (fun c_215 => ?_)
                · rw [nI_leI (by omega) (by omega)] at c_215
                  refine sw_iinc 246 rfl [_, _, _, _, _, _, _, _, _, _] (nI (_ + 1)) rfl (nI_add _ 1) (Nat.le_of_ble_eq_true rfl) rfl dX2_findWays_243 ?_
                  refine sw_goto 98 (by decide) dX2_findWays_246 ?_
                  have e8 : pFWc last amt w a k T = T := pFWc_f (fun q => q.2.elim (fun z => c_182 z) (fun z => by omega))
                  have h9 := ih (k + 1) (j + 1) X (pFWc last amt w a k T) (by rw [e8]; exact hT) ⟨hr, by omega⟩ (by omega) hex
                  refine sw_fgt (lvle_c (lvle_c (lvle_c (lvle_c (lvle_c (lvle_c (lvle_c (lvle_n (lvle_n (lvle_n lvle_nil)))))))))) ?_
                  exact h9
                · rw [nI_leI (by omega) (by omega)] at c_215
                  refine sw_aload_n 219 rfl rfl rfl dX2_findWays_218 ?_
                  refine gf_X2_100 222 rfl hT.obj rfl rfl dX2_findWays_219 ?_
                  refine sw_iload 224 rfl rfl dX2_findWays_222 ?_
                  refine sw_lload 226 rfl rfl dX2_findWays_224 ?_
                  refine sw_last 227 rfl (hT.arr 35 rfl) (by omega) (Nat.le_of_ble_eq_true rfl) dX2_findWays_226 (fun X hX => ?_)
                  replace hT := hT.p35 hX
                  clear hX
                  refine sw_aload_n 228 rfl rfl rfl dX2_findWays_227 ?_
                  refine gf_X2_103 231 rfl hT.obj rfl rfl dX2_findWays_228 ?_
                  refine sw_iload 233 rfl rfl dX2_findWays_231 ?_
                  refine sw_aload_n 234 rfl rfl rfl dX2_findWays_233 ?_
                  refine gf_X2_103 237 rfl hT.obj rfl rfl dX2_findWays_234 ?_
                  refine sw_iload 239 rfl rfl dX2_findWays_237 ?_
                  refine sw_iald 240 rfl (hT.arr 36 rfl) (by omega) (Nat.le_of_ble_eq_true rfl) dX2_findWays_239 ?_
                  try simp only [sI_N, sI_L, sN_I, sN_L, sL_N, sL_I, sN_t, sI_t, sL_t, pOwe_N, pOwe_I, pOweBoth_N, pOweBoth_I, pTB_N, pTB_I, pGoBack_N, pOweOn_N, pOweOn_I, reduceIte, Nat.reduceEqDiff]
                  refine sw_iconst 241 rfl (nI 1) rfl dX2_findWays_240 ?_
                  refine sw_iaddN 242 rfl dX2_findWays_241 ?_
                  refine sw_iast 243 rfl (hT.arr 36 rfl) (by omega) (Nat.le_of_ble_eq_true rfl) dX2_findWays_242 (fun X hX => ?_)
                  replace hT := hT.p36 hX
                  clear hX
                  refine sw_iinc 246 rfl [_, _, _, _, _, _, _, _, _, _] (nI (_ + 1)) rfl (nI_add _ 1) (Nat.le_of_ble_eq_true rfl) rfl dX2_findWays_243 ?_
                  refine sw_goto 98 (by decide) dX2_findWays_246 ?_
                  have e8 := pFWc_t (show (wGo T last w a ∧ pCan T a k amt) ∧ _ from ⟨⟨⟨c_110, c_120, c_129⟩, e_141⟩, Or.inr ⟨c_195, by omega⟩⟩)
                  have h9 := ih (k + 1) (j + 1) X (pFWc last amt w a k T) (by rw [e8]; exact hT) ⟨hr, by omega⟩ (by omega) hex
                  refine sw_fgt (lvle_c (lvle_c (lvle_c (lvle_c (lvle_c (lvle_c (lvle_c (lvle_n (lvle_n (lvle_n lvle_nil)))))))))) ?_
                  exact h9
set_option maxHeartbeats 4000000 in
theorem lp_fwb {r : Nat} (hw : WF K S) (hm : amt ≤ 1000000) (hl : last < S.1 3 0) (hwo : w < 4096) {Q : Ot → Sh → Prop} : ∀ (n k j : Nat) (X : Sh) (T : TS), TwF γ Mo aT X0 X T → IW S last amt w j T ∧ j + 12 * n ≤ 2900 → k + n = S.1 3 0 → (∀ X1, TwF γ Mo aT X0 X1 (rep n k (pFWb (S.1 3 0) last amt w) T) → SW γ mX2_findWays X0 X1 255 [some (.ref Mo), some (.int (nI last)), some (.int (nI amt)), some (.int (nI w)), some (.int (nI r)), none, none, none, none, none] [] Q) → SW γ mX2_findWays X0 X 86 [some (.ref Mo), some (.int (nI last)), some (.int (nI amt)), some (.int (nI w)), some (.int (nI r)), some (.int (nI k)), none, none, none, none] [] Q := by
  have hnb := hw.nb
  intro n
  induction n with
  | zero =>
    intro k j X T hT ⟨hI, hj⟩ hn hex
    have en : T.1 3 0 = S.1 3 0 := hI.1.nb
    have hnb2 : T.1 3 0 ≤ 12 := by omega
    refine sw_iload 88 rfl rfl dX2_findWays_86 ?_
    refine sw_aload_n 89 rfl rfl rfl dX2_findWays_88 ?_
    refine gf_X2_113 92 rfl hT.obj rfl rfl dX2_findWays_89 ?_
    refine sw_icmp_ge 255 95 (by decide) rfl dX2_findWays_92 (fun c_92 => ?_) (fun c_92 => absurd (nI_le (by omega) (by omega)) c_92)
    clear c_92
    refine sw_fgt (lvle_c (lvle_c (lvle_c (lvle_c (lvle_c (lvle_n (lvle_n (lvle_n (lvle_n (lvle_n lvle_nil)))))))))) ?_
    exact hex X hT
  | succ n ih =>
    intro k j X T hT ⟨hI, hj⟩ hn hex
    have en : T.1 3 0 = S.1 3 0 := hI.1.nb
    have hnb2 : T.1 3 0 ≤ 12 := by omega
    have hr := IW.bb hw hm (by omega) hI (show k < S.1 3 0 by omega)
    refine sw_iload 88 rfl rfl dX2_findWays_86 ?_
    refine sw_aload_n 89 rfl rfl rfl dX2_findWays_88 ?_
    refine gf_X2_113 92 rfl hT.obj rfl rfl dX2_findWays_89 ?_
    refine sw_icmp_ge 255 95 (by decide) rfl dX2_findWays_92 (fun c_92 => absurd c_92 (nI_ge (by omega) (by omega))) (fun c_92 => ?_)
    clear c_92
    refine sw_iconst 96 rfl (nI 0) rfl dX2_findWays_95 ?_
    refine sw_istore 98 rfl [_, _, _, _, _, _, _, _, _, _] (Nat.le_of_ble_eq_true rfl) rfl dX2_findWays_96 ?_
    refine lp_fwc (r := r) hw hm hl hwo (show k < S.1 3 0 by omega) (S.1 3 0) 0 j X T hT ⟨hI, by omega⟩ (Nat.zero_add _) (fun X hT => ?_)
    rw [show rep (S.1 3 0) 0 (pFWc last amt w k) T = pFWb (S.1 3 0) last amt w k T from rfl] at hT
    refine sw_iinc 252 rfl [_, _, _, _, _, _, _, _, _, _] (nI (_ + 1)) rfl (nI_add _ 1) (Nat.le_of_ble_eq_true rfl) rfl dX2_findWays_249 ?_
    refine sw_goto 86 (by decide) dX2_findWays_252 ?_
    exact ih (k + 1) (j + 12) X (pFWb (S.1 3 0) last amt w k T) hT ⟨hr, by omega⟩ (by omega) hex
set_option maxHeartbeats 4000000 in
theorem lp_fwa (hw : WF K S) (hm : amt ≤ 1000000) (hl : last < S.1 3 0) (hwo : w < 4096) {Q : Ot → Sh → Prop} : ∀ (n k j : Nat) (X : Sh) (T : TS), TwF γ Mo aT X0 X T → IW S last amt w j T ∧ j + 144 * n ≤ 2500 → k + n = S.1 3 0 → (∀ X1, TwF γ Mo aT X0 X1 (rep n k (pFWa (S.1 3 0) last amt w) T) → SW γ mX2_findWays X0 X1 261 [some (.ref Mo), some (.int (nI last)), some (.int (nI amt)), some (.int (nI w)), none, none, none, none, none, none] [] Q) → SW γ mX2_findWays X0 X 74 [some (.ref Mo), some (.int (nI last)), some (.int (nI amt)), some (.int (nI w)), some (.int (nI k)), none, none, none, none, none] [] Q := by
  have hnb := hw.nb
  intro n
  induction n with
  | zero =>
    intro k j X T hT ⟨hI, hj⟩ hn hex
    have en : T.1 3 0 = S.1 3 0 := hI.1.nb
    have hnb2 : T.1 3 0 ≤ 12 := by omega
    refine sw_iload 76 rfl rfl dX2_findWays_74 ?_
    refine sw_aload_n 77 rfl rfl rfl dX2_findWays_76 ?_
    refine gf_X2_113 80 rfl hT.obj rfl rfl dX2_findWays_77 ?_
    refine sw_icmp_ge 261 83 (by decide) rfl dX2_findWays_80 (fun c_80 => ?_) (fun c_80 => absurd (nI_le (by omega) (by omega)) c_80)
    clear c_80
    refine sw_fgt (lvle_c (lvle_c (lvle_c (lvle_c (lvle_n (lvle_n (lvle_n (lvle_n (lvle_n (lvle_n lvle_nil)))))))))) ?_
    exact hex X hT
  | succ n ih =>
    intro k j X T hT ⟨hI, hj⟩ hn hex
    have en : T.1 3 0 = S.1 3 0 := hI.1.nb
    have hnb2 : T.1 3 0 ≤ 12 := by omega
    have hr := IW.aa hw hm (by omega) hI k
    refine sw_iload 76 rfl rfl dX2_findWays_74 ?_
    refine sw_aload_n 77 rfl rfl rfl dX2_findWays_76 ?_
    refine gf_X2_113 80 rfl hT.obj rfl rfl dX2_findWays_77 ?_
    refine sw_icmp_ge 261 83 (by decide) rfl dX2_findWays_80 (fun c_80 => absurd c_80 (nI_ge (by omega) (by omega))) (fun c_80 => ?_)
    clear c_80
    refine sw_iconst 84 rfl (nI 0) rfl dX2_findWays_83 ?_
    refine sw_istore 86 rfl [_, _, _, _, _, _, _, _, _, _] (Nat.le_of_ble_eq_true rfl) rfl dX2_findWays_84 ?_
    refine lp_fwb (r := k) hw hm hl hwo (S.1 3 0) 0 j X T hT ⟨hI, by omega⟩ (Nat.zero_add _) (fun X hT => ?_)
    rw [show rep (S.1 3 0) 0 (pFWb (S.1 3 0) last amt w) T = pFWa (S.1 3 0) last amt w k T from rfl] at hT
    refine sw_iinc 258 rfl [_, _, _, _, _, _, _, _, _, _] (nI (_ + 1)) rfl (nI_add _ 1) (Nat.le_of_ble_eq_true rfl) rfl dX2_findWays_255 ?_
    refine sw_goto 74 (by decide) dX2_findWays_258 ?_
    exact ih (k + 1) (j + 144) X (pFWa (S.1 3 0) last amt w k T) hT ⟨hr, by omega⟩ (by omega) hex
set_option maxHeartbeats 4000000 in
theorem ct_findWays (hR : TwR γ Mo aT X S) (hw : WF K S) (hm : amt ≤ 1000000) (hl : last < S.1 3 0) (hwo : w < 4096) : Ev γ mX2_findWays [.ref Mo, .int (nI last), .int (nI amt), .int (nI w)] X (fun oc X1 => oc = .inl none ∧ TwF γ Mo aT X X1 (pFWs S last amt w)) := by
  have hT := TwF.rf hR
  have hnb := hw.nb
  refine Ev.of (lv := [_, _, _, _, _, _, _, _, _, _]) 6 ⟨by decide +kernel, rfl, (Nat.le_of_ble_eq_true rfl)⟩ rfl ?_
  refine sw_iconst 1 rfl (nI 0) rfl dX2_findWays_0 ?_
  refine sw_istore 3 rfl [_, _, _, _, _, _, _, _, _, _] (Nat.le_of_ble_eq_true rfl) rfl dX2_findWays_1 ?_
  refine lp_fw0 hw hm hl hwo (S.1 3 0) 0 0 X S hT (eqW.rf S) (Nat.zero_add _) (fun X hT => ?_)
  refine sw_iconst 72 rfl (nI 0) rfl dX2_findWays_71 ?_
  refine sw_istore 74 rfl [_, _, _, _, _, _, _, _, _, _] (Nat.le_of_ble_eq_true rfl) rfl dX2_findWays_72 ?_
  refine lp_fwa hw hm hl hwo (S.1 3 0) 0 0 X _ hT ⟨IW.init hw hm hl, by omega⟩ (Nat.zero_add _) (fun X hT => ?_)
  refine sw_vret rfl dX2_findWays_261 ?_
  exact ⟨rfl, hT⟩

set_option maxHeartbeats 4000000 in
theorem lp_next {a q : Nat} {T : TS} {Q : Ot → Sh → Prop} (hw : WF K T) (hm : amt ≤ 1000000) (ha : a < T.1 3 0) (hF : ∀ b, b < T.1 3 0 → T.1 35 b ≤ 1000000000000 ∧ T.1 36 b ≤ 12) (hex : ∀ X, TwF γ Mo aT X0 X T → SW γ mX2_findWay X0 X 147 [some (.ref Mo), some (.int (nI first)), some (.int (nI last)), some (.int (nI amt)), some (.int (nI w)), some (.int (nI q)), some (.int (nI a)), some (.int (pFst (wNext T amt a) 0 (T.1 3 0))), none, none] [] Q) : ∀ (k m : Nat) (X : Sh), TwF γ Mo aT X0 X T → k + m = T.1 3 0 → SW γ mX2_findWay X0 X 58 [some (.ref Mo), some (.int (nI first)), some (.int (nI last)), some (.int (nI amt)), some (.int (nI w)), some (.int (nI q)), some (.int (nI a)), some (.int (pFst (wNext T amt a) k m)), some (.int (nI k - nI 1)), none] [] Q := by
  have hnb := hw.nb
  intro k
  induction k with
  | zero =>
    intro m X hT hmn
    rw [Nat.zero_add] at hmn
    subst hmn
    refine sw_iload 60 rfl rfl dX2_findWay_58 ?_
    refine sw_if_lt 147 63 (by decide) rfl dX2_findWay_60 (fun c_60 => ?_) (fun c_60 => absurd (by decide) c_60)
    clear c_60
    refine sw_fgt (lvle_c (lvle_c (lvle_c (lvle_c (lvle_c (lvle_c (lvle_c (lvle_c (lvle_n (lvle_n lvle_nil)))))))))) ?_
    exact hex X hT
  | succ k ih =>
    intro m X hT hmn
    have hrt := hw.rate (b := a) (by omega)
    have hfe := pFee_le (S := T) (b := a) hm hrt
    have hl1 := hw.lim (12 * k + a)
    have fa := hF a ha
    have fb := hF k (by omega)
    rw [show nI (k + 1) - nI 1 = nI k from by rw [pk_sub (by omega)]; rfl]
    refine sw_iload 60 rfl rfl dX2_findWay_58 ?_
    refine sw_if_lt 147 63 (by decide) rfl dX2_findWay_60 (fun c_60 => absurd c_60 (nI_pos (by omega))) (fun c_60 => ?_)
    clear c_60
    refine sw_aload_n 64 rfl rfl rfl dX2_findWay_63 ?_
    refine sw_iload 66 rfl rfl dX2_findWay_64 ?_
    refine sw_iload 68 rfl rfl dX2_findWay_66 ?_
    refine sw_iload_n 69 rfl rfl dX2_findWay_68 ?_
    refine sw_callV 72 [] rfl cs_X2_156 rfl (Nat.le_of_ble_eq_true rfl) rfl hT.obj rfl rfl (ct_canOwe hT.1 a k amt (by omega) (by omega) hm (by omega) (by omega)) rfl rfl (Nat.le_of_ble_eq_true rfl) dX2_findWay_69 (fun v X hq => ?_) (fun E X hq => by obtain ⟨hv, -⟩ := hq; cases hv)
    obtain ⟨hv, hT1⟩ := hq
    cases hv
    replace hT := hT.tr hT1
    clear hT1
    refine sw_if_eq 124 75 (by decide) rfl dX2_findWay_72 (fun c_72 => ?_) (fun c_72 => ?_)
    · rw [b2_0] at c_72
      have e_72 := c_72
      refine sw_iconst 125 rfl (nI 0) rfl dX2_findWay_124 ?_
      refine sw_istore 127 rfl [_, _, _, _, _, _, _, _, _, _] (Nat.le_of_ble_eq_true rfl) rfl dX2_findWay_125 ?_
      refine sw_iload 129 rfl rfl dX2_findWay_127 ?_
      refine sw_if_eq 137 132 (by decide) rfl dX2_findWay_129 (fun c_129 => ?_) (fun c_129 => absurd (by decide) c_129)
      clear c_129
      refine sw_iload 139 rfl rfl dX2_findWay_137 ?_
      refine sw_istore 141 rfl [_, _, _, _, _, _, _, _, _, _] (Nat.le_of_ble_eq_true rfl) rfl dX2_findWay_139 ?_
      refine sw_iinc 144 rfl [_, _, _, _, _, _, _, _, _, _] _ rfl rfl (Nat.le_of_ble_eq_true rfl) rfl dX2_findWay_141 ?_
      refine sw_goto 58 (by decide) dX2_findWay_144 ?_
      have h9 := ih (m + 1) X hT (by omega)
      rw [show pFst (wNext T amt a) k (m + 1) = pFst (wNext T amt a) (k + 1) m from cif_f (fun q => e_72 q.1), Int32.sub_eq_add_neg] at h9
      refine sw_fgt (lvle_c (lvle_c (lvle_c (lvle_c (lvle_c (lvle_c (lvle_c (lvle_c (lvle_c (lvle_n lvle_nil)))))))))) ?_
      exact h9
    · rw [b2_n] at c_72
      have e_72 := c_72
      refine sw_aload_n 76 rfl rfl rfl dX2_findWay_75 ?_
      refine sw_iload 78 rfl rfl dX2_findWay_76 ?_
      refine sw_iload_n 79 rfl rfl dX2_findWay_78 ?_
      refine sw_callV 82 [] rfl cs_X2_153 rfl (Nat.le_of_ble_eq_true rfl) rfl hT.obj rfl rfl (ct_feeOf hT.1 a amt (by omega) hm hrt) rfl rfl (Nat.le_of_ble_eq_true rfl) dX2_findWay_79 (fun v X hq => ?_) (fun E X hq => by obtain ⟨hv, -⟩ := hq; cases hv)
      obtain ⟨hv, hT1⟩ := hq
      cases hv
      replace hT := hT.tr hT1
      clear hT1
      refine sw_aload_n 83 rfl rfl rfl dX2_findWay_82 ?_
      refine gf_X2_100 86 rfl hT.obj rfl rfl dX2_findWay_83 ?_
      refine sw_iload 88 rfl rfl dX2_findWay_86 ?_
      refine sw_lald 89 rfl (hT.arr 35 rfl) (by omega) (Nat.le_of_ble_eq_true rfl) dX2_findWay_88 ?_
      refine sw_ladd 90 rfl dX2_findWay_89 ?_
      refine sw_topL (lN_add _ _) ?_
      refine sw_aload_n 91 rfl rfl rfl dX2_findWay_90 ?_
      refine gf_X2_100 94 rfl hT.obj rfl rfl dX2_findWay_91 ?_
      refine sw_iload 96 rfl rfl dX2_findWay_94 ?_
      refine sw_lald 97 rfl (hT.arr 35 rfl) (by omega) (Nat.le_of_ble_eq_true rfl) dX2_findWay_96 ?_
      refine sw_lne 124 98 101 rfl (by decide) rfl dX2_findWay_97 dX2_findWay_98 (fun c_97 => ?_) (fun c_97 => ?_)
      · rw [pk_lEQ (by omega) (by omega)] at c_97
        refine sw_iconst 125 rfl (nI 0) rfl dX2_findWay_124 ?_
        refine sw_istore 127 rfl [_, _, _, _, _, _, _, _, _, _] (Nat.le_of_ble_eq_true rfl) rfl dX2_findWay_125 ?_
        refine sw_iload 129 rfl rfl dX2_findWay_127 ?_
        refine sw_if_eq 137 132 (by decide) rfl dX2_findWay_129 (fun c_129 => ?_) (fun c_129 => absurd (by decide) c_129)
        clear c_129
        refine sw_iload 139 rfl rfl dX2_findWay_137 ?_
        refine sw_istore 141 rfl [_, _, _, _, _, _, _, _, _, _] (Nat.le_of_ble_eq_true rfl) rfl dX2_findWay_139 ?_
        refine sw_iinc 144 rfl [_, _, _, _, _, _, _, _, _, _] _ rfl rfl (Nat.le_of_ble_eq_true rfl) rfl dX2_findWay_141 ?_
        refine sw_goto 58 (by decide) dX2_findWay_144 ?_
        have h9 := ih (m + 1) X hT (by omega)
        rw [show pFst (wNext T amt a) k (m + 1) = pFst (wNext T amt a) (k + 1) m from cif_f (fun q => c_97 q.2.1), Int32.sub_eq_add_neg] at h9
        refine sw_fgt (lvle_c (lvle_c (lvle_c (lvle_c (lvle_c (lvle_c (lvle_c (lvle_c (lvle_c (lvle_n lvle_nil)))))))))) ?_
        exact h9
      · rw [pk_lEQ (by omega) (by omega)] at c_97
        refine sw_aload_n 102 rfl rfl rfl dX2_findWay_101 ?_
        refine gf_X2_103 105 rfl hT.obj rfl rfl dX2_findWay_102 ?_
        refine sw_iload 107 rfl rfl dX2_findWay_105 ?_
        refine sw_iald 108 rfl (hT.arr 36 rfl) (by omega) (Nat.le_of_ble_eq_true rfl) dX2_findWay_107 ?_
        refine sw_iconst 109 rfl (nI 1) rfl dX2_findWay_108 ?_
        refine sw_iaddN 110 rfl dX2_findWay_109 ?_
        refine sw_aload_n 111 rfl rfl rfl dX2_findWay_110 ?_
        refine gf_X2_103 114 rfl hT.obj rfl rfl dX2_findWay_111 ?_
        refine sw_iload 116 rfl rfl dX2_findWay_114 ?_
        refine sw_iald 117 rfl (hT.arr 36 rfl) (by omega) (Nat.le_of_ble_eq_true rfl) dX2_findWay_116 ?_
        refine sw_icmp_ne 124 120 (by decide) rfl dX2_findWay_117 (fun c_117 => ?_) (fun c_117 => ?_)
        · rw [nI_eq (by omega) (by omega)] at c_117
          refine sw_iconst 125 rfl (nI 0) rfl dX2_findWay_124 ?_
          refine sw_istore 127 rfl [_, _, _, _, _, _, _, _, _, _] (Nat.le_of_ble_eq_true rfl) rfl dX2_findWay_125 ?_
          refine sw_iload 129 rfl rfl dX2_findWay_127 ?_
          refine sw_if_eq 137 132 (by decide) rfl dX2_findWay_129 (fun c_129 => ?_) (fun c_129 => absurd (by decide) c_129)
          clear c_129
          refine sw_iload 139 rfl rfl dX2_findWay_137 ?_
          refine sw_istore 141 rfl [_, _, _, _, _, _, _, _, _, _] (Nat.le_of_ble_eq_true rfl) rfl dX2_findWay_139 ?_
          refine sw_iinc 144 rfl [_, _, _, _, _, _, _, _, _, _] _ rfl rfl (Nat.le_of_ble_eq_true rfl) rfl dX2_findWay_141 ?_
          refine sw_goto 58 (by decide) dX2_findWay_144 ?_
          have h9 := ih (m + 1) X hT (by omega)
          rw [show pFst (wNext T amt a) k (m + 1) = pFst (wNext T amt a) (k + 1) m from cif_f (fun q => c_117 q.2.2), Int32.sub_eq_add_neg] at h9
          refine sw_fgt (lvle_c (lvle_c (lvle_c (lvle_c (lvle_c (lvle_c (lvle_c (lvle_c (lvle_c (lvle_n lvle_nil)))))))))) ?_
          exact h9
        · rw [nI_eq (by omega) (by omega)] at c_117
          refine sw_iconst 121 rfl (nI 1) rfl dX2_findWay_120 ?_
          refine sw_goto 125 (by decide) dX2_findWay_121 ?_
          refine sw_istore 127 rfl [_, _, _, _, _, _, _, _, _, _] (Nat.le_of_ble_eq_true rfl) rfl dX2_findWay_125 ?_
          refine sw_iload 129 rfl rfl dX2_findWay_127 ?_
          refine sw_if_eq 137 132 (by decide) rfl dX2_findWay_129 (fun c_129 => absurd c_129 (by decide)) (fun c_129 => ?_)
          clear c_129
          refine sw_iload 134 rfl rfl dX2_findWay_132 ?_
          refine sw_goto 139 (by decide) dX2_findWay_134 ?_
          refine sw_istore 141 rfl [_, _, _, _, _, _, _, _, _, _] (Nat.le_of_ble_eq_true rfl) rfl dX2_findWay_139 ?_
          refine sw_iinc 144 rfl [_, _, _, _, _, _, _, _, _, _] _ rfl rfl (Nat.le_of_ble_eq_true rfl) rfl dX2_findWay_141 ?_
          refine sw_goto 58 (by decide) dX2_findWay_144 ?_
          have h9 := ih (m + 1) X hT (by omega)
          rw [show pFst (wNext T amt a) k (m + 1) = nI k from cif_t ⟨e_72, c_97, c_117⟩, Int32.sub_eq_add_neg] at h9
          refine sw_fgt (lvle_c (lvle_c (lvle_c (lvle_c (lvle_c (lvle_c (lvle_c (lvle_c (lvle_c (lvle_n lvle_nil)))))))))) ?_
          exact h9
theorem wNext_37 {T U : TS} (h : ∀ j, j ≠ 37 → U.1 j = T.1 j) (h2 : U.2 = T.2) (amt a : Nat) : wNext U amt a = wNext T amt a := by
  funext b
  unfold wNext pCan pFee pLim
  rw [h 35 (by omega), h 36 (by omega), h 6 (by omega), h 10 (by omega), h2]
theorem pFound_2 (T : TS) (first amt n m k : Nat) (U : TS) : (rep m k (pFound T first amt n) U).2 = U.2 := by
  induction m generalizing k U with
  | zero => rfl
  | succ m ih => exact ih (k + 1) _
set_option maxHeartbeats 4000000 in
theorem lp_find (hw : WF K S) (hO : OB S) (hm : amt ≤ 1000000) (hf : first < S.1 3 0) (hl : last < S.1 3 0) (hwo : w < 4096) (hfin : (pFWs S last amt w).1 35 first < FARn) : ∀ (m k : Nat) (X : Sh), TwF γ Mo aT X0 X (rep k 0 (pFound (pFWs S last amt w) first amt (S.1 3 0)) (pFWs S last amt w)) → k + 1 + m = (pFWs S last amt w).1 36 first →
    SW γ mX2_findWay X0 X 29 [some (.ref Mo), some (.int (nI first)), some (.int (nI last)), some (.int (nI amt)), some (.int (nI w)), some (.int (nI k)), some (.int (nI (pNode (pFWs S last amt w) first amt (S.1 3 0) k))), none, none, none] [] (fun oc X1 => oc = .inl (some (.int (nI (pLen S first last amt w)))) ∧ TwF γ Mo aT X0 X1 (pFind S first last amt w)) := by
  have hnb := hw.nb
  have hcv := pFWs_CV (w := w) hw hO hm hl
  have hln := hcv.fin hf hfin
  have epl : pLen S first last amt w = (pFWs S last amt w).1 36 first := cif_t hfin
  intro m
  induction m with
  | zero =>
    intro k X hT hk
    have hnd := hcv.node hO hm hl hnb hf hfin k (by omega)
    have e9 : pNode (pFWs S last amt w) first amt (S.1 3 0) k = last := hnd.2.2.2.2 (by omega)
    have e8 : pFind S first last amt w = (rep k 0 (pFound (pFWs S last amt w) first amt (S.1 3 0)) (pFWs S last amt w)).sN 37 k last := by
      unfold pFind
      rw [epl, ← hk, Nat.add_zero, rep_last, Nat.zero_add]
      unfold pFound
      rw [e9]
    rw [e9]
    refine sw_iload 31 rfl rfl dX2_findWay_29 ?_
    refine sw_iload_n 32 rfl rfl dX2_findWay_31 ?_
    refine sw_icmp_eq 154 35 (by decide) rfl dX2_findWay_32 (fun c_32 => ?_) (fun c_32 => absurd rfl c_32)
    clear c_32
    refine sw_aload_n 155 rfl rfl rfl dX2_findWay_154 ?_
    refine gf_X2_106 158 rfl hT.obj rfl rfl dX2_findWay_155 ?_
    refine sw_iload 160 rfl rfl dX2_findWay_158 ?_
    refine sw_iload_n 161 rfl rfl dX2_findWay_160 ?_
    refine sw_iast 162 rfl (hT.arr 37 rfl) (by omega) (Nat.le_of_ble_eq_true rfl) dX2_findWay_161 (fun X hX => ?_)
    replace hT := hT.p37 hX
    clear hX
    refine sw_iload 164 rfl rfl dX2_findWay_162 ?_
    refine sw_iconst 165 rfl (nI 1) rfl dX2_findWay_164 ?_
    refine sw_iaddN 166 rfl dX2_findWay_165 ?_
    refine sw_iret rfl rfl dX2_findWay_166 ?_
    refine ⟨?_, ?_⟩
    · rw [epl]; exact congrArg (fun z => Sum.inl (some (Value.int (nI z)))) (by omega)
    · rw [e8]; exact hT
  | succ m ih =>
    intro k X hT hk
    have hnd := hcv.node hO hm hl hnb hf hfin k (by omega)
    obtain ⟨n1, n2, n3, n4, -⟩ := hnd
    obtain ⟨n5, n6, n7, n8⟩ := n4 (by omega)
    have eU := pFound_t (pFWs S last amt w) first amt (S.1 3 0) (k + 1) 0 (pFWs S last amt w)
    have eU2 := pFound_2 (pFWs S last amt w) first amt (S.1 3 0) (k + 1) 0 (pFWs S last amt w)
    refine sw_iload 31 rfl rfl dX2_findWay_29 ?_
    refine sw_iload_n 32 rfl rfl dX2_findWay_31 ?_
    refine sw_icmp_eq 154 35 (by decide) rfl dX2_findWay_32 (fun c_32 => absurd c_32 (fun z => n5 ((nI_eq (by omega) (by omega)).mp z))) (fun c_32 => ?_)
    clear c_32
    refine sw_aload_n 36 rfl rfl rfl dX2_findWay_35 ?_
    refine gf_X2_106 39 rfl hT.obj rfl rfl dX2_findWay_36 ?_
    refine sw_iload 41 rfl rfl dX2_findWay_39 ?_
    refine sw_iload 43 rfl rfl dX2_findWay_41 ?_
    refine sw_iast 44 rfl (hT.arr 37 rfl) (by omega) (Nat.le_of_ble_eq_true rfl) dX2_findWay_43 (fun X hX => ?_)
    replace hT := hT.p37 hX
    clear hX
    refine sw_iinc 47 rfl [_, _, _, _, _, _, _, _, _, _] (nI (_ + 1)) rfl (nI_add _ 1) (Nat.le_of_ble_eq_true rfl) rfl dX2_findWay_44 ?_
    refine sw_iconst 48 rfl (-1) rfl dX2_findWay_47 ?_
    refine sw_istore 50 rfl [_, _, _, _, _, _, _, _, _, _] (Nat.le_of_ble_eq_true rfl) rfl dX2_findWay_48 ?_
    refine sw_aload_n 51 rfl rfl rfl dX2_findWay_50 ?_
    refine gf_X2_113 54 rfl hT.obj rfl rfl dX2_findWay_51 ?_
    try simp only [sI_N, sI_L, sN_I, sN_L, sL_N, sL_I, sN_t, sI_t, sL_t, pOwe_N, pOwe_I, pOweBoth_N, pOweBoth_I, pTB_N, pTB_I, pGoBack_N, pOweOn_N, pOweOn_I, reduceIte, Nat.reduceEqDiff]
    refine sw_iconst 55 rfl (nI 1) rfl dX2_findWay_54 ?_
    refine sw_isub 56 rfl dX2_findWay_55 ?_
    refine sw_istore 58 rfl [_, _, _, _, _, _, _, _, _, _] (Nat.le_of_ble_eq_true rfl) rfl dX2_findWay_56 ?_
    have e7 : ((rep k 0 (pFound (pFWs S last amt w) first amt (S.1 3 0)) (pFWs S last amt w)).sN 37 k (pNode (pFWs S last amt w) first amt (S.1 3 0) k)) = rep (k + 1) 0 (pFound (pFWs S last amt w) first amt (S.1 3 0)) (pFWs S last amt w) := by
      rw [rep_last, Nat.zero_add]; rfl
    rw [show (rep k 0 (pFound (pFWs S last amt w) first amt (S.1 3 0)) (pFWs S last amt w)).1 3 0 = (rep (k + 1) 0 (pFound (pFWs S last amt w) first amt (S.1 3 0)) (pFWs S last amt w)).1 3 0 from by rw [(pFound_t (pFWs S last amt w) first amt (S.1 3 0) k 0 (pFWs S last amt w)).1 3 (by omega), eU.1 3 (by omega)]]
    rw [e7] at hT
    generalize hU : rep (k + 1) 0 (pFound (pFWs S last amt w) first amt (S.1 3 0)) (pFWs S last amt w) = U at hT eU eU2 ⊢
    have enb : U.1 3 0 = S.1 3 0 := by rw [eU.1 3 (by omega)]; exact hcv.1.nb
    have ewn := wNext_37 eU.1 eU2 amt
    have heW : eqW U S := by rw [← hU]; exact (eqW.rep (fun _ _ => eqW.n37 _ _ _) _ _ _).tr (pFWs_W _ _ _ _)
    refine lp_next (K := K) (q := k + 1) (T := U) ?_ hm (by rw [enb]; exact n1) ?_ (fun X hT => ?_) (U.1 3 0) 0 X hT (by omega)
    · exact eqW.wf hw heW
    · intro b hb
      rw [enb] at hb
      rw [eU.1 35 (by omega), eU.1 36 (by omega)]
      rcases hcv.2 b hb with ⟨z1, z2, -⟩ | ⟨-, z2, z3, z4⟩
      · unfold FARn at z1; omega
      · omega
    rw [ewn, enb, n7]
    refine sw_iload 149 rfl rfl dX2_findWay_147 ?_
    refine sw_istore 151 rfl [_, _, _, _, _, _, _, _, _, _] (Nat.le_of_ble_eq_true rfl) rfl dX2_findWay_149 ?_
    refine sw_goto 29 (by decide) dX2_findWay_151 ?_
    subst hU
    refine sw_fgt (lvle_c (lvle_c (lvle_c (lvle_c (lvle_c (lvle_c (lvle_c (lvle_n (lvle_n (lvle_n lvle_nil)))))))))) ?_
    exact ih (k + 1) X hT (by omega)
set_option maxHeartbeats 4000000 in
theorem ct_findWay (hR : TwR γ Mo aT X S) (hw : WF K S) (hO : OB S) (hm : amt ≤ 1000000) (hf : first < S.1 3 0) (hl : last < S.1 3 0) (hwo : w < 4096) : Ev γ mX2_findWay [.ref Mo, .int (nI first), .int (nI last), .int (nI amt), .int (nI w)] X (fun oc X1 => oc = .inl (some (.int (nI (pLen S first last amt w)))) ∧ TwF γ Mo aT X X1 (pFind S first last amt w)) := by
  have hT := TwF.rf hR
  have hnb := hw.nb
  have hcv := pFWs_CV (w := w) hw hO hm hl
  have hff := hcv.fin' hnb hf
  have hpe : (pFWs S last amt w).1 35 first ≤ 1000000000000 := by unfold FARn at hff; omega
  refine Ev.of (lv := [_, _, _, _, _, _, _, _, _, _]) 5 ⟨by decide +kernel, rfl, (Nat.le_of_ble_eq_true rfl)⟩ rfl ?_
  refine sw_aload_n 1 rfl rfl rfl dX2_findWay_0 ?_
  refine sw_iload_n 2 rfl rfl dX2_findWay_1 ?_
  refine sw_iload_n 3 rfl rfl dX2_findWay_2 ?_
  refine sw_iload 5 rfl rfl dX2_findWay_3 ?_
  refine sw_callV 8 [] rfl cs_X2_159 rfl (Nat.le_of_ble_eq_true rfl) rfl hT.obj rfl rfl (ct_findWays hT.1 hw hm hl hwo) rfl rfl (Nat.le_of_ble_eq_true rfl) dX2_findWay_5 (fun v X hq => ?_) (fun E X hq => by obtain ⟨hv, -⟩ := hq; cases hv)
  obtain ⟨hv, hT1⟩ := hq
  cases hv
  replace hT := hT.tr hT1
  clear hT1
  refine sw_aload_n 9 rfl rfl rfl dX2_findWay_8 ?_
  refine gf_X2_100 12 rfl hT.obj rfl rfl dX2_findWay_9 ?_
  refine sw_iload_n 13 rfl rfl dX2_findWay_12 ?_
  refine sw_lald 14 rfl (hT.arr 35 rfl) (by omega) (Nat.le_of_ble_eq_true rfl) dX2_findWay_13 ?_
  try simp only [sI_N, sI_L, sN_I, sN_L, sL_N, sL_I, sN_t, sI_t, sL_t, pOwe_N, pOwe_I, pOweBoth_N, pOweBoth_I, pTB_N, pTB_I, pGoBack_N, pOweOn_N, pOweOn_I, reduceIte, Nat.reduceEqDiff]
  refine sw_ldc2 17 rfl q1118 dX2_findWay_14 ?_
  refine sw_topL (show (1000000000000 : Int64) = lN 1000000000000 from rfl) ?_
  refine sw_llt 23 18 21 rfl (by decide) rfl dX2_findWay_17 dX2_findWay_18 (fun c_17 => ?_) (fun c_17 => ?_)
  · rw [pk_lLT (by omega) (by omega)] at c_17
    refine sw_iconst 24 rfl (nI 0) rfl dX2_findWay_23 ?_
    refine sw_istore 26 rfl [_, _, _, _, _, _, _, _, _, _] (Nat.le_of_ble_eq_true rfl) rfl dX2_findWay_24 ?_
    refine sw_iload_n 27 rfl rfl dX2_findWay_26 ?_
    refine sw_istore 29 rfl [_, _, _, _, _, _, _, _, _, _] (Nat.le_of_ble_eq_true rfl) rfl dX2_findWay_27 ?_
    exact lp_find hw hO hm hf hl hwo c_17 ((pFWs S last amt w).1 36 first - 1) 0 X hT (by have := (hcv.fin hf c_17).2.1; omega)
  · rw [pk_lLT (by omega) (by omega)] at c_17
    have e9 : ¬ (pFWs S last amt w).1 35 first < FARn := c_17
    refine sw_iconst 22 rfl (nI 0) rfl dX2_findWay_21 ?_
    refine sw_iret rfl rfl dX2_findWay_22 ?_
    have e8 : pLen S first last amt w = 0 := cif_f e9
    exact ⟨by rw [e8], hT.st (by unfold pFind; rw [e8]; rfl)⟩

end T7
