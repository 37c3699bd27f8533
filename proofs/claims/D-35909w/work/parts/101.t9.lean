/-! the reference's blows: written by prog/gen_t9.py -/
theorem pLen_le {S : TS} {K first last amt w : Nat} (hw : WF K S) (hO : OB S) (hm : amt ≤ 1000000) (hf : first < S.1 3 0) (hl : last < S.1 3 0) : pLen S first last amt w ≤ 12 := by
  have hcv := pFWs_CV (w := w) hw hO hm hl
  by_cases q : (pFWs S last amt w).1 35 first < FARn
  · rw [show pLen S first last amt w = _ from cif_t q]
    have := (hcv.fin hf q).2.2.1
    have := hw.nb
    omega
  · rw [show pLen S first last amt w = _ from cif_f q]
    omega
theorem WF.wyo {S : TS} {K o : Nat} (h : WF K S) (ho : o < S.1 14 0) : WyO S o := by
  have := h.no
  have hm := h.many ho
  exact ⟨by omega, ⟨by omega, hm.2.1⟩, fun k hk => h.wayB ho hk, fun k hk => by have := (h.aro ho hk).2; omega, by omega⟩
theorem rep_id (S : TS) : ∀ n k, rep n k (fun _ T => T) S = S
  | 0, _ => rfl
  | n + 1, k => rep_id S n (k + 1)
theorem sN_same (T : TS) (k i v : Nat) (h : T.1 k i = v) : T.sN k i v = T := by
  refine Prod.ext ?_ rfl
  funext a b
  by_cases q : a = k ∧ b = i
  · obtain ⟨rfl, rfl⟩ := q; exact (if_pos ⟨rfl, rfl⟩).trans h.symm
  · exact if_neg q
set_option maxRecDepth 100000
section T9
variable {γ : Gm} {Mo : Nat} {aT : Nat → Nat} {X X0 : Sh} {S : TS} {K B : Nat}
set_option maxHeartbeats 4000000 in
theorem lp_mask {o f h l : Nat} {Q : Ot → Sh → Prop} : ∀ (n k : Nat) (X : Sh) (T : TS), TwF γ Mo aT X0 X T → f ≤ 11 → o < 40 → (∀ k, k < f → T.1 23 (12 * o + k) < 12) → (∀ k, k ≤ f → pMask T o k < 4096) → k + n = f → (∀ X1, TwF γ Mo aT X0 X1 (rep n k (fun _ T => T) T) → SW γ mX2_goElsewhere X0 X1 76 [some (.ref Mo), some (.int (nI o)), some (.int (nI f)), some (.int (nI h)), some (.int (nI l)), some (.int (nI (pMask T o f))), none, none, none, none] [] Q) → SW γ mX2_goElsewhere X0 X 45 [some (.ref Mo), some (.int (nI o)), some (.int (nI f)), some (.int (nI h)), some (.int (nI l)), some (.int (nI (pMask T o k))), some (.int (nI k)), none, none, none] [] Q := by
  intro n
  induction n with
  | zero =>
    intro k X T hT hf ho hW hP hn hex
    refine sw_iload 47 rfl rfl dX2_goElsewhere_45 ?_
    refine sw_iload_n 48 rfl rfl dX2_goElsewhere_47 ?_
    refine sw_icmp_ge 76 51 (by decide) rfl dX2_goElsewhere_48 (fun c_48 => ?_) (fun c_48 => absurd (nI_le (by omega) (by omega)) c_48)
    clear c_48
    have e9 : k = f := by omega
    subst e9
    rw [show rep 0 k (fun _ T => T) T = T from rfl] at hex
    refine sw_fgt (lvle_c (lvle_c (lvle_c (lvle_c (lvle_c (lvle_c (lvle_n (lvle_n (lvle_n (lvle_n lvle_nil)))))))))) ?_
    exact hex X hT
  | succ n ih =>
    intro k X T hT hf ho hW hP hn hex
    refine sw_iload 47 rfl rfl dX2_goElsewhere_45 ?_
    refine sw_iload_n 48 rfl rfl dX2_goElsewhere_47 ?_
    refine sw_icmp_ge 76 51 (by decide) rfl dX2_goElsewhere_48 (fun c_48 => absurd c_48 (nI_ge (by omega) (by omega))) (fun c_48 => ?_)
    clear c_48
    refine sw_iload 53 rfl rfl dX2_goElsewhere_51 ?_
    refine sw_iconst 54 rfl (nI 1) rfl dX2_goElsewhere_53 ?_
    refine sw_aload_n 55 rfl rfl rfl dX2_goElsewhere_54 ?_
    refine gf_X2_66 58 rfl hT.obj rfl rfl dX2_goElsewhere_55 ?_
    refine sw_bipush 60 rfl (nI 12) rfl dX2_goElsewhere_58 ?_
    refine sw_iload_n 61 rfl rfl dX2_goElsewhere_60 ?_
    refine sw_imulN 62 rfl dX2_goElsewhere_61 ?_
    refine sw_iload 64 rfl rfl dX2_goElsewhere_62 ?_
    refine sw_iaddN 65 rfl dX2_goElsewhere_64 ?_
    refine sw_iald 66 rfl (hT.arr 23 rfl) (by omega) (Nat.le_of_ble_eq_true rfl) dX2_goElsewhere_65 ?_
    have hw1 := hW k (by omega)
    refine sw_ishl 67 rfl dX2_goElsewhere_66 ?_
    refine sw_topI (one_sh (by omega)) ?_
    refine sw_ior 68 rfl dX2_goElsewhere_67 ?_
    refine sw_topI (nx_or _ _) ?_
    refine sw_istore 70 rfl [_, _, _, _, _, _, _, _, _, _] (Nat.le_of_ble_eq_true rfl) rfl dX2_goElsewhere_68 ?_
    refine sw_iinc 73 rfl [_, _, _, _, _, _, _, _, _, _] (nI (_ + 1)) rfl (nI_add _ 1) (Nat.le_of_ble_eq_true rfl) rfl dX2_goElsewhere_70 ?_
    refine sw_goto 45 (by decide) dX2_goElsewhere_73 ?_
    exact ih (k + 1) X T hT hf ho hW hP (by omega) hex
set_option maxHeartbeats 4000000 in
theorem ct_goElsewhere (hR : TwR γ Mo aT X S) (hw : WF K S) (hO : OW B S) (hB : B + 192000000 ≤ 2 ^ 60) (o : Nat) (ho : o < S.1 14 0) (hh : S.2.1 15 o = 0) : Ev γ mX2_goElsewhere [.ref Mo, .int (nI o)] X (fun oc X1 => oc = .inl none ∧ TwF γ Mo aT X X1 (pElse o S)) := by
  have hT := TwF.rf hR
  have hno := hw.no
  have hnb := hw.nb
  obtain ⟨i1, i2, i3, i4, i5, i6, i7, i8⟩ := pElse_in hw ho hh
  have hOB := (hO.tb (show B + 192000000 ≤ 2 ^ 61 by omega) o (S.1 21 o) i3 (fun j hj => (hw.aro ho hj).2)).OB hB
  have eN := pTB_N S o (S.1 21 o)
  have eI := pTB_I S o (S.1 21 o)
  have har := hw.aro ho i2
  have hpl : pElsN o S ≤ 12 := pLen_le i1 hOB i4 (by rw [eN]; exact i5) (by rw [eN]; exact i6)
  have eW := pElsF_W o S
  have eV : ∀ j, j ≠ 35 → j ≠ 36 → j ≠ 37 → (pElsF o S).1 j = S.1 j := fun j a b c => (eW.1 j a b c).trans (by rw [eN])
  have hV := eqW.wf i1 eW
  have wyo := hw.wyo ho
  have v22 := eV 22 (by omega) (by omega) (by omega)
  have v16 := eV 16 (by omega) (by omega) (by omega)
  refine Ev.of (lv := [_, _, _, _, _, _, _, _, _, _]) 8 ⟨by decide +kernel, rfl, (Nat.le_of_ble_eq_true rfl)⟩ rfl ?_
  refine sw_aload_n 1 rfl rfl rfl dX2_goElsewhere_0 ?_
  refine gf_X2_60 4 rfl hT.obj rfl rfl dX2_goElsewhere_1 ?_
  refine sw_iload_n 5 rfl rfl dX2_goElsewhere_4 ?_
  refine sw_iald 6 rfl (hT.arr 21 rfl) (by omega) (Nat.le_of_ble_eq_true rfl) dX2_goElsewhere_5 ?_
  refine sw_istore_n 7 rfl [_, _, _, _, _, _, _, _, _, _] (Nat.le_of_ble_eq_true rfl) rfl dX2_goElsewhere_6 ?_
  refine sw_aload_n 8 rfl rfl rfl dX2_goElsewhere_7 ?_
  refine gf_X2_66 11 rfl hT.obj rfl rfl dX2_goElsewhere_8 ?_
  refine sw_bipush 13 rfl (nI 12) rfl dX2_goElsewhere_11 ?_
  refine sw_iload_n 14 rfl rfl dX2_goElsewhere_13 ?_
  refine sw_imulN 15 rfl dX2_goElsewhere_14 ?_
  refine sw_iload_n 16 rfl rfl dX2_goElsewhere_15 ?_
  refine sw_iaddN 17 rfl dX2_goElsewhere_16 ?_
  refine sw_iald 18 rfl (hT.arr 23 rfl) (by omega) (Nat.le_of_ble_eq_true rfl) dX2_goElsewhere_17 ?_
  refine sw_istore_n 19 rfl [_, _, _, _, _, _, _, _, _, _] (Nat.le_of_ble_eq_true rfl) rfl dX2_goElsewhere_18 ?_
  refine sw_aload_n 20 rfl rfl rfl dX2_goElsewhere_19 ?_
  refine gf_X2_66 23 rfl hT.obj rfl rfl dX2_goElsewhere_20 ?_
  refine sw_bipush 25 rfl (nI 12) rfl dX2_goElsewhere_23 ?_
  refine sw_iload_n 26 rfl rfl dX2_goElsewhere_25 ?_
  refine sw_imulN 27 rfl dX2_goElsewhere_26 ?_
  refine sw_aload_n 28 rfl rfl rfl dX2_goElsewhere_27 ?_
  refine gf_X2_63 31 rfl hT.obj rfl rfl dX2_goElsewhere_28 ?_
  refine sw_iload_n 32 rfl rfl dX2_goElsewhere_31 ?_
  refine sw_iald 33 rfl (hT.arr 22 rfl) (by omega) (Nat.le_of_ble_eq_true rfl) dX2_goElsewhere_32 ?_
  refine sw_iaddN 34 rfl dX2_goElsewhere_33 ?_
  refine sw_iconst 35 rfl (nI 1) rfl dX2_goElsewhere_34 ?_
  refine sw_isubN 36 rfl (by omega) dX2_goElsewhere_35 ?_
  rw [show 12 * o + S.1 22 o - 1 = 12 * o + (S.1 22 o - 1) by omega]
  refine sw_iald 37 rfl (hT.arr 23 rfl) (by omega) (Nat.le_of_ble_eq_true rfl) dX2_goElsewhere_36 ?_
  refine sw_istore 39 rfl [_, _, _, _, _, _, _, _, _, _] (Nat.le_of_ble_eq_true rfl) rfl dX2_goElsewhere_37 ?_
  refine sw_iconst 40 rfl (nI 0) rfl dX2_goElsewhere_39 ?_
  refine sw_istore 42 rfl [_, _, _, _, _, _, _, _, _, _] (Nat.le_of_ble_eq_true rfl) rfl dX2_goElsewhere_40 ?_
  refine sw_iconst 43 rfl (nI 0) rfl dX2_goElsewhere_42 ?_
  refine sw_istore 45 rfl [_, _, _, _, _, _, _, _, _, _] (Nat.le_of_ble_eq_true rfl) rfl dX2_goElsewhere_43 ?_
  refine lp_mask (S.1 21 o) 0 X S hT (by omega) (by omega) (fun k hk => hw.wayB ho (by omega)) (fun k hk => (pMask_ok k (fun j hj => hw.wayB ho (by omega))).1) (Nat.zero_add _) (fun X hT => ?_)
  rw [rep_id] at hT
  refine sw_aload_n 77 rfl rfl rfl dX2_goElsewhere_76 ?_
  refine gf_X2_69 80 rfl hT.obj rfl rfl dX2_goElsewhere_77 ?_
  refine sw_bipush 82 rfl (nI 12) rfl dX2_goElsewhere_80 ?_
  refine sw_iload_n 83 rfl rfl dX2_goElsewhere_82 ?_
  refine sw_imulN 84 rfl dX2_goElsewhere_83 ?_
  refine sw_iload_n 85 rfl rfl dX2_goElsewhere_84 ?_
  refine sw_iaddN 86 rfl dX2_goElsewhere_85 ?_
  refine sw_iald 87 rfl (hT.arr 24 rfl) (by omega) (Nat.le_of_ble_eq_true rfl) dX2_goElsewhere_86 ?_
  refine sw_aload_n 88 rfl rfl rfl dX2_goElsewhere_87 ?_
  refine gf_X2_45 91 rfl hT.obj rfl rfl dX2_goElsewhere_88 ?_
  refine sw_iload_n 92 rfl rfl dX2_goElsewhere_91 ?_
  refine sw_iald 93 rfl (hT.arr 16 rfl) (by omega) (Nat.le_of_ble_eq_true rfl) dX2_goElsewhere_92 ?_
  refine sw_isubN 94 rfl har.1 dX2_goElsewhere_93 ?_
  refine sw_i2l 95 rfl dX2_goElsewhere_94 ?_
  refine sw_topL (nI_l (by omega)) ?_
  refine sw_lstore 97 rfl [_, _, _, _, _, _, _, _, _, _] (Nat.le_of_ble_eq_true rfl) rfl dX2_goElsewhere_95 ?_
  refine sw_aload_n 98 rfl rfl rfl dX2_goElsewhere_97 ?_
  refine sw_iload_n 99 rfl rfl dX2_goElsewhere_98 ?_
  refine sw_iload_n 100 rfl rfl dX2_goElsewhere_99 ?_
  refine sw_callV 103 [] rfl cs_X2_162 rfl (Nat.le_of_ble_eq_true rfl) rfl hT.obj rfl rfl (ct_takeBack hT.1 hw o (S.1 21 o) ho (by omega)) rfl rfl (Nat.le_of_ble_eq_true rfl) dX2_goElsewhere_100 (fun v X hq => ?_) (fun E X hq => by obtain ⟨hv, -⟩ := hq; cases hv)
  obtain ⟨hv, hT1⟩ := hq
  cases hv
  replace hT := hT.tr hT1
  clear hT1
  refine sw_aload_n 104 rfl rfl rfl dX2_goElsewhere_103 ?_
  refine sw_iload_n 105 rfl rfl dX2_goElsewhere_104 ?_
  refine sw_iload 107 rfl rfl dX2_goElsewhere_105 ?_
  refine sw_aload_n 108 rfl rfl rfl dX2_goElsewhere_107 ?_
  refine gf_X2_45 111 rfl hT.obj rfl rfl dX2_goElsewhere_108 ?_
  refine sw_iload_n 112 rfl rfl dX2_goElsewhere_111 ?_
  refine sw_iald 113 rfl (hT.arr 16 rfl) (by omega) (Nat.le_of_ble_eq_true rfl) dX2_goElsewhere_112 ?_
  try simp only [sI_N, sI_L, sN_I, sN_L, sL_N, sL_I, sN_t, sI_t, sL_t, pOwe_N, pOwe_I, pOweBoth_N, pOweBoth_I, pTB_N, pTB_I, pGoBack_N, pOweOn_N, pOweOn_I, reduceIte, Nat.reduceEqDiff]
  refine sw_iload 115 rfl rfl dX2_goElsewhere_113 ?_
  refine sw_callV 118 [] rfl cs_X2_170 rfl (Nat.le_of_ble_eq_true rfl) rfl hT.obj rfl rfl (ct_findWay hT.1 i1 hOB i4 (by rw [eN]; exact i5) (by rw [eN]; exact i6) i8) rfl rfl (Nat.le_of_ble_eq_true rfl) dX2_goElsewhere_115 (fun v X hq => ?_) (fun E X hq => by obtain ⟨hv, -⟩ := hq; cases hv)
  obtain ⟨hv, hT1⟩ := hq
  cases hv
  replace hT := hT.tr hT1
  clear hT1
  rw [show pLen (pTB S o (S.1 21 o)) (S.1 23 (12 * o + S.1 21 o)) (S.1 23 (12 * o + (S.1 22 o - 1))) (S.1 16 o) (pMask S o (S.1 21 o)) = pElsN o S from rfl]
  rw [show pFind (pTB S o (S.1 21 o)) (S.1 23 (12 * o + S.1 21 o)) (S.1 23 (12 * o + (S.1 22 o - 1))) (S.1 16 o) (pMask S o (S.1 21 o)) = pElsF o S from rfl] at hT
  refine sw_istore 120 rfl [_, _, _, _, _, _, _, _, _, _] (Nat.le_of_ble_eq_true rfl) rfl dX2_goElsewhere_118 ?_
  refine sw_iload 122 rfl rfl dX2_goElsewhere_120 ?_
  refine sw_if_le 153 125 (by decide) rfl dX2_goElsewhere_122 (fun c_122 => ?_) (fun c_122 => ?_)
  · rw [show (0 : Int32) = nI 0 from rfl, nI_leI (by omega) (by omega)] at c_122
    refine sw_aload_n 154 rfl rfl rfl dX2_goElsewhere_153 ?_
    refine gf_X2_63 157 rfl hT.obj rfl rfl dX2_goElsewhere_154 ?_
    refine sw_iload_n 158 rfl rfl dX2_goElsewhere_157 ?_
    refine sw_iald 159 rfl (hT.arr 22 rfl) (by omega) (Nat.le_of_ble_eq_true rfl) dX2_goElsewhere_158 ?_
    try simp only [sI_N, sI_L, sN_I, sN_L, sL_N, sL_I, sN_t, sI_t, sL_t, pOwe_N, pOwe_I, pOweBoth_N, pOweBoth_I, pTB_N, pTB_I, pGoBack_N, pOweOn_N, pOweOn_I, reduceIte, Nat.reduceEqDiff]
    refine sw_istore 161 rfl [_, _, _, _, _, _, _, _, _, _] (Nat.le_of_ble_eq_true rfl) rfl dX2_goElsewhere_159 ?_
    refine sw_aload_n 162 rfl rfl rfl dX2_goElsewhere_161 ?_
    refine gf_X2_63 165 rfl hT.obj rfl rfl dX2_goElsewhere_162 ?_
    refine sw_iload_n 166 rfl rfl dX2_goElsewhere_165 ?_
    refine sw_iload_n 167 rfl rfl dX2_goElsewhere_166 ?_
    refine sw_iconst 168 rfl (nI 1) rfl dX2_goElsewhere_167 ?_
    refine sw_iaddN 169 rfl dX2_goElsewhere_168 ?_
    refine sw_iast 170 rfl (hT.arr 22 rfl) (by omega) (Nat.le_of_ble_eq_true rfl) dX2_goElsewhere_169 (fun X hX => ?_)
    replace hT := hT.p22 hX
    clear hX
    refine sw_aload_n 171 rfl rfl rfl dX2_goElsewhere_170 ?_
    refine sw_iload_n 172 rfl rfl dX2_goElsewhere_171 ?_
    refine sw_callV 175 [] rfl cs_X2_177 rfl (Nat.le_of_ble_eq_true rfl) rfl hT.obj rfl rfl (ct_goBackW hT.1 o ⟨by omega, ⟨by rw [sN_eq]; omega, by rw [sN_eq]; omega⟩, fun k hk => by
        rw [sN_eq] at hk
        rw [sN_o _ _ _ (show (23 : Nat) ≠ 22 by omega), eV 23 (by omega) (by omega) (by omega)]
        exact hw.wayB ho (by omega), fun k hk => by
        rw [sN_eq] at hk
        rw [sN_o _ _ _ (show (24 : Nat) ≠ 22 by omega), eV 24 (by omega) (by omega) (by omega)]
        have := (hw.aro ho (show k + 1 < S.1 22 o by omega)).2
        omega, by rw [sN_o _ _ _ (show (21 : Nat) ≠ 22 by omega), eV 21 (by omega) (by omega) (by omega)]; omega⟩) rfl rfl (Nat.le_of_ble_eq_true rfl) dX2_goElsewhere_172 (fun v X hq => ?_) (fun E X hq => by obtain ⟨hv, -⟩ := hq; cases hv)
    obtain ⟨hv, hT1⟩ := hq
    cases hv
    replace hT := hT.tr hT1
    clear hT1
    refine sw_aload_n 176 rfl rfl rfl dX2_goElsewhere_175 ?_
    refine gf_X2_63 179 rfl hT.obj rfl rfl dX2_goElsewhere_176 ?_
    refine sw_iload_n 180 rfl rfl dX2_goElsewhere_179 ?_
    refine sw_iload 182 rfl rfl dX2_goElsewhere_180 ?_
    refine sw_iast 183 rfl (hT.arr 22 rfl) (by omega) (Nat.le_of_ble_eq_true rfl) dX2_goElsewhere_182 (fun X hX => ?_)
    replace hT := hT.p22 hX
    clear hX
    refine sw_vret rfl dX2_goElsewhere_183 ?_
    exact ⟨rfl, hT.st (by show _ = pElse o S; unfold pElse; rw [cif_f (fun q => absurd q.1 (by omega)), v22])⟩
  · rw [show (0 : Int32) = nI 0 from rfl, nI_leI (by omega) (by omega)] at c_122
    have hpo := pFind_ok i1 hOB i4 (by rw [eN]; exact i5) (by rw [eN]; exact i6) i7 (show 0 < pElsN o S by omega)
    have hpo2 : (2 ≤ pElsN o S ∧ pElsN o S ≤ 12) ∧ (∀ k, k < pElsN o S → (pElsF o S).1 37 k < (pTB S o (S.1 21 o)).1 3 0 ∧ (pElsF o S).1 35 ((pElsF o S).1 37 k) ≤ 1200000) := ⟨hpo.1, hpo.2.1⟩
    clear hpo
    rw [eN] at hpo2
    have hf1 := hpo2.2 1 (by omega)
    refine sw_aload_n 126 rfl rfl rfl dX2_goElsewhere_125 ?_
    refine gf_X2_100 129 rfl hT.obj rfl rfl dX2_goElsewhere_126 ?_
    refine sw_aload_n 130 rfl rfl rfl dX2_goElsewhere_129 ?_
    refine gf_X2_106 133 rfl hT.obj rfl rfl dX2_goElsewhere_130 ?_
    refine sw_iconst 134 rfl (nI 1) rfl dX2_goElsewhere_133 ?_
    refine sw_iald 135 rfl (hT.arr 37 rfl) (by omega) (Nat.le_of_ble_eq_true rfl) dX2_goElsewhere_134 ?_
    try simp only [sI_N, sI_L, sN_I, sN_L, sL_N, sL_I, sN_t, sI_t, sL_t, pOwe_N, pOwe_I, pOweBoth_N, pOweBoth_I, pTB_N, pTB_I, pGoBack_N, pOweOn_N, pOweOn_I, reduceIte, Nat.reduceEqDiff]
    refine sw_lald 136 rfl (hT.arr 35 rfl) (show (pElsF o S).1 37 1 < 12 by omega) (Nat.le_of_ble_eq_true rfl) dX2_goElsewhere_135 ?_
    try simp only [sI_N, sI_L, sN_I, sN_L, sL_N, sL_I, sN_t, sI_t, sL_t, pOwe_N, pOwe_I, pOweBoth_N, pOweBoth_I, pTB_N, pTB_I, pGoBack_N, pOweOn_N, pOweOn_I, reduceIte, Nat.reduceEqDiff]
    refine sw_lload 138 rfl rfl dX2_goElsewhere_136 ?_
    refine sw_lgt 153 139 142 rfl (by decide) rfl dX2_goElsewhere_138 dX2_goElsewhere_139 (fun c_138 => ?_) (fun c_138 => ?_)
    · rw [pk_lLT (by omega) (by omega)] at c_138
      refine sw_aload_n 154 rfl rfl rfl dX2_goElsewhere_153 ?_
      refine gf_X2_63 157 rfl hT.obj rfl rfl dX2_goElsewhere_154 ?_
      refine sw_iload_n 158 rfl rfl dX2_goElsewhere_157 ?_
      refine sw_iald 159 rfl (hT.arr 22 rfl) (by omega) (Nat.le_of_ble_eq_true rfl) dX2_goElsewhere_158 ?_
      try simp only [sI_N, sI_L, sN_I, sN_L, sL_N, sL_I, sN_t, sI_t, sL_t, pOwe_N, pOwe_I, pOweBoth_N, pOweBoth_I, pTB_N, pTB_I, pGoBack_N, pOweOn_N, pOweOn_I, reduceIte, Nat.reduceEqDiff]
      refine sw_istore 161 rfl [_, _, _, _, _, _, _, _, _, _] (Nat.le_of_ble_eq_true rfl) rfl dX2_goElsewhere_159 ?_
      refine sw_aload_n 162 rfl rfl rfl dX2_goElsewhere_161 ?_
      refine gf_X2_63 165 rfl hT.obj rfl rfl dX2_goElsewhere_162 ?_
      refine sw_iload_n 166 rfl rfl dX2_goElsewhere_165 ?_
      refine sw_iload_n 167 rfl rfl dX2_goElsewhere_166 ?_
      refine sw_iconst 168 rfl (nI 1) rfl dX2_goElsewhere_167 ?_
      refine sw_iaddN 169 rfl dX2_goElsewhere_168 ?_
      refine sw_iast 170 rfl (hT.arr 22 rfl) (by omega) (Nat.le_of_ble_eq_true rfl) dX2_goElsewhere_169 (fun X hX => ?_)
      replace hT := hT.p22 hX
      clear hX
      refine sw_aload_n 171 rfl rfl rfl dX2_goElsewhere_170 ?_
      refine sw_iload_n 172 rfl rfl dX2_goElsewhere_171 ?_
      refine sw_callV 175 [] rfl cs_X2_177 rfl (Nat.le_of_ble_eq_true rfl) rfl hT.obj rfl rfl (ct_goBackW hT.1 o ⟨by omega, ⟨by rw [sN_eq]; omega, by rw [sN_eq]; omega⟩, fun k hk => by
          rw [sN_eq] at hk
          rw [sN_o _ _ _ (show (23 : Nat) ≠ 22 by omega), eV 23 (by omega) (by omega) (by omega)]
          exact hw.wayB ho (by omega), fun k hk => by
          rw [sN_eq] at hk
          rw [sN_o _ _ _ (show (24 : Nat) ≠ 22 by omega), eV 24 (by omega) (by omega) (by omega)]
          have := (hw.aro ho (show k + 1 < S.1 22 o by omega)).2
          omega, by rw [sN_o _ _ _ (show (21 : Nat) ≠ 22 by omega), eV 21 (by omega) (by omega) (by omega)]; omega⟩) rfl rfl (Nat.le_of_ble_eq_true rfl) dX2_goElsewhere_172 (fun v X hq => ?_) (fun E X hq => by obtain ⟨hv, -⟩ := hq; cases hv)
      obtain ⟨hv, hT1⟩ := hq
      cases hv
      replace hT := hT.tr hT1
      clear hT1
      refine sw_aload_n 176 rfl rfl rfl dX2_goElsewhere_175 ?_
      refine gf_X2_63 179 rfl hT.obj rfl rfl dX2_goElsewhere_176 ?_
      refine sw_iload_n 180 rfl rfl dX2_goElsewhere_179 ?_
      refine sw_iload 182 rfl rfl dX2_goElsewhere_180 ?_
      refine sw_iast 183 rfl (hT.arr 22 rfl) (by omega) (Nat.le_of_ble_eq_true rfl) dX2_goElsewhere_182 (fun X hX => ?_)
      replace hT := hT.p22 hX
      clear hX
      refine sw_vret rfl dX2_goElsewhere_183 ?_
      exact ⟨rfl, hT.st (by show _ = pElse o S; unfold pElse; rw [cif_f (fun q => absurd q.2 (by omega)), v22])⟩
    · rw [pk_lLT (by omega) (by omega)] at c_138
      refine sw_aload_n 143 rfl rfl rfl dX2_goElsewhere_142 ?_
      refine sw_iload_n 144 rfl rfl dX2_goElsewhere_143 ?_
      refine sw_iload_n 145 rfl rfl dX2_goElsewhere_144 ?_
      refine sw_iload 147 rfl rfl dX2_goElsewhere_145 ?_
      have h12 : S.1 21 o + pElsN o S ≤ 12 := by
          have h9 := (hw.els hO hB ho hh).1
          have h8 : pElse o S = pLay (pElsF o S) o (S.1 21 o) (pElsN o S) := cif_t ⟨by omega, by omega⟩
          rw [h8] at h9
          have h7 := (h9.many (o := o) (by rw [(pLay_v _ _ _ _).1 14 (by omega) (by omega) (by omega), eV 14 (by omega) (by omega) (by omega)]; exact ho)).2.1
          rw [(pLay_v _ _ _ _).2.2.1, if_pos rfl] at h7
          exact h7
      have hly : LyO (pElsF o S) o (S.1 21 o) (pElsN o S) := ⟨by omega, h12, by omega, by rw [v16]; omega, by rw [eV 21 (by omega) (by omega) (by omega)]; omega, fun k hk => ⟨by have := (hpo2.2 k hk).1; omega, (hpo2.2 k hk).2⟩⟩
      refine sw_callV 150 [] rfl cs_X2_174 rfl (Nat.le_of_ble_eq_true rfl) rfl hT.obj rfl rfl (ct_lay hT.1 o (S.1 21 o) (pElsN o S) hly) rfl rfl (Nat.le_of_ble_eq_true rfl) dX2_goElsewhere_147 (fun v X hq => ?_) (fun E X hq => by obtain ⟨hv, -⟩ := hq; cases hv)
      obtain ⟨hv, hT1⟩ := hq
      cases hv
      replace hT := hT.tr hT1
      clear hT1
      refine sw_goto 183 (by decide) dX2_goElsewhere_150 ?_
      refine sw_vret rfl dX2_goElsewhere_183 ?_
      exact ⟨rfl, hT.st (by show _ = pElse o S; unfold pElse; rw [cif_t ⟨by omega, by omega⟩])⟩

end T9
