/-! the reference's rings and inquiry: written by prog/gen_t5.py -/
set_option maxRecDepth 100000
section T5
variable {γ : Gm} {Mo : Nat} {aT : Nat → Nat} {X X0 : Sh} {S : TS} {K : Nat}
set_option maxHeartbeats 4000000 in
theorem ct_clear (hR : TwR γ Mo aT X S) (a b c : Nat) (ha : a < 12) (hb : b < 12) (hc : c < 12) : Ev γ mX2_clear [.ref Mo, .int (nI a), .int (nI b), .int (nI c)] X (fun oc X1 => oc = .inl (some (.long (pClearV S a b c))) ∧ TwF γ Mo aT X X1 (pClearS S a b c)) := by
  have hT := TwF.rf hR
  refine Ev.of (lv := [_, _, _, _, _, _, _, _, _, _, _, _]) 8 ⟨by decide +kernel, rfl, (Nat.le_of_ble_eq_true rfl)⟩ rfl ?_
  refine sw_aload_n 1 rfl rfl rfl dX2_clear_0 ?_
  refine gf_X2_36 4 rfl hT.obj rfl rfl dX2_clear_1 ?_
  refine sw_bipush 6 rfl (nI 12) rfl dX2_clear_4 ?_
  refine sw_iload_n 7 rfl rfl dX2_clear_6 ?_
  refine sw_imulN 8 rfl dX2_clear_7 ?_
  refine sw_iload_n 9 rfl rfl dX2_clear_8 ?_
  refine sw_iaddN 10 rfl dX2_clear_9 ?_
  refine sw_lald 11 rfl (hT.arr 12 rfl) (by omega) (Nat.le_of_ble_eq_true rfl) dX2_clear_10 ?_
  refine sw_lstore 13 rfl [_, _, _, _, _, _, _, _, _, _, _, _] (Nat.le_of_ble_eq_true rfl) rfl dX2_clear_11 ?_
  refine sw_aload_n 14 rfl rfl rfl dX2_clear_13 ?_
  refine gf_X2_36 17 rfl hT.obj rfl rfl dX2_clear_14 ?_
  refine sw_bipush 19 rfl (nI 12) rfl dX2_clear_17 ?_
  refine sw_iload_n 20 rfl rfl dX2_clear_19 ?_
  refine sw_imulN 21 rfl dX2_clear_20 ?_
  refine sw_iload_n 22 rfl rfl dX2_clear_21 ?_
  refine sw_iaddN 23 rfl dX2_clear_22 ?_
  refine sw_lald 24 rfl (hT.arr 12 rfl) (by omega) (Nat.le_of_ble_eq_true rfl) dX2_clear_23 ?_
  refine sw_lstore 26 rfl [_, _, _, _, _, _, _, _, _, _, _, _] (Nat.le_of_ble_eq_true rfl) rfl dX2_clear_24 ?_
  refine sw_aload_n 27 rfl rfl rfl dX2_clear_26 ?_
  refine gf_X2_36 30 rfl hT.obj rfl rfl dX2_clear_27 ?_
  refine sw_bipush 32 rfl (nI 12) rfl dX2_clear_30 ?_
  refine sw_iload_n 33 rfl rfl dX2_clear_32 ?_
  refine sw_imulN 34 rfl dX2_clear_33 ?_
  refine sw_iload_n 35 rfl rfl dX2_clear_34 ?_
  refine sw_iaddN 36 rfl dX2_clear_35 ?_
  refine sw_lald 37 rfl (hT.arr 12 rfl) (by omega) (Nat.le_of_ble_eq_true rfl) dX2_clear_36 ?_
  refine sw_lstore 39 rfl [_, _, _, _, _, _, _, _, _, _, _, _] (Nat.le_of_ble_eq_true rfl) rfl dX2_clear_37 ?_
  refine sw_lload 41 rfl rfl dX2_clear_39 ?_
  refine sw_lload 43 rfl rfl dX2_clear_41 ?_
  refine sw_lge 52 44 47 rfl (by decide) rfl dX2_clear_43 dX2_clear_44 (fun c_43 => ?_) (fun c_43 => ?_)
  · replace c_43 := Int64.not_lt.mpr c_43
    refine sw_lload 54 rfl rfl dX2_clear_52 ?_
    refine sw_lstore 56 rfl [_, _, _, _, _, _, _, _, _, _, _, _] (Nat.le_of_ble_eq_true rfl) rfl dX2_clear_54 ?_
    refine sw_lload 58 rfl rfl dX2_clear_56 ?_
    refine sw_lload 60 rfl rfl dX2_clear_58 ?_
    refine sw_lge 69 61 64 rfl (by decide) rfl dX2_clear_60 dX2_clear_61 (fun c_60 => ?_) (fun c_60 => ?_)
    · replace c_60 := Int64.not_lt.mpr c_60
      refine sw_lload 71 rfl rfl dX2_clear_69 ?_
      refine sw_lstore 73 rfl [_, _, _, _, _, _, _, _, _, _, _, _] (Nat.le_of_ble_eq_true rfl) rfl dX2_clear_71 ?_
      refine sw_lload 75 rfl rfl dX2_clear_73 ?_
      refine sw_lconst 76 rfl 0 rfl dX2_clear_75 ?_
      refine sw_lgt 82 77 80 rfl (by decide) rfl dX2_clear_76 dX2_clear_77 (fun c_76 => ?_) (fun c_76 => ?_)
      · refine sw_aload_n 83 rfl rfl rfl dX2_clear_82 ?_
        refine sw_iload_n 84 rfl rfl dX2_clear_83 ?_
        refine sw_iload_n 85 rfl rfl dX2_clear_84 ?_
        refine sw_lload 87 rfl rfl dX2_clear_85 ?_
        refine sw_lneg 88 rfl dX2_clear_87 ?_
        refine sw_callV 91 [] rfl cs_X2_203 rfl (Nat.le_of_ble_eq_true rfl) rfl hT.obj rfl rfl (ct_oweBoth hT.1 a b ha hb _) rfl rfl (Nat.le_of_ble_eq_true rfl) dX2_clear_88 (fun v X hq => ?_) (fun E X hq => by obtain ⟨hv, -⟩ := hq; cases hv)
        obtain ⟨hv, hT1⟩ := hq
        cases hv
        replace hT := hT.tr hT1
        clear hT1
        refine sw_aload_n 92 rfl rfl rfl dX2_clear_91 ?_
        refine sw_iload_n 93 rfl rfl dX2_clear_92 ?_
        refine sw_iload_n 94 rfl rfl dX2_clear_93 ?_
        refine sw_lload 96 rfl rfl dX2_clear_94 ?_
        refine sw_lneg 97 rfl dX2_clear_96 ?_
        refine sw_callV 100 [] rfl cs_X2_203 rfl (Nat.le_of_ble_eq_true rfl) rfl hT.obj rfl rfl (ct_oweBoth hT.1 b c hb hc _) rfl rfl (Nat.le_of_ble_eq_true rfl) dX2_clear_97 (fun v X hq => ?_) (fun E X hq => by obtain ⟨hv, -⟩ := hq; cases hv)
        obtain ⟨hv, hT1⟩ := hq
        cases hv
        replace hT := hT.tr hT1
        clear hT1
        refine sw_aload_n 101 rfl rfl rfl dX2_clear_100 ?_
        refine sw_iload_n 102 rfl rfl dX2_clear_101 ?_
        refine sw_iload_n 103 rfl rfl dX2_clear_102 ?_
        refine sw_lload 105 rfl rfl dX2_clear_103 ?_
        refine sw_lneg 106 rfl dX2_clear_105 ?_
        refine sw_callV 109 [] rfl cs_X2_203 rfl (Nat.le_of_ble_eq_true rfl) rfl hT.obj rfl rfl (ct_oweBoth hT.1 c a hc ha _) rfl rfl (Nat.le_of_ble_eq_true rfl) dX2_clear_106 (fun v X hq => ?_) (fun E X hq => by obtain ⟨hv, -⟩ := hq; cases hv)
        obtain ⟨hv, hT1⟩ := hq
        cases hv
        replace hT := hT.tr hT1
        clear hT1
        refine sw_lload 111 rfl rfl dX2_clear_109 ?_
        refine sw_lret rfl dX2_clear_111 ?_
        exact ⟨by simp [pClearV, pLeast, c_43, c_60, c_76], hT.st (by simp [pClearS, pLeast, c_43, c_60, c_76])⟩
      · refine sw_lconst 81 rfl 0 rfl dX2_clear_80 ?_
        refine sw_lret rfl dX2_clear_81 ?_
        exact ⟨by simp [pClearV, pLeast, c_43, c_60, c_76], hT.st (by simp [pClearS, pLeast, c_43, c_60, c_76])⟩
    · replace c_60 := Int64.not_le.mp c_60
      refine sw_lload 66 rfl rfl dX2_clear_64 ?_
      refine sw_goto 71 (by decide) dX2_clear_66 ?_
      refine sw_lstore 73 rfl [_, _, _, _, _, _, _, _, _, _, _, _] (Nat.le_of_ble_eq_true rfl) rfl dX2_clear_71 ?_
      refine sw_lload 75 rfl rfl dX2_clear_73 ?_
      refine sw_lconst 76 rfl 0 rfl dX2_clear_75 ?_
      refine sw_lgt 82 77 80 rfl (by decide) rfl dX2_clear_76 dX2_clear_77 (fun c_76 => ?_) (fun c_76 => ?_)
      · refine sw_aload_n 83 rfl rfl rfl dX2_clear_82 ?_
        refine sw_iload_n 84 rfl rfl dX2_clear_83 ?_
        refine sw_iload_n 85 rfl rfl dX2_clear_84 ?_
        refine sw_lload 87 rfl rfl dX2_clear_85 ?_
        refine sw_lneg 88 rfl dX2_clear_87 ?_
        refine sw_callV 91 [] rfl cs_X2_203 rfl (Nat.le_of_ble_eq_true rfl) rfl hT.obj rfl rfl (ct_oweBoth hT.1 a b ha hb _) rfl rfl (Nat.le_of_ble_eq_true rfl) dX2_clear_88 (fun v X hq => ?_) (fun E X hq => by obtain ⟨hv, -⟩ := hq; cases hv)
        obtain ⟨hv, hT1⟩ := hq
        cases hv
        replace hT := hT.tr hT1
        clear hT1
        refine sw_aload_n 92 rfl rfl rfl dX2_clear_91 ?_
        refine sw_iload_n 93 rfl rfl dX2_clear_92 ?_
        refine sw_iload_n 94 rfl rfl dX2_clear_93 ?_
        refine sw_lload 96 rfl rfl dX2_clear_94 ?_
        refine sw_lneg 97 rfl dX2_clear_96 ?_
        refine sw_callV 100 [] rfl cs_X2_203 rfl (Nat.le_of_ble_eq_true rfl) rfl hT.obj rfl rfl (ct_oweBoth hT.1 b c hb hc _) rfl rfl (Nat.le_of_ble_eq_true rfl) dX2_clear_97 (fun v X hq => ?_) (fun E X hq => by obtain ⟨hv, -⟩ := hq; cases hv)
        obtain ⟨hv, hT1⟩ := hq
        cases hv
        replace hT := hT.tr hT1
        clear hT1
        refine sw_aload_n 101 rfl rfl rfl dX2_clear_100 ?_
        refine sw_iload_n 102 rfl rfl dX2_clear_101 ?_
        refine sw_iload_n 103 rfl rfl dX2_clear_102 ?_
        refine sw_lload 105 rfl rfl dX2_clear_103 ?_
        refine sw_lneg 106 rfl dX2_clear_105 ?_
        refine sw_callV 109 [] rfl cs_X2_203 rfl (Nat.le_of_ble_eq_true rfl) rfl hT.obj rfl rfl (ct_oweBoth hT.1 c a hc ha _) rfl rfl (Nat.le_of_ble_eq_true rfl) dX2_clear_106 (fun v X hq => ?_) (fun E X hq => by obtain ⟨hv, -⟩ := hq; cases hv)
        obtain ⟨hv, hT1⟩ := hq
        cases hv
        replace hT := hT.tr hT1
        clear hT1
        refine sw_lload 111 rfl rfl dX2_clear_109 ?_
        refine sw_lret rfl dX2_clear_111 ?_
        exact ⟨by simp [pClearV, pLeast, c_43, c_60, c_76], hT.st (by simp [pClearS, pLeast, c_43, c_60, c_76])⟩
      · refine sw_lconst 81 rfl 0 rfl dX2_clear_80 ?_
        refine sw_lret rfl dX2_clear_81 ?_
        exact ⟨by simp [pClearV, pLeast, c_43, c_60, c_76], hT.st (by simp [pClearS, pLeast, c_43, c_60, c_76])⟩
  · replace c_43 := Int64.not_le.mp c_43
    refine sw_lload 49 rfl rfl dX2_clear_47 ?_
    refine sw_goto 54 (by decide) dX2_clear_49 ?_
    refine sw_lstore 56 rfl [_, _, _, _, _, _, _, _, _, _, _, _] (Nat.le_of_ble_eq_true rfl) rfl dX2_clear_54 ?_
    refine sw_lload 58 rfl rfl dX2_clear_56 ?_
    refine sw_lload 60 rfl rfl dX2_clear_58 ?_
    refine sw_lge 69 61 64 rfl (by decide) rfl dX2_clear_60 dX2_clear_61 (fun c_60 => ?_) (fun c_60 => ?_)
    · replace c_60 := Int64.not_lt.mpr c_60
      refine sw_lload 71 rfl rfl dX2_clear_69 ?_
      refine sw_lstore 73 rfl [_, _, _, _, _, _, _, _, _, _, _, _] (Nat.le_of_ble_eq_true rfl) rfl dX2_clear_71 ?_
      refine sw_lload 75 rfl rfl dX2_clear_73 ?_
      refine sw_lconst 76 rfl 0 rfl dX2_clear_75 ?_
      refine sw_lgt 82 77 80 rfl (by decide) rfl dX2_clear_76 dX2_clear_77 (fun c_76 => ?_) (fun c_76 => ?_)
      · refine sw_aload_n 83 rfl rfl rfl dX2_clear_82 ?_
        refine sw_iload_n 84 rfl rfl dX2_clear_83 ?_
        refine sw_iload_n 85 rfl rfl dX2_clear_84 ?_
        refine sw_lload 87 rfl rfl dX2_clear_85 ?_
        refine sw_lneg 88 rfl dX2_clear_87 ?_
        refine sw_callV 91 [] rfl cs_X2_203 rfl (Nat.le_of_ble_eq_true rfl) rfl hT.obj rfl rfl (ct_oweBoth hT.1 a b ha hb _) rfl rfl (Nat.le_of_ble_eq_true rfl) dX2_clear_88 (fun v X hq => ?_) (fun E X hq => by obtain ⟨hv, -⟩ := hq; cases hv)
        obtain ⟨hv, hT1⟩ := hq
        cases hv
        replace hT := hT.tr hT1
        clear hT1
        refine sw_aload_n 92 rfl rfl rfl dX2_clear_91 ?_
        refine sw_iload_n 93 rfl rfl dX2_clear_92 ?_
        refine sw_iload_n 94 rfl rfl dX2_clear_93 ?_
        refine sw_lload 96 rfl rfl dX2_clear_94 ?_
        refine sw_lneg 97 rfl dX2_clear_96 ?_
        refine sw_callV 100 [] rfl cs_X2_203 rfl (Nat.le_of_ble_eq_true rfl) rfl hT.obj rfl rfl (ct_oweBoth hT.1 b c hb hc _) rfl rfl (Nat.le_of_ble_eq_true rfl) dX2_clear_97 (fun v X hq => ?_) (fun E X hq => by obtain ⟨hv, -⟩ := hq; cases hv)
        obtain ⟨hv, hT1⟩ := hq
        cases hv
        replace hT := hT.tr hT1
        clear hT1
        refine sw_aload_n 101 rfl rfl rfl dX2_clear_100 ?_
        refine sw_iload_n 102 rfl rfl dX2_clear_101 ?_
        refine sw_iload_n 103 rfl rfl dX2_clear_102 ?_
        refine sw_lload 105 rfl rfl dX2_clear_103 ?_
        refine sw_lneg 106 rfl dX2_clear_105 ?_
        refine sw_callV 109 [] rfl cs_X2_203 rfl (Nat.le_of_ble_eq_true rfl) rfl hT.obj rfl rfl (ct_oweBoth hT.1 c a hc ha _) rfl rfl (Nat.le_of_ble_eq_true rfl) dX2_clear_106 (fun v X hq => ?_) (fun E X hq => by obtain ⟨hv, -⟩ := hq; cases hv)
        obtain ⟨hv, hT1⟩ := hq
        cases hv
        replace hT := hT.tr hT1
        clear hT1
        refine sw_lload 111 rfl rfl dX2_clear_109 ?_
        refine sw_lret rfl dX2_clear_111 ?_
        exact ⟨by simp [pClearV, pLeast, c_43, c_60, c_76], hT.st (by simp [pClearS, pLeast, c_43, c_60, c_76])⟩
      · refine sw_lconst 81 rfl 0 rfl dX2_clear_80 ?_
        refine sw_lret rfl dX2_clear_81 ?_
        exact ⟨by simp [pClearV, pLeast, c_43, c_60, c_76], hT.st (by simp [pClearS, pLeast, c_43, c_60, c_76])⟩
    · replace c_60 := Int64.not_le.mp c_60
      refine sw_lload 66 rfl rfl dX2_clear_64 ?_
      refine sw_goto 71 (by decide) dX2_clear_66 ?_
      refine sw_lstore 73 rfl [_, _, _, _, _, _, _, _, _, _, _, _] (Nat.le_of_ble_eq_true rfl) rfl dX2_clear_71 ?_
      refine sw_lload 75 rfl rfl dX2_clear_73 ?_
      refine sw_lconst 76 rfl 0 rfl dX2_clear_75 ?_
      refine sw_lgt 82 77 80 rfl (by decide) rfl dX2_clear_76 dX2_clear_77 (fun c_76 => ?_) (fun c_76 => ?_)
      · refine sw_aload_n 83 rfl rfl rfl dX2_clear_82 ?_
        refine sw_iload_n 84 rfl rfl dX2_clear_83 ?_
        refine sw_iload_n 85 rfl rfl dX2_clear_84 ?_
        refine sw_lload 87 rfl rfl dX2_clear_85 ?_
        refine sw_lneg 88 rfl dX2_clear_87 ?_
        refine sw_callV 91 [] rfl cs_X2_203 rfl (Nat.le_of_ble_eq_true rfl) rfl hT.obj rfl rfl (ct_oweBoth hT.1 a b ha hb _) rfl rfl (Nat.le_of_ble_eq_true rfl) dX2_clear_88 (fun v X hq => ?_) (fun E X hq => by obtain ⟨hv, -⟩ := hq; cases hv)
        obtain ⟨hv, hT1⟩ := hq
        cases hv
        replace hT := hT.tr hT1
        clear hT1
        refine sw_aload_n 92 rfl rfl rfl dX2_clear_91 ?_
        refine sw_iload_n 93 rfl rfl dX2_clear_92 ?_
        refine sw_iload_n 94 rfl rfl dX2_clear_93 ?_
        refine sw_lload 96 rfl rfl dX2_clear_94 ?_
        refine sw_lneg 97 rfl dX2_clear_96 ?_
        refine sw_callV 100 [] rfl cs_X2_203 rfl (Nat.le_of_ble_eq_true rfl) rfl hT.obj rfl rfl (ct_oweBoth hT.1 b c hb hc _) rfl rfl (Nat.le_of_ble_eq_true rfl) dX2_clear_97 (fun v X hq => ?_) (fun E X hq => by obtain ⟨hv, -⟩ := hq; cases hv)
        obtain ⟨hv, hT1⟩ := hq
        cases hv
        replace hT := hT.tr hT1
        clear hT1
        refine sw_aload_n 101 rfl rfl rfl dX2_clear_100 ?_
        refine sw_iload_n 102 rfl rfl dX2_clear_101 ?_
        refine sw_iload_n 103 rfl rfl dX2_clear_102 ?_
        refine sw_lload 105 rfl rfl dX2_clear_103 ?_
        refine sw_lneg 106 rfl dX2_clear_105 ?_
        refine sw_callV 109 [] rfl cs_X2_203 rfl (Nat.le_of_ble_eq_true rfl) rfl hT.obj rfl rfl (ct_oweBoth hT.1 c a hc ha _) rfl rfl (Nat.le_of_ble_eq_true rfl) dX2_clear_106 (fun v X hq => ?_) (fun E X hq => by obtain ⟨hv, -⟩ := hq; cases hv)
        obtain ⟨hv, hT1⟩ := hq
        cases hv
        replace hT := hT.tr hT1
        clear hT1
        refine sw_lload 111 rfl rfl dX2_clear_109 ?_
        refine sw_lret rfl dX2_clear_111 ?_
        exact ⟨by simp [pClearV, pLeast, c_43, c_60, c_76], hT.st (by simp [pClearS, pLeast, c_43, c_60, c_76])⟩
      · refine sw_lconst 81 rfl 0 rfl dX2_clear_80 ?_
        refine sw_lret rfl dX2_clear_81 ?_
        exact ⟨by simp [pClearV, pLeast, c_43, c_60, c_76], hT.st (by simp [pClearS, pLeast, c_43, c_60, c_76])⟩

set_option maxHeartbeats 4000000 in
theorem lp_ring3 {a b : Nat} (ha : a < 12) (hb : b < 12) {Q : Ot → Sh → Prop} : ∀ (n k : Nat) (X : Sh) (T : TS), TwF γ Mo aT X0 X T → WF K T → k + n = T.1 3 0 → (∀ X1, TwF γ Mo aT X0 X1 (rep n k (pRing3 a b) T) → SW γ mX2_ring X0 X1 82 [some (.ref Mo), some (.long ((rep n k (pRing3 a b) T).2.2 99 0)), none, some (.int (nI a)), some (.int (nI b)), none] [] Q) → SW γ mX2_ring X0 X 32 [some (.ref Mo), some (.long (T.2.2 99 0)), none, some (.int (nI a)), some (.int (nI b)), some (.int (nI k))] [] Q := by
  intro n
  induction n with
  | zero =>
    intro k X T hT hw hn hex
    have hnb := hw.nb
    refine sw_iload 34 rfl rfl dX2_ring_32 ?_
    refine sw_aload_n 35 rfl rfl rfl dX2_ring_34 ?_
    refine gf_X2_113 38 rfl hT.obj rfl rfl dX2_ring_35 ?_
    refine sw_icmp_ge 82 41 (by decide) rfl dX2_ring_38 (fun c_38 => ?_) (fun c_38 => absurd (nI_le (by omega) (by omega)) c_38)
    clear c_38
    refine sw_fgt (lvle_c (lvle_c (lvle_c (lvle_c (lvle_c (lvle_n lvle_nil)))))) ?_
    exact hex X hT
  | succ n ih =>
    intro k X T hT hw hn hex
    have hnb := hw.nb
    refine sw_iload 34 rfl rfl dX2_ring_32 ?_
    refine sw_aload_n 35 rfl rfl rfl dX2_ring_34 ?_
    refine gf_X2_113 38 rfl hT.obj rfl rfl dX2_ring_35 ?_
    refine sw_icmp_ge 82 41 (by decide) rfl dX2_ring_38 (fun c_38 => absurd c_38 (nI_ge (by omega) (by omega))) (fun c_38 => ?_)
    clear c_38
    refine sw_lload_n 42 rfl rfl dX2_ring_41 ?_
    refine sw_iload_n 43 rfl rfl dX2_ring_42 ?_
    refine sw_iload 45 rfl rfl dX2_ring_43 ?_
    refine sw_icmp_eq 73 48 (by decide) rfl dX2_ring_45 (fun c_45 => ?_) (fun c_45 => ?_)
    · rw [nI_eq (by omega) (by omega)] at c_45
      refine sw_lconst 74 rfl 0 rfl dX2_ring_73 ?_
      refine sw_ladd 75 rfl dX2_ring_74 ?_
      refine sw_lstore_n 76 rfl [_, _, _, _, _, _] (Nat.le_of_ble_eq_true rfl) rfl dX2_ring_75 ?_
      refine sw_iinc 79 rfl [_, _, _, _, _, _] (nI (_ + 1)) rfl (nI_add _ 1) (Nat.le_of_ble_eq_true rfl) rfl dX2_ring_76 ?_
      refine sw_goto 32 (by decide) dX2_ring_79 ?_
      have e8 : pRing3 a b k T = T := if_pos (Or.inl c_45)
      have h9 := ih (k + 1) X (pRing3 a b k T) (by rw [e8]; exact hT) (by rw [e8]; exact hw) (by rw [e8]; omega) hex
      rw [e8] at h9
      rw [Int64.add_zero]
      exact h9
    · rw [nI_eq (by omega) (by omega)] at c_45
      refine sw_iload 50 rfl rfl dX2_ring_48 ?_
      refine sw_iload 52 rfl rfl dX2_ring_50 ?_
      refine sw_icmp_eq 73 55 (by decide) rfl dX2_ring_52 (fun c_52 => ?_) (fun c_52 => ?_)
      · rw [nI_eq (by omega) (by omega)] at c_52
        refine sw_lconst 74 rfl 0 rfl dX2_ring_73 ?_
        refine sw_ladd 75 rfl dX2_ring_74 ?_
        refine sw_lstore_n 76 rfl [_, _, _, _, _, _] (Nat.le_of_ble_eq_true rfl) rfl dX2_ring_75 ?_
        refine sw_iinc 79 rfl [_, _, _, _, _, _] (nI (_ + 1)) rfl (nI_add _ 1) (Nat.le_of_ble_eq_true rfl) rfl dX2_ring_76 ?_
        refine sw_goto 32 (by decide) dX2_ring_79 ?_
        have e8 : pRing3 a b k T = T := if_pos (Or.inr (Or.inl c_52))
        have h9 := ih (k + 1) X (pRing3 a b k T) (by rw [e8]; exact hT) (by rw [e8]; exact hw) (by rw [e8]; omega) hex
        rw [e8] at h9
        rw [Int64.add_zero]
        exact h9
      · rw [nI_eq (by omega) (by omega)] at c_52
        refine sw_iload_n 56 rfl rfl dX2_ring_55 ?_
        refine sw_iload 58 rfl rfl dX2_ring_56 ?_
        refine sw_icmp_eq 73 61 (by decide) rfl dX2_ring_58 (fun c_58 => ?_) (fun c_58 => ?_)
        · rw [nI_eq (by omega) (by omega)] at c_58
          refine sw_lconst 74 rfl 0 rfl dX2_ring_73 ?_
          refine sw_ladd 75 rfl dX2_ring_74 ?_
          refine sw_lstore_n 76 rfl [_, _, _, _, _, _] (Nat.le_of_ble_eq_true rfl) rfl dX2_ring_75 ?_
          refine sw_iinc 79 rfl [_, _, _, _, _, _] (nI (_ + 1)) rfl (nI_add _ 1) (Nat.le_of_ble_eq_true rfl) rfl dX2_ring_76 ?_
          refine sw_goto 32 (by decide) dX2_ring_79 ?_
          have e8 : pRing3 a b k T = T := if_pos (Or.inr (Or.inr c_58))
          have h9 := ih (k + 1) X (pRing3 a b k T) (by rw [e8]; exact hT) (by rw [e8]; exact hw) (by rw [e8]; omega) hex
          rw [e8] at h9
          rw [Int64.add_zero]
          exact h9
        · rw [nI_eq (by omega) (by omega)] at c_58
          refine sw_aload_n 62 rfl rfl rfl dX2_ring_61 ?_
          refine sw_iload_n 63 rfl rfl dX2_ring_62 ?_
          refine sw_iload 65 rfl rfl dX2_ring_63 ?_
          refine sw_iload 67 rfl rfl dX2_ring_65 ?_
          refine sw_callV 70 [_] rfl cs_X2_216 rfl (Nat.le_of_ble_eq_true rfl) rfl hT.obj rfl rfl (ct_clear hT.1 a b k ha hb (by omega)) rfl rfl (Nat.le_of_ble_eq_true rfl) dX2_ring_67 (fun v X hq => ?_) (fun E X hq => by obtain ⟨hv, -⟩ := hq; cases hv)
          obtain ⟨hv, hT1⟩ := hq
          cases hv
          replace hT := hT.tr hT1
          clear hT1
          refine sw_goto 74 (by decide) dX2_ring_70 ?_
          refine sw_ladd 75 rfl dX2_ring_74 ?_
          refine sw_lstore_n 76 rfl [_, _, _, _, _, _] (Nat.le_of_ble_eq_true rfl) rfl dX2_ring_75 ?_
          refine sw_iinc 79 rfl [_, _, _, _, _, _] (nI (_ + 1)) rfl (nI_add _ 1) (Nat.le_of_ble_eq_true rfl) rfl dX2_ring_76 ?_
          refine sw_goto 32 (by decide) dX2_ring_79 ?_
          have hq : ¬ (a = b ∨ b = k ∨ a = k) := (fun q => by rcases q with q | q | q <;> omega)
          have e8 : pRing3 a b k T = (pClearS T a b k).sL 99 0 (T.2.2 99 0 + pClearV T a b k) := if_neg hq
          have h9 := ih (k + 1) X (pRing3 a b k T) (by rw [e8]; exact hT.to99 (eq99.sL _ _)) (hw.long (pRing3_N a b k T) (pRing3_I a b k T)) (by rw [pRing3_N]; omega) hex
          rw [show (pRing3 a b k T).2.2 99 0 = T.2.2 99 0 + pClearV T a b k by rw [e8]; exact sL_eq _ _ _ _] at h9
          exact h9
set_option maxHeartbeats 4000000 in
theorem lp_ring2 {a m : Nat} (ha : a < 12) (hm : m ≤ 12) {Q : Ot → Sh → Prop} : ∀ (n k : Nat) (X : Sh) (T : TS), TwF γ Mo aT X0 X T → WF K T → k + n = T.1 3 0 → T.1 3 0 = m → (∀ X1, TwF γ Mo aT X0 X1 (rep n k (pRing2 m a) T) → SW γ mX2_ring X0 X1 88 [some (.ref Mo), some (.long ((rep n k (pRing2 m a) T).2.2 99 0)), none, some (.int (nI a)), none, none] [] Q) → SW γ mX2_ring X0 X 20 [some (.ref Mo), some (.long (T.2.2 99 0)), none, some (.int (nI a)), some (.int (nI k)), none] [] Q := by
  intro n
  induction n with
  | zero =>
    intro k X T hT hw hn hm3 hex
    have hnb := hw.nb
    refine sw_iload 22 rfl rfl dX2_ring_20 ?_
    refine sw_aload_n 23 rfl rfl rfl dX2_ring_22 ?_
    refine gf_X2_113 26 rfl hT.obj rfl rfl dX2_ring_23 ?_
    refine sw_icmp_ge 88 29 (by decide) rfl dX2_ring_26 (fun c_26 => ?_) (fun c_26 => absurd (nI_le (by omega) (by omega)) c_26)
    clear c_26
    refine sw_fgt (lvle_c (lvle_c (lvle_c (lvle_c (lvle_n (lvle_n lvle_nil)))))) ?_
    exact hex X hT
  | succ n ih =>
    intro k X T hT hw hn hm3 hex
    have hnb := hw.nb
    refine sw_iload 22 rfl rfl dX2_ring_20 ?_
    refine sw_aload_n 23 rfl rfl rfl dX2_ring_22 ?_
    refine gf_X2_113 26 rfl hT.obj rfl rfl dX2_ring_23 ?_
    refine sw_icmp_ge 88 29 (by decide) rfl dX2_ring_26 (fun c_26 => absurd c_26 (nI_ge (by omega) (by omega))) (fun c_26 => ?_)
    clear c_26
    refine sw_iconst 30 rfl (nI 0) rfl dX2_ring_29 ?_
    refine sw_istore 32 rfl [_, _, _, _, _, _] (Nat.le_of_ble_eq_true rfl) rfl dX2_ring_30 ?_
    refine lp_ring3 ha (by omega) (T.1 3 0) 0 X T hT hw (Nat.zero_add _) (fun X hT => ?_)
    rw [show rep (T.1 3 0) 0 (pRing3 a k) T = pRing2 (T.1 3 0) a k T from rfl] at hT ⊢
    refine sw_iinc 85 rfl [_, _, _, _, _, _] (nI (_ + 1)) rfl (nI_add _ 1) (Nat.le_of_ble_eq_true rfl) rfl dX2_ring_82 ?_
    refine sw_goto 20 (by decide) dX2_ring_85 ?_
    rw [hm3] at hT ⊢
    exact ih (k + 1) X (pRing2 m a k T) hT (hw.long (pRing2_N _ _ _ _) (pRing2_I _ _ _ _)) (by rw [pRing2_N]; omega) (by rw [pRing2_N]; exact hm3) hex
set_option maxHeartbeats 4000000 in
theorem lp_ring1 {m : Nat} (hm : m ≤ 12) {Q : Ot → Sh → Prop} : ∀ (n k : Nat) (X : Sh) (T : TS), TwF γ Mo aT X0 X T → WF K T → k + n = T.1 3 0 → T.1 3 0 = m → (∀ X1, TwF γ Mo aT X0 X1 (rep n k (pRing1 m) T) → SW γ mX2_ring X0 X1 94 [some (.ref Mo), some (.long ((rep n k (pRing1 m) T).2.2 99 0)), none, none, none, none] [] Q) → SW γ mX2_ring X0 X 9 [some (.ref Mo), some (.long (T.2.2 99 0)), none, some (.int (nI k)), none, none] [] Q := by
  intro n
  induction n with
  | zero =>
    intro k X T hT hw hn hm3 hex
    have hnb := hw.nb
    refine sw_iload_n 10 rfl rfl dX2_ring_9 ?_
    refine sw_aload_n 11 rfl rfl rfl dX2_ring_10 ?_
    refine gf_X2_113 14 rfl hT.obj rfl rfl dX2_ring_11 ?_
    refine sw_icmp_ge 94 17 (by decide) rfl dX2_ring_14 (fun c_14 => ?_) (fun c_14 => absurd (nI_le (by omega) (by omega)) c_14)
    clear c_14
    refine sw_fgt (lvle_c (lvle_c (lvle_c (lvle_n (lvle_n (lvle_n lvle_nil)))))) ?_
    exact hex X hT
  | succ n ih =>
    intro k X T hT hw hn hm3 hex
    have hnb := hw.nb
    refine sw_iload_n 10 rfl rfl dX2_ring_9 ?_
    refine sw_aload_n 11 rfl rfl rfl dX2_ring_10 ?_
    refine gf_X2_113 14 rfl hT.obj rfl rfl dX2_ring_11 ?_
    refine sw_icmp_ge 94 17 (by decide) rfl dX2_ring_14 (fun c_14 => absurd c_14 (nI_ge (by omega) (by omega))) (fun c_14 => ?_)
    clear c_14
    refine sw_iconst 18 rfl (nI 0) rfl dX2_ring_17 ?_
    refine sw_istore 20 rfl [_, _, _, _, _, _] (Nat.le_of_ble_eq_true rfl) rfl dX2_ring_18 ?_
    refine lp_ring2 (m := m) (by omega) hm (T.1 3 0) 0 X T hT hw (Nat.zero_add _) hm3 (fun X hT => ?_)
    rw [hm3, show rep m 0 (pRing2 m k) T = pRing1 m k T from rfl] at hT ⊢
    refine sw_iinc 91 rfl [_, _, _, _, _, _] (nI (_ + 1)) rfl (nI_add _ 1) (Nat.le_of_ble_eq_true rfl) rfl dX2_ring_88 ?_
    refine sw_goto 9 (by decide) dX2_ring_91 ?_
    exact ih (k + 1) X (pRing1 m k T) hT (hw.long (pRing1_N _ _ _) (pRing1_I _ _ _)) (by rw [pRing1_N]; omega) (by rw [pRing1_N]; exact hm3) hex
set_option maxHeartbeats 4000000 in
theorem ct_ring (hR : TwR γ Mo aT X S) (hw : WF K S) : Ev γ mX2_ring [.ref Mo] X (fun oc X1 => oc = .inl (some (.long (rRing S))) ∧ TwF γ Mo aT X X1 (sRing S)) := by
  have hT := TwF.rf hR
  have hnb := hw.nb
  have hno := hw.no
  have hnc := hw.nc
  have hhr := hw.hr
  refine Ev.of (lv := [_, _, _, _, _, _]) 5 ⟨by decide +kernel, rfl, (Nat.le_of_ble_eq_true rfl)⟩ rfl ?_
  refine sw_aload_n 1 rfl rfl rfl dX2_ring_0 ?_
  refine sw_iconst 2 rfl (nI 0) rfl dX2_ring_1 ?_
  refine pf_X2_109 5 rfl hT.obj (Nat.le_of_ble_eq_true rfl) rfl dX2_ring_2 (fun X hX => ?_)
  replace hT := hT.p0 hX
  clear hX
  refine sw_lconst 6 rfl 0 rfl dX2_ring_5 ?_
  refine sw_lstore_n 7 rfl [_, _, _, _, _, _] (Nat.le_of_ble_eq_true rfl) rfl dX2_ring_6 ?_
  refine sw_iconst 8 rfl (nI 0) rfl dX2_ring_7 ?_
  refine sw_istore_n 9 rfl [_, _, _, _, _, _] (Nat.le_of_ble_eq_true rfl) rfl dX2_ring_8 ?_
  have hT9 := hT.to99 (eq99.sL _ 0)
  refine sw_fgt (lvle_c (lvle_c (lvle_c (lvle_c (lvle_c (lvle_c lvle_nil)))))) ?_
  refine lp_ring1 (m := S.1 3 0) hnb (S.1 3 0) 0 X ((tk S 0).sL 99 0 0) hT9 ((hw.thrown _).eq99 (eq99.sL _ _)) (Nat.zero_add _) rfl (fun X hT => ?_)
  refine sw_lload_n 95 rfl rfl dX2_ring_94 ?_
  refine sw_lret rfl dX2_ring_95 ?_
  exact ⟨rfl, hT⟩

end T5
