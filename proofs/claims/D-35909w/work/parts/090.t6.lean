/-! the reference's inquiry: written by prog/gen_t6.py -/
theorem pInq0_99 (b : Nat) (T : TS) : eq99 (pInq0 b T) T := eq99.sN _ _
theorem or_4096 {a b : Nat} (ha : a < 4096) (hb : b < 4096) : a ||| b < 4096 := Nat.or_lt_two_pow (n := 12) ha hb
theorem tp_4096 {b : Nat} (hb : b < 12) : 2 ^ b < 4096 := Nat.lt_of_lt_of_le (Nat.pow_lt_pow_right (by omega) hb) (Nat.le_refl (2 ^ 12))
theorem pInq0_v (b : Nat) (T : TS) : (pInq0 b T).1 99 0 = T.1 99 0 ||| (if T.2.1 9 b = 0 then 0 else 2 ^ b) := sN_eq _ _ _ _
theorem pInq3_v (b o : Nat) (T : TS) : (pInq3 b o T).1 99 0 = T.1 99 0 ||| (if bitOf (T.1 99 0) b = 1 ∧ ¬ T.2.2 13 (12 * b + o) = 0 then 2 ^ o else 0) := sN_eq _ _ _ _
theorem pInq0_lt {b : Nat} {T : TS} (hb : b < 12) (h : T.1 99 0 < 4096) : (pInq0 b T).1 99 0 < 4096 := by
  rw [pInq0_v]; refine or_4096 h ?_; split
  · omega
  · exact tp_4096 hb
theorem pInq3_lt {b o : Nat} {T : TS} (hb : o < 12) (h : T.1 99 0 < 4096) : (pInq3 b o T).1 99 0 < 4096 := by
  rw [pInq3_v]; refine or_4096 h ?_; split
  · exact tp_4096 hb
  · omega
theorem pInq2_lt {n b : Nat} {T : TS} (hn : n ≤ 12) (h : T.1 99 0 < 4096) : (pInq2 n b T).1 99 0 < 4096 := rep_inv (P := fun T => T.1 99 0 < 4096) n 0 T h (fun i T _ h2 h3 => pInq3_lt (by omega) h3)
theorem pInq1_lt {n b : Nat} {T : TS} (hn : n ≤ 12) (h : T.1 99 0 < 4096) : (pInq1 n b T).1 99 0 < 4096 := rep_inv (P := fun T => T.1 99 0 < 4096) n 0 T h (fun i T _ h2 h3 => pInq2_lt hn h3)
set_option maxRecDepth 100000
section T6
variable {γ : Gm} {Mo : Nat} {aT : Nat → Nat} {X X0 : Sh} {S : TS} {K : Nat}
set_option maxHeartbeats 4000000 in
theorem lp_inq0 {m : Nat} {Q : Ot → Sh → Prop} : ∀ (n k : Nat) (X : Sh) (T : TS), TwF γ Mo aT X0 X T → WF K T → k + n = T.1 3 0 → T.1 3 0 = m → T.1 99 0 < 4096 → (∀ X1, TwF γ Mo aT X0 X1 (rep n k pInq0 T) → (rep n k pInq0 T).1 99 0 < 4096 → SW γ mX2_inquiry X0 X1 42 [some (.ref Mo), some (.int (nI ((rep n k pInq0 T).1 99 0))), none, none, none] [] Q) → SW γ mX2_inquiry X0 X 9 [some (.ref Mo), some (.int (nI (T.1 99 0))), some (.int (nI k)), none, none] [] Q := by
  intro n
  induction n with
  | zero =>
    intro k X T hT hw hn hm3 h9 hex
    have hnb := hw.nb
    refine sw_iload_n 10 rfl rfl dX2_inquiry_9 ?_
    refine sw_aload_n 11 rfl rfl rfl dX2_inquiry_10 ?_
    refine gf_X2_113 14 rfl hT.obj rfl rfl dX2_inquiry_11 ?_
    refine sw_icmp_ge 42 17 (by decide) rfl dX2_inquiry_14 (fun c_14 => ?_) (fun c_14 => absurd (nI_le (by omega) (by omega)) c_14)
    clear c_14
    refine sw_fgt (lvle_c (lvle_c (lvle_n (lvle_c (lvle_c lvle_nil))))) ?_
    exact hex X hT h9
  | succ n ih =>
    intro k X T hT hw hn hm3 h9 hex
    have hnb := hw.nb
    refine sw_iload_n 10 rfl rfl dX2_inquiry_9 ?_
    refine sw_aload_n 11 rfl rfl rfl dX2_inquiry_10 ?_
    refine gf_X2_113 14 rfl hT.obj rfl rfl dX2_inquiry_11 ?_
    refine sw_icmp_ge 42 17 (by decide) rfl dX2_inquiry_14 (fun c_14 => absurd c_14 (nI_ge (by omega) (by omega))) (fun c_14 => ?_)
    clear c_14
    refine sw_iload_n 18 rfl rfl dX2_inquiry_17 ?_
    refine sw_aload_n 19 rfl rfl rfl dX2_inquiry_18 ?_
    refine gf_X2_26 22 rfl hT.obj rfl rfl dX2_inquiry_19 ?_
    refine sw_iload_n 23 rfl rfl dX2_inquiry_22 ?_
    refine sw_zald 24 rfl (hT.arr 9 rfl) (by omega) (Nat.le_of_ble_eq_true rfl) dX2_inquiry_23 ?_
    refine sw_if_eq 33 27 (by decide) rfl dX2_inquiry_24 (fun c_24 => ?_) (fun c_24 => ?_)
    · refine sw_iconst 34 rfl (nI 0) rfl dX2_inquiry_33 ?_
      refine sw_ior 35 rfl dX2_inquiry_34 ?_
      refine sw_topI (nx_or _ _) ?_
      refine sw_istore_n 36 rfl [_, _, _, _, _] (Nat.le_of_ble_eq_true rfl) rfl dX2_inquiry_35 ?_
      refine sw_iinc 39 rfl [_, _, _, _, _] (nI (_ + 1)) rfl (nI_add _ 1) (Nat.le_of_ble_eq_true rfl) rfl dX2_inquiry_36 ?_
      refine sw_goto 9 (by decide) dX2_inquiry_39 ?_
      have e8 := pInq0_v k T
      rw [if_pos c_24] at e8
      have h8 := ih (k + 1) X (pInq0 k T) (hT.to99 (pInq0_99 k T)) (hw.eq99 (pInq0_99 k T)) (show k + 1 + n = T.1 3 0 by omega) hm3 (pInq0_lt (by omega) h9) hex
      rw [e8] at h8
      exact h8
    · refine sw_iconst 28 rfl (nI 1) rfl dX2_inquiry_27 ?_
      refine sw_iload_n 29 rfl rfl dX2_inquiry_28 ?_
      refine sw_ishl 30 rfl dX2_inquiry_29 ?_
      refine sw_topI (one_sh (by omega)) ?_
      refine sw_goto 34 (by decide) dX2_inquiry_30 ?_
      refine sw_ior 35 rfl dX2_inquiry_34 ?_
      refine sw_topI (nx_or _ _) ?_
      refine sw_istore_n 36 rfl [_, _, _, _, _] (Nat.le_of_ble_eq_true rfl) rfl dX2_inquiry_35 ?_
      refine sw_iinc 39 rfl [_, _, _, _, _] (nI (_ + 1)) rfl (nI_add _ 1) (Nat.le_of_ble_eq_true rfl) rfl dX2_inquiry_36 ?_
      refine sw_goto 9 (by decide) dX2_inquiry_39 ?_
      have e8 := pInq0_v k T
      rw [if_neg c_24] at e8
      have h8 := ih (k + 1) X (pInq0 k T) (hT.to99 (pInq0_99 k T)) (hw.eq99 (pInq0_99 k T)) (show k + 1 + n = T.1 3 0 by omega) hm3 (pInq0_lt (by omega) h9) hex
      rw [e8] at h8
      exact h8
set_option maxHeartbeats 4000000 in
theorem lp_inq3 {m b r : Nat} (hb : b < 12) {Q : Ot → Sh → Prop} : ∀ (n k : Nat) (X : Sh) (T : TS), TwF γ Mo aT X0 X T → WF K T → k + n = T.1 3 0 → T.1 3 0 = m → T.1 99 0 < 4096 → (∀ X1, TwF γ Mo aT X0 X1 (rep n k (pInq3 b) T) → (rep n k (pInq3 b) T).1 99 0 < 4096 → SW γ mX2_inquiry X0 X1 117 [some (.ref Mo), some (.int (nI ((rep n k (pInq3 b) T).1 99 0))), some (.int (nI r)), some (.int (nI b)), none] [] Q) → SW γ mX2_inquiry X0 X 65 [some (.ref Mo), some (.int (nI (T.1 99 0))), some (.int (nI r)), some (.int (nI b)), some (.int (nI k))] [] Q := by
  intro n
  induction n with
  | zero =>
    intro k X T hT hw hn hm3 h9 hex
    have hnb := hw.nb
    refine sw_iload 67 rfl rfl dX2_inquiry_65 ?_
    refine sw_aload_n 68 rfl rfl rfl dX2_inquiry_67 ?_
    refine gf_X2_113 71 rfl hT.obj rfl rfl dX2_inquiry_68 ?_
    refine sw_icmp_ge 117 74 (by decide) rfl dX2_inquiry_71 (fun c_71 => ?_) (fun c_71 => absurd (nI_le (by omega) (by omega)) c_71)
    clear c_71
    refine sw_fgt (lvle_c (lvle_c (lvle_c (lvle_c (lvle_n lvle_nil))))) ?_
    exact hex X hT h9
  | succ n ih =>
    intro k X T hT hw hn hm3 h9 hex
    have hnb := hw.nb
    refine sw_iload 67 rfl rfl dX2_inquiry_65 ?_
    refine sw_aload_n 68 rfl rfl rfl dX2_inquiry_67 ?_
    refine gf_X2_113 71 rfl hT.obj rfl rfl dX2_inquiry_68 ?_
    refine sw_icmp_ge 117 74 (by decide) rfl dX2_inquiry_71 (fun c_71 => absurd c_71 (nI_ge (by omega) (by omega))) (fun c_71 => ?_)
    clear c_71
    refine sw_iload_n 75 rfl rfl dX2_inquiry_74 ?_
    refine sw_iload_n 76 rfl rfl dX2_inquiry_75 ?_
    refine sw_iload_n 77 rfl rfl dX2_inquiry_76 ?_
    refine sw_ishr 78 rfl dX2_inquiry_77 ?_
    refine sw_iconst 79 rfl (nI 1) rfl dX2_inquiry_78 ?_
    refine sw_iand 80 rfl dX2_inquiry_79 ?_
    refine sw_topI (bit_sh (by omega) (by omega)) ?_
    have hb2 : T.1 99 0 / 2 ^ b % 2 < 2 := Nat.mod_lt _ (by omega)
    refine sw_iconst 81 rfl (nI 1) rfl dX2_inquiry_80 ?_
    refine sw_icmp_ne 108 84 (by decide) rfl dX2_inquiry_81 (fun c_81 => ?_) (fun c_81 => ?_)
    · rw [nI_eq (by omega) (by omega)] at c_81
      refine sw_iconst 109 rfl (nI 0) rfl dX2_inquiry_108 ?_
      refine sw_ior 110 rfl dX2_inquiry_109 ?_
      refine sw_topI (nx_or _ _) ?_
      refine sw_istore_n 111 rfl [_, _, _, _, _] (Nat.le_of_ble_eq_true rfl) rfl dX2_inquiry_110 ?_
      refine sw_iinc 114 rfl [_, _, _, _, _] (nI (_ + 1)) rfl (nI_add _ 1) (Nat.le_of_ble_eq_true rfl) rfl dX2_inquiry_111 ?_
      refine sw_goto 65 (by decide) dX2_inquiry_114 ?_
      have e8 := pInq3_v b k T
      rw [if_neg (show ¬ (bitOf (T.1 99 0) b = 1 ∧ ¬ T.2.2 13 (12 * b + k) = 0) from fun q => c_81 q.1)] at e8
      have h8 := ih (k + 1) X (pInq3 b k T) (hT.to99 (pInq3_99 b k T)) (hw.eq99 (pInq3_99 b k T)) (show k + 1 + n = T.1 3 0 by omega) hm3 (pInq3_lt (by omega) h9) hex
      rw [e8] at h8
      exact h8
    · rw [nI_eq (by omega) (by omega)] at c_81
      refine sw_aload_n 85 rfl rfl rfl dX2_inquiry_84 ?_
      refine gf_X2_39 88 rfl hT.obj rfl rfl dX2_inquiry_85 ?_
      refine sw_bipush 90 rfl (nI 12) rfl dX2_inquiry_88 ?_
      refine sw_iload_n 91 rfl rfl dX2_inquiry_90 ?_
      refine sw_imulN 92 rfl dX2_inquiry_91 ?_
      refine sw_iload 94 rfl rfl dX2_inquiry_92 ?_
      refine sw_iaddN 95 rfl dX2_inquiry_94 ?_
      refine sw_lald 96 rfl (hT.arr 13 rfl) (by omega) (Nat.le_of_ble_eq_true rfl) dX2_inquiry_95 ?_
      refine sw_lconst 97 rfl 0 rfl dX2_inquiry_96 ?_
      refine sw_leq 108 98 101 rfl (by decide) rfl dX2_inquiry_97 dX2_inquiry_98 (fun c_97 => ?_) (fun c_97 => ?_)
      · refine sw_iconst 109 rfl (nI 0) rfl dX2_inquiry_108 ?_
        refine sw_ior 110 rfl dX2_inquiry_109 ?_
        refine sw_topI (nx_or _ _) ?_
        refine sw_istore_n 111 rfl [_, _, _, _, _] (Nat.le_of_ble_eq_true rfl) rfl dX2_inquiry_110 ?_
        refine sw_iinc 114 rfl [_, _, _, _, _] (nI (_ + 1)) rfl (nI_add _ 1) (Nat.le_of_ble_eq_true rfl) rfl dX2_inquiry_111 ?_
        refine sw_goto 65 (by decide) dX2_inquiry_114 ?_
        have e8 := pInq3_v b k T
        rw [if_neg (show ¬ (bitOf (T.1 99 0) b = 1 ∧ ¬ T.2.2 13 (12 * b + k) = 0) from fun q => q.2 c_97)] at e8
        have h8 := ih (k + 1) X (pInq3 b k T) (hT.to99 (pInq3_99 b k T)) (hw.eq99 (pInq3_99 b k T)) (show k + 1 + n = T.1 3 0 by omega) hm3 (pInq3_lt (by omega) h9) hex
        rw [e8] at h8
        exact h8
      · refine sw_iconst 102 rfl (nI 1) rfl dX2_inquiry_101 ?_
        refine sw_iload 104 rfl rfl dX2_inquiry_102 ?_
        refine sw_ishl 105 rfl dX2_inquiry_104 ?_
        refine sw_topI (one_sh (by omega)) ?_
        refine sw_goto 109 (by decide) dX2_inquiry_105 ?_
        refine sw_ior 110 rfl dX2_inquiry_109 ?_
        refine sw_topI (nx_or _ _) ?_
        refine sw_istore_n 111 rfl [_, _, _, _, _] (Nat.le_of_ble_eq_true rfl) rfl dX2_inquiry_110 ?_
        refine sw_iinc 114 rfl [_, _, _, _, _] (nI (_ + 1)) rfl (nI_add _ 1) (Nat.le_of_ble_eq_true rfl) rfl dX2_inquiry_111 ?_
        refine sw_goto 65 (by decide) dX2_inquiry_114 ?_
        have e8 := pInq3_v b k T
        rw [if_pos (show bitOf (T.1 99 0) b = 1 ∧ ¬ T.2.2 13 (12 * b + k) = 0 from ⟨c_81, c_97⟩)] at e8
        have h8 := ih (k + 1) X (pInq3 b k T) (hT.to99 (pInq3_99 b k T)) (hw.eq99 (pInq3_99 b k T)) (show k + 1 + n = T.1 3 0 by omega) hm3 (pInq3_lt (by omega) h9) hex
        rw [e8] at h8
        exact h8
set_option maxHeartbeats 4000000 in
theorem lp_inq2 {m r : Nat} (hm : m ≤ 12) {Q : Ot → Sh → Prop} : ∀ (n k : Nat) (X : Sh) (T : TS), TwF γ Mo aT X0 X T → WF K T → k + n = T.1 3 0 → T.1 3 0 = m → T.1 99 0 < 4096 → (∀ X1, TwF γ Mo aT X0 X1 (rep n k (pInq2 m) T) → (rep n k (pInq2 m) T).1 99 0 < 4096 → SW γ mX2_inquiry X0 X1 123 [some (.ref Mo), some (.int (nI ((rep n k (pInq2 m) T).1 99 0))), some (.int (nI r)), none, none] [] Q) → SW γ mX2_inquiry X0 X 54 [some (.ref Mo), some (.int (nI (T.1 99 0))), some (.int (nI r)), some (.int (nI k)), none] [] Q := by
  intro n
  induction n with
  | zero =>
    intro k X T hT hw hn hm3 h9 hex
    have hnb := hw.nb
    refine sw_iload_n 55 rfl rfl dX2_inquiry_54 ?_
    refine sw_aload_n 56 rfl rfl rfl dX2_inquiry_55 ?_
    refine gf_X2_113 59 rfl hT.obj rfl rfl dX2_inquiry_56 ?_
    refine sw_icmp_ge 123 62 (by decide) rfl dX2_inquiry_59 (fun c_59 => ?_) (fun c_59 => absurd (nI_le (by omega) (by omega)) c_59)
    clear c_59
    refine sw_fgt (lvle_c (lvle_c (lvle_c (lvle_n (lvle_c lvle_nil))))) ?_
    exact hex X hT h9
  | succ n ih =>
    intro k X T hT hw hn hm3 h9 hex
    have hnb := hw.nb
    refine sw_iload_n 55 rfl rfl dX2_inquiry_54 ?_
    refine sw_aload_n 56 rfl rfl rfl dX2_inquiry_55 ?_
    refine gf_X2_113 59 rfl hT.obj rfl rfl dX2_inquiry_56 ?_
    refine sw_icmp_ge 123 62 (by decide) rfl dX2_inquiry_59 (fun c_59 => absurd c_59 (nI_ge (by omega) (by omega))) (fun c_59 => ?_)
    clear c_59
    refine sw_iconst 63 rfl (nI 0) rfl dX2_inquiry_62 ?_
    refine sw_istore 65 rfl [_, _, _, _, _] (Nat.le_of_ble_eq_true rfl) rfl dX2_inquiry_63 ?_
    refine lp_inq3 (m := m) (by omega) (T.1 3 0) 0 X T hT hw (Nat.zero_add _) hm3 h9 (fun X hT h9 => ?_)
    rw [hm3, show rep m 0 (pInq3 k) T = pInq2 m k T from rfl] at hT h9 ⊢
    refine sw_iinc 120 rfl [_, _, _, _, _] (nI (_ + 1)) rfl (nI_add _ 1) (Nat.le_of_ble_eq_true rfl) rfl dX2_inquiry_117 ?_
    refine sw_goto 54 (by decide) dX2_inquiry_120 ?_
    exact ih (k + 1) X (pInq2 m k T) hT (hw.eq99 (pInq2_99 m k T)) (by rw [(pInq2_99 m k T).1 3 (by omega)]; omega) (by rw [(pInq2_99 m k T).1 3 (by omega)]; exact hm3) h9 hex
set_option maxHeartbeats 4000000 in
theorem lp_inq1 {m : Nat} (hm : m ≤ 12) {Q : Ot → Sh → Prop} : ∀ (n k : Nat) (X : Sh) (T : TS), TwF γ Mo aT X0 X T → WF K T → k + n = T.1 3 0 → T.1 3 0 = m → T.1 99 0 < 4096 → (∀ X1, TwF γ Mo aT X0 X1 (rep n k (pInq1 m) T) → (rep n k (pInq1 m) T).1 99 0 < 4096 → SW γ mX2_inquiry X0 X1 129 [some (.ref Mo), some (.int (nI ((rep n k (pInq1 m) T).1 99 0))), none, none, none] [] Q) → SW γ mX2_inquiry X0 X 44 [some (.ref Mo), some (.int (nI (T.1 99 0))), some (.int (nI k)), none, none] [] Q := by
  intro n
  induction n with
  | zero =>
    intro k X T hT hw hn hm3 h9 hex
    have hnb := hw.nb
    refine sw_iload_n 45 rfl rfl dX2_inquiry_44 ?_
    refine sw_aload_n 46 rfl rfl rfl dX2_inquiry_45 ?_
    refine gf_X2_113 49 rfl hT.obj rfl rfl dX2_inquiry_46 ?_
    refine sw_icmp_ge 129 52 (by decide) rfl dX2_inquiry_49 (fun c_49 => ?_) (fun c_49 => absurd (nI_le (by omega) (by omega)) c_49)
    clear c_49
    refine sw_fgt (lvle_c (lvle_c (lvle_n (lvle_c (lvle_c lvle_nil))))) ?_
    exact hex X hT h9
  | succ n ih =>
    intro k X T hT hw hn hm3 h9 hex
    have hnb := hw.nb
    refine sw_iload_n 45 rfl rfl dX2_inquiry_44 ?_
    refine sw_aload_n 46 rfl rfl rfl dX2_inquiry_45 ?_
    refine gf_X2_113 49 rfl hT.obj rfl rfl dX2_inquiry_46 ?_
    refine sw_icmp_ge 129 52 (by decide) rfl dX2_inquiry_49 (fun c_49 => absurd c_49 (nI_ge (by omega) (by omega))) (fun c_49 => ?_)
    clear c_49
    refine sw_iconst 53 rfl (nI 0) rfl dX2_inquiry_52 ?_
    refine sw_istore_n 54 rfl [_, _, _, _, _] (Nat.le_of_ble_eq_true rfl) rfl dX2_inquiry_53 ?_
    refine lp_inq2 (m := m) hm (T.1 3 0) 0 X T hT hw (Nat.zero_add _) hm3 h9 (fun X hT h9 => ?_)
    rw [hm3, show rep m 0 (pInq2 m) T = pInq1 m k T from rfl] at hT h9 ⊢
    refine sw_iinc 126 rfl [_, _, _, _, _] (nI (_ + 1)) rfl (nI_add _ 1) (Nat.le_of_ble_eq_true rfl) rfl dX2_inquiry_123 ?_
    refine sw_goto 44 (by decide) dX2_inquiry_126 ?_
    exact ih (k + 1) X (pInq1 m k T) hT (hw.eq99 (pInq1_99 m k T)) (by rw [(pInq1_99 m k T).1 3 (by omega)]; omega) (by rw [(pInq1_99 m k T).1 3 (by omega)]; exact hm3) h9 hex
set_option maxHeartbeats 4000000 in
theorem ct_inquiry (hR : TwR γ Mo aT X S) (hw : WF K S) : Ev γ mX2_inquiry [.ref Mo] X (fun oc X1 => oc = .inl (some (.int (rInq S))) ∧ TwF γ Mo aT X X1 (sInq S)) := by
  have hT := TwF.rf hR
  have hnb := hw.nb
  have hno := hw.no
  have hnc := hw.nc
  have hhr := hw.hr
  refine Ev.of (lv := [_, _, _, _, _]) 4 ⟨by decide +kernel, rfl, (Nat.le_of_ble_eq_true rfl)⟩ rfl ?_
  refine sw_aload_n 1 rfl rfl rfl dX2_inquiry_0 ?_
  refine sw_iconst 2 rfl (nI 0) rfl dX2_inquiry_1 ?_
  refine pf_X2_109 5 rfl hT.obj (Nat.le_of_ble_eq_true rfl) rfl dX2_inquiry_2 (fun X hX => ?_)
  replace hT := hT.p0 hX
  clear hX
  refine sw_iconst 6 rfl (nI 0) rfl dX2_inquiry_5 ?_
  refine sw_istore_n 7 rfl [_, _, _, _, _] (Nat.le_of_ble_eq_true rfl) rfl dX2_inquiry_6 ?_
  refine sw_iconst 8 rfl (nI 0) rfl dX2_inquiry_7 ?_
  refine sw_istore_n 9 rfl [_, _, _, _, _] (Nat.le_of_ble_eq_true rfl) rfl dX2_inquiry_8 ?_
  have hT9 := hT.to99 (eq99.sN _ 0)
  have hw9 : WF K ((tk S 0).sN 99 0 0) := (hw.thrown _).eq99 (eq99.sN _ _)
  refine lp_inq0 (m := S.1 3 0) (S.1 3 0) 0 X ((tk S 0).sN 99 0 0) hT9 hw9 (Nat.zero_add _) rfl (by show (0:Nat) < 4096; omega) (fun X hT h9 => ?_)
  have e9 := eq99.rep pInq0_99 (S.1 3 0) 0 ((tk S 0).sN 99 0 0)
  have hw := hw9.eq99 e9
  have hm3 : (rep (S.1 3 0) 0 pInq0 ((tk S 0).sN 99 0 0)).1 3 0 = S.1 3 0 := by rw [e9.1 3 (by omega)]; rfl
  refine sw_iconst 43 rfl (nI 0) rfl dX2_inquiry_42 ?_
  refine sw_istore_n 44 rfl [_, _, _, _, _] (Nat.le_of_ble_eq_true rfl) rfl dX2_inquiry_43 ?_
  refine lp_inq1 (m := S.1 3 0) hnb (S.1 3 0) 0 X _ hT hw (by rw [hm3, Nat.zero_add]) hm3 h9 (fun X hT h9 => ?_)
  refine sw_iload_n 130 rfl rfl dX2_inquiry_129 ?_
  refine sw_iret rfl rfl dX2_inquiry_130 ?_
  exact ⟨rfl, hT⟩

end T6
