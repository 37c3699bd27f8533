/-! the reference is made: written by prog/gen_t12.py -/
set_option maxRecDepth 100000
def S00 : TS := (fun _ _ => 0, fun k j => if k = 31 ∧ j < 8 then nI 1000000 else 0, fun _ _ => 0)
theorem S00_I {k j : Nat} (h : k ≠ 31) : S00.2.1 k j = 0 := if_neg (fun q => h q.1)
def twI : Nat → Nat
  | 4 => 0
  | 5 => 1
  | 6 => 2
  | 7 => 3
  | 8 => 4
  | 9 => 5
  | 10 => 6
  | 11 => 7
  | 12 => 8
  | 13 => 9
  | 15 => 10
  | 16 => 11
  | 17 => 12
  | 18 => 13
  | 19 => 14
  | 20 => 15
  | 21 => 16
  | 22 => 17
  | 23 => 18
  | 24 => 19
  | 26 => 20
  | 27 => 21
  | 28 => 22
  | 29 => 23
  | 30 => 24
  | 31 => 25
  | 32 => 26
  | 33 => 27
  | 34 => 28
  | 35 => 29
  | 36 => 30
  | 37 => 31
  | _ => 0
def twJ : Nat → Nat
  | 0 => 4
  | 1 => 5
  | 2 => 6
  | 3 => 7
  | 4 => 8
  | 5 => 9
  | 6 => 10
  | 7 => 11
  | 8 => 12
  | 9 => 13
  | 10 => 15
  | 11 => 16
  | 12 => 17
  | 13 => 18
  | 14 => 19
  | 15 => 20
  | 16 => 21
  | 17 => 22
  | 18 => 23
  | 19 => 24
  | 20 => 26
  | 21 => 27
  | 22 => 28
  | 23 => 29
  | 24 => 30
  | 25 => 31
  | 26 => 32
  | 27 => 33
  | 28 => 34
  | 29 => 35
  | 30 => 36
  | 31 => 37
  | _ => 0
theorem twJ_I {k : Nat} (hk : isT k = true) : twJ (twI k) = k := by
  unfold isT at hk
  split at hk <;> first | rfl | cases hk
/-- cells made one after the other, beside an object that is being made -/
def Ini (Mo ci N0 K0 K : Nat) (X0 X : Sh) (L : List va_E) (fs : List Value) : Prop :=
  Mo < N0 ∧ X.1 = N0 + L.length ∧ X.2.1 = K0 + K ∧ X.2.2 Mo = some (.inr (ci, fs)) ∧ (∀ j, j < L.length → X.2.2 (N0 + j) = L[j]?) ∧ ∀ b, b ≠ Mo → b < N0 → X.2.2 b = X0.2.2 b
section Inis
variable {Mo ci N0 K0 K : Nat} {X0 X X1 : Sh} {L : List va_E} {fs : List Value}
theorem Ini.of (h : X.2.2 Mo = some (.inr (ci, fs))) (hl : Mo < X.1) : Ini Mo ci X.1 X.2.1 0 X X [] fs := ⟨hl, rfl, rfl, h, fun j hj => absurd hj (Nat.not_lt_zero _), fun _ _ _ => rfl⟩
theorem Ini.add (h : Ini Mo ci N0 K0 K X0 X L fs) {e : va_E} {n : Nat} (hX : X1 = X.add e n) : Ini Mo ci N0 K0 (K + n) X0 X1 (L ++ [e]) fs := by
  subst hX
  obtain ⟨h1, h2, h3, h4, h5, h6⟩ := h
  refine ⟨h1, ?_, ?_, ?_, fun j hj => ?_, fun b hb hb2 => ?_⟩
  · show X.1 + 1 = _; rw [h2, List.length_append]; rfl
  · show X.2.1 + n = _; rw [h3, Nat.add_assoc]
  · rw [Sh.add_ne _ _ _ (by omega)]; exact h4
  · rw [List.length_append, List.length_singleton] at hj
    by_cases q : j < L.length
    · rw [Sh.add_ne _ _ _ (by omega), h5 j q, List.getElem?_append_left q]
    · have e1 : j = L.length := by omega
      subst e1
      rw [← h2, Sh.add_eq, List.getElem?_concat_length]
  · rw [Sh.add_ne _ _ _ (by omega)]; exact h6 b hb hb2
theorem Ini.put (h : Ini Mo ci N0 K0 K X0 X L fs) {fs' : List Value} (hX : X1 = X.set Mo (.inr (ci, fs'))) : Ini Mo ci N0 K0 K X0 X1 L fs' := by
  subst hX
  obtain ⟨h1, h2, h3, h4, h5, h6⟩ := h
  exact ⟨h1, h2, h3, Sh.set_eq _ _ _, fun j hj => by rw [Sh.set_ne _ _ (by omega)]; exact h5 j hj, fun b hb hb2 => by rw [Sh.set_ne _ _ hb]; exact h6 b hb hb2⟩
theorem Ini.last {e e' : va_E} (h : Ini Mo ci N0 K0 K X0 X (L ++ [e]) fs) (hX : X1 = X.set (N0 + L.length) e') : Ini Mo ci N0 K0 K X0 X1 (L ++ [e']) fs := by
  subst hX
  obtain ⟨h1, h2, h3, h4, h5, h6⟩ := h
  rw [List.length_append, List.length_singleton] at h2 h5
  refine ⟨h1, by rw [List.length_append, List.length_singleton]; exact h2, h3, ?_, fun j hj => ?_, fun b hb hb2 => ?_⟩
  · rw [Sh.set_ne _ _ (by omega)]; exact h4
  · rw [List.length_append, List.length_singleton] at hj
    by_cases q : j < L.length
    · rw [Sh.set_ne _ _ (by omega), h5 j (by omega), List.getElem?_append_left q, List.getElem?_append_left q]
    · have e1 : j = L.length := by omega
      subst e1
      rw [Sh.set_eq, List.getElem?_concat_length]
  · rw [Sh.set_ne _ _ (by omega)]; exact h6 b hb hb2
end Inis
section T12
variable {γ : Gm} {Mo : Nat} {X X0 : Sh}
theorem x2i_4 {N0 K0 K i : Nat} {L : List va_E} {fs : List Value} {Q : Ot → Sh → Prop} {XO : Sh} (hI : Ini Mo 1 N0 K0 K XO X L fs) (hLi : L.length = i) (hf : fs.length = 38) (kk : ∀ X1, Ini Mo 1 N0 K0 (K + 12) XO X1 (L ++ [eI γ 12 (fun _ => 0)]) (fs.set 4 (.ref (N0 + i))) → (L ++ [eI γ 12 (fun _ => 0)]).length = i + 1 → (fs.set 4 (.ref (N0 + i))).length = 38 → SW γ mX2_init X0 X1 12 [some (.ref Mo)] [] Q) : SW γ mX2_init X0 X 4 [some (.ref Mo)] [] Q := by
  refine sw_aload_n 5 rfl rfl rfl dX2_init_4 ?_
  refine sw_bipush 7 rfl (nI 12) rfl dX2_init_5 ?_
  have e1 := hI.2.1
  rw [hLi] at e1
  refine sw_newI 9 rfl (Nat.le_of_ble_eq_true rfl) q135 dX2_init_7 (fun X hX => ?_)
  rw [e1]
  replace hI := hI.add hX
  clear hX e1
  refine sw_sk (show _ = va_rf (some _) :: _ from rfl) ?_
  refine pf_X2_7 12 rfl hI.2.2.2.1 (by omega) rfl rfl dX2_init_9 (fun X hX => ?_)
  exact kk X (hI.put hX) (by rw [List.length_append, hLi]; rfl) (by rw [List.length_set]; exact hf)
theorem x2i_5 {N0 K0 K i : Nat} {L : List va_E} {fs : List Value} {Q : Ot → Sh → Prop} {XO : Sh} (hI : Ini Mo 1 N0 K0 K XO X L fs) (hLi : L.length = i) (hf : fs.length = 38) (kk : ∀ X1, Ini Mo 1 N0 K0 (K + 12) XO X1 (L ++ [eL γ 12 (fun _ => 0)]) (fs.set 5 (.ref (N0 + i))) → (L ++ [eL γ 12 (fun _ => 0)]).length = i + 1 → (fs.set 5 (.ref (N0 + i))).length = 38 → SW γ mX2_init X0 X1 20 [some (.ref Mo)] [] Q) : SW γ mX2_init X0 X 12 [some (.ref Mo)] [] Q := by
  refine sw_aload_n 13 rfl rfl rfl dX2_init_12 ?_
  refine sw_bipush 15 rfl (nI 12) rfl dX2_init_13 ?_
  have e1 := hI.2.1
  rw [hLi] at e1
  refine sw_newL 17 rfl (Nat.le_of_ble_eq_true rfl) q137 dX2_init_15 (fun X hX => ?_)
  rw [e1]
  replace hI := hI.add hX
  clear hX e1
  refine sw_sk (show _ = va_rf (some _) :: _ from rfl) ?_
  refine pf_X2_13 20 rfl hI.2.2.2.1 (by omega) rfl rfl dX2_init_17 (fun X hX => ?_)
  exact kk X (hI.put hX) (by rw [List.length_append, hLi]; rfl) (by rw [List.length_set]; exact hf)
theorem x2i_6 {N0 K0 K i : Nat} {L : List va_E} {fs : List Value} {Q : Ot → Sh → Prop} {XO : Sh} (hI : Ini Mo 1 N0 K0 K XO X L fs) (hLi : L.length = i) (hf : fs.length = 38) (kk : ∀ X1, Ini Mo 1 N0 K0 (K + 12) XO X1 (L ++ [eI γ 12 (fun _ => 0)]) (fs.set 6 (.ref (N0 + i))) → (L ++ [eI γ 12 (fun _ => 0)]).length = i + 1 → (fs.set 6 (.ref (N0 + i))).length = 38 → SW γ mX2_init X0 X1 28 [some (.ref Mo)] [] Q) : SW γ mX2_init X0 X 20 [some (.ref Mo)] [] Q := by
  refine sw_aload_n 21 rfl rfl rfl dX2_init_20 ?_
  refine sw_bipush 23 rfl (nI 12) rfl dX2_init_21 ?_
  have e1 := hI.2.1
  rw [hLi] at e1
  refine sw_newI 25 rfl (Nat.le_of_ble_eq_true rfl) q135 dX2_init_23 (fun X hX => ?_)
  rw [e1]
  replace hI := hI.add hX
  clear hX e1
  refine sw_sk (show _ = va_rf (some _) :: _ from rfl) ?_
  refine pf_X2_17 28 rfl hI.2.2.2.1 (by omega) rfl rfl dX2_init_25 (fun X hX => ?_)
  exact kk X (hI.put hX) (by rw [List.length_append, hLi]; rfl) (by rw [List.length_set]; exact hf)
theorem x2i_7 {N0 K0 K i : Nat} {L : List va_E} {fs : List Value} {Q : Ot → Sh → Prop} {XO : Sh} (hI : Ini Mo 1 N0 K0 K XO X L fs) (hLi : L.length = i) (hf : fs.length = 38) (kk : ∀ X1, Ini Mo 1 N0 K0 (K + 12) XO X1 (L ++ [eI γ 12 (fun _ => 0)]) (fs.set 7 (.ref (N0 + i))) → (L ++ [eI γ 12 (fun _ => 0)]).length = i + 1 → (fs.set 7 (.ref (N0 + i))).length = 38 → SW γ mX2_init X0 X1 36 [some (.ref Mo)] [] Q) : SW γ mX2_init X0 X 28 [some (.ref Mo)] [] Q := by
  refine sw_aload_n 29 rfl rfl rfl dX2_init_28 ?_
  refine sw_bipush 31 rfl (nI 12) rfl dX2_init_29 ?_
  have e1 := hI.2.1
  rw [hLi] at e1
  refine sw_newI 33 rfl (Nat.le_of_ble_eq_true rfl) q135 dX2_init_31 (fun X hX => ?_)
  rw [e1]
  replace hI := hI.add hX
  clear hX e1
  refine sw_sk (show _ = va_rf (some _) :: _ from rfl) ?_
  refine pf_X2_20 36 rfl hI.2.2.2.1 (by omega) rfl rfl dX2_init_33 (fun X hX => ?_)
  exact kk X (hI.put hX) (by rw [List.length_append, hLi]; rfl) (by rw [List.length_set]; exact hf)
theorem x2i_8 {N0 K0 K i : Nat} {L : List va_E} {fs : List Value} {Q : Ot → Sh → Prop} {XO : Sh} (hI : Ini Mo 1 N0 K0 K XO X L fs) (hLi : L.length = i) (hf : fs.length = 38) (kk : ∀ X1, Ini Mo 1 N0 K0 (K + 12) XO X1 (L ++ [eI γ 12 (fun _ => 0)]) (fs.set 8 (.ref (N0 + i))) → (L ++ [eI γ 12 (fun _ => 0)]).length = i + 1 → (fs.set 8 (.ref (N0 + i))).length = 38 → SW γ mX2_init X0 X1 44 [some (.ref Mo)] [] Q) : SW γ mX2_init X0 X 36 [some (.ref Mo)] [] Q := by
  refine sw_aload_n 37 rfl rfl rfl dX2_init_36 ?_
  refine sw_bipush 39 rfl (nI 12) rfl dX2_init_37 ?_
  have e1 := hI.2.1
  rw [hLi] at e1
  refine sw_newI 41 rfl (Nat.le_of_ble_eq_true rfl) q135 dX2_init_39 (fun X hX => ?_)
  rw [e1]
  replace hI := hI.add hX
  clear hX e1
  refine sw_sk (show _ = va_rf (some _) :: _ from rfl) ?_
  refine pf_X2_23 44 rfl hI.2.2.2.1 (by omega) rfl rfl dX2_init_41 (fun X hX => ?_)
  exact kk X (hI.put hX) (by rw [List.length_append, hLi]; rfl) (by rw [List.length_set]; exact hf)
theorem x2i_9 {N0 K0 K i : Nat} {L : List va_E} {fs : List Value} {Q : Ot → Sh → Prop} {XO : Sh} (hI : Ini Mo 1 N0 K0 K XO X L fs) (hLi : L.length = i) (hf : fs.length = 38) (kk : ∀ X1, Ini Mo 1 N0 K0 (K + 12) XO X1 (L ++ [eZ γ 12 (fun _ => 0)]) (fs.set 9 (.ref (N0 + i))) → (L ++ [eZ γ 12 (fun _ => 0)]).length = i + 1 → (fs.set 9 (.ref (N0 + i))).length = 38 → SW γ mX2_init X0 X1 52 [some (.ref Mo)] [] Q) : SW γ mX2_init X0 X 44 [some (.ref Mo)] [] Q := by
  refine sw_aload_n 45 rfl rfl rfl dX2_init_44 ?_
  refine sw_bipush 47 rfl (nI 12) rfl dX2_init_45 ?_
  have e1 := hI.2.1
  rw [hLi] at e1
  refine sw_newZ 49 rfl (Nat.le_of_ble_eq_true rfl) q136 dX2_init_47 (fun X hX => ?_)
  rw [e1]
  replace hI := hI.add hX
  clear hX e1
  refine sw_sk (show _ = va_rf (some _) :: _ from rfl) ?_
  refine pf_X2_26 52 rfl hI.2.2.2.1 (by omega) rfl rfl dX2_init_49 (fun X hX => ?_)
  exact kk X (hI.put hX) (by rw [List.length_append, hLi]; rfl) (by rw [List.length_set]; exact hf)
theorem x2i_10 {N0 K0 K i : Nat} {L : List va_E} {fs : List Value} {Q : Ot → Sh → Prop} {XO : Sh} (hI : Ini Mo 1 N0 K0 K XO X L fs) (hLi : L.length = i) (hf : fs.length = 38) (kk : ∀ X1, Ini Mo 1 N0 K0 (K + 144) XO X1 (L ++ [eI γ 144 (fun _ => 0)]) (fs.set 10 (.ref (N0 + i))) → (L ++ [eI γ 144 (fun _ => 0)]).length = i + 1 → (fs.set 10 (.ref (N0 + i))).length = 38 → SW γ mX2_init X0 X1 61 [some (.ref Mo)] [] Q) : SW γ mX2_init X0 X 52 [some (.ref Mo)] [] Q := by
  refine sw_aload_n 53 rfl rfl rfl dX2_init_52 ?_
  refine sw_sipush 56 rfl (nI 144) rfl dX2_init_53 ?_
  have e1 := hI.2.1
  rw [hLi] at e1
  refine sw_newI 58 rfl (Nat.le_of_ble_eq_true rfl) q135 dX2_init_56 (fun X hX => ?_)
  rw [e1]
  replace hI := hI.add hX
  clear hX e1
  refine sw_sk (show _ = va_rf (some _) :: _ from rfl) ?_
  refine pf_X2_30 61 rfl hI.2.2.2.1 (by omega) rfl rfl dX2_init_58 (fun X hX => ?_)
  exact kk X (hI.put hX) (by rw [List.length_append, hLi]; rfl) (by rw [List.length_set]; exact hf)
theorem x2i_11 {N0 K0 K i : Nat} {L : List va_E} {fs : List Value} {Q : Ot → Sh → Prop} {XO : Sh} (hI : Ini Mo 1 N0 K0 K XO X L fs) (hLi : L.length = i) (hf : fs.length = 38) (kk : ∀ X1, Ini Mo 1 N0 K0 (K + 144) XO X1 (L ++ [eZ γ 144 (fun _ => 0)]) (fs.set 11 (.ref (N0 + i))) → (L ++ [eZ γ 144 (fun _ => 0)]).length = i + 1 → (fs.set 11 (.ref (N0 + i))).length = 38 → SW γ mX2_init X0 X1 70 [some (.ref Mo)] [] Q) : SW γ mX2_init X0 X 61 [some (.ref Mo)] [] Q := by
  refine sw_aload_n 62 rfl rfl rfl dX2_init_61 ?_
  refine sw_sipush 65 rfl (nI 144) rfl dX2_init_62 ?_
  have e1 := hI.2.1
  rw [hLi] at e1
  refine sw_newZ 67 rfl (Nat.le_of_ble_eq_true rfl) q136 dX2_init_65 (fun X hX => ?_)
  rw [e1]
  replace hI := hI.add hX
  clear hX e1
  refine sw_sk (show _ = va_rf (some _) :: _ from rfl) ?_
  refine pf_X2_33 70 rfl hI.2.2.2.1 (by omega) rfl rfl dX2_init_67 (fun X hX => ?_)
  exact kk X (hI.put hX) (by rw [List.length_append, hLi]; rfl) (by rw [List.length_set]; exact hf)
theorem x2i_12 {N0 K0 K i : Nat} {L : List va_E} {fs : List Value} {Q : Ot → Sh → Prop} {XO : Sh} (hI : Ini Mo 1 N0 K0 K XO X L fs) (hLi : L.length = i) (hf : fs.length = 38) (kk : ∀ X1, Ini Mo 1 N0 K0 (K + 144) XO X1 (L ++ [eL γ 144 (fun _ => 0)]) (fs.set 12 (.ref (N0 + i))) → (L ++ [eL γ 144 (fun _ => 0)]).length = i + 1 → (fs.set 12 (.ref (N0 + i))).length = 38 → SW γ mX2_init X0 X1 79 [some (.ref Mo)] [] Q) : SW γ mX2_init X0 X 70 [some (.ref Mo)] [] Q := by
  refine sw_aload_n 71 rfl rfl rfl dX2_init_70 ?_
  refine sw_sipush 74 rfl (nI 144) rfl dX2_init_71 ?_
  have e1 := hI.2.1
  rw [hLi] at e1
  refine sw_newL 76 rfl (Nat.le_of_ble_eq_true rfl) q137 dX2_init_74 (fun X hX => ?_)
  rw [e1]
  replace hI := hI.add hX
  clear hX e1
  refine sw_sk (show _ = va_rf (some _) :: _ from rfl) ?_
  refine pf_X2_36 79 rfl hI.2.2.2.1 (by omega) rfl rfl dX2_init_76 (fun X hX => ?_)
  exact kk X (hI.put hX) (by rw [List.length_append, hLi]; rfl) (by rw [List.length_set]; exact hf)
theorem x2i_13 {N0 K0 K i : Nat} {L : List va_E} {fs : List Value} {Q : Ot → Sh → Prop} {XO : Sh} (hI : Ini Mo 1 N0 K0 K XO X L fs) (hLi : L.length = i) (hf : fs.length = 38) (kk : ∀ X1, Ini Mo 1 N0 K0 (K + 144) XO X1 (L ++ [eL γ 144 (fun _ => 0)]) (fs.set 13 (.ref (N0 + i))) → (L ++ [eL γ 144 (fun _ => 0)]).length = i + 1 → (fs.set 13 (.ref (N0 + i))).length = 38 → SW γ mX2_init X0 X1 88 [some (.ref Mo)] [] Q) : SW γ mX2_init X0 X 79 [some (.ref Mo)] [] Q := by
  refine sw_aload_n 80 rfl rfl rfl dX2_init_79 ?_
  refine sw_sipush 83 rfl (nI 144) rfl dX2_init_80 ?_
  have e1 := hI.2.1
  rw [hLi] at e1
  refine sw_newL 85 rfl (Nat.le_of_ble_eq_true rfl) q137 dX2_init_83 (fun X hX => ?_)
  rw [e1]
  replace hI := hI.add hX
  clear hX e1
  refine sw_sk (show _ = va_rf (some _) :: _ from rfl) ?_
  refine pf_X2_39 88 rfl hI.2.2.2.1 (by omega) rfl rfl dX2_init_85 (fun X hX => ?_)
  exact kk X (hI.put hX) (by rw [List.length_append, hLi]; rfl) (by rw [List.length_set]; exact hf)
theorem x2i_15 {N0 K0 K i : Nat} {L : List va_E} {fs : List Value} {Q : Ot → Sh → Prop} {XO : Sh} (hI : Ini Mo 1 N0 K0 K XO X L fs) (hLi : L.length = i) (hf : fs.length = 38) (kk : ∀ X1, Ini Mo 1 N0 K0 (K + 40) XO X1 (L ++ [eI γ 40 (fun _ => 0)]) (fs.set 15 (.ref (N0 + i))) → (L ++ [eI γ 40 (fun _ => 0)]).length = i + 1 → (fs.set 15 (.ref (N0 + i))).length = 38 → SW γ mX2_init X0 X1 96 [some (.ref Mo)] [] Q) : SW γ mX2_init X0 X 88 [some (.ref Mo)] [] Q := by
  refine sw_aload_n 89 rfl rfl rfl dX2_init_88 ?_
  refine sw_bipush 91 rfl (nI 40) rfl dX2_init_89 ?_
  have e1 := hI.2.1
  rw [hLi] at e1
  refine sw_newI 93 rfl (Nat.le_of_ble_eq_true rfl) q135 dX2_init_91 (fun X hX => ?_)
  rw [e1]
  replace hI := hI.add hX
  clear hX e1
  refine sw_sk (show _ = va_rf (some _) :: _ from rfl) ?_
  refine pf_X2_42 96 rfl hI.2.2.2.1 (by omega) rfl rfl dX2_init_93 (fun X hX => ?_)
  exact kk X (hI.put hX) (by rw [List.length_append, hLi]; rfl) (by rw [List.length_set]; exact hf)
theorem x2i_16 {N0 K0 K i : Nat} {L : List va_E} {fs : List Value} {Q : Ot → Sh → Prop} {XO : Sh} (hI : Ini Mo 1 N0 K0 K XO X L fs) (hLi : L.length = i) (hf : fs.length = 38) (kk : ∀ X1, Ini Mo 1 N0 K0 (K + 40) XO X1 (L ++ [eI γ 40 (fun _ => 0)]) (fs.set 16 (.ref (N0 + i))) → (L ++ [eI γ 40 (fun _ => 0)]).length = i + 1 → (fs.set 16 (.ref (N0 + i))).length = 38 → SW γ mX2_init X0 X1 104 [some (.ref Mo)] [] Q) : SW γ mX2_init X0 X 96 [some (.ref Mo)] [] Q := by
  refine sw_aload_n 97 rfl rfl rfl dX2_init_96 ?_
  refine sw_bipush 99 rfl (nI 40) rfl dX2_init_97 ?_
  have e1 := hI.2.1
  rw [hLi] at e1
  refine sw_newI 101 rfl (Nat.le_of_ble_eq_true rfl) q135 dX2_init_99 (fun X hX => ?_)
  rw [e1]
  replace hI := hI.add hX
  clear hX e1
  refine sw_sk (show _ = va_rf (some _) :: _ from rfl) ?_
  refine pf_X2_45 104 rfl hI.2.2.2.1 (by omega) rfl rfl dX2_init_101 (fun X hX => ?_)
  exact kk X (hI.put hX) (by rw [List.length_append, hLi]; rfl) (by rw [List.length_set]; exact hf)
theorem x2i_17 {N0 K0 K i : Nat} {L : List va_E} {fs : List Value} {Q : Ot → Sh → Prop} {XO : Sh} (hI : Ini Mo 1 N0 K0 K XO X L fs) (hLi : L.length = i) (hf : fs.length = 38) (kk : ∀ X1, Ini Mo 1 N0 K0 (K + 40) XO X1 (L ++ [eI γ 40 (fun _ => 0)]) (fs.set 17 (.ref (N0 + i))) → (L ++ [eI γ 40 (fun _ => 0)]).length = i + 1 → (fs.set 17 (.ref (N0 + i))).length = 38 → SW γ mX2_init X0 X1 112 [some (.ref Mo)] [] Q) : SW γ mX2_init X0 X 104 [some (.ref Mo)] [] Q := by
  refine sw_aload_n 105 rfl rfl rfl dX2_init_104 ?_
  refine sw_bipush 107 rfl (nI 40) rfl dX2_init_105 ?_
  have e1 := hI.2.1
  rw [hLi] at e1
  refine sw_newI 109 rfl (Nat.le_of_ble_eq_true rfl) q135 dX2_init_107 (fun X hX => ?_)
  rw [e1]
  replace hI := hI.add hX
  clear hX e1
  refine sw_sk (show _ = va_rf (some _) :: _ from rfl) ?_
  refine pf_X2_48 112 rfl hI.2.2.2.1 (by omega) rfl rfl dX2_init_109 (fun X hX => ?_)
  exact kk X (hI.put hX) (by rw [List.length_append, hLi]; rfl) (by rw [List.length_set]; exact hf)
theorem x2i_18 {N0 K0 K i : Nat} {L : List va_E} {fs : List Value} {Q : Ot → Sh → Prop} {XO : Sh} (hI : Ini Mo 1 N0 K0 K XO X L fs) (hLi : L.length = i) (hf : fs.length = 38) (kk : ∀ X1, Ini Mo 1 N0 K0 (K + 40) XO X1 (L ++ [eI γ 40 (fun _ => 0)]) (fs.set 18 (.ref (N0 + i))) → (L ++ [eI γ 40 (fun _ => 0)]).length = i + 1 → (fs.set 18 (.ref (N0 + i))).length = 38 → SW γ mX2_init X0 X1 120 [some (.ref Mo)] [] Q) : SW γ mX2_init X0 X 112 [some (.ref Mo)] [] Q := by
  refine sw_aload_n 113 rfl rfl rfl dX2_init_112 ?_
  refine sw_bipush 115 rfl (nI 40) rfl dX2_init_113 ?_
  have e1 := hI.2.1
  rw [hLi] at e1
  refine sw_newI 117 rfl (Nat.le_of_ble_eq_true rfl) q135 dX2_init_115 (fun X hX => ?_)
  rw [e1]
  replace hI := hI.add hX
  clear hX e1
  refine sw_sk (show _ = va_rf (some _) :: _ from rfl) ?_
  refine pf_X2_51 120 rfl hI.2.2.2.1 (by omega) rfl rfl dX2_init_117 (fun X hX => ?_)
  exact kk X (hI.put hX) (by rw [List.length_append, hLi]; rfl) (by rw [List.length_set]; exact hf)
theorem x2i_19 {N0 K0 K i : Nat} {L : List va_E} {fs : List Value} {Q : Ot → Sh → Prop} {XO : Sh} (hI : Ini Mo 1 N0 K0 K XO X L fs) (hLi : L.length = i) (hf : fs.length = 38) (kk : ∀ X1, Ini Mo 1 N0 K0 (K + 40) XO X1 (L ++ [eI γ 40 (fun _ => 0)]) (fs.set 19 (.ref (N0 + i))) → (L ++ [eI γ 40 (fun _ => 0)]).length = i + 1 → (fs.set 19 (.ref (N0 + i))).length = 38 → SW γ mX2_init X0 X1 128 [some (.ref Mo)] [] Q) : SW γ mX2_init X0 X 120 [some (.ref Mo)] [] Q := by
  refine sw_aload_n 121 rfl rfl rfl dX2_init_120 ?_
  refine sw_bipush 123 rfl (nI 40) rfl dX2_init_121 ?_
  have e1 := hI.2.1
  rw [hLi] at e1
  refine sw_newI 125 rfl (Nat.le_of_ble_eq_true rfl) q135 dX2_init_123 (fun X hX => ?_)
  rw [e1]
  replace hI := hI.add hX
  clear hX e1
  refine sw_sk (show _ = va_rf (some _) :: _ from rfl) ?_
  refine pf_X2_54 128 rfl hI.2.2.2.1 (by omega) rfl rfl dX2_init_125 (fun X hX => ?_)
  exact kk X (hI.put hX) (by rw [List.length_append, hLi]; rfl) (by rw [List.length_set]; exact hf)
theorem x2i_20 {N0 K0 K i : Nat} {L : List va_E} {fs : List Value} {Q : Ot → Sh → Prop} {XO : Sh} (hI : Ini Mo 1 N0 K0 K XO X L fs) (hLi : L.length = i) (hf : fs.length = 38) (kk : ∀ X1, Ini Mo 1 N0 K0 (K + 40) XO X1 (L ++ [eI γ 40 (fun _ => 0)]) (fs.set 20 (.ref (N0 + i))) → (L ++ [eI γ 40 (fun _ => 0)]).length = i + 1 → (fs.set 20 (.ref (N0 + i))).length = 38 → SW γ mX2_init X0 X1 136 [some (.ref Mo)] [] Q) : SW γ mX2_init X0 X 128 [some (.ref Mo)] [] Q := by
  refine sw_aload_n 129 rfl rfl rfl dX2_init_128 ?_
  refine sw_bipush 131 rfl (nI 40) rfl dX2_init_129 ?_
  have e1 := hI.2.1
  rw [hLi] at e1
  refine sw_newI 133 rfl (Nat.le_of_ble_eq_true rfl) q135 dX2_init_131 (fun X hX => ?_)
  rw [e1]
  replace hI := hI.add hX
  clear hX e1
  refine sw_sk (show _ = va_rf (some _) :: _ from rfl) ?_
  refine pf_X2_57 136 rfl hI.2.2.2.1 (by omega) rfl rfl dX2_init_133 (fun X hX => ?_)
  exact kk X (hI.put hX) (by rw [List.length_append, hLi]; rfl) (by rw [List.length_set]; exact hf)
theorem x2i_21 {N0 K0 K i : Nat} {L : List va_E} {fs : List Value} {Q : Ot → Sh → Prop} {XO : Sh} (hI : Ini Mo 1 N0 K0 K XO X L fs) (hLi : L.length = i) (hf : fs.length = 38) (kk : ∀ X1, Ini Mo 1 N0 K0 (K + 40) XO X1 (L ++ [eI γ 40 (fun _ => 0)]) (fs.set 21 (.ref (N0 + i))) → (L ++ [eI γ 40 (fun _ => 0)]).length = i + 1 → (fs.set 21 (.ref (N0 + i))).length = 38 → SW γ mX2_init X0 X1 144 [some (.ref Mo)] [] Q) : SW γ mX2_init X0 X 136 [some (.ref Mo)] [] Q := by
  refine sw_aload_n 137 rfl rfl rfl dX2_init_136 ?_
  refine sw_bipush 139 rfl (nI 40) rfl dX2_init_137 ?_
  have e1 := hI.2.1
  rw [hLi] at e1
  refine sw_newI 141 rfl (Nat.le_of_ble_eq_true rfl) q135 dX2_init_139 (fun X hX => ?_)
  rw [e1]
  replace hI := hI.add hX
  clear hX e1
  refine sw_sk (show _ = va_rf (some _) :: _ from rfl) ?_
  refine pf_X2_60 144 rfl hI.2.2.2.1 (by omega) rfl rfl dX2_init_141 (fun X hX => ?_)
  exact kk X (hI.put hX) (by rw [List.length_append, hLi]; rfl) (by rw [List.length_set]; exact hf)
theorem x2i_22 {N0 K0 K i : Nat} {L : List va_E} {fs : List Value} {Q : Ot → Sh → Prop} {XO : Sh} (hI : Ini Mo 1 N0 K0 K XO X L fs) (hLi : L.length = i) (hf : fs.length = 38) (kk : ∀ X1, Ini Mo 1 N0 K0 (K + 40) XO X1 (L ++ [eI γ 40 (fun _ => 0)]) (fs.set 22 (.ref (N0 + i))) → (L ++ [eI γ 40 (fun _ => 0)]).length = i + 1 → (fs.set 22 (.ref (N0 + i))).length = 38 → SW γ mX2_init X0 X1 152 [some (.ref Mo)] [] Q) : SW γ mX2_init X0 X 144 [some (.ref Mo)] [] Q := by
  refine sw_aload_n 145 rfl rfl rfl dX2_init_144 ?_
  refine sw_bipush 147 rfl (nI 40) rfl dX2_init_145 ?_
  have e1 := hI.2.1
  rw [hLi] at e1
  refine sw_newI 149 rfl (Nat.le_of_ble_eq_true rfl) q135 dX2_init_147 (fun X hX => ?_)
  rw [e1]
  replace hI := hI.add hX
  clear hX e1
  refine sw_sk (show _ = va_rf (some _) :: _ from rfl) ?_
  refine pf_X2_63 152 rfl hI.2.2.2.1 (by omega) rfl rfl dX2_init_149 (fun X hX => ?_)
  exact kk X (hI.put hX) (by rw [List.length_append, hLi]; rfl) (by rw [List.length_set]; exact hf)
theorem x2i_23 {N0 K0 K i : Nat} {L : List va_E} {fs : List Value} {Q : Ot → Sh → Prop} {XO : Sh} (hI : Ini Mo 1 N0 K0 K XO X L fs) (hLi : L.length = i) (hf : fs.length = 38) (kk : ∀ X1, Ini Mo 1 N0 K0 (K + 480) XO X1 (L ++ [eI γ 480 (fun _ => 0)]) (fs.set 23 (.ref (N0 + i))) → (L ++ [eI γ 480 (fun _ => 0)]).length = i + 1 → (fs.set 23 (.ref (N0 + i))).length = 38 → SW γ mX2_init X0 X1 161 [some (.ref Mo)] [] Q) : SW γ mX2_init X0 X 152 [some (.ref Mo)] [] Q := by
  refine sw_aload_n 153 rfl rfl rfl dX2_init_152 ?_
  refine sw_sipush 156 rfl (nI 480) rfl dX2_init_153 ?_
  have e1 := hI.2.1
  rw [hLi] at e1
  refine sw_newI 158 rfl (Nat.le_of_ble_eq_true rfl) q135 dX2_init_156 (fun X hX => ?_)
  rw [e1]
  replace hI := hI.add hX
  clear hX e1
  refine sw_sk (show _ = va_rf (some _) :: _ from rfl) ?_
  refine pf_X2_66 161 rfl hI.2.2.2.1 (by omega) rfl rfl dX2_init_158 (fun X hX => ?_)
  exact kk X (hI.put hX) (by rw [List.length_append, hLi]; rfl) (by rw [List.length_set]; exact hf)
theorem x2i_24 {N0 K0 K i : Nat} {L : List va_E} {fs : List Value} {Q : Ot → Sh → Prop} {XO : Sh} (hI : Ini Mo 1 N0 K0 K XO X L fs) (hLi : L.length = i) (hf : fs.length = 38) (kk : ∀ X1, Ini Mo 1 N0 K0 (K + 480) XO X1 (L ++ [eI γ 480 (fun _ => 0)]) (fs.set 24 (.ref (N0 + i))) → (L ++ [eI γ 480 (fun _ => 0)]).length = i + 1 → (fs.set 24 (.ref (N0 + i))).length = 38 → SW γ mX2_init X0 X1 170 [some (.ref Mo)] [] Q) : SW γ mX2_init X0 X 161 [some (.ref Mo)] [] Q := by
  refine sw_aload_n 162 rfl rfl rfl dX2_init_161 ?_
  refine sw_sipush 165 rfl (nI 480) rfl dX2_init_162 ?_
  have e1 := hI.2.1
  rw [hLi] at e1
  refine sw_newI 167 rfl (Nat.le_of_ble_eq_true rfl) q135 dX2_init_165 (fun X hX => ?_)
  rw [e1]
  replace hI := hI.add hX
  clear hX e1
  refine sw_sk (show _ = va_rf (some _) :: _ from rfl) ?_
  refine pf_X2_69 170 rfl hI.2.2.2.1 (by omega) rfl rfl dX2_init_167 (fun X hX => ?_)
  exact kk X (hI.put hX) (by rw [List.length_append, hLi]; rfl) (by rw [List.length_set]; exact hf)
theorem x2i_26 {N0 K0 K i : Nat} {L : List va_E} {fs : List Value} {Q : Ot → Sh → Prop} {XO : Sh} (hI : Ini Mo 1 N0 K0 K XO X L fs) (hLi : L.length = i) (hf : fs.length = 38) (kk : ∀ X1, Ini Mo 1 N0 K0 (K + 41) XO X1 (L ++ [eI γ 41 (fun _ => 0)]) (fs.set 26 (.ref (N0 + i))) → (L ++ [eI γ 41 (fun _ => 0)]).length = i + 1 → (fs.set 26 (.ref (N0 + i))).length = 38 → SW γ mX2_init X0 X1 178 [some (.ref Mo)] [] Q) : SW γ mX2_init X0 X 170 [some (.ref Mo)] [] Q := by
  refine sw_aload_n 171 rfl rfl rfl dX2_init_170 ?_
  refine sw_bipush 173 rfl (nI 41) rfl dX2_init_171 ?_
  have e1 := hI.2.1
  rw [hLi] at e1
  refine sw_newI 175 rfl (Nat.le_of_ble_eq_true rfl) q135 dX2_init_173 (fun X hX => ?_)
  rw [e1]
  replace hI := hI.add hX
  clear hX e1
  refine sw_sk (show _ = va_rf (some _) :: _ from rfl) ?_
  refine pf_X2_72 178 rfl hI.2.2.2.1 (by omega) rfl rfl dX2_init_175 (fun X hX => ?_)
  exact kk X (hI.put hX) (by rw [List.length_append, hLi]; rfl) (by rw [List.length_set]; exact hf)
theorem x2i_27 {N0 K0 K i : Nat} {L : List va_E} {fs : List Value} {Q : Ot → Sh → Prop} {XO : Sh} (hI : Ini Mo 1 N0 K0 K XO X L fs) (hLi : L.length = i) (hf : fs.length = 38) (kk : ∀ X1, Ini Mo 1 N0 K0 (K + 41) XO X1 (L ++ [eI γ 41 (fun _ => 0)]) (fs.set 27 (.ref (N0 + i))) → (L ++ [eI γ 41 (fun _ => 0)]).length = i + 1 → (fs.set 27 (.ref (N0 + i))).length = 38 → SW γ mX2_init X0 X1 186 [some (.ref Mo)] [] Q) : SW γ mX2_init X0 X 178 [some (.ref Mo)] [] Q := by
  refine sw_aload_n 179 rfl rfl rfl dX2_init_178 ?_
  refine sw_bipush 181 rfl (nI 41) rfl dX2_init_179 ?_
  have e1 := hI.2.1
  rw [hLi] at e1
  refine sw_newI 183 rfl (Nat.le_of_ble_eq_true rfl) q135 dX2_init_181 (fun X hX => ?_)
  rw [e1]
  replace hI := hI.add hX
  clear hX e1
  refine sw_sk (show _ = va_rf (some _) :: _ from rfl) ?_
  refine pf_X2_75 186 rfl hI.2.2.2.1 (by omega) rfl rfl dX2_init_183 (fun X hX => ?_)
  exact kk X (hI.put hX) (by rw [List.length_append, hLi]; rfl) (by rw [List.length_set]; exact hf)
theorem x2i_28 {N0 K0 K i : Nat} {L : List va_E} {fs : List Value} {Q : Ot → Sh → Prop} {XO : Sh} (hI : Ini Mo 1 N0 K0 K XO X L fs) (hLi : L.length = i) (hf : fs.length = 38) (kk : ∀ X1, Ini Mo 1 N0 K0 (K + 41) XO X1 (L ++ [eI γ 41 (fun _ => 0)]) (fs.set 28 (.ref (N0 + i))) → (L ++ [eI γ 41 (fun _ => 0)]).length = i + 1 → (fs.set 28 (.ref (N0 + i))).length = 38 → SW γ mX2_init X0 X1 194 [some (.ref Mo)] [] Q) : SW γ mX2_init X0 X 186 [some (.ref Mo)] [] Q := by
  refine sw_aload_n 187 rfl rfl rfl dX2_init_186 ?_
  refine sw_bipush 189 rfl (nI 41) rfl dX2_init_187 ?_
  have e1 := hI.2.1
  rw [hLi] at e1
  refine sw_newI 191 rfl (Nat.le_of_ble_eq_true rfl) q135 dX2_init_189 (fun X hX => ?_)
  rw [e1]
  replace hI := hI.add hX
  clear hX e1
  refine sw_sk (show _ = va_rf (some _) :: _ from rfl) ?_
  refine pf_X2_78 194 rfl hI.2.2.2.1 (by omega) rfl rfl dX2_init_191 (fun X hX => ?_)
  exact kk X (hI.put hX) (by rw [List.length_append, hLi]; rfl) (by rw [List.length_set]; exact hf)
theorem x2i_29 {N0 K0 K i : Nat} {L : List va_E} {fs : List Value} {Q : Ot → Sh → Prop} {XO : Sh} (hI : Ini Mo 1 N0 K0 K XO X L fs) (hLi : L.length = i) (hf : fs.length = 38) (kk : ∀ X1, Ini Mo 1 N0 K0 (K + 41) XO X1 (L ++ [eI γ 41 (fun _ => 0)]) (fs.set 29 (.ref (N0 + i))) → (L ++ [eI γ 41 (fun _ => 0)]).length = i + 1 → (fs.set 29 (.ref (N0 + i))).length = 38 → SW γ mX2_init X0 X1 202 [some (.ref Mo)] [] Q) : SW γ mX2_init X0 X 194 [some (.ref Mo)] [] Q := by
  refine sw_aload_n 195 rfl rfl rfl dX2_init_194 ?_
  refine sw_bipush 197 rfl (nI 41) rfl dX2_init_195 ?_
  have e1 := hI.2.1
  rw [hLi] at e1
  refine sw_newI 199 rfl (Nat.le_of_ble_eq_true rfl) q135 dX2_init_197 (fun X hX => ?_)
  rw [e1]
  replace hI := hI.add hX
  clear hX e1
  refine sw_sk (show _ = va_rf (some _) :: _ from rfl) ?_
  refine pf_X2_81 202 rfl hI.2.2.2.1 (by omega) rfl rfl dX2_init_199 (fun X hX => ?_)
  exact kk X (hI.put hX) (by rw [List.length_append, hLi]; rfl) (by rw [List.length_set]; exact hf)
theorem x2i_30 {N0 K0 K i : Nat} {L : List va_E} {fs : List Value} {Q : Ot → Sh → Prop} {XO : Sh} (hI : Ini Mo 1 N0 K0 K XO X L fs) (hLi : L.length = i) (hf : fs.length = 38) (kk : ∀ X1, Ini Mo 1 N0 K0 (K + 41) XO X1 (L ++ [eZ γ 41 (fun _ => 0)]) (fs.set 30 (.ref (N0 + i))) → (L ++ [eZ γ 41 (fun _ => 0)]).length = i + 1 → (fs.set 30 (.ref (N0 + i))).length = 38 → SW γ mX2_init X0 X1 210 [some (.ref Mo)] [] Q) : SW γ mX2_init X0 X 202 [some (.ref Mo)] [] Q := by
  refine sw_aload_n 203 rfl rfl rfl dX2_init_202 ?_
  refine sw_bipush 205 rfl (nI 41) rfl dX2_init_203 ?_
  have e1 := hI.2.1
  rw [hLi] at e1
  refine sw_newZ 207 rfl (Nat.le_of_ble_eq_true rfl) q136 dX2_init_205 (fun X hX => ?_)
  rw [e1]
  replace hI := hI.add hX
  clear hX e1
  refine sw_sk (show _ = va_rf (some _) :: _ from rfl) ?_
  refine pf_X2_84 210 rfl hI.2.2.2.1 (by omega) rfl rfl dX2_init_207 (fun X hX => ?_)
  exact kk X (hI.put hX) (by rw [List.length_append, hLi]; rfl) (by rw [List.length_set]; exact hf)
theorem x2i_31 {N0 K0 K i : Nat} {L : List va_E} {fs : List Value} {Q : Ot → Sh → Prop} {XO : Sh} (hI : Ini Mo 1 N0 K0 K XO X L fs) (hLi : L.length = i) (hf : fs.length = 38) (kk : ∀ X1, Ini Mo 1 N0 K0 (K + 8) XO X1 (L ++ [eI γ 8 (va_up (va_up (va_up (va_up (va_up (va_up (va_up (va_up (fun _ => 0) 0 1000000) 1 1000000) 2 1000000) 3 1000000) 4 1000000) 5 1000000) 6 1000000) 7 1000000)]) (fs.set 31 (.ref (N0 + i))) → (L ++ [eI γ 8 (va_up (va_up (va_up (va_up (va_up (va_up (va_up (va_up (fun _ => 0) 0 1000000) 1 1000000) 2 1000000) 3 1000000) 4 1000000) 5 1000000) 6 1000000) 7 1000000)]).length = i + 1 → (fs.set 31 (.ref (N0 + i))).length = 38 → SW γ mX2_init X0 X1 260 [some (.ref Mo)] [] Q) : SW γ mX2_init X0 X 210 [some (.ref Mo)] [] Q := by
  refine sw_aload_n 211 rfl rfl rfl dX2_init_210 ?_
  refine sw_bipush 213 rfl (nI 8) rfl dX2_init_211 ?_
  have e1 := hI.2.1
  rw [hLi] at e1
  refine sw_newI 215 rfl (Nat.le_of_ble_eq_true rfl) q135 dX2_init_213 (fun X hX => ?_)
  rw [e1]
  replace hI := hI.add hX
  clear hX e1
  refine sw_dup 216 rfl rfl dX2_init_215 ?_
  refine sw_iconst 217 rfl (nI 0) rfl dX2_init_216 ?_
  refine sw_ldc 219 rfl q922 dX2_init_217 ?_
  refine sw_iast (n := 8) (f := (fun _ => 0)) 220 rfl ((hI.2.2.2.2.1 i (by rw [List.length_append]; show i < L.length + 1; omega)).trans (by rw [← hLi, List.getElem?_concat_length])) (Nat.le_of_ble_eq_true rfl) (Nat.le_of_ble_eq_true rfl) dX2_init_219 (fun X hX => ?_)
  rw [← hLi] at hX
  replace hI := hI.last hX
  clear hX
  refine sw_dup 221 rfl rfl dX2_init_220 ?_
  refine sw_iconst 222 rfl (nI 1) rfl dX2_init_221 ?_
  refine sw_ldc 224 rfl q922 dX2_init_222 ?_
  refine sw_iast (n := 8) (f := (va_up (fun _ => 0) 0 1000000)) 225 rfl ((hI.2.2.2.2.1 i (by rw [List.length_append]; show i < L.length + 1; omega)).trans (by rw [← hLi, List.getElem?_concat_length])) (Nat.le_of_ble_eq_true rfl) (Nat.le_of_ble_eq_true rfl) dX2_init_224 (fun X hX => ?_)
  rw [← hLi] at hX
  replace hI := hI.last hX
  clear hX
  refine sw_dup 226 rfl rfl dX2_init_225 ?_
  refine sw_iconst 227 rfl (nI 2) rfl dX2_init_226 ?_
  refine sw_ldc 229 rfl q922 dX2_init_227 ?_
  refine sw_iast (n := 8) (f := (va_up (va_up (fun _ => 0) 0 1000000) 1 1000000)) 230 rfl ((hI.2.2.2.2.1 i (by rw [List.length_append]; show i < L.length + 1; omega)).trans (by rw [← hLi, List.getElem?_concat_length])) (Nat.le_of_ble_eq_true rfl) (Nat.le_of_ble_eq_true rfl) dX2_init_229 (fun X hX => ?_)
  rw [← hLi] at hX
  replace hI := hI.last hX
  clear hX
  refine sw_dup 231 rfl rfl dX2_init_230 ?_
  refine sw_iconst 232 rfl (nI 3) rfl dX2_init_231 ?_
  refine sw_ldc 234 rfl q922 dX2_init_232 ?_
  refine sw_iast (n := 8) (f := (va_up (va_up (va_up (fun _ => 0) 0 1000000) 1 1000000) 2 1000000)) 235 rfl ((hI.2.2.2.2.1 i (by rw [List.length_append]; show i < L.length + 1; omega)).trans (by rw [← hLi, List.getElem?_concat_length])) (Nat.le_of_ble_eq_true rfl) (Nat.le_of_ble_eq_true rfl) dX2_init_234 (fun X hX => ?_)
  rw [← hLi] at hX
  replace hI := hI.last hX
  clear hX
  refine sw_dup 236 rfl rfl dX2_init_235 ?_
  refine sw_iconst 237 rfl (nI 4) rfl dX2_init_236 ?_
  refine sw_ldc 239 rfl q922 dX2_init_237 ?_
  refine sw_iast (n := 8) (f := (va_up (va_up (va_up (va_up (fun _ => 0) 0 1000000) 1 1000000) 2 1000000) 3 1000000)) 240 rfl ((hI.2.2.2.2.1 i (by rw [List.length_append]; show i < L.length + 1; omega)).trans (by rw [← hLi, List.getElem?_concat_length])) (Nat.le_of_ble_eq_true rfl) (Nat.le_of_ble_eq_true rfl) dX2_init_239 (fun X hX => ?_)
  rw [← hLi] at hX
  replace hI := hI.last hX
  clear hX
  refine sw_dup 241 rfl rfl dX2_init_240 ?_
  refine sw_iconst 242 rfl (nI 5) rfl dX2_init_241 ?_
  refine sw_ldc 244 rfl q922 dX2_init_242 ?_
  refine sw_iast (n := 8) (f := (va_up (va_up (va_up (va_up (va_up (fun _ => 0) 0 1000000) 1 1000000) 2 1000000) 3 1000000) 4 1000000)) 245 rfl ((hI.2.2.2.2.1 i (by rw [List.length_append]; show i < L.length + 1; omega)).trans (by rw [← hLi, List.getElem?_concat_length])) (Nat.le_of_ble_eq_true rfl) (Nat.le_of_ble_eq_true rfl) dX2_init_244 (fun X hX => ?_)
  rw [← hLi] at hX
  replace hI := hI.last hX
  clear hX
  refine sw_dup 246 rfl rfl dX2_init_245 ?_
  refine sw_bipush 248 rfl (nI 6) rfl dX2_init_246 ?_
  refine sw_ldc 250 rfl q922 dX2_init_248 ?_
  refine sw_iast (n := 8) (f := (va_up (va_up (va_up (va_up (va_up (va_up (fun _ => 0) 0 1000000) 1 1000000) 2 1000000) 3 1000000) 4 1000000) 5 1000000)) 251 rfl ((hI.2.2.2.2.1 i (by rw [List.length_append]; show i < L.length + 1; omega)).trans (by rw [← hLi, List.getElem?_concat_length])) (Nat.le_of_ble_eq_true rfl) (Nat.le_of_ble_eq_true rfl) dX2_init_250 (fun X hX => ?_)
  rw [← hLi] at hX
  replace hI := hI.last hX
  clear hX
  refine sw_dup 252 rfl rfl dX2_init_251 ?_
  refine sw_bipush 254 rfl (nI 7) rfl dX2_init_252 ?_
  refine sw_ldc 256 rfl q922 dX2_init_254 ?_
  refine sw_iast (n := 8) (f := (va_up (va_up (va_up (va_up (va_up (va_up (va_up (fun _ => 0) 0 1000000) 1 1000000) 2 1000000) 3 1000000) 4 1000000) 5 1000000) 6 1000000)) 257 rfl ((hI.2.2.2.2.1 i (by rw [List.length_append]; show i < L.length + 1; omega)).trans (by rw [← hLi, List.getElem?_concat_length])) (Nat.le_of_ble_eq_true rfl) (Nat.le_of_ble_eq_true rfl) dX2_init_256 (fun X hX => ?_)
  rw [← hLi] at hX
  replace hI := hI.last hX
  clear hX
  refine sw_sk (show _ = va_rf (some _) :: _ from rfl) ?_
  refine pf_X2_88 260 rfl hI.2.2.2.1 (by omega) rfl rfl dX2_init_257 (fun X hX => ?_)
  exact kk X (hI.put hX) (by rw [List.length_append, hLi]; rfl) (by rw [List.length_set]; exact hf)
theorem x2i_32 {N0 K0 K i : Nat} {L : List va_E} {fs : List Value} {Q : Ot → Sh → Prop} {XO : Sh} (hI : Ini Mo 1 N0 K0 K XO X L fs) (hLi : L.length = i) (hf : fs.length = 38) (kk : ∀ X1, Ini Mo 1 N0 K0 (K + 8) XO X1 (L ++ [eI γ 8 (fun _ => 0)]) (fs.set 32 (.ref (N0 + i))) → (L ++ [eI γ 8 (fun _ => 0)]).length = i + 1 → (fs.set 32 (.ref (N0 + i))).length = 38 → SW γ mX2_init X0 X1 268 [some (.ref Mo)] [] Q) : SW γ mX2_init X0 X 260 [some (.ref Mo)] [] Q := by
  refine sw_aload_n 261 rfl rfl rfl dX2_init_260 ?_
  refine sw_bipush 263 rfl (nI 8) rfl dX2_init_261 ?_
  have e1 := hI.2.1
  rw [hLi] at e1
  refine sw_newI 265 rfl (Nat.le_of_ble_eq_true rfl) q135 dX2_init_263 (fun X hX => ?_)
  rw [e1]
  replace hI := hI.add hX
  clear hX e1
  refine sw_sk (show _ = va_rf (some _) :: _ from rfl) ?_
  refine pf_X2_91 268 rfl hI.2.2.2.1 (by omega) rfl rfl dX2_init_265 (fun X hX => ?_)
  exact kk X (hI.put hX) (by rw [List.length_append, hLi]; rfl) (by rw [List.length_set]; exact hf)
theorem x2i_33 {N0 K0 K i : Nat} {L : List va_E} {fs : List Value} {Q : Ot → Sh → Prop} {XO : Sh} (hI : Ini Mo 1 N0 K0 K XO X L fs) (hLi : L.length = i) (hf : fs.length = 38) (kk : ∀ X1, Ini Mo 1 N0 K0 (K + 20) XO X1 (L ++ [eZ γ 20 (fun _ => 0)]) (fs.set 33 (.ref (N0 + i))) → (L ++ [eZ γ 20 (fun _ => 0)]).length = i + 1 → (fs.set 33 (.ref (N0 + i))).length = 38 → SW γ mX2_init X0 X1 276 [some (.ref Mo)] [] Q) : SW γ mX2_init X0 X 268 [some (.ref Mo)] [] Q := by
  refine sw_aload_n 269 rfl rfl rfl dX2_init_268 ?_
  refine sw_bipush 271 rfl (nI 20) rfl dX2_init_269 ?_
  have e1 := hI.2.1
  rw [hLi] at e1
  refine sw_newZ 273 rfl (Nat.le_of_ble_eq_true rfl) q136 dX2_init_271 (fun X hX => ?_)
  rw [e1]
  replace hI := hI.add hX
  clear hX e1
  refine sw_sk (show _ = va_rf (some _) :: _ from rfl) ?_
  refine pf_X2_94 276 rfl hI.2.2.2.1 (by omega) rfl rfl dX2_init_273 (fun X hX => ?_)
  exact kk X (hI.put hX) (by rw [List.length_append, hLi]; rfl) (by rw [List.length_set]; exact hf)
theorem x2i_34 {N0 K0 K i : Nat} {L : List va_E} {fs : List Value} {Q : Ot → Sh → Prop} {XO : Sh} (hI : Ini Mo 1 N0 K0 K XO X L fs) (hLi : L.length = i) (hf : fs.length = 38) (kk : ∀ X1, Ini Mo 1 N0 K0 (K + 5) XO X1 (L ++ [eL γ 5 (fun _ => 0)]) (fs.set 34 (.ref (N0 + i))) → (L ++ [eL γ 5 (fun _ => 0)]).length = i + 1 → (fs.set 34 (.ref (N0 + i))).length = 38 → SW γ mX2_init X0 X1 283 [some (.ref Mo)] [] Q) : SW γ mX2_init X0 X 276 [some (.ref Mo)] [] Q := by
  refine sw_aload_n 277 rfl rfl rfl dX2_init_276 ?_
  refine sw_iconst 278 rfl (nI 5) rfl dX2_init_277 ?_
  have e1 := hI.2.1
  rw [hLi] at e1
  refine sw_newL 280 rfl (Nat.le_of_ble_eq_true rfl) q137 dX2_init_278 (fun X hX => ?_)
  rw [e1]
  replace hI := hI.add hX
  clear hX e1
  refine sw_sk (show _ = va_rf (some _) :: _ from rfl) ?_
  refine pf_X2_97 283 rfl hI.2.2.2.1 (by omega) rfl rfl dX2_init_280 (fun X hX => ?_)
  exact kk X (hI.put hX) (by rw [List.length_append, hLi]; rfl) (by rw [List.length_set]; exact hf)
theorem x2i_35 {N0 K0 K i : Nat} {L : List va_E} {fs : List Value} {Q : Ot → Sh → Prop} {XO : Sh} (hI : Ini Mo 1 N0 K0 K XO X L fs) (hLi : L.length = i) (hf : fs.length = 38) (kk : ∀ X1, Ini Mo 1 N0 K0 (K + 12) XO X1 (L ++ [eL γ 12 (fun _ => 0)]) (fs.set 35 (.ref (N0 + i))) → (L ++ [eL γ 12 (fun _ => 0)]).length = i + 1 → (fs.set 35 (.ref (N0 + i))).length = 38 → SW γ mX2_init X0 X1 291 [some (.ref Mo)] [] Q) : SW γ mX2_init X0 X 283 [some (.ref Mo)] [] Q := by
  refine sw_aload_n 284 rfl rfl rfl dX2_init_283 ?_
  refine sw_bipush 286 rfl (nI 12) rfl dX2_init_284 ?_
  have e1 := hI.2.1
  rw [hLi] at e1
  refine sw_newL 288 rfl (Nat.le_of_ble_eq_true rfl) q137 dX2_init_286 (fun X hX => ?_)
  rw [e1]
  replace hI := hI.add hX
  clear hX e1
  refine sw_sk (show _ = va_rf (some _) :: _ from rfl) ?_
  refine pf_X2_100 291 rfl hI.2.2.2.1 (by omega) rfl rfl dX2_init_288 (fun X hX => ?_)
  exact kk X (hI.put hX) (by rw [List.length_append, hLi]; rfl) (by rw [List.length_set]; exact hf)
theorem x2i_36 {N0 K0 K i : Nat} {L : List va_E} {fs : List Value} {Q : Ot → Sh → Prop} {XO : Sh} (hI : Ini Mo 1 N0 K0 K XO X L fs) (hLi : L.length = i) (hf : fs.length = 38) (kk : ∀ X1, Ini Mo 1 N0 K0 (K + 12) XO X1 (L ++ [eI γ 12 (fun _ => 0)]) (fs.set 36 (.ref (N0 + i))) → (L ++ [eI γ 12 (fun _ => 0)]).length = i + 1 → (fs.set 36 (.ref (N0 + i))).length = 38 → SW γ mX2_init X0 X1 299 [some (.ref Mo)] [] Q) : SW γ mX2_init X0 X 291 [some (.ref Mo)] [] Q := by
  refine sw_aload_n 292 rfl rfl rfl dX2_init_291 ?_
  refine sw_bipush 294 rfl (nI 12) rfl dX2_init_292 ?_
  have e1 := hI.2.1
  rw [hLi] at e1
  refine sw_newI 296 rfl (Nat.le_of_ble_eq_true rfl) q135 dX2_init_294 (fun X hX => ?_)
  rw [e1]
  replace hI := hI.add hX
  clear hX e1
  refine sw_sk (show _ = va_rf (some _) :: _ from rfl) ?_
  refine pf_X2_103 299 rfl hI.2.2.2.1 (by omega) rfl rfl dX2_init_296 (fun X hX => ?_)
  exact kk X (hI.put hX) (by rw [List.length_append, hLi]; rfl) (by rw [List.length_set]; exact hf)
theorem x2i_37 {N0 K0 K i : Nat} {L : List va_E} {fs : List Value} {Q : Ot → Sh → Prop} {XO : Sh} (hI : Ini Mo 1 N0 K0 K XO X L fs) (hLi : L.length = i) (hf : fs.length = 38) (kk : ∀ X1, Ini Mo 1 N0 K0 (K + 12) XO X1 (L ++ [eI γ 12 (fun _ => 0)]) (fs.set 37 (.ref (N0 + i))) → (L ++ [eI γ 12 (fun _ => 0)]).length = i + 1 → (fs.set 37 (.ref (N0 + i))).length = 38 → SW γ mX2_init X0 X1 307 [some (.ref Mo)] [] Q) : SW γ mX2_init X0 X 299 [some (.ref Mo)] [] Q := by
  refine sw_aload_n 300 rfl rfl rfl dX2_init_299 ?_
  refine sw_bipush 302 rfl (nI 12) rfl dX2_init_300 ?_
  have e1 := hI.2.1
  rw [hLi] at e1
  refine sw_newI 304 rfl (Nat.le_of_ble_eq_true rfl) q135 dX2_init_302 (fun X hX => ?_)
  rw [e1]
  replace hI := hI.add hX
  clear hX e1
  refine sw_sk (show _ = va_rf (some _) :: _ from rfl) ?_
  refine pf_X2_106 307 rfl hI.2.2.2.1 (by omega) rfl rfl dX2_init_304 (fun X hX => ?_)
  exact kk X (hI.put hX) (by rw [List.length_append, hLi]; rfl) (by rw [List.length_set]; exact hf)
set_option maxHeartbeats 400000 in
theorem ct_X2init (hM : X.2.2 Mo = some (.inr (1, [.int 0, .int 0, .int 0, .int 0, .null, .null, .null, .null, .null, .null, .null, .null, .null, .null, .int 0, .null, .null, .null, .null, .null, .null, .null, .null, .null, .null, .int 0, .null, .null, .null, .null, .null, .null, .null, .null, .null, .null, .null, .null]))) (hl : Mo < X.1) : Ev γ mX2_init [.ref Mo] X (fun oc X1 => oc = .inl none ∧ TwR γ Mo (fun k => X.1 + twI k) X1 S00 ∧ X1.1 = X.1 + 32 ∧ X1.2.1 = X.2.1 + 2210 ∧ ∀ b, b ≠ Mo → b < X.1 → X1.2.2 b = X.2.2 b) := by
  refine Ev.of (lv := [some (.ref Mo)]) 0 ⟨by decide +kernel, rfl, (Nat.le_of_ble_eq_true rfl)⟩ rfl ?_
  have hI : Ini Mo 1 X.1 X.2.1 0 X X [] _ := Ini.of hM hl
  have hLi : ([] : List va_E).length = 0 := rfl
  have hf : [Value.int 0, Value.int 0, Value.int 0, Value.int 0, Value.null, Value.null, Value.null, Value.null, Value.null, Value.null, Value.null, Value.null, Value.null, Value.null, Value.int 0, Value.null, Value.null, Value.null, Value.null, Value.null, Value.null, Value.null, Value.null, Value.null, Value.null, Value.int 0, Value.null, Value.null, Value.null, Value.null, Value.null, Value.null, Value.null, Value.null, Value.null, Value.null, Value.null, Value.null].length = 38 := rfl
  refine sw_aload_n 1 rfl rfl rfl dX2_init_0 ?_
  refine sw_objI 4 rfl q921 q75 q76 (Nat.le_of_ble_eq_true rfl) (Nat.le_of_ble_eq_true rfl) dX2_init_1 ?_
  refine x2i_4 hI hLi hf (fun X hI hLi hf => ?_)
  refine x2i_5 hI hLi hf (fun X hI hLi hf => ?_)
  refine x2i_6 hI hLi hf (fun X hI hLi hf => ?_)
  refine x2i_7 hI hLi hf (fun X hI hLi hf => ?_)
  refine x2i_8 hI hLi hf (fun X hI hLi hf => ?_)
  refine x2i_9 hI hLi hf (fun X hI hLi hf => ?_)
  refine x2i_10 hI hLi hf (fun X hI hLi hf => ?_)
  refine x2i_11 hI hLi hf (fun X hI hLi hf => ?_)
  refine x2i_12 hI hLi hf (fun X hI hLi hf => ?_)
  refine x2i_13 hI hLi hf (fun X hI hLi hf => ?_)
  refine x2i_15 hI hLi hf (fun X hI hLi hf => ?_)
  refine x2i_16 hI hLi hf (fun X hI hLi hf => ?_)
  refine x2i_17 hI hLi hf (fun X hI hLi hf => ?_)
  refine x2i_18 hI hLi hf (fun X hI hLi hf => ?_)
  refine x2i_19 hI hLi hf (fun X hI hLi hf => ?_)
  refine x2i_20 hI hLi hf (fun X hI hLi hf => ?_)
  refine x2i_21 hI hLi hf (fun X hI hLi hf => ?_)
  refine x2i_22 hI hLi hf (fun X hI hLi hf => ?_)
  refine x2i_23 hI hLi hf (fun X hI hLi hf => ?_)
  refine x2i_24 hI hLi hf (fun X hI hLi hf => ?_)
  refine x2i_26 hI hLi hf (fun X hI hLi hf => ?_)
  refine x2i_27 hI hLi hf (fun X hI hLi hf => ?_)
  refine x2i_28 hI hLi hf (fun X hI hLi hf => ?_)
  refine x2i_29 hI hLi hf (fun X hI hLi hf => ?_)
  refine x2i_30 hI hLi hf (fun X hI hLi hf => ?_)
  refine x2i_31 hI hLi hf (fun X hI hLi hf => ?_)
  refine x2i_32 hI hLi hf (fun X hI hLi hf => ?_)
  refine x2i_33 hI hLi hf (fun X hI hLi hf => ?_)
  refine x2i_34 hI hLi hf (fun X hI hLi hf => ?_)
  refine x2i_35 hI hLi hf (fun X hI hLi hf => ?_)
  refine x2i_36 hI hLi hf (fun X hI hLi hf => ?_)
  refine x2i_37 hI hLi hf (fun X hI hLi hf => ?_)
  refine sw_vret rfl dX2_init_307 ?_
  obtain ⟨h1, h2, h3, h4, h5, h6⟩ := hI
  refine ⟨rfl, ⟨?_, fun k hk => ?_, ?_, ?_⟩, h2.trans (by rw [hLi]), h3, h6⟩
  · rw [h4]
    have e0 : (0 : Int32) = nI 0 := rfl
    simp only [List.set_cons_zero, List.set_cons_succ, twFs, twI, e0]
    rfl
  · have e0 : (0 : Int32) = nI 0 := rfl
    have e1 : (0 : Int64) = lN 0 := rfl
    simp only [List.nil_append, List.cons_append] at h5 hLi
    unfold isT at hk
    split at hk
    · exact (h5 0 (by rw [hLi]; exact (Nat.le_of_ble_eq_true rfl))).trans (congrArg (fun f => some (eI γ 12 f)) (funext fun j => e0))
    · exact (h5 1 (by rw [hLi]; exact (Nat.le_of_ble_eq_true rfl))).trans (congrArg (fun f => some (eL γ 12 f)) (funext fun j => e1))
    · exact (h5 2 (by rw [hLi]; exact (Nat.le_of_ble_eq_true rfl))).trans (congrArg (fun f => some (eI γ 12 f)) (funext fun j => e0))
    · exact (h5 3 (by rw [hLi]; exact (Nat.le_of_ble_eq_true rfl))).trans (congrArg (fun f => some (eI γ 12 f)) (funext fun j => (S00_I (k := 7) (j := j) (by omega)).symm))
    · exact (h5 4 (by rw [hLi]; exact (Nat.le_of_ble_eq_true rfl))).trans (congrArg (fun f => some (eI γ 12 f)) (funext fun j => e0))
    · exact (h5 5 (by rw [hLi]; exact (Nat.le_of_ble_eq_true rfl))).trans (congrArg (fun f => some (eZ γ 12 f)) (funext fun j => (S00_I (k := 9) (j := j) (by omega)).symm))
    · exact (h5 6 (by rw [hLi]; exact (Nat.le_of_ble_eq_true rfl))).trans (congrArg (fun f => some (eI γ 144 f)) (funext fun j => e0))
    · exact (h5 7 (by rw [hLi]; exact (Nat.le_of_ble_eq_true rfl))).trans (congrArg (fun f => some (eZ γ 144 f)) (funext fun j => (S00_I (k := 11) (j := j) (by omega)).symm))
    · exact (h5 8 (by rw [hLi]; exact (Nat.le_of_ble_eq_true rfl))).trans (congrArg (fun f => some (eL γ 144 f)) (funext fun j => rfl))
    · exact (h5 9 (by rw [hLi]; exact (Nat.le_of_ble_eq_true rfl))).trans (congrArg (fun f => some (eL γ 144 f)) (funext fun j => rfl))
    · exact (h5 10 (by rw [hLi]; exact (Nat.le_of_ble_eq_true rfl))).trans (congrArg (fun f => some (eI γ 40 f)) (funext fun j => (S00_I (k := 15) (j := j) (by omega)).symm))
    · exact (h5 11 (by rw [hLi]; exact (Nat.le_of_ble_eq_true rfl))).trans (congrArg (fun f => some (eI γ 40 f)) (funext fun j => e0))
    · exact (h5 12 (by rw [hLi]; exact (Nat.le_of_ble_eq_true rfl))).trans (congrArg (fun f => some (eI γ 40 f)) (funext fun j => e0))
    · exact (h5 13 (by rw [hLi]; exact (Nat.le_of_ble_eq_true rfl))).trans (congrArg (fun f => some (eI γ 40 f)) (funext fun j => (S00_I (k := 18) (j := j) (by omega)).symm))
    · exact (h5 14 (by rw [hLi]; exact (Nat.le_of_ble_eq_true rfl))).trans (congrArg (fun f => some (eI γ 40 f)) (funext fun j => e0))
    · exact (h5 15 (by rw [hLi]; exact (Nat.le_of_ble_eq_true rfl))).trans (congrArg (fun f => some (eI γ 40 f)) (funext fun j => e0))
    · exact (h5 16 (by rw [hLi]; exact (Nat.le_of_ble_eq_true rfl))).trans (congrArg (fun f => some (eI γ 40 f)) (funext fun j => e0))
    · exact (h5 17 (by rw [hLi]; exact (Nat.le_of_ble_eq_true rfl))).trans (congrArg (fun f => some (eI γ 40 f)) (funext fun j => e0))
    · exact (h5 18 (by rw [hLi]; exact (Nat.le_of_ble_eq_true rfl))).trans (congrArg (fun f => some (eI γ 480 f)) (funext fun j => e0))
    · exact (h5 19 (by rw [hLi]; exact (Nat.le_of_ble_eq_true rfl))).trans (congrArg (fun f => some (eI γ 480 f)) (funext fun j => e0))
    · exact (h5 20 (by rw [hLi]; exact (Nat.le_of_ble_eq_true rfl))).trans (congrArg (fun f => some (eI γ 41 f)) (funext fun j => e0))
    · exact (h5 21 (by rw [hLi]; exact (Nat.le_of_ble_eq_true rfl))).trans (congrArg (fun f => some (eI γ 41 f)) (funext fun j => e0))
    · exact (h5 22 (by rw [hLi]; exact (Nat.le_of_ble_eq_true rfl))).trans (congrArg (fun f => some (eI γ 41 f)) (funext fun j => e0))
    · exact (h5 23 (by rw [hLi]; exact (Nat.le_of_ble_eq_true rfl))).trans (congrArg (fun f => some (eI γ 41 f)) (funext fun j => e0))
    · exact (h5 24 (by rw [hLi]; exact (Nat.le_of_ble_eq_true rfl))).trans (congrArg (fun f => some (eZ γ 41 f)) (funext fun j => (S00_I (k := 30) (j := j) (by omega)).symm))
    · refine (h5 25 (by rw [hLi]; exact (Nat.le_of_ble_eq_true rfl))).trans ?_
      show some _ = some _
      refine congrArg (fun f => some (eI γ 8 f)) ?_
      funext j
      show va_up _ _ _ j = S00.2.1 31 j
      unfold S00
      by_cases q : j < 8
      · show _ = if 31 = 31 ∧ j < 8 then nI 1000000 else 0
        rw [if_pos ⟨rfl, q⟩]
        rcases (by omega : j = 0 ∨ j = 1 ∨ j = 2 ∨ j = 3 ∨ j = 4 ∨ j = 5 ∨ j = 6 ∨ j = 7) with rfl | rfl | rfl | rfl | rfl | rfl | rfl | rfl <;> rfl
      · show _ = if 31 = 31 ∧ j < 8 then nI 1000000 else 0
        rw [if_neg (fun z => q z.2)]
        simp only [va_up]
        repeat rw [if_neg (by omega)]
    · exact (h5 26 (by rw [hLi]; exact (Nat.le_of_ble_eq_true rfl))).trans (congrArg (fun f => some (eI γ 8 f)) (funext fun j => (S00_I (k := 32) (j := j) (by omega)).symm))
    · exact (h5 27 (by rw [hLi]; exact (Nat.le_of_ble_eq_true rfl))).trans (congrArg (fun f => some (eZ γ 20 f)) (funext fun j => (S00_I (k := 33) (j := j) (by omega)).symm))
    · exact (h5 28 (by rw [hLi]; exact (Nat.le_of_ble_eq_true rfl))).trans (congrArg (fun f => some (eL γ 5 f)) (funext fun j => rfl))
    · exact (h5 29 (by rw [hLi]; exact (Nat.le_of_ble_eq_true rfl))).trans (congrArg (fun f => some (eL γ 12 f)) (funext fun j => e1))
    · exact (h5 30 (by rw [hLi]; exact (Nat.le_of_ble_eq_true rfl))).trans (congrArg (fun f => some (eI γ 12 f)) (funext fun j => e0))
    · exact (h5 31 (by rw [hLi]; exact (Nat.le_of_ble_eq_true rfl))).trans (congrArg (fun f => some (eI γ 12 f)) (funext fun j => e0))
    · cases hk
  · intro j k hj hk e
    have e : twI j = twI k := Nat.add_left_cancel (show _ + twI j = _ + twI k from e)
    rw [← twJ_I hj, ← twJ_I hk, e]
  · intro k hk
    show _ + twI k ≠ Mo
    omega
end T12
