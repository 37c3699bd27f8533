/-! the JDK's lists: what they answer: written by prog/gen_c1.py -/
set_option maxRecDepth 100000
theorem Sh.set_add (X : Sh) (e e' : va_E) (n : Nat) : (X.add e n).set X.1 e' = X.add e' n := by
  refine Prod.ext rfl (Prod.ext rfl ?_)
  funext b
  show (if b = X.1 then some e' else if b = X.1 then some e else X.2.2 b) = if b = X.1 then some e' else X.2.2 b
  split <;> rfl
theorem Sh.set_set (X : Sh) (a : Nat) (e e' : va_E) : (X.set a e).set a e' = X.set a e' := by
  refine Prod.ext rfl (Prod.ext rfl ?_)
  funext b
  show (if b = a then some e' else if b = a then some e else X.2.2 b) = if b = a then some e' else X.2.2 b
  split <;> rfl
theorem sz_lt {γ : Gm} {K : Nat} {S : TS} (h : WF K S) (i : Nat) : szL S i ≤ 40 := by
  have h1 := h.nb
  have h2 := h.no
  have h3 := h.nc
  unfold szL
  split <;> omega
theorem cap_le {n : Nat} (h : n ≤ 40) : n ≤ capN n ∧ capN n ≤ 49 := by
  unfold capN
  repeat' split
  all_goals omega
/-- an iterator over a list of the class -/
def itC (ad : Nat → Nat → Nat) (S : TS) (i k : Nat) (l : Int32) : va_E := .inr (10, [.int (nI k), .int l, .int (nI (szL S i)), .ref (ad 1 i)])
theorem nfX1 : ∀ j, j < 9 → defaultValue (tyX1 j) = vp_V [.null, .null, .null, .null, .null, .null, .null, .int 0, .int 0] j := by
  intro j hj
  rcases (by omega : j = 0 ∨ j = 1 ∨ j = 2 ∨ j = 3 ∨ j = 4 ∨ j = 5 ∨ j = 6 ∨ j = 7 ∨ j = 8) with rfl | rfl | rfl | rfl | rfl | rfl | rfl | rfl | rfl <;> rfl
theorem nfX2 : ∀ j, j < 38 → defaultValue (tyX2 j) = vp_V [.int 0, .int 0, .int 0, .int 0, .null, .null, .null, .null, .null, .null, .null, .null, .null, .null, .int 0, .null, .null, .null, .null, .null, .null, .null, .null, .null, .null, .int 0, .null, .null, .null, .null, .null, .null, .null, .null, .null, .null, .null, .null] j := by
  intro j hj
  rcases (by omega : j = 0 ∨ j = 1 ∨ j = 2 ∨ j = 3 ∨ j = 4 ∨ j = 5 ∨ j = 6 ∨ j = 7 ∨ j = 8 ∨ j = 9 ∨ j = 10 ∨ j = 11 ∨ j = 12 ∨ j = 13 ∨ j = 14 ∨ j = 15 ∨ j = 16 ∨ j = 17 ∨ j = 18 ∨ j = 19 ∨ j = 20 ∨ j = 21 ∨ j = 22 ∨ j = 23 ∨ j = 24 ∨ j = 25 ∨ j = 26 ∨ j = 27 ∨ j = 28 ∨ j = 29 ∨ j = 30 ∨ j = 31 ∨ j = 32 ∨ j = 33 ∨ j = 34 ∨ j = 35 ∨ j = 36 ∨ j = 37) with rfl | rfl | rfl | rfl | rfl | rfl | rfl | rfl | rfl | rfl | rfl | rfl | rfl | rfl | rfl | rfl | rfl | rfl | rfl | rfl | rfl | rfl | rfl | rfl | rfl | rfl | rfl | rfl | rfl | rfl | rfl | rfl | rfl | rfl | rfl | rfl | rfl | rfl <;> rfl
theorem nfX3 : ∀ j, j < 11 → defaultValue (tyX3 j) = vp_V [.int 0, .int 0, .long 0, .int 0, .int 0, .int 0, .int 0, .null, .null, .null, .null] j := by
  intro j hj
  rcases (by omega : j = 0 ∨ j = 1 ∨ j = 2 ∨ j = 3 ∨ j = 4 ∨ j = 5 ∨ j = 6 ∨ j = 7 ∨ j = 8 ∨ j = 9 ∨ j = 10) with rfl | rfl | rfl | rfl | rfl | rfl | rfl | rfl | rfl | rfl | rfl <;> rfl
theorem nfX4 : ∀ j, j < 1 → defaultValue (tyX4 j) = vp_V [.null] j := by
  intro j hj
  rcases (by omega : j = 0) with rfl <;> rfl
theorem nfX5 : ∀ j, j < 4 → defaultValue (tyX5 j) = vp_V [.null, .null, .long 0, .int 0] j := by
  intro j hj
  rcases (by omega : j = 0 ∨ j = 1 ∨ j = 2 ∨ j = 3) with rfl | rfl | rfl | rfl <;> rfl
theorem nfX6 : ∀ j, j < 2 → defaultValue (tyX6 j) = vp_V [.int 0, .null] j := by
  intro j hj
  rcases (by omega : j = 0 ∨ j = 1) with rfl | rfl <;> rfl
theorem nfX7 : ∀ j, j < 2 → defaultValue (tyX7 j) = vp_V [.null, .int 0] j := by
  intro j hj
  rcases (by omega : j = 0 ∨ j = 1) with rfl | rfl <;> rfl
theorem nfX8 : ∀ j, j < 11 → defaultValue (tyX8 j) = vp_V [.int 0, .int 0, .int 0, .int 0, .int 0, .null, .null, .null, .int 0, .int 0, .int 0] j := by
  intro j hj
  rcases (by omega : j = 0 ∨ j = 1 ∨ j = 2 ∨ j = 3 ∨ j = 4 ∨ j = 5 ∨ j = 6 ∨ j = 7 ∨ j = 8 ∨ j = 9 ∨ j = 10) with rfl | rfl | rfl | rfl | rfl | rfl | rfl | rfl | rfl | rfl | rfl <;> rfl
theorem nfX9 : ∀ j, j < 5 → defaultValue (tyX9 j) = vp_V [.null, .null, .int 0, .int 0, .int 0] j := by
  intro j hj
  rcases (by omega : j = 0 ∨ j = 1 ∨ j = 2 ∨ j = 3 ∨ j = 4) with rfl | rfl | rfl | rfl | rfl <;> rfl
theorem nfJ2 : ∀ j, j < 3 → defaultValue (tyJ2 j) = vp_V [.int 0, .null, .int 0] j := by
  intro j hj
  rcases (by omega : j = 0 ∨ j = 1 ∨ j = 2) with rfl | rfl | rfl <;> rfl
theorem nfJ17 : ∀ j, j < 4 → defaultValue (tyJ17 j) = vp_V [.int 0, .int 0, .int 0, .null] j := by
  intro j hj
  rcases (by omega : j = 0 ∨ j = 1 ∨ j = 2 ∨ j = 3) with rfl | rfl | rfl | rfl <;> rfl
section C1
variable {γ : Gm} {ad fe : Nat → Nat → Nat} {X X0 : Sh} {S : TS} {K : Nat}
set_option maxHeartbeats 4000000 in
theorem cl_size (hR : CpR γ ad fe X S) {i : Nat} (hi : i < 3) : Ev γ mJ2_size [.ref (ad 1 i)] X (fun oc X1 => oc = .inl (some (.int (nI (szL S i)))) ∧ X1 = X) := by
  refine Ev.of (lv := [_]) 0 ⟨by decide +kernel, rfl, (Nat.le_of_ble_eq_true rfl)⟩ rfl ?_
  refine sw_aload_n 1 rfl rfl rfl dJ2_size_0 ?_
  refine gf_J2_48 4 rfl (hR.1 1 i hi) rfl rfl dJ2_size_1 ?_
  refine sw_iret rfl rfl dJ2_size_4 ?_
  exact ⟨rfl, rfl⟩

set_option maxHeartbeats 4000000 in
theorem cl_chk {X : Sh} {k n : Nat} (hk : k < n) (hn : n < 2 ^ 31) : Ev γ mJ15_checkIndex [.int (nI k), .int (nI n), .null] X (fun oc X1 => oc = .inl (some (.int (nI k))) ∧ X1 = X) := by
  refine Ev.of (lv := [_, _, _]) 0 ⟨by decide +kernel, rfl, (Nat.le_of_ble_eq_true rfl)⟩ rfl ?_
  refine sw_iload_n 1 rfl rfl dJ15_checkIndex_0 ?_
  refine sw_if_lt 9 4 (by decide) rfl dJ15_checkIndex_1 (fun c_1 => absurd c_1 (nI_pos (by omega))) (fun c_1 => ?_)
  clear c_1
  refine sw_iload_n 5 rfl rfl dJ15_checkIndex_4 ?_
  refine sw_iload_n 6 rfl rfl dJ15_checkIndex_5 ?_
  refine sw_icmp_lt 16 9 (by decide) rfl dJ15_checkIndex_6 (fun c_6 => ?_) (fun c_6 => absurd ((nI_ltI (by omega) (by omega)).mpr hk) c_6)
  clear c_6
  refine sw_iload_n 17 rfl rfl dJ15_checkIndex_16 ?_
  refine sw_iret rfl rfl dJ15_checkIndex_17 ?_
  exact ⟨rfl, rfl⟩

set_option maxHeartbeats 4000000 in
theorem cl_chk2 {X : Sh} {k n : Nat} (hk : k < n) (hn : n < 2 ^ 31) : Ev γ mJ14_checkIndex [.int (nI k), .int (nI n)] X (fun oc X1 => oc = .inl (some (.int (nI k))) ∧ X1 = X) := by
  refine Ev.of (lv := [_, _]) 0 ⟨by decide +kernel, rfl, (Nat.le_of_ble_eq_true rfl)⟩ rfl ?_
  refine sw_iload_n 1 rfl rfl dJ14_checkIndex_0 ?_
  refine sw_iload_n 2 rfl rfl dJ14_checkIndex_1 ?_
  refine sw_null 3 rfl dJ14_checkIndex_2 ?_
  refine sw_callS 6 [] rfl cs_J14_105 rfl (Nat.le_of_ble_eq_true rfl) rfl (cl_chk hk hn) rfl rfl (Nat.le_of_ble_eq_true rfl) dJ14_checkIndex_3 (fun v X hq => ?_) (fun E X hq => by obtain ⟨hv, -⟩ := hq; cases hv)
  obtain ⟨hv, rfl⟩ := hq
  cases hv
  refine sw_iret rfl rfl dJ14_checkIndex_6 ?_
  exact ⟨rfl, rfl⟩

set_option maxHeartbeats 4000000 in
theorem cl_elem (hR : CpR γ ad fe X S) (hw : WF K S) {i k : Nat} (hi : i < 3) (hk : k < szL S i) : Ev γ mJ2_elementData [.ref (ad 1 i), .int (nI k)] X (fun oc X1 => oc = .inl (some (.ref (ad (elT i) k))) ∧ X1 = X) := by
  have hs := sz_lt (γ := γ) hw i
  have hc := cap_le hs
  refine Ev.of (lv := [_, _]) 0 ⟨by decide +kernel, rfl, (Nat.le_of_ble_eq_true rfl)⟩ rfl ?_
  refine sw_aload_n 1 rfl rfl rfl dJ2_elementData_0 ?_
  refine gf_J2_9 4 rfl (hR.1 1 i hi) rfl rfl dJ2_elementData_1 ?_
  rw [if_neg (show ¬ szL S i = 0 by omega)]
  refine sw_iload_n 5 rfl rfl dJ2_elementData_4 ?_
  refine sw_oald 6 rfl (hR.1 2 i ⟨hi, by omega⟩) (show k < capN (szL S i) by omega) (by omega) dJ2_elementData_5 ?_
  rw [tr_lt hk]
  refine sw_aret rfl (Or.inl ⟨_, rfl⟩) (isR_rf _) dJ2_elementData_6 ?_
  exact ⟨rfl, rfl⟩

set_option maxHeartbeats 4000000 in
theorem cl_get (hR : CpR γ ad fe X S) (hw : WF K S) {i k : Nat} (hi : i < 3) (hk : k < szL S i) : Ev γ mJ2_get [.ref (ad 1 i), .int (nI k)] X (fun oc X1 => oc = .inl (some (.ref (ad (elT i) k))) ∧ X1 = X) := by
  have hs := sz_lt (γ := γ) hw i
  refine Ev.of (lv := [_, _]) 0 ⟨by decide +kernel, rfl, (Nat.le_of_ble_eq_true rfl)⟩ rfl ?_
  refine sw_iload_n 1 rfl rfl dJ2_get_0 ?_
  refine sw_aload_n 2 rfl rfl rfl dJ2_get_1 ?_
  refine gf_J2_48 5 rfl (hR.1 1 i hi) rfl rfl dJ2_get_2 ?_
  refine sw_callS 8 [] rfl cs_J2_118 rfl (Nat.le_of_ble_eq_true rfl) rfl (cl_chk2 hk (by omega)) rfl rfl (Nat.le_of_ble_eq_true rfl) dJ2_get_5 (fun v X hq => ?_) (fun E X hq => by obtain ⟨hv, -⟩ := hq; cases hv)
  obtain ⟨hv, rfl⟩ := hq
  cases hv
  refine sw_pop 9 rfl rfl dJ2_get_8 ?_
  refine sw_aload_n 10 rfl rfl rfl dJ2_get_9 ?_
  refine sw_iload_n 11 rfl rfl dJ2_get_10 ?_
  refine sw_callV 14 [] rfl cs_J2_123 rfl (Nat.le_of_ble_eq_true rfl) rfl (hR.1 1 i hi) rfl rfl (cl_elem hR hw hi hk) rfl rfl (Nat.le_of_ble_eq_true rfl) dJ2_get_11 (fun v X hq => ?_) (fun E X hq => by obtain ⟨hv, -⟩ := hq; cases hv)
  obtain ⟨hv, rfl⟩ := hq
  cases hv
  refine sw_aret rfl (Or.inl ⟨_, rfl⟩) rfl dJ2_get_14 ?_
  exact ⟨rfl, rfl⟩

set_option maxHeartbeats 4000000 in
theorem cl_itinit (hR : CpR γ ad fe X S) {i a : Nat} (hi : i < 3) (ha : X.2.2 a = some (.inr (10, [.int 0, .int 0, .int 0, .null]))) (hn : ad 1 i ≠ a) : Ev γ mJ17_init [.ref a, .ref (ad 1 i)] X (fun oc X1 => oc = .inl none ∧ X1 = X.set a (itC ad S i 0 (-1))) := by
  refine Ev.of (lv := [_, _]) 0 ⟨by decide +kernel, rfl, (Nat.le_of_ble_eq_true rfl)⟩ rfl ?_
  refine sw_aload_n 1 rfl rfl rfl dJ17_init_0 ?_
  refine sw_aload_n 2 rfl rfl rfl dJ17_init_1 ?_
  refine sw_sk (show _ = va_rf (some (ad 1 i)) :: _ from rfl) ?_
  refine pf_J17_1 5 rfl ha (Nat.le_of_ble_eq_true rfl) rfl rfl dJ17_init_2 (fun X hX => ?_)
  subst hX
  have h1 := Sh.set_eq X a (.inr (10, ([.int 0, .int 0, .int 0, .ref (ad 1 i)] : List Value)))
  refine sw_aload_n 6 rfl rfl rfl dJ17_init_5 ?_
  refine sw_objI 9 rfl q155 q75 q76 (Nat.le_of_ble_eq_true rfl) (Nat.le_of_ble_eq_true rfl) dJ17_init_6 ?_
  refine sw_aload_n 10 rfl rfl rfl dJ17_init_9 ?_
  refine sw_iconst 11 rfl (-1) rfl dJ17_init_10 ?_
  refine pf_J17_13 14 rfl h1 (Nat.le_of_ble_eq_true rfl) rfl dJ17_init_11 (fun X hX => ?_)
  have h2 : X.2.2 a = some (.inr (10, ([.int 0, .int (-1), .int 0, .ref (ad 1 i)] : List Value))) := by rw [hX]; exact Sh.set_eq _ _ _
  have l2 : X.2.2 (ad 1 i) = some (cel γ ad fe S 1 i) := by rw [hX, Sh.set_ne _ _ hn, Sh.set_ne _ _ hn]; exact hR.1 1 i hi
  rw [Sh.set_set] at hX
  have e2 := hX
  clear hX
  refine sw_aload_n 15 rfl rfl rfl dJ17_init_14 ?_
  refine sw_aload_n 16 rfl rfl rfl dJ17_init_15 ?_
  refine gf_J17_1 19 rfl h2 rfl rfl dJ17_init_16 ?_
  refine gf_J17_17 22 rfl l2 rfl rfl dJ17_init_19 ?_
  refine pf_J17_22 25 rfl h2 (Nat.le_of_ble_eq_true rfl) rfl dJ17_init_22 (fun X hX => ?_)
  refine sw_vret rfl dJ17_init_25 ?_
  rw [hX, e2, Sh.set_set]
  exact ⟨rfl, rfl⟩

set_option maxHeartbeats 4000000 in
theorem cl_iterator (hR : CpR γ ad fe X S) {i : Nat} (hi : i < 3) : Ev γ mJ2_iterator [.ref (ad 1 i)] X (fun oc X1 => oc = .inl (some (.ref X.1)) ∧ X1 = X.add (itC ad S i 0 (-1)) 4) := by
  have hlt := hR.adlt (show vl S 1 i from hi)
  refine Ev.of (lv := [_]) 0 ⟨by decide +kernel, rfl, (Nat.le_of_ble_eq_true rfl)⟩ rfl ?_
  refine sw_new (ci := 10) [.int 0, .int 0, .int 0, .null] tyJ17 3 rfl rfl in_J17 tyJ17_ok q150 q151 q63 (nfJ17) dJ2_iterator_0 (fun X hX => ?_)
  subst hX
  have hRa : CpR γ ad fe (X.add (.inr (10, [.int 0, .int 0, .int 0, .null])) 4) S := ((CpF.rf hR).add rfl).1
  refine sw_dup 4 rfl rfl dJ2_iterator_3 ?_
  refine sw_aload_n 5 rfl rfl rfl dJ2_iterator_4 ?_
  refine sw_callI 8 [_] rfl cs_J2_269 rfl (Nat.le_of_ble_eq_true rfl) rfl (cl_itinit hRa hi (Sh.add_eq _ _ _) (by omega)) rfl rfl (Nat.le_of_ble_eq_true rfl) dJ2_iterator_5 (fun v X hq => ?_) (fun E X hq => by obtain ⟨hv, -⟩ := hq; cases hv)
  obtain ⟨hv, hq⟩ := hq
  cases hv
  rw [Sh.set_add] at hq
  subst hq
  refine sw_aret rfl (Or.inl ⟨_, rfl⟩) rfl dJ2_iterator_8 ?_
  exact ⟨rfl, rfl⟩

set_option maxHeartbeats 4000000 in
theorem cl_hasNext (hR : CpR γ ad fe X S) (hw : WF K S) {i k a : Nat} {l : Int32} (hi : i < 3) (hit : X.2.2 a = some (itC ad S i k l)) (hk : k ≤ szL S i) : Ev γ mJ17_hasNext [.ref a] X (fun oc X1 => oc = .inl (some (.int (b2 (k < szL S i)))) ∧ X1 = X) := by
  have hs := sz_lt (γ := γ) hw i
  refine Ev.of (lv := [_]) 0 ⟨by decide +kernel, rfl, (Nat.le_of_ble_eq_true rfl)⟩ rfl ?_
  refine sw_aload_n 1 rfl rfl rfl dJ17_hasNext_0 ?_
  refine gf_J17_25 4 rfl hit rfl rfl dJ17_hasNext_1 ?_
  refine sw_aload_n 5 rfl rfl rfl dJ17_hasNext_4 ?_
  refine gf_J17_1 8 rfl hit rfl rfl dJ17_hasNext_5 ?_
  refine gf_J17_28 11 rfl (hR.1 1 i hi) rfl rfl dJ17_hasNext_8 ?_
  refine sw_icmp_eq 18 14 (by decide) rfl dJ17_hasNext_11 (fun c_11 => ?_) (fun c_11 => ?_)
  · rw [nI_eq (by omega) (by omega)] at c_11
    refine sw_iconst 19 rfl (nI 0) rfl dJ17_hasNext_18 ?_
    refine sw_iret rfl rfl dJ17_hasNext_19 ?_
    exact ⟨by rw [b2_f (by omega)], rfl⟩
  · rw [nI_eq (by omega) (by omega)] at c_11
    refine sw_iconst 15 rfl (nI 1) rfl dJ17_hasNext_14 ?_
    refine sw_goto 19 (by decide) dJ17_hasNext_15 ?_
    refine sw_iret rfl rfl dJ17_hasNext_19 ?_
    exact ⟨by rw [b2_t (by omega)], rfl⟩

set_option maxHeartbeats 4000000 in
theorem cl_cfc (hR : CpR γ ad fe X S) {i k a : Nat} {l : Int32} (hi : i < 3) (hit : X.2.2 a = some (itC ad S i k l)) : Ev γ mJ17_checkForComodification [.ref a] X (fun oc X1 => oc = .inl none ∧ X1 = X) := by
  refine Ev.of (lv := [_]) 0 ⟨by decide +kernel, rfl, (Nat.le_of_ble_eq_true rfl)⟩ rfl ?_
  refine sw_aload_n 1 rfl rfl rfl dJ17_checkForComodification_0 ?_
  refine gf_J17_1 4 rfl hit rfl rfl dJ17_checkForComodification_1 ?_
  refine gf_J17_17 7 rfl (hR.1 1 i hi) rfl rfl dJ17_checkForComodification_4 ?_
  refine sw_aload_n 8 rfl rfl rfl dJ17_checkForComodification_7 ?_
  refine gf_J17_22 11 rfl hit rfl rfl dJ17_checkForComodification_8 ?_
  refine sw_icmp_eq 22 14 (by decide) rfl dJ17_checkForComodification_11 (fun c_11 => ?_) (fun c_11 => absurd rfl c_11)
  clear c_11
  refine sw_vret rfl dJ17_checkForComodification_22 ?_
  exact ⟨rfl, rfl⟩

set_option maxHeartbeats 4000000 in
theorem cl_next (hR : CpR γ ad fe X S) (hw : WF K S) {i k a : Nat} {l : Int32} (hi : i < 3) (hit : X.2.2 a = some (itC ad S i k l)) (hn : ¬ own ad S a) (hk : k < szL S i) : Ev γ mJ17_next [.ref a] X (fun oc X1 => oc = .inl (some (.ref (ad (elT i) k))) ∧ X1 = X.set a (itC ad S i (k + 1) (nI k))) := by
  have hs := sz_lt (γ := γ) hw i
  have hc := cap_le hs
  have hn1 : ad 1 i ≠ a := fun e => hn ⟨1, i, hi, e.symm⟩
  have hn2 : ad 2 i ≠ a := fun e => hn ⟨2, i, ⟨hi, by omega⟩, e.symm⟩
  refine Ev.of (lv := [_, _, _]) 2 ⟨by decide +kernel, rfl, (Nat.le_of_ble_eq_true rfl)⟩ rfl ?_
  refine sw_aload_n 1 rfl rfl rfl dJ17_next_0 ?_
  refine sw_callV 4 [] rfl cs_J17_31 rfl (Nat.le_of_ble_eq_true rfl) rfl hit rfl rfl (cl_cfc hR hi hit) rfl rfl (Nat.le_of_ble_eq_true rfl) dJ17_next_1 (fun v X hq => ?_) (fun E X hq => by obtain ⟨hv, -⟩ := hq; cases hv)
  obtain ⟨hv, rfl⟩ := hq
  cases hv
  refine sw_aload_n 5 rfl rfl rfl dJ17_next_4 ?_
  refine gf_J17_25 8 rfl hit rfl rfl dJ17_next_5 ?_
  refine sw_istore_n 9 rfl [_, _, _] (Nat.le_of_ble_eq_true rfl) rfl dJ17_next_8 ?_
  refine sw_iload_n 10 rfl rfl dJ17_next_9 ?_
  refine sw_aload_n 11 rfl rfl rfl dJ17_next_10 ?_
  refine gf_J17_1 14 rfl hit rfl rfl dJ17_next_11 ?_
  refine gf_J17_28 17 rfl (hR.1 1 i hi) rfl rfl dJ17_next_14 ?_
  refine sw_icmp_lt 28 20 (by decide) rfl dJ17_next_17 (fun c_17 => ?_) (fun c_17 => absurd ((nI_ltI (by omega) (by omega)).mpr hk) c_17)
  clear c_17
  refine sw_aload_n 29 rfl rfl rfl dJ17_next_28 ?_
  refine gf_J17_1 32 rfl hit rfl rfl dJ17_next_29 ?_
  refine gf_J17_37 35 rfl (hR.1 1 i hi) rfl rfl dJ17_next_32 ?_
  rw [if_neg (show ¬ szL S i = 0 by omega)]
  refine sw_astore_n 36 rfl [_, _, _] (Nat.le_of_ble_eq_true rfl) rfl rfl dJ17_next_35 ?_
  refine sw_iload_n 37 rfl rfl dJ17_next_36 ?_
  refine sw_aload_n 38 rfl rfl rfl dJ17_next_37 ?_
  refine sw_alen 3 39 rfl (hR.1 2 i ⟨hi, by omega⟩) rfl dJ17_next_38 ?_
  refine sw_icmp_lt 50 42 (by decide) rfl dJ17_next_39 (fun c_39 => ?_) (fun c_39 => absurd ((nI_ltI (by omega) (by omega)).mpr (by omega)) c_39)
  clear c_39
  refine sw_aload_n 51 rfl rfl rfl dJ17_next_50 ?_
  refine sw_iload_n 52 rfl rfl dJ17_next_51 ?_
  refine sw_iconst 53 rfl (nI 1) rfl dJ17_next_52 ?_
  refine sw_iaddN 54 rfl dJ17_next_53 ?_
  refine pf_J17_25 57 rfl hit (Nat.le_of_ble_eq_true rfl) rfl dJ17_next_54 (fun X hX => ?_)
  subst hX
  have h1 := Sh.set_eq X a (.inr (10, ([.int (nI (k + 1)), .int l, .int (nI (szL S i)), .ref (ad 1 i)] : List Value)))
  refine sw_aload_n 58 rfl rfl rfl dJ17_next_57 ?_
  refine sw_aload_n 59 rfl rfl rfl dJ17_next_58 ?_
  refine sw_iload_n 60 rfl rfl dJ17_next_59 ?_
  refine sw_dup_x1 61 rfl rfl rfl dJ17_next_60 ?_
  refine pf_J17_13 64 rfl h1 (Nat.le_of_ble_eq_true rfl) rfl dJ17_next_61 (fun X hX => ?_)
  rw [Sh.set_set] at hX
  have h2 : X.2.2 (ad 2 i) = some (cel γ ad fe S 2 i) := by rw [hX, Sh.set_ne _ _ hn2]; exact hR.1 2 i ⟨hi, by omega⟩
  subst hX
  refine sw_oald 65 rfl h2 (show k < capN (szL S i) by omega) (by omega) dJ17_next_64 ?_
  rw [tr_lt hk]
  refine sw_aret rfl (Or.inl ⟨_, rfl⟩) (isR_rf _) dJ17_next_65 ?_
  exact ⟨rfl, rfl⟩

end C1
