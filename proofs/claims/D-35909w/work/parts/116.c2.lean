/-! the class' needs and small helpers: written by prog/gen_c2.py -/
set_option maxRecDepth 100000
/-- the shadow after a throw -/
def thX (X : Sh) : Sh := (X.1 + 1, X.2.1 + 6, X.2.2)
/-- a need: v is answered, or E is thrown -/
def nd (P : Prop) (v : Option Value) (E : String) (X : Sh) : Ot → Sh → Prop := fun oc X1 => (P ∧ oc = .inl v ∧ X1 = X) ∨ (¬ P ∧ oc = .inr E ∧ X1 = thX X)
section C2
variable {γ : Gm} {ad fe : Nat → Nat → Nat} {X X0 : Sh} {S : TS} {K : Nat}
theorem cl_nIndex {X : Sh} {P : Prop} : Ev γ mX1_needIndex [.int (b2 P)] X (nd (P) none "java/lang/IndexOutOfBoundsException" X) := cl_needIndex
theorem cl_nArgument {X : Sh} {P : Prop} : Ev γ mX1_needArgument [.int (b2 P)] X (nd (P) none "java/lang/IllegalArgumentException" X) := cl_needArgument
theorem cl_nState {X : Sh} {P : Prop} : Ev γ mX1_needState [.int (b2 P)] X (nd (P) none "java/lang/IllegalStateException" X) := cl_needState
set_option maxHeartbeats 4000000 in
theorem cl_btw {X : Sh} (a b v : Int32) : Ev γ mX1_isBetween [.int a, .int b, .int v] X (fun oc X1 => oc = .inl (some (.int (b2 (a ≤ v ∧ v ≤ b)))) ∧ X1 = X) := by
  refine Ev.of (lv := [_, _, _]) 0 ⟨by decide +kernel, rfl, (Nat.le_of_ble_eq_true rfl)⟩ rfl ?_
  refine sw_iload_n 1 rfl rfl dX1_isBetween_0 ?_
  refine sw_iload_n 2 rfl rfl dX1_isBetween_1 ?_
  refine sw_icmp_lt 14 5 (by decide) rfl dX1_isBetween_2 (fun c_2 => ?_) (fun c_2 => ?_)
  · refine sw_iconst 15 rfl (nI 0) rfl dX1_isBetween_14 ?_
    refine sw_iret rfl rfl dX1_isBetween_15 ?_
    exact ⟨by rw [b2_f (fun q => absurd c_2 (Int32.not_lt.mpr q.1))], rfl⟩
  · refine sw_iload_n 6 rfl rfl dX1_isBetween_5 ?_
    refine sw_iload_n 7 rfl rfl dX1_isBetween_6 ?_
    refine sw_icmp_gt 14 10 (by decide) rfl dX1_isBetween_7 (fun c_7 => ?_) (fun c_7 => ?_)
    · refine sw_iconst 15 rfl (nI 0) rfl dX1_isBetween_14 ?_
      refine sw_iret rfl rfl dX1_isBetween_15 ?_
      exact ⟨by rw [b2_f (fun q => absurd c_7 (Int32.not_lt.mpr q.2))], rfl⟩
    · refine sw_iconst 11 rfl (nI 1) rfl dX1_isBetween_10 ?_
      refine sw_goto 15 (by decide) dX1_isBetween_11 ?_
      refine sw_iret rfl rfl dX1_isBetween_15 ?_
      exact ⟨by rw [b2_t ⟨Int32.not_lt.mp c_2, Int32.not_lt.mp c_7⟩], rfl⟩

theorem cl_btw0 {X : Sh} (v : Int32) (m : Nat) (hm : m < 2 ^ 31) : Ev γ mX1_isBetween [.int (nI 0), .int (nI m), .int v] X (fun oc X1 => oc = .inl (some (.int (b2 (isN v (m + 1))))) ∧ X1 = X) := (cl_btw (nI 0) (nI m) v).mono (fun oc X1 h => ⟨by rw [h.1, b2_c (in_isN hm)], h.2⟩)
theorem cl_btw1 {X : Sh} (v : Int32) (m : Nat) (hm : m < 2 ^ 31) : Ev γ mX1_isBetween [.int (nI 1), .int (nI m), .int v] X (fun oc X1 => oc = .inl (some (.int (b2 (isR1 v m)))) ∧ X1 = X) := (cl_btw (nI 1) (nI m) v).mono (fun oc X1 h => ⟨by rw [h.1, b2_c (in_isN1 hm)], h.2⟩)
theorem cl_btwC {X : Sh} {n : Nat} (hn : n < 2 ^ 31) (v : Int32) : Ev γ mX1_isBetween [.int (nI 0), .int (nI n - nI 1), .int v] X (fun oc X1 => oc = .inl (some (.int (b2 (isN v n)))) ∧ X1 = X) := (cl_btw (nI 0) (nI n - nI 1) v).mono (fun oc X1 h => ⟨by rw [h.1, b2_c (in_isNp (by omega))], h.2⟩)
set_option maxHeartbeats 4000000 in
theorem cl_below {X : Sh} {n : Nat} (hn : n < 2 ^ 31) (x : Int32) : Ev γ mX1_needBelow [.int (nI n), .int x] X (nd (isN x n) none "java/lang/IndexOutOfBoundsException" X) := by
  refine Ev.of (lv := [_, _]) 0 ⟨by decide +kernel, rfl, (Nat.le_of_ble_eq_true rfl)⟩ rfl ?_
  refine sw_iconst 1 rfl (nI 0) rfl dX1_needBelow_0 ?_
  refine sw_iload_n 2 rfl rfl dX1_needBelow_1 ?_
  refine sw_iconst 3 rfl (nI 1) rfl dX1_needBelow_2 ?_
  refine sw_isub 4 rfl dX1_needBelow_3 ?_
  refine sw_iload_n 5 rfl rfl dX1_needBelow_4 ?_
  refine sw_callS 8 [] rfl cs_X1_21 rfl (Nat.le_of_ble_eq_true rfl) rfl (cl_btwC hn x) rfl rfl (Nat.le_of_ble_eq_true rfl) dX1_needBelow_5 (fun v X hq => ?_) (fun E X hq => by obtain ⟨hv, -⟩ := hq; cases hv)
  obtain ⟨hv, rfl⟩ := hq
  cases hv
  refine sw_callS 11 [] rfl cs_X1_27 rfl (Nat.le_of_ble_eq_true rfl) rfl cl_nIndex rfl rfl (Nat.le_of_ble_eq_true rfl) dX1_needBelow_8 (fun v X hq => ?_) (fun E X hq => by rcases hq with ⟨-, hv, -⟩ | ⟨hp, hv, rfl⟩ <;> cases hv; exact Or.inr ⟨hp, rfl, rfl⟩)
  rcases hq with ⟨hp, hv, rfl⟩ | ⟨-, hv, -⟩ <;> cases hv
  refine sw_vret rfl dX1_needBelow_11 ?_
  exact Or.inl ⟨hp, rfl, rfl⟩

set_option maxHeartbeats 4000000 in
theorem cl_nTown {X : Sh} (x : Int32) : Ev γ mX1_needTown [.int x] X (nd (isN x 8) none "java/lang/IndexOutOfBoundsException" X) := by
  refine Ev.of (lv := [_]) 0 ⟨by decide +kernel, rfl, (Nat.le_of_ble_eq_true rfl)⟩ rfl ?_
  refine sw_bipush 2 rfl (nI 8) rfl dX1_needTown_0 ?_
  refine sw_iload_n 3 rfl rfl dX1_needTown_2 ?_
  refine sw_callS 6 [] rfl cs_X1_37 rfl (Nat.le_of_ble_eq_true rfl) rfl (cl_below (by omega) x) rfl rfl (Nat.le_of_ble_eq_true rfl) dX1_needTown_3 (fun v X hq => ?_) (fun E X hq => by rcases hq with ⟨-, hv, -⟩ | ⟨hp, hv, rfl⟩ <;> cases hv; exact Or.inr ⟨hp, rfl, rfl⟩)
  rcases hq with ⟨hp, hv, rfl⟩ | ⟨-, hv, -⟩ <;> cases hv
  refine sw_vret rfl dX1_needTown_6 ?_
  exact Or.inl ⟨hp, rfl, rfl⟩

set_option maxHeartbeats 4000000 in
theorem cl_nName {X : Sh} (x : Int32) : Ev γ mX1_needName [.int x] X (nd (isN x 20) none "java/lang/IndexOutOfBoundsException" X) := by
  refine Ev.of (lv := [_]) 0 ⟨by decide +kernel, rfl, (Nat.le_of_ble_eq_true rfl)⟩ rfl ?_
  refine sw_bipush 2 rfl (nI 20) rfl dX1_needName_0 ?_
  refine sw_iload_n 3 rfl rfl dX1_needName_2 ?_
  refine sw_callS 6 [] rfl cs_X1_37 rfl (Nat.le_of_ble_eq_true rfl) rfl (cl_below (by omega) x) rfl rfl (Nat.le_of_ble_eq_true rfl) dX1_needName_3 (fun v X hq => ?_) (fun E X hq => by rcases hq with ⟨-, hv, -⟩ | ⟨hp, hv, rfl⟩ <;> cases hv; exact Or.inr ⟨hp, rfl, rfl⟩)
  rcases hq with ⟨hp, hv, rfl⟩ | ⟨-, hv, -⟩ <;> cases hv
  refine sw_vret rfl dX1_needName_6 ?_
  exact Or.inl ⟨hp, rfl, rfl⟩

set_option maxHeartbeats 4000000 in
theorem cl_nAmount {X : Sh} (x : Int32) : Ev γ mX1_needAmount [.int x] X (nd (isR1 x 1000000) none "java/lang/IllegalArgumentException" X) := by
  refine Ev.of (lv := [_]) 0 ⟨by decide +kernel, rfl, (Nat.le_of_ble_eq_true rfl)⟩ rfl ?_
  refine sw_iconst 1 rfl (nI 1) rfl dX1_needAmount_0 ?_
  refine sw_ldc 3 rfl q106 dX1_needAmount_1 ?_
  refine sw_topI (show (1000000 : Int32) = nI 1000000 from rfl) ?_
  refine sw_iload_n 4 rfl rfl dX1_needAmount_3 ?_
  refine sw_callS 7 [] rfl cs_X1_21 rfl (Nat.le_of_ble_eq_true rfl) rfl (cl_btw1 x 1000000 (by omega)) rfl rfl (Nat.le_of_ble_eq_true rfl) dX1_needAmount_4 (fun v X hq => ?_) (fun E X hq => by obtain ⟨hv, -⟩ := hq; cases hv)
  obtain ⟨hv, rfl⟩ := hq
  cases hv
  refine sw_callS 10 [] rfl cs_X1_85 rfl (Nat.le_of_ble_eq_true rfl) rfl cl_nArgument rfl rfl (Nat.le_of_ble_eq_true rfl) dX1_needAmount_7 (fun v X hq => ?_) (fun E X hq => by rcases hq with ⟨-, hv, -⟩ | ⟨hp, hv, rfl⟩ <;> cases hv; exact Or.inr ⟨hp, rfl, rfl⟩)
  rcases hq with ⟨hp, hv, rfl⟩ | ⟨-, hv, -⟩ <;> cases hv
  refine sw_vret rfl dX1_needAmount_10 ?_
  exact Or.inl ⟨hp, rfl, rfl⟩

set_option maxHeartbeats 4000000 in
theorem cl_nRate {X : Sh} (x : Int32) : Ev γ mX1_needRate [.int x] X (nd (isN x 101) none "java/lang/IllegalArgumentException" X) := by
  refine Ev.of (lv := [_]) 0 ⟨by decide +kernel, rfl, (Nat.le_of_ble_eq_true rfl)⟩ rfl ?_
  refine sw_iconst 1 rfl (nI 0) rfl dX1_needRate_0 ?_
  refine sw_bipush 3 rfl (nI 100) rfl dX1_needRate_1 ?_
  refine sw_iload_n 4 rfl rfl dX1_needRate_3 ?_
  refine sw_callS 7 [] rfl cs_X1_21 rfl (Nat.le_of_ble_eq_true rfl) rfl (cl_btw0 x 100 (by omega)) rfl rfl (Nat.le_of_ble_eq_true rfl) dX1_needRate_4 (fun v X hq => ?_) (fun E X hq => by obtain ⟨hv, -⟩ := hq; cases hv)
  obtain ⟨hv, rfl⟩ := hq
  cases hv
  refine sw_callS 10 [] rfl cs_X1_85 rfl (Nat.le_of_ble_eq_true rfl) rfl cl_nArgument rfl rfl (Nat.le_of_ble_eq_true rfl) dX1_needRate_7 (fun v X hq => ?_) (fun E X hq => by rcases hq with ⟨-, hv, -⟩ | ⟨hp, hv, rfl⟩ <;> cases hv; exact Or.inr ⟨hp, rfl, rfl⟩)
  rcases hq with ⟨hp, hv, rfl⟩ | ⟨-, hv, -⟩ <;> cases hv
  refine sw_vret rfl dX1_needRate_10 ?_
  exact Or.inl ⟨hp, rfl, rfl⟩

set_option maxHeartbeats 4000000 in
theorem cl_known (hR : CpR γ ad fe X S) (hw : WF K S) {i : Nat} (hi : i < 3) (x : Int32) : Ev γ mX1_known [.ref (ad 1 i), .int x] X (nd (isN x (szL S i)) (some (.ref (ad (elT i) (ix x)))) "java/lang/IndexOutOfBoundsException" X) := by
  have hs := sz_lt (γ := γ) hw i
  refine Ev.of (lv := [_, _]) 0 ⟨by decide +kernel, rfl, (Nat.le_of_ble_eq_true rfl)⟩ rfl ?_
  refine sw_aload_n 1 rfl rfl rfl dX1_known_0 ?_
  refine sw_callF 6 [] rfl cf_X1_31_J2 rfl (Nat.le_of_ble_eq_true rfl) rfl (hR.1 1 i hi) rfl (cl_size hR hi) rfl rfl (Nat.le_of_ble_eq_true rfl) dX1_known_1 (fun v X hq => ?_) (fun E X hq => by obtain ⟨hv, -⟩ := hq; cases hv)
  obtain ⟨hv, rfl⟩ := hq
  cases hv
  refine sw_iload_n 7 rfl rfl dX1_known_6 ?_
  refine sw_callS 10 [] rfl cs_X1_37 rfl (Nat.le_of_ble_eq_true rfl) rfl (cl_below (by omega) x) rfl rfl (Nat.le_of_ble_eq_true rfl) dX1_known_7 (fun v X hq => ?_) (fun E X hq => by rcases hq with ⟨-, hv, -⟩ | ⟨hp, hv, rfl⟩ <;> cases hv; exact Or.inr ⟨hp, rfl, rfl⟩)
  rcases hq with ⟨hp, hv, rfl⟩ | ⟨-, hv, -⟩ <;> cases hv
  obtain ⟨k, hk, rfl⟩ := hp
  have xk : ix (nI k) = k := ix_nI (by omega)
  refine sw_aload_n 11 rfl rfl rfl dX1_known_10 ?_
  refine sw_iload_n 12 rfl rfl dX1_known_11 ?_
  refine sw_callF 17 [] rfl cf_X1_41_J2 rfl (Nat.le_of_ble_eq_true rfl) rfl (hR.1 1 i hi) rfl (cl_get hR hw hi hk) rfl rfl (Nat.le_of_ble_eq_true rfl) dX1_known_12 (fun v X hq => ?_) (fun E X hq => by obtain ⟨hv, -⟩ := hq; cases hv)
  obtain ⟨hv, rfl⟩ := hq
  cases hv
  refine sw_aret rfl (Or.inl ⟨_, rfl⟩) rfl dX1_known_17 ?_
  exact Or.inl ⟨⟨k, hk, rfl⟩, by rw [xk], rfl⟩

set_option maxHeartbeats 4000000 in
theorem cl_bro (hR : CpR γ ad fe X S) (hw : WF K S) (x : Int32) : Ev γ mX1_brokerAt [.ref (ad 0 0), .int x] X (nd (isN x (S.1 3 0)) (some (.ref (ad 7 (ix x)))) "java/lang/IndexOutOfBoundsException" X) := by
  refine Ev.of (lv := [_, _]) 0 ⟨by decide +kernel, rfl, (Nat.le_of_ble_eq_true rfl)⟩ rfl ?_
  refine sw_aload_n 1 rfl rfl rfl dX1_brokerAt_0 ?_
  refine gf_X1_53 4 rfl (hR.1 0 0 rfl) rfl rfl dX1_brokerAt_1 ?_
  refine sw_iload_n 5 rfl rfl dX1_brokerAt_4 ?_
  refine sw_callS 8 [] rfl cs_X1_79 rfl (Nat.le_of_ble_eq_true rfl) rfl (cl_known hR hw (i := 0) (by omega) x) rfl rfl (Nat.le_of_ble_eq_true rfl) dX1_brokerAt_5 (fun v X hq => ?_) (fun E X hq => by rcases hq with ⟨-, hv, -⟩ | ⟨hp, hv, rfl⟩ <;> cases hv; exact Or.inr ⟨hp, rfl, rfl⟩)
  rcases hq with ⟨hp, hv, rfl⟩ | ⟨-, hv, -⟩ <;> cases hv
  obtain ⟨k, hk, rfl⟩ := hp
  have hk : k < S.1 3 0 := hk
  have hnb := hw.nb
  have xk : ix (nI k) = k := ix_nI (by omega)
  rw [xk]
  refine sw_castS 11 rfl (hR.1 7 k hk) rfl q233 dX1_brokerAt_8 ?_
  refine sw_aret rfl (Or.inl ⟨_, rfl⟩) rfl dX1_brokerAt_11 ?_
  exact Or.inl ⟨⟨k, hk, rfl⟩, rfl, rfl⟩

set_option maxHeartbeats 4000000 in
theorem cl_nTwo (hR : CpR γ ad fe X S) (hw : WF K S) (a b : Int32) : Ev γ mX1_needTwo [.ref (ad 0 0), .int a, .int b] X (fun oc X1 => ((isN a (S.1 3 0) ∧ isN b (S.1 3 0)) ∧ ¬ a = b ∧ oc = .inl none ∧ X1 = X) ∨ (¬ (isN a (S.1 3 0) ∧ isN b (S.1 3 0)) ∧ oc = .inr "java/lang/IndexOutOfBoundsException" ∧ X1 = thX X) ∨ ((isN a (S.1 3 0) ∧ isN b (S.1 3 0)) ∧ a = b ∧ oc = .inr "java/lang/IllegalArgumentException" ∧ X1 = thX X)) := by
  have hnb := hw.nb
  refine Ev.of (lv := [_, _, _]) 0 ⟨by decide +kernel, rfl, (Nat.le_of_ble_eq_true rfl)⟩ rfl ?_
  refine sw_aload_n 1 rfl rfl rfl dX1_needTwo_0 ?_
  refine gf_X1_53 4 rfl (hR.1 0 0 rfl) rfl rfl dX1_needTwo_1 ?_
  refine sw_callV 7 [] rfl cs_X1_155 rfl (Nat.le_of_ble_eq_true rfl) rfl (hR.1 1 0 (by show (0 : Nat) < 3; omega)) rfl rfl (cl_size hR (i := 0) (by omega)) rfl rfl (Nat.le_of_ble_eq_true rfl) dX1_needTwo_4 (fun v X hq => ?_) (fun E X hq => by obtain ⟨hv, -⟩ := hq; cases hv)
  obtain ⟨hv, rfl⟩ := hq
  cases hv
  refine sw_iload_n 8 rfl rfl dX1_needTwo_7 ?_
  refine sw_callS 11 [] rfl cs_X1_37 rfl (Nat.le_of_ble_eq_true rfl) rfl (cl_below (n := S.1 3 0) (by omega) a) rfl rfl (Nat.le_of_ble_eq_true rfl) dX1_needTwo_8 (fun v X hq => ?_) (fun E X hq => by rcases hq with ⟨-, hv, -⟩ | ⟨hp, hv, rfl⟩ <;> cases hv; exact Or.inr (Or.inl ⟨fun q => hp q.1, rfl, rfl⟩))
  rcases hq with ⟨ha, hv, rfl⟩ | ⟨-, hv, -⟩ <;> cases hv
  refine sw_aload_n 12 rfl rfl rfl dX1_needTwo_11 ?_
  refine gf_X1_53 15 rfl (hR.1 0 0 rfl) rfl rfl dX1_needTwo_12 ?_
  refine sw_callV 18 [] rfl cs_X1_155 rfl (Nat.le_of_ble_eq_true rfl) rfl (hR.1 1 0 (by show (0 : Nat) < 3; omega)) rfl rfl (cl_size hR (i := 0) (by omega)) rfl rfl (Nat.le_of_ble_eq_true rfl) dX1_needTwo_15 (fun v X hq => ?_) (fun E X hq => by obtain ⟨hv, -⟩ := hq; cases hv)
  obtain ⟨hv, rfl⟩ := hq
  cases hv
  refine sw_iload_n 19 rfl rfl dX1_needTwo_18 ?_
  refine sw_callS 22 [] rfl cs_X1_37 rfl (Nat.le_of_ble_eq_true rfl) rfl (cl_below (n := S.1 3 0) (by omega) b) rfl rfl (Nat.le_of_ble_eq_true rfl) dX1_needTwo_19 (fun v X hq => ?_) (fun E X hq => by rcases hq with ⟨-, hv, -⟩ | ⟨hp, hv, rfl⟩ <;> cases hv; exact Or.inr (Or.inl ⟨fun q => hp q.2, rfl, rfl⟩))
  rcases hq with ⟨hb, hv, rfl⟩ | ⟨-, hv, -⟩ <;> cases hv
  refine sw_iload_n 23 rfl rfl dX1_needTwo_22 ?_
  refine sw_iload_n 24 rfl rfl dX1_needTwo_23 ?_
  refine sw_icmp_eq 31 27 (by decide) rfl dX1_needTwo_24 (fun c_24 => ?_) (fun c_24 => ?_)
  · refine sw_iconst 32 rfl (nI 0) rfl dX1_needTwo_31 ?_
    refine sw_topI (b2_f (P := ¬ a = b) (fun q => q c_24)).symm ?_
    refine sw_callS 35 [] rfl cs_X1_85 rfl (Nat.le_of_ble_eq_true rfl) rfl (cl_nArgument (P := ¬ a = b)) rfl rfl (Nat.le_of_ble_eq_true rfl) dX1_needTwo_32 (fun v X hq => ?_) (fun E X hq => by rcases hq with ⟨-, hv, -⟩ | ⟨hp, hv, rfl⟩ <;> cases hv; exact Or.inr (Or.inr ⟨⟨ha, hb⟩, Classical.not_not.mp hp, rfl, rfl⟩))
    rcases hq with ⟨hp, hv, rfl⟩ | ⟨-, hv, -⟩ <;> cases hv
    refine sw_vret rfl dX1_needTwo_35 ?_
    exact Or.inl ⟨⟨ha, hb⟩, hp, rfl, rfl⟩
  · refine sw_iconst 28 rfl (nI 1) rfl dX1_needTwo_27 ?_
    refine sw_topI (b2_t c_24).symm ?_
    refine sw_goto 32 (by decide) dX1_needTwo_28 ?_
    refine sw_callS 35 [] rfl cs_X1_85 rfl (Nat.le_of_ble_eq_true rfl) rfl (cl_nArgument (P := ¬ a = b)) rfl rfl (Nat.le_of_ble_eq_true rfl) dX1_needTwo_32 (fun v X hq => ?_) (fun E X hq => by rcases hq with ⟨-, hv, -⟩ | ⟨hp, hv, rfl⟩ <;> cases hv; exact Or.inr (Or.inr ⟨⟨ha, hb⟩, Classical.not_not.mp hp, rfl, rfl⟩))
    rcases hq with ⟨hp, hv, rfl⟩ | ⟨-, hv, -⟩ <;> cases hv
    refine sw_vret rfl dX1_needTwo_35 ?_
    exact Or.inl ⟨⟨ha, hb⟩, hp, rfl, rfl⟩

set_option maxHeartbeats 4000000 in
theorem cl_owe (hR : CpR γ ad fe X S) (hw : WF K S) {a b : Nat} (ha : a < S.1 3 0) (hb : b < S.1 3 0) (m : Int64) : Ev γ mX1_owe [.ref (ad 7 a), .ref (ad 7 b), .long m] X (fun oc X1 => oc = .inl none ∧ CpF γ ad S X ad fe X1 (pOwe (pOwe S 12 (12 * a + b) m) 12 (12 * b + a) (-m)) 0 0) := by
  have hT := CpF.rf hR
  have hnb := hw.nb
  refine Ev.of (lv := [_, _, _, _]) 0 ⟨by decide +kernel, rfl, (Nat.le_of_ble_eq_true rfl)⟩ rfl ?_
  refine sw_aload_n 1 rfl rfl rfl dX1_owe_0 ?_
  refine gf_X1_88 4 rfl (hT.at 7 a ha) rfl rfl dX1_owe_1 ?_
  refine sw_aload_n 5 rfl rfl rfl dX1_owe_4 ?_
  refine gf_X1_91 8 rfl (hT.at 7 b hb) rfl rfl dX1_owe_5 ?_
  refine sw_dup2 9 rfl rfl rfl dX1_owe_8 ?_
  refine sw_lald 10 rfl (hT.at 8 a ha) (by omega) (Nat.le_of_ble_eq_true rfl) dX1_owe_9 ?_
  rw [tr_lt (by omega)]
  refine sw_lload_n 11 rfl rfl dX1_owe_10 ?_
  refine sw_ladd 12 rfl dX1_owe_11 ?_
  refine sw_last 13 rfl (hT.at 8 a ha) (by omega) (Nat.le_of_ble_eq_true rfl) dX1_owe_12 (fun X hX => ?_)
  replace hT := hT.p12 ha (by omega) hX
  clear hX
  refine sw_aload_n 14 rfl rfl rfl dX1_owe_13 ?_
  refine gf_X1_88 17 rfl (hT.at 7 b hb) rfl rfl dX1_owe_14 ?_
  refine sw_aload_n 18 rfl rfl rfl dX1_owe_17 ?_
  refine gf_X1_91 21 rfl (hT.at 7 a ha) rfl rfl dX1_owe_18 ?_
  refine sw_dup2 22 rfl rfl rfl dX1_owe_21 ?_
  refine sw_lald 23 rfl (hT.at 8 b hb) (by omega) (Nat.le_of_ble_eq_true rfl) dX1_owe_22 ?_
  rw [tr_lt (by omega)]
  refine sw_lload_n 24 rfl rfl dX1_owe_23 ?_
  refine sw_lsub 25 rfl dX1_owe_24 ?_
  refine sw_topL (Int64.sub_eq_add_neg _ _) ?_
  refine sw_last 26 rfl (hT.at 8 b hb) (by omega) (Nat.le_of_ble_eq_true rfl) dX1_owe_25 (fun X hX => ?_)
  replace hT := hT.p12 hb (by omega) hX
  clear hX
  refine sw_vret rfl dX1_owe_26 ?_
  exact ⟨rfl, hT⟩

set_option maxHeartbeats 4000000 in
theorem cl_write (hR : CpR γ ad fe X S) (hw : WF K S) {a b : Nat} (ha : a < S.1 3 0) (hb : b < S.1 3 0) (m : Int64) : Ev γ mX1_write [.ref (ad 7 a), .ref (ad 7 b), .long m] X (fun oc X1 => oc = .inl none ∧ CpF γ ad S X ad fe X1 (pOwe S 13 (12 * a + b) m) 0 0) := by
  have hT := CpF.rf hR
  have hnb := hw.nb
  refine Ev.of (lv := [_, _, _, _]) 0 ⟨by decide +kernel, rfl, (Nat.le_of_ble_eq_true rfl)⟩ rfl ?_
  refine sw_aload_n 1 rfl rfl rfl dX1_write_0 ?_
  refine gf_X1_95 4 rfl (hT.at 7 a ha) rfl rfl dX1_write_1 ?_
  refine sw_aload_n 5 rfl rfl rfl dX1_write_4 ?_
  refine gf_X1_91 8 rfl (hT.at 7 b hb) rfl rfl dX1_write_5 ?_
  refine sw_dup2 9 rfl rfl rfl dX1_write_8 ?_
  refine sw_lald 10 rfl (hT.at 9 a ha) (by omega) (Nat.le_of_ble_eq_true rfl) dX1_write_9 ?_
  rw [tr_lt (by omega)]
  refine sw_lload_n 11 rfl rfl dX1_write_10 ?_
  refine sw_ladd 12 rfl dX1_write_11 ?_
  refine sw_last 13 rfl (hT.at 9 a ha) (by omega) (Nat.le_of_ble_eq_true rfl) dX1_write_12 (fun X hX => ?_)
  replace hT := hT.p13 ha (by omega) hX
  clear hX
  refine sw_vret rfl dX1_write_13 ?_
  exact ⟨rfl, hT⟩

set_option maxHeartbeats 4000000 in
theorem cl_settle (hR : CpR γ ad fe X S) (hw : WF K S) {a b : Nat} (ha : a < S.1 3 0) (hb : b < S.1 3 0) (m : Int64) : Ev γ mX1_settle [.ref (ad 7 a), .ref (ad 7 b), .long m] X (fun oc X1 => oc = .inl none ∧ CpF γ ad S X ad fe X1 (pOweBoth S a b m) 0 0) := by
  have hT := CpF.rf hR
  have hnb := hw.nb
  refine Ev.of (lv := [_, _, _, _]) 0 ⟨by decide +kernel, rfl, (Nat.le_of_ble_eq_true rfl)⟩ rfl ?_
  refine sw_aload_n 1 rfl rfl rfl dX1_settle_0 ?_
  refine sw_aload_n 2 rfl rfl rfl dX1_settle_1 ?_
  refine sw_lload_n 3 rfl rfl dX1_settle_2 ?_
  refine sw_callS 6 [] rfl cs_X1_98 rfl (Nat.le_of_ble_eq_true rfl) rfl (cl_owe hT.1 hw ha hb m) rfl rfl (Nat.le_of_ble_eq_true rfl) dX1_settle_3 (fun v X hq => ?_) (fun E X hq => by obtain ⟨hv, -⟩ := hq; cases hv)
  obtain ⟨hv, hT1⟩ := hq
  cases hv
  replace hT := hT.tr hT1
  clear hT1
  refine sw_aload_n 7 rfl rfl rfl dX1_settle_6 ?_
  refine sw_aload_n 8 rfl rfl rfl dX1_settle_7 ?_
  refine sw_lload_n 9 rfl rfl dX1_settle_8 ?_
  refine sw_callS 12 [] rfl cs_X1_102 rfl (Nat.le_of_ble_eq_true rfl) rfl (cl_write hT.1 (hw.long rfl rfl) ha hb m) rfl rfl (Nat.le_of_ble_eq_true rfl) dX1_settle_9 (fun v X hq => ?_) (fun E X hq => by obtain ⟨hv, -⟩ := hq; cases hv)
  obtain ⟨hv, hT1⟩ := hq
  cases hv
  replace hT := hT.tr hT1
  clear hT1
  refine sw_aload_n 13 rfl rfl rfl dX1_settle_12 ?_
  refine sw_aload_n 14 rfl rfl rfl dX1_settle_13 ?_
  refine sw_lload_n 15 rfl rfl dX1_settle_14 ?_
  refine sw_lneg 16 rfl dX1_settle_15 ?_
  refine sw_callS 19 [] rfl cs_X1_102 rfl (Nat.le_of_ble_eq_true rfl) rfl (cl_write hT.1 (hw.long rfl rfl) hb ha (-m)) rfl rfl (Nat.le_of_ble_eq_true rfl) dX1_settle_16 (fun v X hq => ?_) (fun E X hq => by obtain ⟨hv, -⟩ := hq; cases hv)
  obtain ⟨hv, hT1⟩ := hq
  cases hv
  replace hT := hT.tr hT1
  clear hT1
  refine sw_vret rfl dX1_settle_19 ?_
  exact ⟨rfl, hT⟩

set_option maxHeartbeats 4000000 in
theorem cl_feeOf (hR : CpR γ ad fe X S) (hw : WF K S) {b amt : Nat} (hb : b < S.1 3 0) (ha : amt ≤ 1000000) : Ev γ mX3_feeOf [.ref (ad 7 b), .int (nI amt)] X (fun oc X1 => oc = .inl (some (.int (nI (pFee S b amt)))) ∧ X1 = X) := by
  have hnb := hw.nb
  have hr := hw.rate (show b < 12 by omega)
  refine Ev.of (lv := [_, _]) 0 ⟨by decide +kernel, rfl, (Nat.le_of_ble_eq_true rfl)⟩ rfl ?_
  refine sw_iload_n 1 rfl rfl dX3_feeOf_0 ?_
  refine sw_i2l 2 rfl dX3_feeOf_1 ?_
  refine sw_topL (nI_l (by omega)) ?_
  refine sw_aload_n 3 rfl rfl rfl dX3_feeOf_2 ?_
  refine gf_X3_40 6 rfl (hR.1 7 b hb) rfl rfl dX3_feeOf_3 ?_
  refine sw_i2l 7 rfl dX3_feeOf_6 ?_
  refine sw_topL (nI_l (by omega)) ?_
  refine sw_lmul 8 rfl dX3_feeOf_7 ?_
  refine sw_topL (lN_mul _ _) ?_
  refine sw_ldc2 11 rfl q645 dX3_feeOf_8 ?_
  refine sw_topL (show (1000 : Int64) = lN 1000 from rfl) ?_
  refine sw_ldiv 12 rfl (by decide) dX3_feeOf_11 ?_
  rw [pk_lDiv (Nat.lt_of_le_of_lt (Nat.mul_le_mul ha hr) (Nat.le_of_ble_eq_true rfl)) (by decide) (by decide)]
  refine sw_l2i 13 rfl dX3_feeOf_12 ?_
  refine sw_topI (lN_i _) ?_
  refine sw_iret rfl rfl dX3_feeOf_13 ?_
  exact ⟨rfl, rfl⟩

end C2
