/-! numbers: truth as an int, ints that are small natural numbers -/
noncomputable def b2 (P : Prop) : Int32 := @ite _ P (Classical.propDecidable P) (nI 1) (nI 0)
theorem b2_t {P : Prop} (h : P) : b2 P = nI 1 := if_pos h
theorem b2_f {P : Prop} (h : ¬ P) : b2 P = nI 0 := if_neg h
theorem b2_0 {P : Prop} : b2 P = 0 ↔ ¬ P := by
  by_cases h : P
  · rw [b2_t h]; exact ⟨fun q => absurd q (by decide), fun q => absurd h q⟩
  · rw [b2_f h]; exact ⟨fun _ => h, fun _ => rfl⟩
theorem b2_n {P : Prop} : ¬ b2 P = 0 ↔ P := by rw [b2_0]; exact Classical.not_not
theorem b2_nar {P : Prop} : narrow .boolean (.int (b2 P)) = .int (b2 P) := by
  by_cases h : P
  · rw [b2_t h]; rfl
  · rw [b2_f h]; rfl
theorem b2_fit {P : Prop} : fits .boolean (.int (b2 P)) = true := by
  by_cases h : P
  · rw [b2_t h]; rfl
  · rw [b2_f h]; rfl
theorem b2_c {P Q : Prop} (h : P ↔ Q) : b2 P = b2 Q := by rw [propext h]
theorem b2_or {P : Prop} : b2 P = nI 0 ∨ b2 P = nI 1 := by
  by_cases h : P
  · exact Or.inr (b2_t h)
  · exact Or.inl (b2_f h)
/-- an int that is a natural number below m -/
def isN (x : Int32) (m : Nat) : Prop := ∃ i, i < m ∧ x = nI i
theorem in_isN {x : Int32} {m : Nat} (hm : m < 2 ^ 31) : (nI 0 ≤ x ∧ x ≤ nI m) ↔ isN x (m + 1) := by
  constructor
  · rintro ⟨h1, h2⟩
    have h3 : ¬ x < 0 := by
      intro h
      have a1 : x.toInt < 0 := by simpa [Int32.lt_iff_toInt_lt] using h
      have a2 : (0 : Int) ≤ x.toInt := by
        have := Int32.le_iff_toInt_le.mp h1
        simpa [nI_toInt (Nat.lt_of_le_of_lt (Nat.zero_le _) hm)] using this
      omega
    obtain ⟨j, hj, rfl⟩ := nI_of h3
    exact ⟨j, Nat.lt_succ_of_le ((nI_leI hj hm).mp h2), rfl⟩
  · rintro ⟨i, hi, rfl⟩
    exact ⟨(nI_leI (by omega) (by omega)).mpr (Nat.zero_le _), (nI_leI (by omega) hm).mpr (Nat.le_of_lt_succ hi)⟩
/-- an int that is a natural number from one to m -/
def isR1 (x : Int32) (m : Nat) : Prop := ∃ i, 1 ≤ i ∧ i ≤ m ∧ x = nI i
theorem in_isN1 {x : Int32} {m : Nat} (hm : m < 2 ^ 31) : (nI 1 ≤ x ∧ x ≤ nI m) ↔ isR1 x m := by
  constructor
  · rintro ⟨h1, h2⟩
    have h0 : nI 0 ≤ x := Int32.le_trans ((nI_leI (by omega) (by omega)).mpr (by omega)) h1
    obtain ⟨i, hi, rfl⟩ := (in_isN hm).mp ⟨h0, h2⟩
    exact ⟨i, (nI_leI (by omega) (by omega)).mp h1, by omega, rfl⟩
  · rintro ⟨i, h1, h2, rfl⟩
    exact ⟨(nI_leI (by omega) (by omega)).mpr h1, (nI_leI (by omega) hm).mpr h2⟩
/-- between nought and one less than m, m perhaps nought -/
theorem in_isNp {x : Int32} {m : Nat} (hm : m < 2 ^ 31) : (nI 0 ≤ x ∧ x ≤ nI m - nI 1) ↔ isN x m := by
  cases m with
  | zero =>
    constructor
    · rintro ⟨h1, h2⟩
      have : (nI 0 : Int32) ≤ nI 0 - nI 1 := Int32.le_trans h1 h2
      exact absurd this (by decide)
    · rintro ⟨i, hi, -⟩; omega
  | succ k =>
    rw [pk_sub (by omega : 1 ≤ k + 1), Nat.add_sub_cancel]
    exact in_isN (by omega)
theorem isN_nI {i m : Nat} (hi : i < 2 ^ 31) (hm : m < 2 ^ 31) : isN (nI i) m ↔ i < m := by
  constructor
  · rintro ⟨j, hj, h⟩
    have := (nI_eq hi (by omega)).mp h
    omega
  · exact fun h => ⟨i, h, rfl⟩
theorem nI_0e : (0 : Int32) = nI 0 := rfl
theorem nI_ne {a b : Nat} (ha : a < 2 ^ 31) (hb : b < 2 ^ 31) : nI a ≠ nI b ↔ a ≠ b := by rw [Ne, nI_eq ha hb]
section Tops
variable {γ : Gm} {M : MI} {X0 X : Sh} {pc : Nat} {lv : List (Option Value)} {rest : List Value} {Q : Ot → Sh → Prop}
theorem sw_topI {x y : Int32} (h : x = y) (k : SW γ M X0 X pc lv (.int y :: rest) Q) : SW γ M X0 X pc lv (.int x :: rest) Q := h ▸ k
theorem sw_topL {x y : Int64} (h : x = y) (k : SW γ M X0 X pc lv (.long y :: rest) Q) : SW γ M X0 X pc lv (.long x :: rest) Q := h ▸ k
theorem sw_topR {x y : Option Nat} (h : x = y) (k : SW γ M X0 X pc lv (va_rf y :: rest) Q) : SW γ M X0 X pc lv (va_rf x :: rest) Q := h ▸ k
theorem sw_topA {x : Option Nat} {a : Nat} (h : x = some a) (k : SW γ M X0 X pc lv (.ref a :: rest) Q) : SW γ M X0 X pc lv (va_rf x :: rest) Q := by rw [h]; exact k
end Tops
theorem neg_l {a : Nat} (h : a < 2 ^ 31) : (-(nI a)).toInt64 = -(lN a) := by
  apply Int64.toInt_inj.mp
  have h1 : (nI a).toInt = (a : Int) := nI_toInt h
  have h2 : (lN a).toInt = (a : Int) := lN_toInt h
  rw [Int32.toInt_toInt64, Int32.toInt_neg, Int64.toInt_neg, h1, h2]
  rw [Int.bmod_def, Int.bmod_def]
  omega
theorem bit_nar {x : Int32} (h : x = nI 0 ∨ x = nI 1) : narrow .boolean (.int x) = .int x := by
  rcases h with rfl | rfl <;> rfl
theorem bit_fit {x : Int32} (h : x = nI 0 ∨ x = nI 1) : fits .boolean (.int x) = true := by
  rcases h with rfl | rfl <;> rfl
theorem sh31 : ∀ n, n < 32 → ((nI n &&& 31).toBitVec.smod 32).toNat = n := by decide +kernel
theorem bit_sh {w b : Nat} (hw : w < 2 ^ 31) (hb : b < 32) : (nI w >>> (nI b &&& 31)) &&& nI 1 = nI (w / 2 ^ b % 2) := by
  rw [pk_shrN hw (nI b &&& 31) b (sh31 b hb)]
  have h1 : w / 2 ^ b < 2 ^ 32 := Nat.lt_of_le_of_lt (Nat.div_le_self _ _) (by omega)
  exact pk_andN h1 1 rfl
theorem one_sh {b : Nat} (hb : b < 31) : nI 1 <<< (nI b &&& 31) = nI (2 ^ b) := by
  have h2 : (2 : Nat) ^ b < 2 ^ 32 := Nat.pow_lt_pow_right (by omega) (by omega)
  have := pk_shlN (n := 1) (nI b &&& 31) b (sh31 b (by omega)) (by omega)
  rw [Nat.one_mul] at this
  exact this
theorem nx_or (a b : Nat) : nI a ||| nI b = nI (a ||| b) := by
  apply Int32.toBitVec_inj.mp
  show (nI a).toBitVec ||| (nI b).toBitVec = (nI (a ||| b)).toBitVec
  show BitVec.ofNat 32 a ||| BitVec.ofNat 32 b = BitVec.ofNat 32 (a ||| b)
  exact (BitVec.ofNat_or).symm
