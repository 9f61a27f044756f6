/-! NUMBERS: nI, iI, bI, literals -/
theorem iI_nat (n : Nat) : iI (n : Int) = nI n := rfl
theorem addE {a b c : Nat} (h : a + b = c) : nI a + nI b = nI c := by rw [nI_add, h]
theorem mulE {a b c : Nat} (h : a * b = c) : nI a * nI b = nI c := by rw [pk_mul, h]
theorem subE {a b c : Nat} (h0 : b ≤ a) (h : a - b = c) : nI a - nI b = nI c := by rw [pk_sub h0, h]
theorem decE {a : Nat} (h : 1 ≤ a) : nI a + Int32.ofInt (-1) = nI (a - 1) := sb_m1 (by omega)
theorem nx_and (a b : Nat) : nI a &&& nI b = nI (a &&& b) := by
  apply Int32.toBitVec_inj.mp
  simp [nI, Int32.toBitVec_and, Int32.toBitVec_ofNat, BitVec.ofNat_and]
theorem nx_xor (a b : Nat) : nI a ^^^ nI b = nI (a ^^^ b) := by
  apply Int32.toBitVec_inj.mp
  simp [nI, Int32.toBitVec_xor, Int32.toBitVec_ofNat, BitVec.ofNat_xor]
theorem nx_or (a b : Nat) : nI a ||| nI b = nI (a ||| b) := by
  apply Int32.toBitVec_inj.mp
  simp [nI, Int32.toBitVec_or, Int32.toBitVec_ofNat, BitVec.ofNat_or]
/-- a literal's negation -/
def ng (a : Nat) : Nat := if a % 2 = 0 then a + 1 else a - 1
theorem ng_xor (a : Nat) : a ^^^ 1 = ng a := by
  unfold ng
  apply Nat.eq_of_testBit_eq
  intro i
  rw [Nat.testBit_xor]
  cases i with
  | zero =>
    by_cases h : a % 2 = 0
    · rw [if_pos h]
      simp [Nat.testBit_zero, h]
      omega
    · rw [if_neg h]
      have h1 : a % 2 = 1 := by omega
      simp [Nat.testBit_zero, h1]
      omega
  | succ i =>
    by_cases h : a % 2 = 0
    · rw [if_pos h, Nat.testBit_succ, Nat.testBit_succ, Nat.testBit_succ]
      have : (a + 1) / 2 = a / 2 := by omega
      rw [this]
      simp
    · rw [if_neg h, Nat.testBit_succ, Nat.testBit_succ, Nat.testBit_succ]
      have : (a - 1) / 2 = a / 2 := by omega
      rw [this]
      simp
theorem ngE (a : Nat) : nI a ^^^ nI 1 = nI (ng a) := by rw [nx_xor, ng_xor]
theorem ng_ng (a : Nat) : ng (ng a) = a := by unfold ng; split <;> split <;> omega
theorem ng_ne (a : Nat) : ng a ≠ a := by unfold ng; split <;> omega
theorem ng_half (a : Nat) : ng a / 2 = a / 2 := by unfold ng; split <;> omega
theorem ng_lt {a v : Nat} (h : a < 2 * v) : ng a < 2 * v := by unfold ng; split <;> omega
theorem ng_even (g : Nat) : ng (2 * g) = 2 * g + 1 := by unfold ng; rw [if_pos (by omega)]
theorem ng_odd (g : Nat) : ng (2 * g + 1) = 2 * g := by unfold ng; rw [if_neg (by omega)]; omega
theorem half_eq {a b : Nat} (h : a / 2 = b / 2) : a = b ∨ a = ng b := by unfold ng; split <;> omega
theorem shrE {a k : Nat} (ha : a < 2 ^ 31) (hk : k < 32) : nI a >>> (nI k &&& 31) = nI (a / 2 ^ k) := by
  refine pk_shrN ha _ k ?_
  have : ∀ k : Fin 32, ((nI k.val &&& 31).toBitVec.smod 32).toNat = k.val := by decide
  exact this ⟨k, hk⟩
theorem shlE {a k : Nat} (ha : a * 2 ^ k < 2 ^ 32) (hk : k < 32) : nI a <<< (nI k &&& 31) = nI (a * 2 ^ k) := by
  refine pk_shlN _ k ?_ ha
  have : ∀ k : Fin 32, ((nI k.val &&& 31).toBitVec.smod 32).toNat = k.val := by decide
  exact this ⟨k, hk⟩
theorem n0_eq {a : Nat} (h : a < 2 ^ 31) : nI a = 0 ↔ a = 0 := by rw [← nI_0]; exact nI_eq h (by decide)
theorem n0_ne {a : Nat} (h : a < 2 ^ 31) : nI a = 0 ↔ a = 0 := n0_eq h
theorem n0_lt {a : Nat} (h : a < 2 ^ 31) : nI a < 0 ↔ False := ⟨fun z => nI_pos h z, False.elim⟩
theorem n0_ge {a : Nat} (h : a < 2 ^ 31) : 0 ≤ nI a ↔ True := ⟨fun _ => trivial, fun _ => nI_pos' h⟩
theorem n0_gt {a : Nat} (h : a < 2 ^ 31) : 0 < nI a ↔ 0 < a := by rw [← nI_0]; exact nI_ltI (by decide) h
theorem n0_le {a : Nat} (h : a < 2 ^ 31) : nI a ≤ 0 ↔ a = 0 := by
  rw [← nI_0, nI_leI h (by decide)]
  omega
theorem b0_eq (x : Bool) : bI x = 0 ↔ x = false := by cases x <;> decide
theorem b0_ne (x : Bool) : bI x = 0 ↔ x = false := b0_eq x
theorem bI_nat (x : Bool) : bI x = nI (if x then 1 else 0) := by cases x <;> rfl
theorem bI_true : nI 1 = bI true := rfl
theorem bI_false : nI 0 = bI false := rfl
-- whole numbers within 2^31
theorem iI_toInt {z : Int} (h : -2147483648 ≤ z ∧ z < 2147483648) : (iI z).toInt = z := by
  unfold iI
  rw [Int32.toInt_ofInt]
  have hs : (Int32.size : Int) = 4294967296 := rfl
  simp only [Int.bmod, hs]
  omega
theorem iI_eq {a b : Int} (h : (-2147483648 ≤ a ∧ a < 2147483648) ∧ -2147483648 ≤ b ∧ b < 2147483648) : iI a = iI b ↔ a = b := by
  rw [← Int32.toInt_inj, iI_toInt h.1, iI_toInt h.2]
theorem iI_lt {a b : Int} (h : (-2147483648 ≤ a ∧ a < 2147483648) ∧ -2147483648 ≤ b ∧ b < 2147483648) : iI a < iI b ↔ a < b := by
  rw [Int32.lt_iff_toInt_lt, iI_toInt h.1, iI_toInt h.2]
theorem iI_le {a b : Int} (h : (-2147483648 ≤ a ∧ a < 2147483648) ∧ -2147483648 ≤ b ∧ b < 2147483648) : iI a ≤ iI b ↔ a ≤ b := by
  rw [Int32.le_iff_toInt_le, iI_toInt h.1, iI_toInt h.2]
theorem iI_0 : iI 0 = 0 := rfl
theorem z0_eq {a : Int} (h : -2147483648 ≤ a ∧ a < 2147483648) : iI a = 0 ↔ a = 0 := by rw [← iI_0]; exact iI_eq ⟨h, by decide⟩
theorem z0_ne {a : Int} (h : -2147483648 ≤ a ∧ a < 2147483648) : iI a = 0 ↔ a = 0 := z0_eq h
theorem z0_lt {a : Int} (h : -2147483648 ≤ a ∧ a < 2147483648) : iI a < 0 ↔ a < 0 := by rw [← iI_0]; exact iI_lt ⟨h, by decide⟩
theorem z0_ge {a : Int} (h : -2147483648 ≤ a ∧ a < 2147483648) : 0 ≤ iI a ↔ 0 ≤ a := by rw [← iI_0]; exact iI_le ⟨by decide, h⟩
theorem z0_gt {a : Int} (h : -2147483648 ≤ a ∧ a < 2147483648) : 0 < iI a ↔ 0 < a := by rw [← iI_0]; exact iI_lt ⟨by decide, h⟩
theorem z0_le {a : Int} (h : -2147483648 ≤ a ∧ a < 2147483648) : iI a ≤ 0 ↔ a ≤ 0 := by rw [← iI_0]; exact iI_le ⟨h, by decide⟩
theorem iI_add (a b : Int) : iI a + iI b = iI (a + b) := (Int32.ofInt_add a b).symm
theorem iI_sub (a b : Int) : iI a - iI b = iI (a - b) := (Int32.ofInt_sub a b).symm
theorem zziadd {a b c : Int} (h : a + b = c) : iI a + iI b = iI c := by rw [iI_add, h]
theorem zzisub {a b c : Int} (h : a - b = c) : iI a - iI b = iI c := by rw [iI_sub, h]
theorem zniadd {a c : Int} {b : Nat} (h : a + b = c) : iI a + nI b = iI c := by rw [← iI_nat, iI_add, h]
theorem nziadd {b c : Int} {a : Nat} (h : a + b = c) : nI a + iI b = iI c := by rw [← iI_nat, iI_add, h]
theorem znisub {a c : Int} {b : Nat} (h : a - b = c) : iI a - nI b = iI c := by rw [← iI_nat, iI_sub, h]
theorem nzisub {b c : Int} {a : Nat} (h : a - b = c) : nI a - iI b = iI c := by rw [← iI_nat, iI_sub, h]
theorem zniaddN {a : Int} {b c : Nat} (h : a + b = c) : iI a + nI b = nI c := by rw [← iI_nat, iI_add, h, iI_nat]
theorem znisubN {a : Int} {b c : Nat} (h : a - b = c) : iI a - nI b = nI c := by rw [← iI_nat, iI_sub, h, iI_nat]
theorem zn_eq {a : Int} {b : Nat} (h : (-2147483648 ≤ a ∧ a < 2147483648) ∧ b < 2147483648) : iI a = nI b ↔ a = b := by rw [← iI_nat]; exact iI_eq ⟨h.1, by omega⟩
theorem zn_ne {a : Int} {b : Nat} (h : (-2147483648 ≤ a ∧ a < 2147483648) ∧ b < 2147483648) : iI a = nI b ↔ a = b := zn_eq h
theorem nz_eq {b : Int} {a : Nat} (h : (-2147483648 ≤ b ∧ b < 2147483648) ∧ a < 2147483648) : nI a = iI b ↔ (a : Int) = b := by rw [← iI_nat]; exact iI_eq ⟨by omega, h.1⟩
theorem zn_lt {a : Int} {b : Nat} (h : (-2147483648 ≤ a ∧ a < 2147483648) ∧ b < 2147483648) : iI a < nI b ↔ a < b := by rw [← iI_nat]; exact iI_lt ⟨h.1, by omega⟩
theorem zn_ge {a : Int} {b : Nat} (h : (-2147483648 ≤ a ∧ a < 2147483648) ∧ b < 2147483648) : nI b ≤ iI a ↔ (b : Int) ≤ a := by rw [← iI_nat]; exact iI_le ⟨by omega, h.1⟩
theorem zz_eq {a b : Int} (h : (-2147483648 ≤ a ∧ a < 2147483648) ∧ -2147483648 ≤ b ∧ b < 2147483648) : iI a = iI b ↔ a = b := iI_eq h
theorem zz_ne {a b : Int} (h : (-2147483648 ≤ a ∧ a < 2147483648) ∧ -2147483648 ≤ b ∧ b < 2147483648) : iI a = iI b ↔ a = b := iI_eq h
theorem zz_lt {a b : Int} (h : (-2147483648 ≤ a ∧ a < 2147483648) ∧ -2147483648 ≤ b ∧ b < 2147483648) : iI a < iI b ↔ a < b := iI_lt h
theorem zz_ge {a b : Int} (h : (-2147483648 ≤ a ∧ a < 2147483648) ∧ -2147483648 ≤ b ∧ b < 2147483648) : iI b ≤ iI a ↔ b ≤ a := iI_le ⟨h.2, h.1⟩
-- arrays
theorem up_s {α : Type} {f : Nat → α} {k : Nat} {x : α} : va_up f k x k = x := by simp [va_up]
theorem up_n {α : Type} {f : Nat → α} {k j : Nat} {x : α} (h : j ≠ k) : va_up f k x j = f j := by simp [va_up, h]
theorem cpy_in {α : Type} {f g : Nat → α} {n j : Nat} (h : j < n) : va_cpy f g 0 0 n j = f j := by simp [va_cpy, h]
theorem cpy_out {α : Type} {f g : Nat → α} {n j : Nat} (h : n ≤ j) : va_cpy f g 0 0 n j = g j := by
  simp only [va_cpy]
  rw [if_neg (by omega)]
