/-! ===== bits of small numbers ===== -/
set_option maxRecDepth 100000
theorem nI_and (a b : Nat) : nI a &&& nI b = nI (a &&& b) := by
  apply Int32.toBitVec_inj.1
  show BitVec.ofNat 32 a &&& BitVec.ofNat 32 b = BitVec.ofNat 32 (a &&& b)
  apply BitVec.eq_of_getLsbD_eq
  intro i hi
  simp [BitVec.getLsbD_ofNat, hi]
theorem nI_or (a b : Nat) : nI a ||| nI b = nI (a ||| b) := by
  apply Int32.toBitVec_inj.1
  show BitVec.ofNat 32 a ||| BitVec.ofNat 32 b = BitVec.ofNat 32 (a ||| b)
  apply BitVec.eq_of_getLsbD_eq
  intro i hi
  simp [BitVec.getLsbD_ofNat, hi]
theorem nI_xor (a b : Nat) : nI a ^^^ nI b = nI (a ^^^ b) := by
  apply Int32.toBitVec_inj.1
  show BitVec.ofNat 32 a ^^^ BitVec.ofNat 32 b = BitVec.ofNat 32 (a ^^^ b)
  apply BitVec.eq_of_getLsbD_eq
  intro i hi
  simp [BitVec.getLsbD_ofNat, hi]
theorem nI_shl1 {k : Nat} (hk : k < 32) : (1 : Int32) <<< (nI k &&& 31) = nI (2 ^ k) := by
  have h : 1 * 2 ^ k < 2 ^ 32 := by rw [Nat.one_mul]; exact Nat.pow_lt_pow_right (by omega) hk
  have := pk_shlN (n := 1) (nI k &&& 31) k (sl32 k hk) h
  rw [Nat.one_mul] at this
  exact this
theorem cntB_low (x : Nat) : ∀ n, cntB x (n + 1) = x % 2 + cntB (x / 2) n
  | 0 => by
    simp only [cntB, Nat.testBit_zero]
    rcases Nat.mod_two_eq_zero_or_one x with z | z <;> simp [z]
  | n + 1 => by
    rw [cntB, cntB_low x n, cntB, Nat.testBit_succ]
    omega
theorem cntB_0 : ∀ n, cntB 0 n = 0
  | 0 => rfl
  | n + 1 => by rw [cntB, cntB_0 n]; simp
theorem and_pred_odd (m : Nat) : (2 * m + 1) &&& (2 * m) = 2 * m := by
  apply Nat.eq_of_testBit_eq
  intro i
  rw [Nat.testBit_and]
  cases i with
  | zero => simp
  | succ i => rw [Nat.testBit_succ, Nat.testBit_succ, show (2 * m + 1) / 2 = m by omega, show 2 * m / 2 = m by omega, Bool.and_self]
theorem and_pred_even (m : Nat) (h : 0 < m) : (2 * m) &&& (2 * m - 1) = 2 * (m &&& (m - 1)) := by
  apply Nat.eq_of_testBit_eq
  intro i
  rw [Nat.testBit_and]
  cases i with
  | zero => simp
  | succ i => rw [Nat.testBit_succ, Nat.testBit_succ, Nat.testBit_succ, show (2 * m - 1) / 2 = m - 1 by omega, show 2 * m / 2 = m by omega, show 2 * (m &&& (m - 1)) / 2 = m &&& (m - 1) by omega, Nat.testBit_and]
theorem cntB_clear : ∀ (n y : Nat), 0 < y → y < 2 ^ n → cntB (y &&& (y - 1)) n + 1 = cntB y n
  | 0, y, h, h2 => by simp at h2; omega
  | n + 1, y, h, h2 => by
    rw [Nat.pow_succ] at h2
    rcases Nat.mod_two_eq_zero_or_one y with z | z
    · obtain ⟨m, rfl⟩ : ∃ m, y = 2 * m := ⟨y / 2, by omega⟩
      have ih := cntB_clear n m (by omega) (by omega)
      rw [and_pred_even m (by omega), cntB_low, cntB_low, show 2 * (m &&& (m - 1)) / 2 = m &&& (m - 1) by omega, show 2 * m / 2 = m by omega]
      omega
    · obtain ⟨m, rfl⟩ : ∃ m, y = 2 * m + 1 := ⟨y / 2, by omega⟩
      rw [show 2 * m + 1 - 1 = 2 * m by omega, and_pred_odd m, cntB_low, cntB_low, show 2 * m / 2 = m by omega, show (2 * m + 1) / 2 = m by omega]
      omega
theorem cntB_le (x : Nat) : ∀ n, cntB x n ≤ n
  | 0 => Nat.le_refl _
  | n + 1 => by
    rw [cntB]
    have := cntB_le x n
    split <;> omega
