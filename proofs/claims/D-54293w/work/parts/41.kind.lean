/-! ===== the model's kinds are the class's: names as numbers to the base 32, wrapped at 2^64 ===== -/
set_option maxRecDepth 100000
def nN (m : Nat → Nat) : Nat → Nat
  | 0 => 0
  | n + 1 => 32 * nN m n + m n % 32
theorem nN_lt (m : Nat → Nat) : ∀ n, nN m n < 32 ^ n
  | 0 => by simp [nN]
  | n + 1 => by
    have := nN_lt m n
    have h2 : m n % 32 < 32 := Nat.mod_lt _ (by omega)
    rw [nN, Nat.pow_succ]
    omega
theorem nN_add (m : Nat → Nat) (a : Nat) : ∀ b, nN m (a + b) = nN m a * 32 ^ b + nN (fun k => m (a + k)) b
  | 0 => by simp [nN]
  | b + 1 => by
    have ih := nN_add m a b
    show 32 * nN m (a + b) + m (a + b) % 32 = nN m a * 32 ^ (b + 1) + (32 * nN (fun k => m (a + k)) b + m (a + b) % 32)
    rw [ih, Nat.pow_succ, Nat.mul_add, ← Nat.mul_assoc (nN m a), Nat.mul_comm (nN m a * 32 ^ b) 32]
    omega
theorem nsum_nN {c : Nat → Int32} {m : Nat → Nat} : ∀ {n : Nat}, (∀ k, k < n → c k = nI (m k) ∧ m k < 128) → nsum c n = lN (nN m n)
  | 0, _ => rfl
  | n + 1, h => by
    obtain ⟨h1, h2⟩ := h n (by omega)
    rw [nsum, nN, nsum_nN (fun k hk => h k (by omega)), h1]
    have e : nI (m n) - nI (m n) / 32 * 32 = nI (m n % 32) := pk_rem (a := m n) (d := 32) (by omega) (by omega) (by omega)
    rw [e, nI_l (by omega)]
    have e2 : (32 : Int64) * lN (nN m n) = lN (32 * nN m n) := lN_mul 32 _
    rw [e2, lN_add]
theorem lN_mod {x y : Nat} (h : lN x = lN y) : x % 2 ^ 64 = y % 2 ^ 64 := by
  have h1 : (lN x).toBitVec = (lN y).toBitVec := by rw [h]
  have h2 : BitVec.ofNat 64 x = BitVec.ofNat 64 y := h1
  have h3 := congrArg BitVec.toNat h2
  simpa using h3
/-- letters of a name, and that it is one -/
def okM (m : Nat → Nat) (n : Nat) : Prop := ∀ k, k < n → (65 ≤ m k ∧ m k ≤ 90) ∨ (m k = 32 ∧ 0 < k ∧ m (k - 1) ≠ 32)
theorem nN_hit {m : Nat → Nat} {n t K : Nat} (hm : okM m n) (ht : t ≤ 7) (ht1 : 0 < t) (hK : K < 32 ^ t) (hK2 : 32 ^ (t - 1) ≤ K) (h : nN m n % 2 ^ 64 = K) : n = t ∧ nN m n = K := by
  have z0 : ∀ k, k < n → m k % 32 = 0 → m k = 32 ∧ 0 < k ∧ m (k - 1) ≠ 32 := by
    intro k hk hz
    rcases hm k hk with ⟨a, b⟩ | h3
    · omega
    · exact h3
  have p7 : 32 ^ t ≤ 32 ^ 7 := Nat.pow_le_pow_right (by omega) ht
  rcases Nat.lt_or_ge n (t + 2) with hn | hn
  · have hsm : nN m n < 2 ^ 64 := by
      have h1 := nN_lt m n
      have h2 : 32 ^ n ≤ 32 ^ 8 := Nat.pow_le_pow_right (by omega) (by omega)
      omega
    rw [Nat.mod_eq_of_lt hsm] at h
    rcases Nat.lt_trichotomy n t with h1 | h1 | h1
    · have h2 := nN_lt m n
      have h3 : 32 ^ n ≤ 32 ^ (t - 1) := Nat.pow_le_pow_right (by omega) (by omega)
      omega
    · exact ⟨h1, h⟩
    · have e : n = 1 + t := by omega
      rw [e, nN_add] at h
      have e2 : nN m 1 = m 0 % 32 := by simp [nN]
      rw [e2] at h
      have h3 : m 0 % 32 = 0 := by
        rcases Nat.eq_zero_or_pos (m 0 % 32) with z | z
        · exact z
        · have : 1 * 32 ^ t ≤ m 0 % 32 * 32 ^ t := Nat.mul_le_mul_right _ z
          omega
      have := (z0 0 (by omega) h3).2.1
      omega
  · have hd : 32 ^ (t + 2) ∣ 2 ^ 64 := by
      have e : (2 : Nat) ^ 64 = 32 ^ (t + 2) * 2 ^ (64 - 5 * (t + 2)) := by
        rw [show (32 : Nat) = 2 ^ 5 from rfl, ← Nat.pow_mul, ← Nat.pow_add]
        congr 1; omega
      exact ⟨_, e⟩
    have h1 : nN m n % 32 ^ (t + 2) = K := by
      have h2 : nN m n % 2 ^ 64 % 32 ^ (t + 2) = nN m n % 32 ^ (t + 2) := Nat.mod_mod_of_dvd _ hd
      rw [← h2, h, Nat.mod_eq_of_lt]
      have : 32 ^ t ≤ 32 ^ (t + 2) := Nat.pow_le_pow_right (by omega) (by omega)
      omega
    have e : n = (n - (t + 2)) + (t + 2) := by omega
    rw [e, nN_add, Nat.mul_comm, Nat.mul_add_mod, Nat.mod_eq_of_lt (nN_lt _ _)] at h1
    rw [show t + 2 = 2 + t by omega, nN_add] at h1
    have e2 : nN (fun k => m (n - (2 + t) + k)) 2 = 32 * (m (n - (2 + t)) % 32) + m (n - (2 + t) + 1) % 32 := by simp [nN]
    rw [e2] at h1
    have h3 : 32 * (m (n - (2 + t)) % 32) + m (n - (2 + t) + 1) % 32 = 0 := by
      rcases Nat.eq_zero_or_pos (32 * (m (n - (2 + t)) % 32) + m (n - (2 + t) + 1) % 32) with z | z
      · exact z
      · have : 1 * 32 ^ t ≤ (32 * (m (n - (2 + t)) % 32) + m (n - (2 + t) + 1) % 32) * 32 ^ t := Nat.mul_le_mul_right _ z
        omega
    have a1 := z0 (n - (2 + t)) (by omega) (by omega)
    have a2 := z0 (n - (2 + t) + 1) (by omega) (by omega)
    exact absurd a1.1 a2.2.2
theorem okName_okM {ls : List Int32} (h : okName ls) : okM (fun k => (ls.getD k 0).toNatClampNeg) ls.length ∧ ∀ k, k < ls.length → ls.getD k 0 = nI ((ls.getD k 0).toNatClampNeg) ∧ (ls.getD k 0).toNatClampNeg < 128 := by
  have hb : ∀ k, k < ls.length → badk (fun k => ls.getD k 0) ls.length k = false := by
    intro k hk
    unfold okName brk at h
    rw [if_neg (by omega), List.find?_eq_none] at h
    simpa using h k (List.mem_range.mpr hk)
  have key : ∀ k, k < ls.length → (∃ j, 65 ≤ j ∧ j ≤ 90 ∧ ls.getD k 0 = nI j) ∨ (ls.getD k 0 = 32 ∧ 0 < k ∧ ls.getD (k - 1) 0 ≠ 32) := by
    intro k hk
    have h1 := hb k hk
    unfold badk okb at h1
    simp only [Bool.or_eq_false_iff, Bool.not_eq_false', Bool.or_eq_true, Bool.and_eq_true, decide_eq_true_eq] at h1
    rcases h1.2 with ⟨a, b⟩ | ⟨a, b, c, d⟩
    · left
      obtain ⟨j, hj, e⟩ := nI_of (x := ls.getD k 0) (fun z => absurd a (Int32.not_le.mpr (Int32.lt_trans z (by decide))))
      rw [e] at a b
      exact ⟨j, (nI_leI (a := 65) (by omega) hj).mp a, (nI_leI (b := 90) hj (by omega)).mp b, e⟩
    · exact Or.inr ⟨a, b, d⟩
  refine ⟨fun k hk => ?_, fun k hk => ?_⟩
  · rcases key k hk with ⟨j, a, b, e⟩ | ⟨a, b, c⟩
    · left; dsimp only; rw [e, nI_clamp (by omega)]; exact ⟨a, b⟩
    · right
      refine ⟨by dsimp only; rw [a]; rfl, b, fun z => c ?_⟩
      dsimp only at z
      rcases key (k - 1) (by omega) with ⟨j, a', b', e⟩ | ⟨a', -, -⟩
      · rw [e, nI_clamp (by omega)] at z; omega
      · exact a'
  · rcases key k hk with ⟨j, a, b, e⟩ | ⟨a, b, c⟩
    · rw [e, nI_clamp (by omega)]; exact ⟨rfl, by omega⟩
    · rw [a]; exact ⟨rfl, by decide⟩
theorem list_eq {l m : List Int32} (hl : l.length = m.length) (h : ∀ k, k < m.length → l.getD k 0 = m.getD k 0) : l = m := by
  apply List.ext_getElem hl
  intro i h1 h2
  have := h i h2
  rw [List.getD_eq_getElem?_getD, List.getD_eq_getElem?_getD, List.getElem?_eq_getElem h1, List.getElem?_eq_getElem h2] at this
  simpa using this
theorem nsum_iff {ls tg : List Int32} {K : Nat} (h : okName ls) (ht : tg.length ≤ 7) (ht1 : 0 < tg.length) (hK : K < 32 ^ tg.length) (hK2 : 32 ^ (tg.length - 1) ≤ K) (hk : nsum (fun k => tg.getD k 0) tg.length = lN K)
    (hd : ∀ m : Nat → Nat, nN m tg.length = K → ∀ k, k < tg.length → ((65 ≤ m k ∧ m k ≤ 90) ∨ m k = 32) → nI (m k) = tg.getD k 0) : nsum (fun k => ls.getD k 0) ls.length = lN K ↔ ls = tg := by
  constructor
  · intro e
    obtain ⟨h1, h2⟩ := okName_okM h
    rw [nsum_nN (m := fun k => (ls.getD k 0).toNatClampNeg) h2] at e
    have h3 := lN_mod e
    have hK64 : K < 2 ^ 64 := by
      have : 32 ^ tg.length ≤ 32 ^ 7 := Nat.pow_le_pow_right (by omega) ht
      omega
    rw [Nat.mod_eq_of_lt hK64] at h3
    obtain ⟨a, b⟩ := nN_hit h1 ht ht1 hK hK2 h3
    refine list_eq a (fun k hk' => ?_)
    rw [a] at b
    have h4 := hd _ b k hk' (by rcases h1 k (by omega) with z | z; exact Or.inl z; exact Or.inr z.1)
    rw [← h4]
    exact (h2 k (by omega)).1
  · intro e
    rw [e]; exact hk
theorem kindF_V {ls : List Int32} (h : okName ls) : kindF (fun k => ls.getD k 0) ls.length = kindV ls := by
  have d5 : ∀ (m : Nat → Nat), nN m 5 = 32 * (32 * (32 * (32 * (m 0 % 32) + m 1 % 32) + m 2 % 32) + m 3 % 32) + m 4 % 32 := fun m => by simp [nN]
  have d7 : ∀ (m : Nat → Nat), nN m 7 = 32 * (32 * (32 * (32 * (32 * (32 * (m 0 % 32) + m 1 % 32) + m 2 % 32) + m 3 % 32) + m 4 % 32) + m 5 % 32) + m 6 % 32 := fun m => by simp [nN]
  have i1 := nsum_iff (tg := DEPOT) (K := 4375028) h (by decide) (by decide) (by decide) (by decide) (by decide) (by
    intro m e k hk hr
    have e : nN m 5 = 4375028 := e
    rw [d5] at e
    have hk : k < 5 := hk
    have g : ∀ j, nI (m k) = nI j ↔ m k = j ∨ nI (m k) = nI j := fun j => ⟨Or.inr, fun z => z.elim (fun z => by rw [z]) id⟩
    rcases (show k = 0 ∨ k = 1 ∨ k = 2 ∨ k = 3 ∨ k = 4 by omega) with rfl | rfl | rfl | rfl | rfl
    · rw [show m 0 = 68 by omega]; rfl
    · rw [show m 1 = 69 by omega]; rfl
    · rw [show m 2 = 80 by omega]; rfl
    · rw [show m 3 = 79 by omega]; rfl
    · rw [show m 4 = 84 by omega]; rfl)
  have i2 := nsum_iff (tg := SORRY) (K := 20433497) h (by decide) (by decide) (by decide) (by decide) (by decide) (by
    intro m e k hk hr
    have e : nN m 5 = 20433497 := e
    rw [d5] at e
    have hk : k < 5 := hk
    rcases (show k = 0 ∨ k = 1 ∨ k = 2 ∨ k = 3 ∨ k = 4 by omega) with rfl | rfl | rfl | rfl | rfl
    · rw [show m 0 = 83 by omega]; rfl
    · rw [show m 1 = 79 by omega]; rfl
    · rw [show m 2 = 82 by omega]; rfl
    · rw [show m 3 = 82 by omega]; rfl
    · rw [show m 4 = 89 by omega]; rfl)
  have i3 := nsum_iff (tg := PRIVATE) (K := 17794008709) h (by decide) (by decide) (by decide) (by decide) (by decide) (by
    intro m e k hk hr
    have e : nN m 7 = 17794008709 := e
    rw [d7] at e
    have hk : k < 7 := hk
    rcases (show k = 0 ∨ k = 1 ∨ k = 2 ∨ k = 3 ∨ k = 4 ∨ k = 5 ∨ k = 6 by omega) with rfl | rfl | rfl | rfl | rfl | rfl | rfl
    · rw [show m 0 = 80 by omega]; rfl
    · rw [show m 1 = 82 by omega]; rfl
    · rw [show m 2 = 73 by omega]; rfl
    · rw [show m 3 = 86 by omega]; rfl
    · rw [show m 4 = 65 by omega]; rfl
    · rw [show m 5 = 84 by omega]; rfl
    · rw [show m 6 = 69 by omega]; rfl)
  unfold kindF kindV
  simp only [show (4375028 : Int64) = lN 4375028 from rfl, show (20433497 : Int64) = lN 20433497 from rfl, show (17794008709 : Int64) = lN 17794008709 from rfl, i1, i2, i3]
