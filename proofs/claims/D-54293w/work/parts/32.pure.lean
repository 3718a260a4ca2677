/-! ===== the mathematical value, and plain laws of texts ===== -/
set_option maxRecDepth 100000
/-- a row: letters, wear, torn (0 or 1) -/
abbrev RowV : Type := List Int32 × Int32 × Int32
/-- a route: its rows as bits, stops, right ones -/
abbrev RtV : Type := Nat × Int32 × Int32
/-- a blind: rows, routes, numbers (0 wide, 1 strong, 2 sight, 3 shown, 4 on, 5 tears, 6 passed, 7 stops, 8 right) -/
abbrev BV : Type := List RowV × List RtV × (Nat → Int32)
/-- all: the blind, the history (oldest first), the text -/
abbrev AV : Type := BV × List BV × List Int32
def rowV (b : BV) (i : Nat) : RowV := b.1.getD i ([], 0, 0)
def rtV (b : BV) (i : Nat) : RtV := b.2.1.getD i (0, 0, 0)
/-- n letters -/
def lets (c : Nat → Int32) (n : Nat) : List Int32 := (List.range n).map c
theorem lets_len (c : Nat → Int32) (n : Nat) : (lets c n).length = n := by simp [lets]
theorem lets_getD (c : Nat → Int32) {n k : Nat} (h : k < n) : (lets c n).getD k 0 = c k := by
  simp [lets, List.getD_eq_getElem?_getD, List.getElem?_map, List.getElem?_range h]
theorem lets_of (l : List Int32) : lets (fun k => l.getD k 0) l.length = l := by
  apply List.ext_getElem
  · simp [lets]
  · intro i h1 h2
    simp [lets, List.getD_eq_getElem?_getD, h2]
theorem lets_congr {c d : Nat → Int32} {n : Nat} (h : ∀ k, k < n → c k = d k) : lets c n = lets d n := by
  unfold lets
  apply List.map_congr_left
  intro k hk
  exact h k (List.mem_range.mp hk)
theorem wsum_congr {c d : Nat → Int32} : ∀ {n : Nat}, (∀ k, k < n → c k = d k) → wsum c n = wsum d n
  | 0, _ => rfl
  | n + 1, h => by rw [wsum, wsum, wsum_congr (fun k hk => h k (by omega)), h n (by omega)]
theorem nsum_congr {c d : Nat → Int32} : ∀ {n : Nat}, (∀ k, k < n → c k = d k) → nsum c n = nsum d n
  | 0, _ => rfl
  | n + 1, h => by rw [nsum, nsum, nsum_congr (fun k hk => h k (by omega)), h n (by omega)]
/-- whether a letter may stand at k in a name of n -/
def okb (c : Nat → Int32) (n k : Nat) : Bool := (decide (65 ≤ c k) && decide (c k ≤ 90)) || (decide (c k = 32) && (decide (0 < k) && (decide (k + 1 < n) && decide (c (k - 1) ≠ 32))))
def badk (c : Nat → Int32) (n k : Nat) : Bool := decide (k = 14) || !okb c n k
/-- where a name of n letters breaks off -/
def brk (c : Nat → Int32) (n : Nat) : Option Nat := if n = 0 then some 0 else (List.range n).find? (badk c n)
theorem range_find {p : Nat → Bool} {n k : Nat} (hk : k < n) (hp : p k = true) (hj : ∀ j, j < k → p j = false) : (List.range n).find? p = some k := by
  rw [List.find?_eq_some_iff_append]
  refine ⟨hp, List.range k, (List.range (n - k - 1)).map (fun i => k + 1 + i), ?_, ?_⟩
  · have e : n = k + (1 + (n - k - 1)) := by omega
    rw [e, List.range_add]
    congr 1
    rw [List.range_add]
    simp [List.range_succ]
    intro a ha
    omega
  · intro a ha
    simp [hj a (List.mem_range.mp ha)]
theorem range_find_none {p : Nat → Bool} {n : Nat} (hj : ∀ j, j < n → p j = false) : (List.range n).find? p = none := by
  rw [List.find?_eq_none]
  intro a ha
  simp [hj a (List.mem_range.mp ha)]
theorem brk_0 (c : Nat → Int32) : brk c 0 = some 0 := rfl
theorem brk_some {c : Nat → Int32} {n k : Nat} (hk : k < n) (hp : badk c n k = true) (hj : ∀ j, j < k → badk c n j = false) : brk c n = some k := by
  unfold brk
  rw [if_neg (by omega)]
  exact range_find hk hp hj
theorem brk_none {c : Nat → Int32} {n : Nat} (hn : 0 < n) (hj : ∀ j, j < n → badk c n j = false) : brk c n = none := by
  unfold brk
  rw [if_neg (by omega)]
  exact range_find_none hj
/-- what the model asks of a letter as it goes -/
def mst (c : Nat → Int32) (k : Nat) : Prop := k < 14 ∧ ((65 ≤ c k ∧ c k ≤ 90) ∨ (c k = 32 ∧ 0 < k ∧ c (k - 1) ≠ 32))
theorem mst_ok {c : Nat → Int32} {n k : Nat} (h : mst c k) (hn : k + 1 < n) : badk c n k = false := by
  obtain ⟨h1, h2⟩ := h
  unfold badk okb
  have : ¬ k = 14 := by omega
  rcases h2 with ⟨a, b⟩ | ⟨a, b, d⟩
  · simp [this, a, b]
  · simp [this, a, b, d, hn]
theorem mst_let {c : Nat → Int32} {n k : Nat} (h : mst c k) (hn : c k ≠ 32) : badk c n k = false := by
  obtain ⟨h1, h2⟩ := h
  unfold badk okb
  have : ¬ k = 14 := by omega
  rcases h2 with ⟨a, b⟩ | ⟨a, b, d⟩
  · simp [this, a, b]
  · exact absurd a hn
theorem brk_L1 {c : Nat → Int32} {n k : Nat} (hj : ∀ j, j < k → mst c j) (hk : ¬ mst c k) (hn : k < n) : brk c n = some k := by
  refine brk_some hn ?_ (fun j h => mst_ok (hj j h) (by omega))
  unfold badk okb
  by_cases h14 : k = 14
  · simp [h14]
  · have hlt : k < 14 := by
      rcases Nat.lt_or_ge k 14 with z | z
      · exact z
      · have h13 := hj 13 (by omega)
        have : 14 < k := by omega
        exact absurd (hj 14 this).1 (by omega)
    have h2 : ¬ ((65 ≤ c k ∧ c k ≤ 90) ∨ (c k = 32 ∧ 0 < k ∧ c (k - 1) ≠ 32)) := fun z => hk ⟨hlt, z⟩
    have h3 : ¬ (65 ≤ c k ∧ c k ≤ 90) := fun z => h2 (Or.inl z)
    have h4 : ¬ (c k = 32 ∧ 0 < k ∧ c (k - 1) ≠ 32) := fun z => h2 (Or.inr z)
    have e1 : (decide (65 ≤ c k) && decide (c k ≤ 90)) = false := by
      rw [← Bool.not_eq_true, Bool.and_eq_true, decide_eq_true_eq, decide_eq_true_eq]; exact h3
    have e2 : (decide (c k = 32) && (decide (0 < k) && (decide (k + 1 < n) && decide (c (k - 1) ≠ 32)))) = false := by
      rw [← Bool.not_eq_true]
      simp only [Bool.and_eq_true, decide_eq_true_eq]
      exact fun z => h4 ⟨z.1, z.2.1, z.2.2.2⟩
    rw [e1, e2]; simp
theorem brk_L3 {c : Nat → Int32} {n : Nat} (hn : 0 < n) (hj : ∀ j, j < n → mst c j) (h32 : c (n - 1) = 32) : brk c n = some (n - 1) := by
  refine brk_some (by omega) ?_ (fun j h => mst_ok (hj j (by omega)) (by omega))
  unfold badk okb
  have : ¬ (n - 1 + 1 < n) := by omega
  rw [h32]
  simp [this]
theorem brk_L4 {c : Nat → Int32} {n : Nat} (hn : 0 < n) (hj : ∀ j, j < n → mst c j) (h32 : c (n - 1) ≠ 32) : brk c n = none := by
  refine brk_none hn (fun j h => ?_)
  by_cases e : j + 1 < n
  · exact mst_ok (hj j h) e
  · have : j = n - 1 := by omega
    subst this
    exact mst_let (hj _ h) h32
/-- where the name that begins at i ends, in a text of t letters -/
def send (tx : Nat → Int32) (t i : Nat) : Nat := i + ((List.range (t - i)).find? (fun k => decide (tx (i + k) = 47))).getD (t - i)
theorem send_eq {tx : Nat → Int32} {t i e : Nat} (h1 : i ≤ e) (h2 : e ≤ t) (h3 : e = t ∨ tx e = 47) (h4 : ∀ k, i ≤ k → k < e → tx k ≠ 47) : send tx t i = e := by
  unfold send
  rcases Nat.lt_or_ge e t with h | h
  · have h5 : tx e = 47 := h3.resolve_left (by omega)
    rw [range_find (k := e - i) (by omega) (by simp only [decide_eq_true_eq]; rw [show i + (e - i) = e by omega]; exact h5) (fun j hj => by simp only [decide_eq_false_iff_not]; exact h4 (i + j) (by omega) (by omega))]
    simp; omega
  · rw [range_find_none (fun j hj => by simp only [decide_eq_false_iff_not]; exact h4 (i + j) (by omega) (by omega))]
    simp; omega
theorem send_lo (tx : Nat → Int32) (t i : Nat) : i ≤ send tx t i := by unfold send; omega
theorem send_hi {tx : Nat → Int32} {t i : Nat} (h : i ≤ t) : send tx t i ≤ t := by
  unfold send
  cases hf : (List.range (t - i)).find? (fun k => decide (tx (i + k) = 47)) with
  | none => simp; omega
  | some k =>
    have := List.mem_range.mp (List.mem_of_find?_eq_some hf)
    simp; omega
theorem send_gt {tx : Nat → Int32} {t i k : Nat} (h1 : i ≤ k) (h2 : k < t) (h4 : ∀ j, i ≤ j → j ≤ k → tx j ≠ 47) : k < send tx t i := by
  unfold send
  cases hf : (List.range (t - i)).find? (fun k => decide (tx (i + k) = 47)) with
  | none => simp; omega
  | some j =>
    have h5 := List.find?_some hf
    simp only [decide_eq_true_eq] at h5
    rcases Nat.lt_or_ge k (i + j) with z | z
    · simp; omega
    · exact absurd h5 (h4 (i + j) (by omega) z)
/-- why a name of n letters can't be added -/
def faultR (c : Nat → Int32) (n : Nat) (wide : Int32) (rows : Nat) : Option (Int32 × Int32) := match brk c n with
  | some k => some (1, nI k)
  | none => if 150 < sqz (wsum c n) wide then some (2, sqz (wsum c n) wide) else if rows = 20 then some (3, nI n) else none
def addRow (b : BV) (ls : List Int32) : BV := (b.1 ++ [(ls, 0, 0)], b.2.1, b.2.2)
/-- the names of a text of t letters from i on, one behind another: the blind and how many, or where it fails, why and by what -/
def addAll (tx : Nat → Int32) (t : Nat) : Nat → Nat → BV → Nat → (BV × Nat) ⊕ (Nat × Int32 × Int32)
  | 0, _, b, m => .inl (b, m)
  | fuel + 1, i, b, m => match faultR (fun k => tx (i + k)) (send tx t i - i) (b.2.2 0) b.1.length with
    | some r => .inr (i, r.1, r.2)
    | none => if send tx t i < t then addAll tx t fuel (send tx t i + 1) (addRow b (lets (fun k => tx (i + k)) (send tx t i - i))) (m + 1) else .inl (addRow b (lets (fun k => tx (i + k)) (send tx t i - i)), m + 1)
