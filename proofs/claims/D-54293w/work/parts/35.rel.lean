/-! ===== the model's array and the mathematical blind ===== -/
set_option maxRecDepth 100000
def RowRel (f : Nat → Int32) (r : Nat) (v : RowV) : Prop := f (11 + 17 * r) = nI v.1.length ∧ f (12 + 17 * r) = v.2.1 ∧ f (13 + 17 * r) = v.2.2 ∧ ∀ k, k < v.1.length → f (14 + 17 * r + k) = v.1.getD k 0
def RtRel (f : Nat → Int32) (r : Nat) (v : RtV) : Prop := f (351 + 3 * r) = nI v.1 ∧ f (352 + 3 * r) = v.2.1 ∧ f (353 + 3 * r) = v.2.2
/-- the array f holds the blind b -/
def SRel (f : Nat → Int32) (b : BV) : Prop :=
  f 0 = nI b.1.length ∧ (f 1 = if b.1.length = 0 then -1 else b.2.2 3) ∧ f 2 = nI b.2.1.length ∧ f 3 = b.2.2 4 ∧ f 4 = b.2.2 5 ∧ f 5 = b.2.2 6 ∧ f 6 = b.2.2 7 ∧ f 7 = b.2.2 8 ∧ f 8 = b.2.2 0 ∧ f 9 = b.2.2 1 ∧ f 10 = b.2.2 2 ∧ (∀ r, r < b.1.length → RowRel f r (rowV b r)) ∧ (∀ r, r < b.2.1.length → RtRel f r (rtV b r))
def okName (ls : List Int32) : Prop := brk (fun k => ls.getD k 0) ls.length = none
/-- what holds of every blind -/
def okB (b : BV) : Prop :=
  b.1.length ≤ 20 ∧ b.2.1.length ≤ 6 ∧ (∀ r, r < b.1.length → okName (rowV b r).1 ∧ ((rowV b r).2.2 = 0 ∨ (rowV b r).2.2 = 1)) ∧ (∀ r, r < b.2.1.length → (rtV b r).1 < 2 ^ 20) ∧ (∃ sh, b.2.2 3 = nI sh ∧ (sh < b.1.length ∨ b.1.length = 0 ∧ sh = 0)) ∧ (b.2.2 4 = -1 ∨ ∃ k, k < b.2.1.length ∧ b.2.2 4 = nI k) ∧ (4 ≤ b.2.2 0 ∧ b.2.2 0 ≤ 60) ∧ (1 ≤ b.2.2 1 ∧ b.2.2 1 ≤ 200) ∧ (1 ≤ b.2.2 2 ∧ b.2.2 2 ≤ 50)
theorem okB.name {b : BV} (h : okB b) {r : Nat} (hr : r < b.1.length) : 0 < (rowV b r).1.length ∧ (rowV b r).1.length ≤ 14 := brk_le (h.2.2.1 r hr).1
theorem okB.wide0 {b : BV} (h : okB b) : b.2.2 0 ≠ 0 := by
  have h1 := h.2.2.2.2.2.2.1.1
  intro e
  rw [e] at h1
  exact absurd h1 (by decide)
theorem SRel.congr {f f' : Nat → Int32} {b : BV} (h : SRel f b) (hok : okB b) (e : ∀ k, k < 369 → f k = f' k) : SRel f' b := by
  obtain ⟨h0, h1, h2, h3, h4, h5, h6, h7, h8, h9, h10, hr, ht⟩ := h
  have n1 := hok.1
  have n2 := hok.2.1
  refine ⟨by rw [← e 0 (by omega)]; exact h0, by rw [← e 1 (by omega)]; exact h1, by rw [← e 2 (by omega)]; exact h2, by rw [← e 3 (by omega)]; exact h3, by rw [← e 4 (by omega)]; exact h4, by rw [← e 5 (by omega)]; exact h5, by rw [← e 6 (by omega)]; exact h6, by rw [← e 7 (by omega)]; exact h7, by rw [← e 8 (by omega)]; exact h8, by rw [← e 9 (by omega)]; exact h9, by rw [← e 10 (by omega)]; exact h10, fun r hl => ?_, fun r hl => ?_⟩
  · obtain ⟨a, b1, c, d⟩ := hr r hl
    have := (hok.name hl).2
    exact ⟨by rw [← e _ (by omega)]; exact a, by rw [← e _ (by omega)]; exact b1, by rw [← e _ (by omega)]; exact c, fun k hk => by rw [← e _ (by omega)]; exact d k hk⟩
  · obtain ⟨a, b1, c⟩ := ht r hl
    exact ⟨by rw [← e _ (by omega)]; exact a, by rw [← e _ (by omega)]; exact b1, by rw [← e _ (by omega)]; exact c⟩
theorem rowV_add_old {b : BV} {ls : List Int32} {r : Nat} (h : r < b.1.length) : rowV (addRow b ls) r = rowV b r := by
  unfold rowV addRow
  simp only [List.getD_eq_getElem?_getD, List.getElem?_append_left h]
theorem rowV_add_new {b : BV} {ls : List Int32} : rowV (addRow b ls) b.1.length = (ls, 0, 0) := by
  unfold rowV addRow
  simp [List.getD_eq_getElem?_getD]
theorem addRow_len (b : BV) (ls : List Int32) : (addRow b ls).1.length = b.1.length + 1 := by simp [addRow]
theorem addP_off (f : Nat → Int32) (r n : Nat) (c : Nat → Int32) (j : Nat) {k : Nat} (h : k < 11 + 17 * r ∨ 14 + 17 * r + j ≤ k) : addP f r n c j k = f k := by
  unfold addP
  rw [if_neg (by omega), if_neg (by omega), if_neg (by omega), if_neg (by omega)]
theorem addF_off (f : Nat → Int32) (r n : Nat) (c : Nat → Int32) {k : Nat} (h2 : 2 ≤ k) (h : k < 11 + 17 * r ∨ 14 + 17 * r + n ≤ k) : addF f r n c k = f k := by
  unfold addF upd
  rw [if_neg (by omega), if_neg (by omega)]
  exact addP_off f r n c n h
theorem addF_in (f : Nat → Int32) (r n : Nat) (c : Nat → Int32) {k : Nat} (h2 : 2 ≤ k) : addF f r n c k = addP f r n c n k := by
  unfold addF upd
  rw [if_neg (by omega), if_neg (by omega)]
theorem SRel.add {f : Nat → Int32} {b : BV} {n : Nat} {c : Nat → Int32} (h : SRel f b) (hok : okB b) (hr20 : b.1.length < 20) (hn : n ≤ 14) : SRel (addF f b.1.length n c) (addRow b (lets c n)) := by
  obtain ⟨h0, h1, h2, h3, h4, h5, h6, h7, h8, h9, h10, hr, ht⟩ := h
  have n2 := hok.2.1
  obtain ⟨sh, hsh, hsh2⟩ := hok.2.2.2.2.1
  have lo : ∀ k, 2 ≤ k → k < 11 → addF f b.1.length n c k = f k := fun k a b1 => addF_off f _ n c a (Or.inl (by omega))
  refine ⟨?_, ?_, by rw [lo 2 (by omega) (by omega)]; exact h2, by rw [lo 3 (by omega) (by omega)]; exact h3, by rw [lo 4 (by omega) (by omega)]; exact h4, by rw [lo 5 (by omega) (by omega)]; exact h5, by rw [lo 6 (by omega) (by omega)]; exact h6, by rw [lo 7 (by omega) (by omega)]; exact h7, by rw [lo 8 (by omega) (by omega)]; exact h8, by rw [lo 9 (by omega) (by omega)]; exact h9, by rw [lo 10 (by omega) (by omega)]; exact h10, fun r hl => ?_, fun r hl => ?_⟩
  · rw [addRow_len]; rfl
  · rw [addRow_len, if_neg (by omega)]
    show (if f 1 < 0 then 0 else f 1) = b.2.2 3
    by_cases he : b.1.length = 0
    · rw [if_pos he] at h1
      rw [h1, if_pos (by decide), hsh]
      rcases hsh2 with z | z
      · omega
      · rw [z.2]; rfl
    · rw [if_neg he] at h1
      rw [h1, if_neg (by rw [hsh]; exact nI_pos (by omega))]
  · rw [addRow_len] at hl
    by_cases e : r < b.1.length
    · rw [rowV_add_old e]
      obtain ⟨a, b1, c1, d⟩ := hr r e
      have := (hok.name e).2
      exact ⟨by rw [addF_off _ _ _ _ (by omega) (Or.inl (by omega))]; exact a, by rw [addF_off _ _ _ _ (by omega) (Or.inl (by omega))]; exact b1, by rw [addF_off _ _ _ _ (by omega) (Or.inl (by omega))]; exact c1, fun k hk => by rw [addF_off _ _ _ _ (by omega) (Or.inl (by omega))]; exact d k hk⟩
    · have e2 : r = b.1.length := by omega
      subst e2
      rw [rowV_add_new]
      refine ⟨?_, ?_, ?_, fun k hk => ?_⟩
      · rw [addF_in _ _ _ _ (by omega), lets_len]; unfold addP; rw [if_pos rfl]
      · rw [addF_in _ _ _ _ (by omega)]; unfold addP; rw [if_neg (by omega), if_pos rfl]
      · rw [addF_in _ _ _ _ (by omega)]; unfold addP; rw [if_neg (by omega), if_neg (by omega), if_pos rfl]
      · rw [lets_len] at hk
        rw [addF_in _ _ _ _ (by omega), lets_getD _ hk]; unfold addP; rw [if_neg (by omega), if_neg (by omega), if_neg (by omega), if_pos (by omega)]; congr 1; omega
  · obtain ⟨a, b1, c1⟩ := ht r hl
    have hl : r < b.2.1.length := hl
    exact ⟨by rw [addF_off _ _ _ _ (by omega) (Or.inr (by omega))]; exact a, by rw [addF_off _ _ _ _ (by omega) (Or.inr (by omega))]; exact b1, by rw [addF_off _ _ _ _ (by omega) (Or.inr (by omega))]; exact c1⟩
theorem badk_congr {c d : Nat → Int32} {n k : Nat} (h : ∀ j, j < n → c j = d j) (hk : k < n) : badk c n k = badk d n k := by
  unfold badk okb
  rw [h k hk, h (k - 1) (by omega)]
theorem brk_congr {c d : Nat → Int32} {n : Nat} (h : ∀ j, j < n → c j = d j) (hb : brk c n = none) : brk d n = none := by
  obtain ⟨h1, h2⟩ := brk_le hb
  unfold brk at hb
  rw [if_neg (by omega), List.find?_eq_none] at hb
  refine brk_none h1 (fun j hj => ?_)
  rw [← badk_congr h hj]
  simpa using hb j (List.mem_range.mpr hj)
theorem okName_lets {c : Nat → Int32} {n : Nat} (h : brk c n = none) : okName (lets c n) := by
  unfold okName
  rw [lets_len]
  exact brk_congr (fun j hj => (lets_getD c hj).symm) h
theorem okB.add {b : BV} {ls : List Int32} (h : okB b) (hr : b.1.length < 20) (hn : okName ls) : okB (addRow b ls) := by
  obtain ⟨h1, h2, h3, h4, h5, h6, h7⟩ := h
  refine ⟨by rw [addRow_len]; omega, h2, fun r hl => ?_, h4, ?_, h6, h7⟩
  · rw [addRow_len] at hl
    by_cases e : r < b.1.length
    · rw [rowV_add_old e]; exact h3 r e
    · have e2 : r = b.1.length := by omega
      subst e2
      rw [rowV_add_new]
      exact ⟨hn, Or.inl rfl⟩
  · obtain ⟨sh, a, z⟩ := h5
    refine ⟨sh, a, Or.inl ?_⟩
    rw [addRow_len]
    rcases z with z | z <;> omega
theorem addAll_fault {tx : Nat → Int32} {t fuel i m : Nat} {b : BV} {r : Int32 × Int32} (h : faultR (fun k => tx (i + k)) (send tx t i - i) (b.2.2 0) b.1.length = some r) : addAll tx t (fuel + 1) i b m = .inr (i, r.1, r.2) := by
  rw [addAll, h]
theorem addAll_ok {tx : Nat → Int32} {t fuel i m : Nat} {b : BV} (h : faultR (fun k => tx (i + k)) (send tx t i - i) (b.2.2 0) b.1.length = none) : addAll tx t (fuel + 1) i b m = if send tx t i < t then addAll tx t fuel (send tx t i + 1) (addRow b (lets (fun k => tx (i + k)) (send tx t i - i))) (m + 1) else .inl (addRow b (lets (fun k => tx (i + k)) (send tx t i - i)), m + 1) := by
  rw [addAll, h]
theorem faultR_none {c : Nat → Int32} {n r : Nat} {w : Int32} (h : faultR c n w r = none) : brk c n = none ∧ ¬ r = 20 := by
  unfold faultR at h
  cases hb : brk c n with
  | some k => rw [hb] at h; cases h
  | none =>
    rw [hb] at h
    refine ⟨rfl, fun e => ?_⟩
    dsimp only at h
    split at h
    · cases h
    · cases h
