/-! ===== how the model's array follows the blind's changes ===== -/
set_option maxRecDepth 100000
theorem SRel.c4 {f : Nat → Int32} {b : BV} (h : SRel f b) : f 4 = b.2.2 5 := h.2.2.2.2.1
theorem SRel.c5 {f : Nat → Int32} {b : BV} (h : SRel f b) : f 5 = b.2.2 6 := h.2.2.2.2.2.1
theorem SRel.c6 {f : Nat → Int32} {b : BV} (h : SRel f b) : f 6 = b.2.2 7 := h.2.2.2.2.2.2.1
theorem SRel.c7 {f : Nat → Int32} {b : BV} (h : SRel f b) : f 7 = b.2.2 8 := h.2.2.2.2.2.2.2.1
theorem SRel.c9 {f : Nat → Int32} {b : BV} (h : SRel f b) : f 9 = b.2.2 1 := h.2.2.2.2.2.2.2.2.2.1
theorem SRel.c10 {f : Nat → Int32} {b : BV} (h : SRel f b) : f 10 = b.2.2 2 := h.2.2.2.2.2.2.2.2.2.2.1
theorem RowRel.congr {f f' : Nat → Int32} {r : Nat} {v : RowV} (h : RowRel f r v) (hv : v.1.length ≤ 14) (e : ∀ k, 11 + 17 * r ≤ k → k < 28 + 17 * r → f' k = f k) : RowRel f' r v := by
  obtain ⟨a, b, c, d⟩ := h
  exact ⟨by rw [e _ (by omega) (by omega)]; exact a, by rw [e _ (by omega) (by omega)]; exact b, by rw [e _ (by omega) (by omega)]; exact c, fun k hk => by rw [e _ (by omega) (by omega)]; exact d k hk⟩
theorem RtRel.congr {f f' : Nat → Int32} {r : Nat} {v : RtV} (h : RtRel f r v) (e : ∀ k, 351 + 3 * r ≤ k → k < 354 + 3 * r → f' k = f k) : RtRel f' r v := by
  obtain ⟨a, b, c⟩ := h
  exact ⟨by rw [e _ (by omega) (by omega)]; exact a, by rw [e _ (by omega) (by omega)]; exact b, by rw [e _ (by omega) (by omega)]; exact c⟩
/-- numbers change, rows and routes stay -/
theorem SRel.nums {f f' : Nat → Int32} {b : BV} {e : Nat → Int32} (h : SRel f b) (hk : ∀ k, 11 ≤ k → f' k = f k) (h0 : f' 0 = f 0) (h1 : f' 1 = if b.1.length = 0 then -1 else e 3) (h2 : f' 2 = f 2) (h3 : f' 3 = e 4) (h4 : f' 4 = e 5) (h5 : f' 5 = e 6) (h6 : f' 6 = e 7) (h7 : f' 7 = e 8) (h8 : f' 8 = e 0) (h9 : f' 9 = e 1) (h10 : f' 10 = e 2) : SRel f' (b.1, b.2.1, e) :=
  ⟨h0.trans h.rows, h1, h2.trans h.rts, h3, h4, h5, h6, h7, h8, h9, h10, fun r hr => by
    obtain ⟨a, b1, c, d⟩ := h.row hr
    exact ⟨(hk _ (by omega)).trans a, (hk _ (by omega)).trans b1, (hk _ (by omega)).trans c, fun k hk2 => (hk _ (by omega)).trans (d k hk2)⟩, fun r hr => by
    obtain ⟨a, b1, c⟩ := h.rt hr
    exact ⟨(hk _ (by omega)).trans a, (hk _ (by omega)).trans b1, (hk _ (by omega)).trans c⟩⟩
def setRow (b : BV) (i : Nat) (v : RowV) : BV := (b.1.set i v, b.2.1, b.2.2)
theorem setRow_len (b : BV) (i : Nat) (v : RowV) : (setRow b i v).1.length = b.1.length := by simp [setRow]
theorem rowV_set_same {b : BV} {i : Nat} {v : RowV} (h : i < b.1.length) : rowV (setRow b i v) i = v := by
  unfold rowV setRow
  simp [List.getD_eq_getElem?_getD, List.getElem?_set_self h]
theorem rowV_set_ne {b : BV} {i r : Nat} {v : RowV} (h : r ≠ i) : rowV (setRow b i v) r = rowV b r := by
  unfold rowV setRow
  simp only [List.getD_eq_getElem?_getD, List.getElem?_set_ne (Ne.symm h)]
/-- a row's wear and whether it is torn change -/
theorem SRel.setRow {f f' : Nat → Int32} {b : BV} (h : SRel f b) (hok : okB b) {i : Nat} (hi : i < b.1.length) {w t : Int32} (hk : ∀ k, k ≠ 12 + 17 * i → k ≠ 13 + 17 * i → f' k = f k) (h1 : f' (12 + 17 * i) = w) (h2 : f' (13 + 17 * i) = t) : SRel f' (setRow b i ((rowV b i).1, w, t)) := by
  have n6 := hok.2.1
  have n20 := hok.1
  refine ⟨by rw [setRow_len, hk 0 (by omega) (by omega)]; exact h.rows, by rw [setRow_len, hk 1 (by omega) (by omega)]; exact h.sh, by rw [hk 2 (by omega) (by omega)]; exact h.rts, by rw [hk 3 (by omega) (by omega)]; exact h.on, by rw [hk 4 (by omega) (by omega)]; exact h.c4, by rw [hk 5 (by omega) (by omega)]; exact h.c5, by rw [hk 6 (by omega) (by omega)]; exact h.c6, by rw [hk 7 (by omega) (by omega)]; exact h.c7, by rw [hk 8 (by omega) (by omega)]; exact h.w, by rw [hk 9 (by omega) (by omega)]; exact h.c9, by rw [hk 10 (by omega) (by omega)]; exact h.c10, fun r hr => ?_, fun r hr => ?_⟩
  · rw [setRow_len] at hr
    by_cases e : r = i
    · subst e
      rw [rowV_set_same hr]
      have hn := (hok.name hr).2
      obtain ⟨a, b1, c, d⟩ := h.row hr
      exact ⟨by rw [hk _ (by omega) (by omega)]; exact a, h1, h2, fun k hk2 => by
        have hk3 : k < (rowV b r).1.length := hk2
        rw [hk _ (by omega) (by omega)]; exact d k hk3⟩
    · rw [rowV_set_ne e]
      have hn := (hok.name hr).2
      exact (h.row hr).congr hn (fun k k1 k2 => hk k (by omega) (by omega))
  · have hr : r < b.2.1.length := hr
    exact (h.rt hr).congr (fun k k1 k2 => hk k (by omega) (by omega))
theorem okB.setRow {b : BV} (hok : okB b) {i : Nat} (hi : i < b.1.length) {w t : Int32} (ht : t = 0 ∨ t = 1) : okB (setRow b i ((rowV b i).1, w, t)) := by
  obtain ⟨h1, h2, h3, h4, h5, h6, h7⟩ := hok
  refine ⟨by rw [setRow_len]; exact h1, h2, fun r hr => ?_, h4, ?_, h6, h7⟩
  · rw [setRow_len] at hr
    by_cases e : r = i
    · subst e; rw [rowV_set_same hr]; exact ⟨(h3 r hr).1, ht⟩
    · rw [rowV_set_ne e]; exact h3 r hr
  · obtain ⟨sh, a, z⟩ := h5
    exact ⟨sh, a, by rw [setRow_len]; exact z⟩
theorem okB.nums {b : BV} {e : Nat → Int32} (hok : okB b) (h3 : e 3 = b.2.2 3) (h4 : e 4 = b.2.2 4) (h0 : e 0 = b.2.2 0) (h1 : e 1 = b.2.2 1) (h2 : e 2 = b.2.2 2) : okB (b.1, b.2.1, e) := by
  obtain ⟨k1, k2, k3, k4, k5, k6, k7, k8, k9⟩ := hok
  exact ⟨k1, k2, k3, k4, by rw [← h3] at k5; exact k5, by rw [← h4] at k6; exact k6, by rw [← h0] at k7; exact k7, by rw [← h1] at k8; exact k8, by rw [← h2] at k9; exact k9⟩
def setRt (b : BV) (i : Nat) (v : RtV) : BV := (b.1, b.2.1.set i v, b.2.2)
theorem rtV_set_same {b : BV} {i : Nat} {v : RtV} (h : i < b.2.1.length) : rtV (setRt b i v) i = v := by
  unfold rtV setRt
  simp [List.getD_eq_getElem?_getD, List.getElem?_set_self h]
theorem rtV_set_ne {b : BV} {i r : Nat} {v : RtV} (h : r ≠ i) : rtV (setRt b i v) r = rtV b r := by
  unfold rtV setRt
  simp only [List.getD_eq_getElem?_getD, List.getElem?_set_ne (Ne.symm h)]
theorem setRt_len (b : BV) (i : Nat) (v : RtV) : (setRt b i v).2.1.length = b.2.1.length := by simp [setRt]
theorem SRel.setRt {f f' : Nat → Int32} {b : BV} (h : SRel f b) (hok : okB b) {i : Nat} (hi : i < b.2.1.length) {v : RtV} (hk : ∀ k, k < 351 + 3 * i ∨ 354 + 3 * i ≤ k → f' k = f k) (h0 : f' (351 + 3 * i) = nI v.1) (h1 : f' (352 + 3 * i) = v.2.1) (h2 : f' (353 + 3 * i) = v.2.2) : SRel f' (setRt b i v) := by
  have n20 := hok.1
  refine ⟨by rw [hk 0 (by omega)]; exact h.rows, by rw [hk 1 (by omega)]; exact h.sh, by rw [setRt_len, hk 2 (by omega)]; exact h.rts, by rw [hk 3 (by omega)]; exact h.on, by rw [hk 4 (by omega)]; exact h.c4, by rw [hk 5 (by omega)]; exact h.c5, by rw [hk 6 (by omega)]; exact h.c6, by rw [hk 7 (by omega)]; exact h.c7, by rw [hk 8 (by omega)]; exact h.w, by rw [hk 9 (by omega)]; exact h.c9, by rw [hk 10 (by omega)]; exact h.c10, fun r hr => ?_, fun r hr => ?_⟩
  · have hr : r < b.1.length := hr
    exact (h.row hr).congr (hok.name hr).2 (fun k k1 k2 => hk k (by omega))
  · rw [setRt_len] at hr
    by_cases e : r = i
    · subst e; rw [rtV_set_same hr]; exact ⟨h0, h1, h2⟩
    · rw [rtV_set_ne e]
      exact (h.rt hr).congr (fun k k1 k2 => hk k (by omega))
theorem okB.setRt {b : BV} (hok : okB b) {i : Nat} (hi : i < b.2.1.length) {v : RtV} (hv : v.1 < 2 ^ 20) : okB (setRt b i v) := by
  obtain ⟨h1, h2, h3, h4, h5, h6, h7⟩ := hok
  refine ⟨h1, by rw [setRt_len]; exact h2, h3, fun r hr => ?_, h5, by rw [setRt_len]; exact h6, h7⟩
  rw [setRt_len] at hr
  by_cases e : r = i
  · subst e; rw [rtV_set_same hr]; exact hv
  · rw [rtV_set_ne e]; exact h4 r hr
/-- the orders on a blind: the new one, or none, and the answer -/
def mendV (b : BV) (x : Int32) : Option BV × Int32 := if 0 ≤ x ∧ x < nI b.1.length then
    if (rowV b x.toNatClampNeg).2.2 = 1 then (some (setRow b x.toNatClampNeg ((rowV b x.toNatClampNeg).1, (rowV b x.toNatClampNeg).2.1 / 2, 0)), (rowV b x.toNatClampNeg).2.1 / 2) else (none, -1000002)
  else (none, -1000001)
def drivesV (b : BV) (x : Int32) : Option BV × Int32 := if x = -1 ∨ (0 ≤ x ∧ x < nI b.2.1.length) then (some (b.1, b.2.1, upd b.2.2 4 x), b.2.2 4) else (none, -1000001)
def setsV (b : BV) (x y : Int32) : Option BV × Int32 := if (0 ≤ x ∧ x ≤ 2) ∧ ((if x = 0 then 4 else 1) ≤ y ∧ y ≤ (if x = 0 then 60 else if x = 1 then 200 else 50)) then (some (b.1, b.2.1, upd b.2.2 x.toNatClampNeg y), b.2.2 x.toNatClampNeg) else (none, -1000001)
def comesV (b : BV) (x : Int32) : Option BV × Int32 := if 1 ≤ x ∧ x ≤ (1 <<< (nI b.1.length &&& 31)) - 1 then if b.2.1.length = 6 then (none, -1000003) else (some (b.1, b.2.1 ++ [(x.toNatClampNeg, 0, 0)], b.2.2), nI b.2.1.length) else (none, -1000001)
/-- behind a stop with what was wrong -/
def haltB (b : BV) (w : Int32) : BV := (b.1, (if b.2.2 4 = -1 then b else setRt b (b.2.2 4).toNatClampNeg ((rtV b (b.2.2 4).toNatClampNeg).1, (rtV b (b.2.2 4).toNatClampNeg).2.1 + 1, (rtV b (b.2.2 4).toNatClampNeg).2.2 + (if w = 0 then 1 else 0))).2.1, upd (upd b.2.2 7 (b.2.2 7 + 1)) 8 (b.2.2 8 + (if w = 0 then 1 else 0)))
def haltsV (b : BV) : Option BV × Int32 := (some (haltB b (wrongV b (b.2.2 3))), wrongV b (b.2.2 3))
theorem ordA_some (a : AV) (b : BV) (r : Int32) : ordA a (some b, r) = (chgA a b, r) := rfl
theorem ordA_none (a : AV) (r : Int32) : ordA a (none, r) = (a, r) := rfl
