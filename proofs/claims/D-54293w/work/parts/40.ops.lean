/-! ===== what every call answers, on the mathematical value; the model's whole relation ===== -/
set_option maxRecDepth 100000
theorem row_nat {x : Int32} {n : Nat} (h : 0 ≤ x ∧ x < nI n) (hn : n < 2 ^ 31) : ∃ r : Nat, r < n ∧ x = nI r := by
  obtain ⟨r, h1, h2⟩ := nI_of (x := x) (Int32.not_lt.mpr h.1)
  subst h2
  exact ⟨r, (nI_ltI h1 hn).mp h.2, rfl⟩
def DEPOT : List Int32 := [68, 69, 80, 79, 84]
def SORRY : List Int32 := [83, 79, 82, 82, 89]
def PRIVATE : List Int32 := [80, 82, 73, 86, 65, 84, 69]
def kindV (ls : List Int32) : Int32 := if ls = DEPOT then 1 else if ls = SORRY then 2 else if ls = PRIVATE then 3 else if ls.length = 1 then 4 else 0
def wideV (ls : List Int32) : Int32 := wsum (fun k => ls.getD k 0) ls.length
def sqV (b : BV) (ls : List Int32) : Int32 := sqz (wideV ls) (b.2.2 0)
def orS (p : Nat → Int32) : Nat → Int32
  | 0 => 0
  | n + 1 => orS p n ||| p n
def routesOfV (b : BV) (i : Nat) : Int32 := orS (fun k => if (rtV b k).1.testBit i = true then 1 <<< (nI k &&& 31) else 0) b.2.1.length
def tornV (b : BV) : Int32 := orS (fun k => if (rowV b k).2.2 = 1 then 1 <<< (nI k &&& 31) else 0) b.1.length
def wrongR (b : BV) (i : Nat) : Int32 :=
  if (rowV b i).2.2 = 1 then 2 else if b.2.2 4 = -1 ∧ kindV (rowV b i).1 ≠ 1 ∧ kindV (rowV b i).1 ≠ 2 then 3
  else if b.2.2 4 ≠ -1 ∧ kindV (rowV b i).1 ≠ 2 ∧ (rtV b (b.2.2 4).toNatClampNeg).1.testBit i = false then 4 else if 120 < sqV b (rowV b i).1 then 5 else 0
def wrongV (b : BV) (x : Int32) : Int32 := if 0 ≤ x ∧ x < nI b.1.length then wrongR b x.toNatClampNeg else 1
def rowOfV (b : BV) (x w : Int32) : Int32 := if (0 ≤ x ∧ x < nI b.1.length) ∧ (0 ≤ w ∧ w ≤ 7) then
    if w = 0 then nI (rowV b x.toNatClampNeg).1.length else if w = 1 then wideV (rowV b x.toNatClampNeg).1 else if w = 2 then sqV b (rowV b x.toNatClampNeg).1 else if w = 3 then kindV (rowV b x.toNatClampNeg).1 else if w = 4 then (rowV b x.toNatClampNeg).2.1 else if w = 5 then (rowV b x.toNatClampNeg).2.2 else if w = 6 then routesOfV b x.toNatClampNeg else if x = b.2.2 3 then 1 else 0
  else -1000001
def letterV (b : BV) (x k : Int32) : Int32 := if (0 ≤ x ∧ x < nI b.1.length) ∧ 0 ≤ k then if k < nI (rowV b x.toNatClampNeg).1.length then (rowV b x.toNatClampNeg).1.getD k.toNatClampNeg 0 else -1000004 else -1000001
/-- how many of the bits below n are set -/
def cntB (x : Nat) : Nat → Nat
  | 0 => 0
  | n + 1 => cntB x n + (if x.testBit n = true then 1 else 0)
def routeOfV (b : BV) (x w : Int32) : Int32 := if (0 ≤ x ∧ x < nI b.2.1.length) ∧ (0 ≤ w ∧ w ≤ 4) then
    if w = 0 then nI (rtV b x.toNatClampNeg).1 else if w = 1 then nI (cntB (rtV b x.toNatClampNeg).1 20) else if w = 2 then nI (rtV b x.toNatClampNeg).1 &&& tornV b else if w = 3 then (rtV b x.toNatClampNeg).2.1 else (rtV b x.toNatClampNeg).2.2
  else -1000001
/-- how many letters two names have alike from the front -/
def apre : List Int32 → List Int32 → Nat
  | a :: l, b :: m => if a = b then apre l m + 1 else 0
  | _, _ => 0
def alikeV (b : BV) (x y : Int32) : Int32 := if (0 ≤ x ∧ x < nI b.1.length) ∧ (0 ≤ y ∧ y < nI b.1.length) then nI (apre (rowV b x.toNatClampNeg).1 (rowV b y.toNatClampNeg).1) else -1000001
/-- the history with one more, the oldest of four gone -/
def pushH (h : List BV) (b : BV) : List BV := if h.length = 4 then h.drop 1 ++ [b] else h ++ [b]
def chgA (a : AV) (b : BV) : AV := (b, pushH a.2.1 a.1, a.2.2)
def ordA (a : AV) (o : Option BV × Int32) : AV × Int32 := match o.1 with
  | some b => (chgA a b, o.2)
  | none => (a, o.2)
def bD : BV := ([], [], fun _ => 0)
def HRel (p : Nat → Int32) (h : List BV) : Prop := h.length ≤ 4 ∧ ∀ i, i < h.length → SRel (fun k => p (369 * i + k)) (h.getD i bD) ∧ okB (h.getD i bD)
def TRel (x : Nat → Int32) (t : List Int32) : Prop := t.length ≤ 60 ∧ ∀ k, k < t.length → x k = t.getD k 0
def MRel (F : Nat → Nat → Int32) (I : Nat → Int32) (a : AV) : Prop := SRel (F 1) a.1 ∧ okB a.1 ∧ I 3 = nI a.2.1.length ∧ HRel (F 2) a.2.1 ∧ I 5 = nI a.2.2.length ∧ TRel (F 4) a.2.2
/-- the model at A holds the value a -/
def MR (g : GT) (A : Nat → Nat) (a : AV) (H : Heap) : Prop := ∃ (F : Nat → Nat → Int32) (I : Nat → Int32), MAt g A F I H ∧ MRel F I a
theorem pushH_len {h : List BV} (b : BV) (h4 : h.length ≤ 4) : (pushH h b).length = if h.length = 4 then 4 else h.length + 1 := by
  unfold pushH
  split
  · rename_i e; simp [e]
  · simp
theorem HRel.push {p s : Nat → Int32} {h : List BV} {b : BV} (hh : HRel p h) (hs : SRel s b) (hok : okB b) : HRel (chg p s h.length) (pushH h b) := by
  obtain ⟨h4, hi⟩ := hh
  refine ⟨by rw [pushH_len b h4]; split <;> omega, fun i hl => ?_⟩
  rw [pushH_len b h4] at hl
  by_cases e : h.length = 4
  · rw [if_pos e] at hl
    have e1 : pushH h b = h.drop 1 ++ [b] := by unfold pushH; rw [if_pos e]
    rw [e1, e, ← chg_4]
    by_cases e2 : i < 3
    · have e3 : (h.drop 1 ++ [b]).getD i bD = h.getD (i + 1) bD := by
        rw [List.getD_eq_getElem?_getD, List.getD_eq_getElem?_getD, List.getElem?_append_left (by simp; omega), List.getElem?_drop]
        congr 2; omega
      rw [e3]
      obtain ⟨a1, a2⟩ := hi (i + 1) (by omega)
      refine ⟨a1.congr a2 (fun k hk => ?_), a2⟩
      unfold cp2
      try dsimp only
      rw [if_neg (by omega)]
      unfold sh1
      rw [if_pos (by omega)]
      congr 1; omega
    · have e4 : i = 3 := by omega
      subst e4
      have e3 : (h.drop 1 ++ [b]).getD 3 bD = b := by
        rw [List.getD_eq_getElem?_getD, List.getElem?_append_right (by simp; omega)]
        simp [e]
      rw [e3]
      refine ⟨hs.congr hok (fun k hk => ?_), hok⟩
      unfold cp2
      try dsimp only
      rw [if_pos (by omega)]
      congr 1; omega
  · rw [if_neg e] at hl
    have e1 : pushH h b = h ++ [b] := by unfold pushH; rw [if_neg e]
    rw [e1, ← chg_n _ _ e]
    by_cases e2 : i < h.length
    · have e3 : (h ++ [b]).getD i bD = h.getD i bD := by
        rw [List.getD_eq_getElem?_getD, List.getD_eq_getElem?_getD, List.getElem?_append_left e2]
      rw [e3]
      obtain ⟨a1, a2⟩ := hi i e2
      refine ⟨a1.congr a2 (fun k hk => ?_), a2⟩
      unfold cp2
      try dsimp only
      rw [if_neg (by omega)]
    · have e4 : i = h.length := by omega
      subst e4
      have e3 : (h ++ [b]).getD h.length bD = b := by
        rw [List.getD_eq_getElem?_getD, List.getElem?_append_right (by omega)]
        simp
      rw [e3]
      refine ⟨hs.congr hok (fun k hk => ?_), hok⟩
      unfold cp2
      try dsimp only
      rw [if_pos (by omega)]
      congr 1; omega
/-- behind a change: the new blind stands, the old one is saved -/
theorem MRel.chg {F G : Nat → Nat → Int32} {I J : Nat → Int32} {a : AV} {b : BV} (h : MRel F I a) (h1 : SRel (G 1) b) (hok : okB b) (h2 : G 2 = chg (F 2) (F 1) a.2.1.length) (h4 : G 4 = F 4) (j3 : J 3 = nI (if a.2.1.length = 4 then 4 else a.2.1.length + 1)) (j5 : J 5 = I 5) : MRel G J (chgA a b) := by
  obtain ⟨m1, m2, m3, m4, m5, m6⟩ := h
  refine ⟨h1, hok, ?_, ?_, j5.trans m5, by rw [h4]; exact m6⟩
  · show J 3 = nI (pushH a.2.1 a.1).length
    rw [pushH_len _ m4.1]; exact j3
  · rw [h2]; exact m4.push m1 m2
theorem SRel.rows {f : Nat → Int32} {b : BV} (h : SRel f b) : f 0 = nI b.1.length := h.1
theorem SRel.sh {f : Nat → Int32} {b : BV} (h : SRel f b) : f 1 = if b.1.length = 0 then -1 else b.2.2 3 := h.2.1
theorem SRel.rts {f : Nat → Int32} {b : BV} (h : SRel f b) : f 2 = nI b.2.1.length := h.2.2.1
theorem SRel.on {f : Nat → Int32} {b : BV} (h : SRel f b) : f 3 = b.2.2 4 := h.2.2.2.1
theorem SRel.row {f : Nat → Int32} {b : BV} (h : SRel f b) {r : Nat} (hr : r < b.1.length) : RowRel f r (rowV b r) := h.2.2.2.2.2.2.2.2.2.2.2.1 r hr
theorem SRel.rt {f : Nat → Int32} {b : BV} (h : SRel f b) {r : Nat} (hr : r < b.2.1.length) : RtRel f r (rtV b r) := h.2.2.2.2.2.2.2.2.2.2.2.2 r hr
theorem RowRel.wsum {f : Nat → Int32} {r : Nat} {v : RowV} (h : RowRel f r v) : wsum (fun k => f (14 + 17 * r + k)) v.1.length = wideV v.1 := wsum_congr (fun k hk => h.2.2.2 k hk)
