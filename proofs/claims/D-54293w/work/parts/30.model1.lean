/-! ===== HandBlindsModel: its cells, and the leaves' contracts (printed by tools/model1.py) ===== -/
set_option maxRecDepth 100000
/-- the model object at A 0 with its arrays s, past, tried, text at A 1 .. A 4, which hold F 1 .. F 4; its numbers I by field -/
def MAt (g : GT) (A : Nat → Nat) (F : Nat → Nat → Int32) (I : Nat → Int32) (H : Heap) : Prop :=
  Ob g (A 0) 2 [.ref (A 1), .ref (A 2), .ref (A 3), .int (I 3), .ref (A 4), .int (I 5), .int (I 6), .int (I 7), .int (I 8), .int (I 9), .int (I 10), .int (I 11), .int (I 12)] H ∧ Ar g (A 1) 0 (aI 369 (F 1)) H ∧ Ar g (A 2) 0 (aI 1476 (F 2)) H ∧ Ar g (A 3) 0 (aI 369 (F 3)) H ∧ Ar g (A 4) 0 (aI 60 (F 4)) H ∧ A 1 ≠ A 2 ∧ A 1 ≠ A 3 ∧ A 1 ≠ A 4 ∧ A 2 ≠ A 3 ∧ A 2 ≠ A 4 ∧ A 3 ≠ A 4
theorem MAt.mk {g : GT} {A : Nat → Nat} {F : Nat → Nat → Int32} {I : Nat → Int32} {H : Heap} (h0 : Ob g (A 0) 2 [.ref (A 1), .ref (A 2), .ref (A 3), .int (I 3), .ref (A 4), .int (I 5), .int (I 6), .int (I 7), .int (I 8), .int (I 9), .int (I 10), .int (I 11), .int (I 12)] H) (h1 : Ar g (A 1) 0 (aI 369 (F 1)) H) (h2 : Ar g (A 2) 0 (aI 1476 (F 2)) H) (h3 : Ar g (A 3) 0 (aI 369 (F 3)) H) (h4 : Ar g (A 4) 0 (aI 60 (F 4)) H) (n12 : A 1 ≠ A 2) (n13 : A 1 ≠ A 3) (n14 : A 1 ≠ A 4) (n23 : A 2 ≠ A 3) (n24 : A 2 ≠ A 4) (n34 : A 3 ≠ A 4) : MAt g A F I H := ⟨h0, h1, h2, h3, h4, n12, n13, n14, n23, n24, n34⟩
/-- the model's cells -/
def MM (A : Nat → Nat) : Nat → Prop := fun q => q = A 0 ∨ q = A 1 ∨ q = A 2 ∨ q = A 3 ∨ q = A 4
/-- only what lies within an array's length counts -/
theorem Ar.ext {g : GT} {q k n : Nat} {f f' : Nat → Int32} {H : Heap} (h : Ar g q k (aI n f) H) (e : ∀ j, j < n → f j = f' j) : Ar g q k (aI n f') H := by
  refine ⟨?_, h.2⟩
  show H[q]? = some (vp_cell _ _)
  have h1 : H[q]? = some (vp_cell (g.2.1 k) (aI n f)) := h.1
  rw [h1, vp_cell_i, vp_cell_i]
  congr 1
  unfold arrV
  congr 1
  apply Array.ext
  · simp
  · intro i h1 h2
    simp at h1 h2 ⊢
    exact e i (by omega)
theorem cpy_step (f h : Nat → Int32) (j k : Nat) : upd (fun k => if k < j then f k else h k) j (f j) k = if k < j + 1 then f k else h k := by
  unfold upd
  by_cases e : k = j
  · subst e; simp
  · rw [if_neg e]
    show (if k < j then f k else h k) = _
    by_cases z : k < j
    · rw [if_pos z, if_pos (by omega)]
    · rw [if_neg z, if_neg (by omega)]
/-- a letter's width -/
def wd (c : Int32) : Int32 := if c = 73 ∨ c = 32 then 1 else if c = 77 ∨ c = 87 then 3 else 2
/-- how a width is squeezed, in hundredths -/
def sqz (w b : Int32) : Int32 := if b < w then w * 100 / b else 100
/-- in(v, a, b) -/
theorem m_in (l : Launch) (g : GT) {H : Heap} (v a b : Int32) : Met l yX2_in (ws_ yX2_in cX2_in 3 (some .boolean)) ({ frames := 0, cells := 0, slots := 0, locals := 0 } : Room) (va_Pc [.int v, .int a, .int b] (Pre g H)) (Qi g (fun r H1 => H1 = H ∧ r = b2i (a ≤ v ∧ v ≤ b))) 0 0 (gA g) := by
  refine k_met (cc := cX2_in) (nL := 3) (vs := [.int v, .int a, .int b]) (by decide +kernel) (Nat.le_of_ble_eq_true rfl) ?_
  intro p e s m below meth c hH hx hb hret hts hown hlk hml hin hK hS ls hl
  subst hH
  have hown : s.vm.findClass RX2 = some m.cls := hown
  have hl : lv_has ls 3 [(0, .int v), (1, .int a), (2, .int b)] := hl
  refine lv_iload_n hx hb dX2_in_0 rfl (lv_at hl 0 rfl) ?_
  refine lv_iload_n hx hb dX2_in_1 rfl (lv_at hl 1 rfl) ?_
  refine lv_icmp_lt (tgt := 14) hx hb dX2_in_2 (by decide) (fun c2 => ?_) (fun c2 => ?_)
  · refine lv_iconst (v := 0) hx hb dX2_in_14 (by decide) ?_
    exact k_ireti (v := 0) hx hb hret (rfl) hlk hS (Nat.le_of_ble_eq_true rfl) (Nat.le_of_ble_eq_true rfl) (⟨rfl, (b2i_f (fun h => absurd h.1 (Int32.not_le.mpr c2))).symm⟩) dX2_in_15
  · refine lv_iload_n hx hb dX2_in_5 rfl (lv_at hl 0 rfl) ?_
    refine lv_iload_n hx hb dX2_in_6 rfl (lv_at hl 2 rfl) ?_
    refine lv_icmp_gt (tgt := 14) hx hb dX2_in_7 (by decide) (fun c7 => ?_) (fun c7 => ?_)
    · refine lv_iconst (v := 0) hx hb dX2_in_14 (by decide) ?_
      exact k_ireti (v := 0) hx hb hret (rfl) hlk hS (Nat.le_of_ble_eq_true rfl) (Nat.le_of_ble_eq_true rfl) (⟨rfl, (b2i_f (fun h => absurd h.2 (Int32.not_le.mpr c7))).symm⟩) dX2_in_15
    · refine lv_iconst (v := 1) hx hb dX2_in_10 (by decide) ?_
      refine lv_goto (tgt := 15) hx hb dX2_in_11 (by decide) ?_
      exact k_ireti (v := 1) hx hb hret (rfl) hlk hS (Nat.le_of_ble_eq_true rfl) (Nat.le_of_ble_eq_true rfl) (⟨rfl, (b2i_t ⟨i_nlt c2, i_nlt c7⟩).symm⟩) dX2_in_15
/-- wide(c) -/
theorem m_wide (l : Launch) (g : GT) {H : Heap} (x : Int32) : Met l yX2_wide (ws_ yX2_wide cX2_wide 1 (some .int)) ({ frames := 0, cells := 0, slots := 0, locals := 0 } : Room) (va_Pc [.int x] (Pre g H)) (Qi g (fun r H1 => H1 = H ∧ r = wd x)) 0 0 (gA g) := by
  refine k_met (cc := cX2_wide) (nL := 1) (vs := [.int x]) (by decide +kernel) (Nat.le_of_ble_eq_true rfl) ?_
  intro p e s m below meth c hH hx hb hret hts hown hlk hml hin hK hS ls hl
  subst hH
  have hown : s.vm.findClass RX2 = some m.cls := hown
  have hl : lv_has ls 1 [(0, .int x)] := hl
  refine lv_iload_n hx hb dX2_wide_0 rfl (lv_at hl 0 rfl) ?_
  refine lv_bipush (v := 73) hx hb dX2_wide_1 (by decide) ?_
  refine lv_icmp_eq (tgt := 12) hx hb dX2_wide_3 (by decide) (fun c3 => ?_) (fun c3 => ?_)
  · refine lv_iconst (v := 1) hx hb dX2_wide_12 (by decide) ?_
    refine lv_goto (tgt := 33) hx hb dX2_wide_13 (by decide) ?_
    exact k_ireti (v := 1) hx hb hret (rfl) hlk hS (Nat.le_of_ble_eq_true rfl) (Nat.le_of_ble_eq_true rfl) (⟨rfl, by unfold wd; simp [*]⟩) dX2_wide_33
  · refine lv_iload_n hx hb dX2_wide_6 rfl (lv_at hl 0 rfl) ?_
    refine lv_bipush (v := 32) hx hb dX2_wide_7 (by decide) ?_
    refine lv_icmp_ne (tgt := 16) hx hb dX2_wide_9 (by decide) (fun c9 => ?_) (fun c9 => ?_)
    · refine lv_iload_n hx hb dX2_wide_16 rfl (lv_at hl 0 rfl) ?_
      refine lv_bipush (v := 77) hx hb dX2_wide_17 (by decide) ?_
      refine lv_icmp_eq (tgt := 28) hx hb dX2_wide_19 (by decide) (fun c19 => ?_) (fun c19 => ?_)
      · refine lv_iconst (v := 3) hx hb dX2_wide_28 (by decide) ?_
        refine lv_goto (tgt := 33) hx hb dX2_wide_29 (by decide) ?_
        exact k_ireti (v := 3) hx hb hret (rfl) hlk hS (Nat.le_of_ble_eq_true rfl) (Nat.le_of_ble_eq_true rfl) (⟨rfl, by unfold wd; simp [*]⟩) dX2_wide_33
      · refine lv_iload_n hx hb dX2_wide_22 rfl (lv_at hl 0 rfl) ?_
        refine lv_bipush (v := 87) hx hb dX2_wide_23 (by decide) ?_
        refine lv_icmp_ne (tgt := 32) hx hb dX2_wide_25 (by decide) (fun c25 => ?_) (fun c25 => ?_)
        · refine lv_iconst (v := 2) hx hb dX2_wide_32 (by decide) ?_
          exact k_ireti (v := 2) hx hb hret (rfl) hlk hS (Nat.le_of_ble_eq_true rfl) (Nat.le_of_ble_eq_true rfl) (⟨rfl, by unfold wd; simp [*]⟩) dX2_wide_33
        · refine lv_iconst (v := 3) hx hb dX2_wide_28 (by decide) ?_
          refine lv_goto (tgt := 33) hx hb dX2_wide_29 (by decide) ?_
          exact k_ireti (v := 3) hx hb hret (rfl) hlk hS (Nat.le_of_ble_eq_true rfl) (Nat.le_of_ble_eq_true rfl) (⟨rfl, by unfold wd; simp [*]⟩) dX2_wide_33
    · refine lv_iconst (v := 1) hx hb dX2_wide_12 (by decide) ?_
      refine lv_goto (tgt := 33) hx hb dX2_wide_13 (by decide) ?_
      exact k_ireti (v := 1) hx hb hret (rfl) hlk hS (Nat.le_of_ble_eq_true rfl) (Nat.le_of_ble_eq_true rfl) (⟨rfl, by unfold wd; simp [*]⟩) dX2_wide_33
/-- told(v) -/
theorem m_told (l : Launch) (g : GT) {H : Heap} (x : Int32) : Met l yX2_told (ws_ yX2_told cX2_told 1 (some .int)) ({ frames := 0, cells := 0, slots := 0, locals := 0 } : Room) (va_Pc [.int x] (Pre g H)) (Qi g (fun r H1 => H1 = H ∧ r = if x < 0 then (-1000004) else x)) 0 0 (gA g) := by
  refine k_met (cc := cX2_told) (nL := 1) (vs := [.int x]) (by decide +kernel) (Nat.le_of_ble_eq_true rfl) ?_
  intro p e s m below meth c hH hx hb hret hts hown hlk hml hin hK hS ls hl
  subst hH
  have hown : s.vm.findClass RX2 = some m.cls := hown
  have hl : lv_has ls 1 [(0, .int x)] := hl
  refine lv_iload_n hx hb dX2_told_0 rfl (lv_at hl 0 rfl) ?_
  refine lv_if_ge (tgt := 9) hx hb dX2_told_1 (by decide) (fun c1 => ?_) (fun c1 => ?_)
  · refine lv_iload_n hx hb dX2_told_9 rfl (lv_at hl 0 rfl) ?_
    exact k_ireti (v := x) hx hb hret (rfl) hlk hS (Nat.le_of_ble_eq_true rfl) (Nat.le_of_ble_eq_true rfl) (⟨rfl, (if_neg (Int32.not_lt.mpr c1)).symm⟩) dX2_told_10
  · refine lv_ldc (v := (-1000004)) hx hb hown (hts _ q1486) dX2_told_4 ?_
    refine lv_goto (tgt := 10) hx hb dX2_told_6 (by decide) ?_
    exact k_ireti (v := (-1000004)) hx hb hret (rfl) hlk hS (Nat.le_of_ble_eq_true rfl) (Nat.le_of_ble_eq_true rfl) (⟨rfl, (if_pos (i_nle c1)).symm⟩) dX2_told_10
/-- mostOf(what) -/
theorem m_mostOf (l : Launch) (g : GT) {H : Heap} (x : Int32) : Met l yX2_mostOf (ws_ yX2_mostOf cX2_mostOf 1 (some .int)) ({ frames := 0, cells := 0, slots := 0, locals := 0 } : Room) (va_Pc [.int x] (Pre g H)) (Qi g (fun r H1 => H1 = H ∧ r = if x = 0 then 60 else if x = 1 then 200 else 50)) 0 0 (gA g) := by
  refine k_met (cc := cX2_mostOf) (nL := 1) (vs := [.int x]) (by decide +kernel) (Nat.le_of_ble_eq_true rfl) ?_
  intro p e s m below meth c hH hx hb hret hts hown hlk hml hin hK hS ls hl
  subst hH
  have hown : s.vm.findClass RX2 = some m.cls := hown
  have hl : lv_has ls 1 [(0, .int x)] := hl
  refine lv_iload_n hx hb dX2_mostOf_0 rfl (lv_at hl 0 rfl) ?_
  refine lv_if_ne (tgt := 9) hx hb dX2_mostOf_1 (by decide) (fun c1 => ?_) (fun c1 => ?_)
  · refine lv_iload_n hx hb dX2_mostOf_9 rfl (lv_at hl 0 rfl) ?_
    refine lv_iconst (v := 1) hx hb dX2_mostOf_10 (by decide) ?_
    refine lv_icmp_ne (tgt := 20) hx hb dX2_mostOf_11 (by decide) (fun c11 => ?_) (fun c11 => ?_)
    · refine lv_bipush (v := 50) hx hb dX2_mostOf_20 (by decide) ?_
      exact k_ireti (v := 50) hx hb hret (rfl) hlk hS (Nat.le_of_ble_eq_true rfl) (Nat.le_of_ble_eq_true rfl) (⟨rfl, by simp [*]⟩) dX2_mostOf_22
    · refine lv_sipush (v := 200) hx hb dX2_mostOf_14 (by decide) ?_
      refine lv_goto (tgt := 22) hx hb dX2_mostOf_17 (by decide) ?_
      exact k_ireti (v := 200) hx hb hret (rfl) hlk hS (Nat.le_of_ble_eq_true rfl) (Nat.le_of_ble_eq_true rfl) (⟨rfl, by simp [*]⟩) dX2_mostOf_22
  · refine lv_bipush (v := 60) hx hb dX2_mostOf_4 (by decide) ?_
    refine lv_goto (tgt := 22) hx hb dX2_mostOf_6 (by decide) ?_
    exact k_ireti (v := 60) hx hb hret (rfl) hlk hS (Nat.le_of_ble_eq_true rfl) (Nat.le_of_ble_eq_true rfl) (⟨rfl, by simp [*]⟩) dX2_mostOf_22
/-- without(set, row) -/
theorem m_without (l : Launch) (g : GT) {H : Heap} (x y : Int32) : Met l yX2_without (ws_ yX2_without cX2_without 3 (some .int)) ({ frames := 0, cells := 0, slots := 0, locals := 0 } : Room) (va_Pc [.int x, .int y] (Pre g H)) (Qi g (fun r H1 => H1 = H ∧ r = (x &&& ((1 <<< (y &&& 31)) - 1)) ||| ((x >>> ((y + 1) &&& 31)) <<< (y &&& 31)))) 0 0 (gA g) := by
  refine k_met (cc := cX2_without) (nL := 3) (vs := [.int x, .int y]) (by decide +kernel) (Nat.le_of_ble_eq_true rfl) ?_
  intro p e s m below meth c hH hx hb hret hts hown hlk hml hin hK hS ls hl
  subst hH
  have hown : s.vm.findClass RX2 = some m.cls := hown
  have hl : lv_has ls 3 [(0, .int x), (1, .int y)] := hl
  refine lv_iload_n hx hb dX2_without_0 rfl (lv_at hl 0 rfl) ?_
  refine lv_iconst (v := 1) hx hb dX2_without_1 (by decide) ?_
  refine lv_iload_n hx hb dX2_without_2 rfl (lv_at hl 1 rfl) ?_
  refine lv_ishl hx hb dX2_without_3 ?_
  refine lv_iconst (v := 1) hx hb dX2_without_4 (by decide) ?_
  refine lv_isub hx hb dX2_without_5 ?_
  refine lv_iand hx hb dX2_without_6 ?_
  refine lv_istore_n (lv' := [(2, .int (x &&& ((1 <<< (y &&& 31)) - 1))), (0, .int x), (1, .int y)]) hx hb dX2_without_7 rfl hl (by decide) rfl (fun ls hl => ?_)
  refine lv_iload_n hx hb dX2_without_8 rfl (lv_at hl 0 rfl) ?_
  refine lv_iload_n hx hb dX2_without_9 rfl (lv_at hl 1 rfl) ?_
  refine lv_iload_n hx hb dX2_without_10 rfl (lv_at hl 2 rfl) ?_
  refine lv_iconst (v := 1) hx hb dX2_without_11 (by decide) ?_
  refine lv_iadd hx hb dX2_without_12 ?_
  refine lv_ishr hx hb dX2_without_13 ?_
  refine lv_iload_n hx hb dX2_without_14 rfl (lv_at hl 2 rfl) ?_
  refine lv_ishl hx hb dX2_without_15 ?_
  refine lv_ior hx hb dX2_without_16 ?_
  exact k_ireti (v := (x &&& ((1 <<< (y &&& 31)) - 1)) ||| ((x >>> ((y + 1) &&& 31)) <<< (y &&& 31))) hx hb hret (rfl) hlk hS (Nat.le_of_ble_eq_true rfl) (Nat.le_of_ble_eq_true rfl) (⟨rfl, rfl⟩) dX2_without_17
/-- copies(from, to) -/
theorem m_copies (l : Launch) (g : GT) {H : Heap} {x y : Nat} {f h : Nat → Int32} (hx0 : Ar g x 0 (aI 369 f) H) (hy0 : Ar g y 0 (aI 369 h) H) (hxy : x ≠ y) : Met l yX2_copies (ws_ yX2_copies cX2_copies 3 none) ({ frames := 0, cells := 0, slots := 0, locals := 0 } : Room) (va_Pc [.ref x, .ref y] (Pre g H)) (Qv g (fun H1 => Ar g y 0 (aI 369 f) H1 ∧ Fx (fun q => q = y) H H1)) 0 0 (gA g) := by
  refine k_met (cc := cX2_copies) (nL := 3) (vs := [.ref x, .ref y]) (by decide +kernel) (Nat.le_of_ble_eq_true rfl) ?_
  intro p e s m below meth c hH hx hb hret hts hown hlk hml hin hK hS ls hl
  subst hH
  have hown : s.vm.findClass RX2 = some m.cls := hown
  have hl : lv_has ls 3 [(0, .ref x), (1, .ref y)] := hl
  have hF : Fx (fun q => q = y) s.heap s.heap := Fx.rf
  refine lv_iconst (v := nI 0) hx hb dX2_copies_0 (by decide) ?_
  refine lv_istore_n (lv' := [(2, .int (nI 0)), (0, .ref x), (1, .ref y)]) hx hb dX2_copies_1 rfl hl (by decide) rfl (fun ls hl => ?_)
  refine w_loop (Inv := fun (j : Nat) H1 locs cells slots ls => j ≤ 369 ∧ Ar g x 0 (aI 369 f) H1 ∧ Ar g y 0 (aI 369 (fun k => if k < j then f k else h k)) H1 ∧ Fx (fun q => q = y) s.heap H1 ∧ va_S (gA g) s.heap H1 locs ∧ cells = 0 ∧ slots = 0 ∧ lv_has ls 3 [(2, .int (nI j)), (0, .ref x), (1, .ref y)]) (μ := fun j => 369 - j) ?_ 0 _ _ _ _ _ ⟨Nat.zero_le _, hx0, Ar.ext hy0 (fun k hk => by simp), hF, hS, rfl, rfl, lv_sub hl [0, 1, 2] rfl⟩
  intro j H1 locs cells slots ls hInv ih
  obtain ⟨hj, hx0, hy0, hF, hS, rfl, rfl, hl⟩ := hInv
  refine lv_iload_n hx hb dX2_copies_2 rfl (lv_at hl 0 rfl) ?_
  refine lv_sipush (v := nI 369) hx hb dX2_copies_3 (by decide) ?_
  refine lv_icmp_ge (tgt := 21) hx hb dX2_copies_6 (by decide) (fun cj => ?_) (fun cj => ?_)
  · have hj3 : j = 369 := by rcases Nat.lt_or_ge j 369 with z | z; exact absurd cj (nI_ge z (by omega)); omega
    exact k_retv hx hb hret hlk hS (Nat.le_of_ble_eq_true rfl) (Nat.le_of_ble_eq_true rfl) (⟨Ar.ext hy0 (fun k hk => by simp only [hj3]; rw [if_pos hk]), hF⟩) dX2_copies_21
  · have hj2 : j < 369 := by rcases Nat.lt_or_ge j 369 with z | z; exact z; exact absurd (nI_le z (by omega)) cj
    refine lv_aload_n hx hb dX2_copies_9 rfl (lv_at hl 2 rfl) ?_
    refine lv_iload_n hx hb dX2_copies_10 rfl (lv_at hl 0 rfl) ?_
    refine lv_aload_n hx hb dX2_copies_11 rfl (lv_at hl 1 rfl) ?_
    refine lv_iload_n hx hb dX2_copies_12 rfl (lv_at hl 0 rfl) ?_
    refine k_ildN hx hb hK hx0 (j) (rfl) (by omega) (by decide) dX2_copies_13 ?_
    refine k_istN hx hb hK hS hy0 (j) (rfl) (by omega) (by decide) dX2_copies_14 (fun H_1 locs h_2 u_3 hS => ?_)
    have h_2 : Ar g y 0 (aI 369 (upd (fun k => if k < j then f k else h k) j (f j))) H_1 := h_2
    have h_4 := hx0.upd u_3 hxy
    have hF_5 := hF.put u_3 (Or.inl rfl)
    refine lv_iinc (v := nI (j + 1)) (lv' := [(2, .int (nI (j + 1))), (0, .ref x), (1, .ref y)]) hx hb dX2_copies_15 hl (k := 0) rfl (nI_1 j) (by decide) rfl (fun ls hl => ?_)
    refine lv_goto (tgt := 2) hx hb dX2_copies_18 (by decide) ?_
    exact ih (j + 1) _ _ _ _ _ ⟨by omega, h_4, Ar.ext h_2 (fun k hk => cpy_step f h j k), hF_5, hS, rfl, rfl, lv_sub hl [0, 1, 2] rfl⟩ (by omega)
/-- isRow(row) -/
theorem m_isRow (l : Launch) (g : GT) {H : Heap} {A : Nat → Nat} {F : Nat → Nat → Int32} {I : Nat → Int32} (x : Int32) (hM : MAt g A F I H) : Met l yX2_isRow (ws_ yX2_isRow cX2_isRow 2 (some .boolean)) ({ frames := 0, cells := 0, slots := 0, locals := 0 } : Room) (va_Pc [.ref (A 0), .int x] (Pre g H)) (Qi g (fun r H1 => H1 = H ∧ r = b2i (0 ≤ x ∧ x < F 1 0))) 0 0 (gA g) := by
  refine k_met (cc := cX2_isRow) (nL := 2) (vs := [.ref (A 0), .int x]) (by decide +kernel) (Nat.le_of_ble_eq_true rfl) ?_
  intro p e s m below meth c hH hx hb hret hts hown hlk hml hin hK hS ls hl
  subst hH
  have hown : s.vm.findClass RX2 = some m.cls := hown
  have hl : lv_has ls 2 [(0, .ref (A 0)), (1, .int x)] := hl
  obtain ⟨h0, h1, h2, h3, h4, n12, n13, n14, n23, n24, n34⟩ := id hM
  refine lv_iload_n hx hb dX2_isRow_0 rfl (lv_at hl 1 rfl) ?_
  refine lv_if_lt (tgt := 18) hx hb dX2_isRow_1 (by decide) (fun c1 => ?_) (fun c1 => ?_)
  · refine lv_iconst (v := 0) hx hb dX2_isRow_18 (by decide) ?_
    exact k_ireti (v := 0) hx hb hret (rfl) hlk hS (Nat.le_of_ble_eq_true rfl) (Nat.le_of_ble_eq_true rfl) (⟨rfl, (b2i_f (fun h => absurd h.1 (Int32.not_le.mpr c1))).symm⟩) dX2_isRow_19
  · refine lv_iload_n hx hb dX2_isRow_4 rfl (lv_at hl 1 rfl) ?_
    refine lv_aload_n hx hb dX2_isRow_5 rfl (lv_at hl 0 rfl) ?_
    refine k_get (ci := 2) hx hb hts in_X2 hown hK h0 rfl 0 (by decide) q1400 (fun _ h9 => h9) rfl dX2_isRow_6 ?_
    refine lv_iconst (v := nI 0) hx hb dX2_isRow_9 (by decide) ?_
    refine k_ildN hx hb hK h1 (0) (rfl) (by omega) (by decide) dX2_isRow_10 ?_
    refine lv_icmp_ge (tgt := 18) hx hb dX2_isRow_11 (by decide) (fun c11 => ?_) (fun c11 => ?_)
    · refine lv_iconst (v := 0) hx hb dX2_isRow_18 (by decide) ?_
      exact k_ireti (v := 0) hx hb hret (rfl) hlk hS (Nat.le_of_ble_eq_true rfl) (Nat.le_of_ble_eq_true rfl) (⟨rfl, (b2i_f (fun h => absurd h.2 (Int32.not_lt.mpr c11))).symm⟩) dX2_isRow_19
    · refine lv_iconst (v := 1) hx hb dX2_isRow_14 (by decide) ?_
      refine lv_goto (tgt := 19) hx hb dX2_isRow_15 (by decide) ?_
      exact k_ireti (v := 1) hx hb hret (rfl) hlk hS (Nat.le_of_ble_eq_true rfl) (Nat.le_of_ble_eq_true rfl) (⟨rfl, (b2i_t ⟨i_nlt c1, i_nle c11⟩).symm⟩) dX2_isRow_19
/-- isRoute(route) -/
theorem m_isRoute (l : Launch) (g : GT) {H : Heap} {A : Nat → Nat} {F : Nat → Nat → Int32} {I : Nat → Int32} (x : Int32) (hM : MAt g A F I H) : Met l yX2_isRoute (ws_ yX2_isRoute cX2_isRoute 2 (some .boolean)) ({ frames := 0, cells := 0, slots := 0, locals := 0 } : Room) (va_Pc [.ref (A 0), .int x] (Pre g H)) (Qi g (fun r H1 => H1 = H ∧ r = b2i (0 ≤ x ∧ x < F 1 2))) 0 0 (gA g) := by
  refine k_met (cc := cX2_isRoute) (nL := 2) (vs := [.ref (A 0), .int x]) (by decide +kernel) (Nat.le_of_ble_eq_true rfl) ?_
  intro p e s m below meth c hH hx hb hret hts hown hlk hml hin hK hS ls hl
  subst hH
  have hown : s.vm.findClass RX2 = some m.cls := hown
  have hl : lv_has ls 2 [(0, .ref (A 0)), (1, .int x)] := hl
  obtain ⟨h0, h1, h2, h3, h4, n12, n13, n14, n23, n24, n34⟩ := id hM
  refine lv_iload_n hx hb dX2_isRoute_0 rfl (lv_at hl 1 rfl) ?_
  refine lv_if_lt (tgt := 18) hx hb dX2_isRoute_1 (by decide) (fun c1 => ?_) (fun c1 => ?_)
  · refine lv_iconst (v := 0) hx hb dX2_isRoute_18 (by decide) ?_
    exact k_ireti (v := 0) hx hb hret (rfl) hlk hS (Nat.le_of_ble_eq_true rfl) (Nat.le_of_ble_eq_true rfl) (⟨rfl, (b2i_f (fun h => absurd h.1 (Int32.not_le.mpr c1))).symm⟩) dX2_isRoute_19
  · refine lv_iload_n hx hb dX2_isRoute_4 rfl (lv_at hl 1 rfl) ?_
    refine lv_aload_n hx hb dX2_isRoute_5 rfl (lv_at hl 0 rfl) ?_
    refine k_get (ci := 2) hx hb hts in_X2 hown hK h0 rfl 0 (by decide) q1400 (fun _ h9 => h9) rfl dX2_isRoute_6 ?_
    refine lv_iconst (v := nI 2) hx hb dX2_isRoute_9 (by decide) ?_
    refine k_ildN hx hb hK h1 (2) (rfl) (by omega) (by decide) dX2_isRoute_10 ?_
    refine lv_icmp_ge (tgt := 18) hx hb dX2_isRoute_11 (by decide) (fun c11 => ?_) (fun c11 => ?_)
    · refine lv_iconst (v := 0) hx hb dX2_isRoute_18 (by decide) ?_
      exact k_ireti (v := 0) hx hb hret (rfl) hlk hS (Nat.le_of_ble_eq_true rfl) (Nat.le_of_ble_eq_true rfl) (⟨rfl, (b2i_f (fun h => absurd h.2 (Int32.not_lt.mpr c11))).symm⟩) dX2_isRoute_19
    · refine lv_iconst (v := 1) hx hb dX2_isRoute_14 (by decide) ?_
      refine lv_goto (tgt := 19) hx hb dX2_isRoute_15 (by decide) ?_
      exact k_ireti (v := 1) hx hb hret (rfl) hlk hS (Nat.le_of_ble_eq_true rfl) (Nat.le_of_ble_eq_true rfl) (⟨rfl, (b2i_t ⟨i_nlt c1, i_nle c11⟩).symm⟩) dX2_isRoute_19
/-- of(row, what) -/
theorem m_of (l : Launch) (g : GT) {H : Heap} {A : Nat → Nat} {F : Nat → Nat → Int32} {I : Nat → Int32} (r k : Nat) (hM : MAt g A F I H) (hk : 11 + 17 * r + k < 369) : Met l yX2_of (ws_ yX2_of cX2_of 3 (some .int)) ({ frames := 0, cells := 0, slots := 0, locals := 0 } : Room) (va_Pc [.ref (A 0), .int (nI r), .int (nI k)] (Pre g H)) (Qi g (fun z H1 => H1 = H ∧ z = F 1 (11 + 17 * r + k))) 0 0 (gA g) := by
  refine k_met (cc := cX2_of) (nL := 3) (vs := [.ref (A 0), .int (nI r), .int (nI k)]) (by decide +kernel) (Nat.le_of_ble_eq_true rfl) ?_
  intro p e s m below meth c hH hx hb hret hts hown hlk hml hin hK hS ls hl
  subst hH
  have hown : s.vm.findClass RX2 = some m.cls := hown
  have hl : lv_has ls 3 [(0, .ref (A 0)), (1, .int (nI r)), (2, .int (nI k))] := hl
  obtain ⟨h0, h1, h2, h3, h4, n12, n13, n14, n23, n24, n34⟩ := id hM
  refine lv_aload_n hx hb dX2_of_0 rfl (lv_at hl 0 rfl) ?_
  refine k_get (ci := 2) hx hb hts in_X2 hown hK h0 rfl 0 (by decide) q1400 (fun _ h9 => h9) rfl dX2_of_1 ?_
  refine lv_bipush (v := nI 11) hx hb dX2_of_4 (by decide) ?_
  refine lv_bipush (v := nI 17) hx hb dX2_of_6 (by decide) ?_
  refine lv_iload_n hx hb dX2_of_8 rfl (lv_at hl 1 rfl) ?_
  refine lv_imul hx hb dX2_of_9 ?_
  refine lv_iadd hx hb dX2_of_10 ?_
  refine lv_iload_n hx hb dX2_of_11 rfl (lv_at hl 2 rfl) ?_
  refine lv_iadd hx hb dX2_of_12 ?_
  refine k_ildN hx hb hK h1 (11 + 17 * r + k) (by rw [pk_mul, nI_add, nI_add]) (by omega) (by decide) dX2_of_13 ?_
  exact k_ireti (v := (F 1) (11 + 17 * r + k)) hx hb hret (rfl) hlk hS (Nat.le_of_ble_eq_true rfl) (Nat.le_of_ble_eq_true rfl) (⟨rfl, rfl⟩) dX2_of_14
/-- ofRoute(route, what) -/
theorem m_ofRoute (l : Launch) (g : GT) {H : Heap} {A : Nat → Nat} {F : Nat → Nat → Int32} {I : Nat → Int32} (r k : Nat) (hM : MAt g A F I H) (hk : 351 + 3 * r + k < 369) : Met l yX2_ofRoute (ws_ yX2_ofRoute cX2_ofRoute 3 (some .int)) ({ frames := 0, cells := 0, slots := 0, locals := 0 } : Room) (va_Pc [.ref (A 0), .int (nI r), .int (nI k)] (Pre g H)) (Qi g (fun z H1 => H1 = H ∧ z = F 1 (351 + 3 * r + k))) 0 0 (gA g) := by
  refine k_met (cc := cX2_ofRoute) (nL := 3) (vs := [.ref (A 0), .int (nI r), .int (nI k)]) (by decide +kernel) (Nat.le_of_ble_eq_true rfl) ?_
  intro p e s m below meth c hH hx hb hret hts hown hlk hml hin hK hS ls hl
  subst hH
  have hown : s.vm.findClass RX2 = some m.cls := hown
  have hl : lv_has ls 3 [(0, .ref (A 0)), (1, .int (nI r)), (2, .int (nI k))] := hl
  obtain ⟨h0, h1, h2, h3, h4, n12, n13, n14, n23, n24, n34⟩ := id hM
  refine lv_aload_n hx hb dX2_ofRoute_0 rfl (lv_at hl 0 rfl) ?_
  refine k_get (ci := 2) hx hb hts in_X2 hown hK h0 rfl 0 (by decide) q1400 (fun _ h9 => h9) rfl dX2_ofRoute_1 ?_
  refine lv_sipush (v := nI 351) hx hb dX2_ofRoute_4 (by decide) ?_
  refine lv_iconst (v := nI 3) hx hb dX2_ofRoute_7 (by decide) ?_
  refine lv_iload_n hx hb dX2_ofRoute_8 rfl (lv_at hl 1 rfl) ?_
  refine lv_imul hx hb dX2_ofRoute_9 ?_
  refine lv_iadd hx hb dX2_ofRoute_10 ?_
  refine lv_iload_n hx hb dX2_ofRoute_11 rfl (lv_at hl 2 rfl) ?_
  refine lv_iadd hx hb dX2_ofRoute_12 ?_
  refine k_ildN hx hb hK h1 (351 + 3 * r + k) (by rw [pk_mul, nI_add, nI_add]) (by omega) (by decide) dX2_ofRoute_13 ?_
  exact k_ireti (v := (F 1) (351 + 3 * r + k)) hx hb hret (rfl) hlk hS (Nat.le_of_ble_eq_true rfl) (Nat.le_of_ble_eq_true rfl) (⟨rfl, rfl⟩) dX2_ofRoute_14
/-- sets(row, what, v) -/
theorem m_sets (l : Launch) (g : GT) {H : Heap} {A : Nat → Nat} {F : Nat → Nat → Int32} {I : Nat → Int32} (r k : Nat) (x : Int32) (hM : MAt g A F I H) (hk : 11 + 17 * r + k < 369) : Met l yX2_sets (ws_ yX2_sets cX2_sets 4 none) ({ frames := 0, cells := 0, slots := 0, locals := 0 } : Room) (va_Pc [.ref (A 0), .int (nI r), .int (nI k), .int x] (Pre g H)) (Qv g (fun H1 => MAt g A (va_up F 1 (upd (F 1) (11 + 17 * r + k) x)) I H1 ∧ Fx (MM A) H H1)) 0 0 (gA g) := by
  refine k_met (cc := cX2_sets) (nL := 4) (vs := [.ref (A 0), .int (nI r), .int (nI k), .int x]) (by decide +kernel) (Nat.le_of_ble_eq_true rfl) ?_
  intro p e s m below meth c hH hx hb hret hts hown hlk hml hin hK hS ls hl
  subst hH
  have hown : s.vm.findClass RX2 = some m.cls := hown
  have hl : lv_has ls 4 [(0, .ref (A 0)), (1, .int (nI r)), (2, .int (nI k)), (3, .int x)] := hl
  obtain ⟨h0, h1, h2, h3, h4, n12, n13, n14, n23, n24, n34⟩ := id hM
  have hF : Fx (MM A) s.heap s.heap := Fx.rf
  refine lv_aload_n hx hb dX2_sets_0 rfl (lv_at hl 0 rfl) ?_
  refine k_get (ci := 2) hx hb hts in_X2 hown hK h0 rfl 0 (by decide) q1400 (fun _ h9 => h9) rfl dX2_sets_1 ?_
  refine lv_bipush (v := nI 11) hx hb dX2_sets_4 (by decide) ?_
  refine lv_bipush (v := nI 17) hx hb dX2_sets_6 (by decide) ?_
  refine lv_iload_n hx hb dX2_sets_8 rfl (lv_at hl 1 rfl) ?_
  refine lv_imul hx hb dX2_sets_9 ?_
  refine lv_iadd hx hb dX2_sets_10 ?_
  refine lv_iload_n hx hb dX2_sets_11 rfl (lv_at hl 2 rfl) ?_
  refine lv_iadd hx hb dX2_sets_12 ?_
  refine lv_iload_n hx hb dX2_sets_13 rfl (lv_at hl 3 rfl) ?_
  refine k_istN hx hb hK hS h1 (11 + 17 * r + k) (by rw [pk_mul, nI_add, nI_add]) (by omega) (by decide) dX2_sets_14 (fun H_1 locs h_2 u_3 hS => ?_)
  have h_2 : Ar g (A 1) 0 (aI 369 (upd (F 1) (11 + 17 * r + k) x)) H_1 := h_2
  have h_4 := h0.upd u_3 (Ob.neA hK.gg h0 h1 (by decide) (by decide))
  have h_5 := h2.upd u_3 (Ne.symm n12)
  have h_6 := h3.upd u_3 (Ne.symm n13)
  have h_7 := h4.upd u_3 (Ne.symm n14)
  have hF_8 := hF.put u_3 (Or.inl (Or.inr (Or.inl rfl)))
  exact k_retv hx hb hret hlk hS (Nat.le_of_ble_eq_true rfl) (Nat.le_of_ble_eq_true rfl) (⟨MAt.mk (F := va_up F 1 (upd (F 1) (11 + 17 * r + k) x)) (I := I) h_4 h_2 h_5 h_6 h_7 n12 n13 n14 n23 n24 n34, hF_8⟩) dX2_sets_15
/-- squeezed(width) -/
theorem m_squeezed (l : Launch) (g : GT) {H : Heap} {A : Nat → Nat} {F : Nat → Nat → Int32} {I : Nat → Int32} (x : Int32) (hM : MAt g A F I H) (h8 : F 1 8 ≠ 0) : Met l yX2_squeezed (ws_ yX2_squeezed cX2_squeezed 2 (some .int)) ({ frames := 0, cells := 0, slots := 0, locals := 0 } : Room) (va_Pc [.ref (A 0), .int x] (Pre g H)) (Qi g (fun z H1 => H1 = H ∧ z = sqz x (F 1 8))) 0 0 (gA g) := by
  refine k_met (cc := cX2_squeezed) (nL := 2) (vs := [.ref (A 0), .int x]) (by decide +kernel) (Nat.le_of_ble_eq_true rfl) ?_
  intro p e s m below meth c hH hx hb hret hts hown hlk hml hin hK hS ls hl
  subst hH
  have hown : s.vm.findClass RX2 = some m.cls := hown
  have hl : lv_has ls 2 [(0, .ref (A 0)), (1, .int x)] := hl
  obtain ⟨h0, h1, h2, h3, h4, n12, n13, n14, n23, n24, n34⟩ := id hM
  refine lv_iload_n hx hb dX2_squeezed_0 rfl (lv_at hl 1 rfl) ?_
  refine lv_aload_n hx hb dX2_squeezed_1 rfl (lv_at hl 0 rfl) ?_
  refine k_get (ci := 2) hx hb hts in_X2 hown hK h0 rfl 0 (by decide) q1400 (fun _ h9 => h9) rfl dX2_squeezed_2 ?_
  refine lv_bipush (v := nI 8) hx hb dX2_squeezed_5 (by decide) ?_
  refine k_ildN hx hb hK h1 (8) (rfl) (by omega) (by decide) dX2_squeezed_7 ?_
  refine lv_icmp_le (tgt := 26) hx hb dX2_squeezed_8 (by decide) (fun c8 => ?_) (fun c8 => ?_)
  · refine lv_bipush (v := 100) hx hb dX2_squeezed_26 (by decide) ?_
    exact k_ireti (v := 100) hx hb hret (rfl) hlk hS (Nat.le_of_ble_eq_true rfl) (Nat.le_of_ble_eq_true rfl) (⟨rfl, by unfold sqz; rw [if_neg (Int32.not_lt.mpr c8)]⟩) dX2_squeezed_28
  · refine lv_iload_n hx hb dX2_squeezed_11 rfl (lv_at hl 1 rfl) ?_
    refine lv_bipush (v := 100) hx hb dX2_squeezed_12 (by decide) ?_
    refine lv_imul hx hb dX2_squeezed_14 ?_
    refine lv_aload_n hx hb dX2_squeezed_15 rfl (lv_at hl 0 rfl) ?_
    refine k_get (ci := 2) hx hb hts in_X2 hown hK h0 rfl 0 (by decide) q1400 (fun _ h9 => h9) rfl dX2_squeezed_16 ?_
    refine lv_bipush (v := nI 8) hx hb dX2_squeezed_19 (by decide) ?_
    refine k_ildN hx hb hK h1 (8) (rfl) (by omega) (by decide) dX2_squeezed_21 ?_
    refine lv_idiv hx hb dX2_squeezed_22 (h8) ?_
    refine lv_goto (tgt := 28) hx hb dX2_squeezed_23 (by decide) ?_
    exact k_ireti (v := (x * 100) / ((F 1) 8)) hx hb hret (rfl) hlk hS (Nat.le_of_ble_eq_true rfl) (Nat.le_of_ble_eq_true rfl) (⟨rfl, by unfold sqz; rw [if_pos (i_nle c8)]⟩) dX2_squeezed_28
/-- isTorn(row) -/
theorem m_isTorn (l : Launch) (g : GT) {H : Heap} {A : Nat → Nat} {F : Nat → Nat → Int32} {I : Nat → Int32} (r : Nat) (hM : MAt g A F I H) (hr20 : r < 20) : Met l yX2_isTorn (ws_ yX2_isTorn cX2_isTorn 2 (some .boolean)) ({ frames := 1, cells := 0, slots := 0, locals := 22 } : Room) (va_Pc [.ref (A 0), .int (nI r)] (Pre g H)) (Qi g (fun z H1 => H1 = H ∧ z = b2i (F 1 (13 + 17 * r) = 1))) 0 0 (gA g) := by
  refine k_met (cc := cX2_isTorn) (nL := 2) (vs := [.ref (A 0), .int (nI r)]) (by decide +kernel) (Nat.le_of_ble_eq_true rfl) ?_
  intro p e s m below meth c hH hx hb hret hts hown hlk hml hin hK hS ls hl
  subst hH
  have hown : s.vm.findClass RX2 = some m.cls := hown
  have hl : lv_has ls 2 [(0, .ref (A 0)), (1, .int (nI r))] := hl
  obtain ⟨h0, h1, h2, h3, h4, n12, n13, n14, n23, n24, n34⟩ := id hM
  refine lv_aload_n hx hb dX2_isTorn_0 rfl (lv_at hl 0 rfl) ?_
  refine lv_iload_n hx hb dX2_isTorn_1 rfl (lv_at hl 1 rfl) ?_
  refine lv_iconst (v := nI 2) hx hb dX2_isTorn_2 (by decide) ?_
  refine k_calliS (va_runV (As := [.int (nI r), .int (nI 2)]) (rest := []) ⟨hx, hb, hml, hown, hts⟩ (m_of l g r 2 hM (by omega)) (cwV 2 hts (lw_V q1515 q1517 qs32 q56 q1518) rfl rfl rfl hdV_X2_of ⟨Nat.le_of_ble_eq_true rfl, Nat.le_of_ble_eq_true rfl⟩) (preV hK hS h0 rfl) rfl rfl hl.1 rfl (lv_room (Nat.le_of_ble_eq_true rfl)) dX2_isTorn_3 ⟨Nat.le_of_ble_eq_true rfl, Nat.le_of_ble_eq_true rfl⟩) hS (fun t locs hp_2 hS => ?_)
  refine lv_iconst (v := 1) hx hb dX2_isTorn_6 (by decide) ?_
  refine lv_icmp_ne (tgt := 14) hx hb dX2_isTorn_7 (by decide) (fun c7 => ?_) (fun c7 => ?_)
  · refine lv_iconst (v := 0) hx hb dX2_isTorn_14 (by decide) ?_
    exact k_ireti (v := 0) hx hb hret (rfl) hlk hS (Nat.le_of_ble_eq_true rfl) (Nat.le_of_ble_eq_true rfl) (⟨rfl, (b2i_f (by rw [show 13 + 17 * r = 11 + 17 * r + 2 by omega, ← hp_2]; exact c7)).symm⟩) dX2_isTorn_15
  · refine lv_iconst (v := 1) hx hb dX2_isTorn_10 (by decide) ?_
    refine lv_goto (tgt := 15) hx hb dX2_isTorn_11 (by decide) ?_
    exact k_ireti (v := 1) hx hb hret (rfl) hlk hS (Nat.le_of_ble_eq_true rfl) (Nat.le_of_ble_eq_true rfl) (⟨rfl, (b2i_t (by rw [show 13 + 17 * r = 11 + 17 * r + 2 by omega, ← hp_2]; exact c7)).symm⟩) dX2_isTorn_15
/-- fails(why, by) -/
theorem m_fails (l : Launch) (g : GT) {H : Heap} {A : Nat → Nat} {F : Nat → Nat → Int32} {I : Nat → Int32} (x y : Int32) (hM : MAt g A F I H) : Met l yX2_fails (ws_ yX2_fails cX2_fails 3 (some .boolean)) ({ frames := 0, cells := 0, slots := 0, locals := 0 } : Room) (va_Pc [.ref (A 0), .int x, .int y] (Pre g H)) (Qi g (fun z H1 => z = 0 ∧ MAt g A F (upd (upd I 8 x) 9 y) H1 ∧ Fx (MM A) H H1)) 0 0 (gA g) := by
  refine k_met (cc := cX2_fails) (nL := 3) (vs := [.ref (A 0), .int x, .int y]) (by decide +kernel) (Nat.le_of_ble_eq_true rfl) ?_
  intro p e s m below meth c hH hx hb hret hts hown hlk hml hin hK hS ls hl
  subst hH
  have hown : s.vm.findClass RX2 = some m.cls := hown
  have hl : lv_has ls 3 [(0, .ref (A 0)), (1, .int x), (2, .int y)] := hl
  obtain ⟨h0, h1, h2, h3, h4, n12, n13, n14, n23, n24, n34⟩ := id hM
  have hF : Fx (MM A) s.heap s.heap := Fx.rf
  refine lv_aload_n hx hb dX2_fails_0 rfl (lv_at hl 0 rfl) ?_
  refine lv_iload_n hx hb dX2_fails_1 rfl (lv_at hl 1 rfl) ?_
  refine k_put (ci := 2) hx hb hts in_X2 tyX2 tyX2_ok nmX2 hown hK hS h0 rfl 8 (by decide) q1408 (fun _ h9 => h9) rfl (rfl) (rfl) (Nat.le_of_ble_eq_true rfl) dX2_fails_2 (fun H_1 locs h_2 u_3 hS => ?_)
  have h_2 : Ob g (A 0) 2 [.ref (A 1), .ref (A 2), .ref (A 3), .int (I 3), .ref (A 4), .int (I 5), .int (I 6), .int (I 7), .int x, .int (I 9), .int (I 10), .int (I 11), .int (I 12)] H_1 := h_2
  have h_4 := h1.upd u_3 (Ne.symm (Ob.neA hK.gg h0 h1 (by decide) (by decide)))
  have h_5 := h2.upd u_3 (Ne.symm (Ob.neA hK.gg h0 h2 (by decide) (by decide)))
  have h_6 := h3.upd u_3 (Ne.symm (Ob.neA hK.gg h0 h3 (by decide) (by decide)))
  have h_7 := h4.upd u_3 (Ne.symm (Ob.neA hK.gg h0 h4 (by decide) (by decide)))
  have hF_8 := hF.put u_3 (Or.inl (Or.inl rfl))
  refine lv_aload_n hx hb dX2_fails_5 rfl (lv_at hl 0 rfl) ?_
  refine lv_iload_n hx hb dX2_fails_6 rfl (lv_at hl 2 rfl) ?_
  refine k_put (ci := 2) hx hb hts in_X2 tyX2 tyX2_ok nmX2 hown hK hS h_2 rfl 9 (by decide) q1409 (fun _ h9 => h9) rfl (rfl) (rfl) (Nat.le_of_ble_eq_true rfl) dX2_fails_7 (fun H_9 locs h_10 u_11 hS => ?_)
  have h_10 : Ob g (A 0) 2 [.ref (A 1), .ref (A 2), .ref (A 3), .int (I 3), .ref (A 4), .int (I 5), .int (I 6), .int (I 7), .int x, .int y, .int (I 10), .int (I 11), .int (I 12)] H_9 := h_10
  have h_12 := h_4.upd u_11 (Ne.symm (Ob.neA hK.gg h_2 h_4 (by decide) (by decide)))
  have h_13 := h_5.upd u_11 (Ne.symm (Ob.neA hK.gg h_2 h_5 (by decide) (by decide)))
  have h_14 := h_6.upd u_11 (Ne.symm (Ob.neA hK.gg h_2 h_6 (by decide) (by decide)))
  have h_15 := h_7.upd u_11 (Ne.symm (Ob.neA hK.gg h_2 h_7 (by decide) (by decide)))
  have hF_16 := hF_8.put u_11 (Or.inl (Or.inl rfl))
  refine lv_iconst (v := 0) hx hb dX2_fails_10 (by decide) ?_
  exact k_ireti (v := 0) hx hb hret (rfl) hlk hS (Nat.le_of_ble_eq_true rfl) (Nat.le_of_ble_eq_true rfl) (⟨rfl, MAt.mk (F := F) (I := upd (upd I 8 x) 9 y) h_10 h_12 h_13 h_14 h_15 n12 n13 n14 n23 n24 n34, hF_16⟩) dX2_fails_11
