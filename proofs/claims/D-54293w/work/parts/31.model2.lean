/-! ===== HandBlindsModel: widths, kinds, the text machine (printed by tools/model2.py) ===== -/
set_option maxRecDepth 100000
/-- the width of n letters -/
def wsum (f : Nat → Int32) : Nat → Int32
  | 0 => 0
  | n + 1 => wsum f n + wd (f n)
/-- n letters as a number to the base 32 -/
def nsum (f : Nat → Int32) : Nat → Int64
  | 0 => 0
  | n + 1 => 32 * nsum f n + (f n - f n / 32 * 32).toInt64
/-- the kind of a name of n letters, as the model tells it -/
def kindF (f : Nat → Int32) (n : Nat) : Int32 := if nsum f n = 4375028 then 1 else if nsum f n = 20433497 then 2 else if nsum f n = 17794008709 then 3 else if n = 1 then 4 else 0
/-- width(row) -/
theorem m_width (l : Launch) (g : GT) {H : Heap} {A : Nat → Nat} {F : Nat → Nat → Int32} {I : Nat → Int32} (r n : Nat) (hM : MAt g A F I H) (hr20 : r < 20) (hn : F 1 (11 + 17 * r) = nI n) (hn14 : n ≤ 14) : Met l yX2_width (ws_ yX2_width cX2_width 4 (some .int)) ({ frames := 1, cells := 0, slots := 0, locals := 22 } : Room) (va_Pc [.ref (A 0), .int (nI r)] (Pre g H)) (Qi g (fun z H1 => H1 = H ∧ z = wsum (fun k => F 1 (14 + 17 * r + k)) n)) 0 0 (gA g) := by
  refine k_met (cc := cX2_width) (nL := 4) (vs := [.ref (A 0), .int (nI r)]) (by decide +kernel) (Nat.le_of_ble_eq_true rfl) ?_
  intro p e s m below meth c hH hx hb hret hts hown hlk hml hin hK hS ls hl
  subst hH
  have hown : s.vm.findClass RX2 = some m.cls := hown
  have hl : lv_has ls 4 [(0, .ref (A 0)), (1, .int (nI r))] := hl
  obtain ⟨h0, h1, h2, h3, h4, n12, n13, n14, n23, n24, n34⟩ := id hM
  refine lv_iconst (v := 0) hx hb dX2_width_0 (by decide) ?_
  refine lv_istore_n (lv' := [(2, .int 0), (0, .ref (A 0)), (1, .int (nI r))]) hx hb dX2_width_1 rfl hl (by decide) rfl (fun ls hl => ?_)
  refine lv_iconst (v := nI 0) hx hb dX2_width_2 (by decide) ?_
  refine lv_istore_n (lv' := [(3, .int (nI 0)), (2, .int 0), (0, .ref (A 0)), (1, .int (nI r))]) hx hb dX2_width_3 rfl hl (by decide) rfl (fun ls hl => ?_)
  refine w_loop (Inv := fun (j : Nat) Hh locs cells slots ls => j ≤ n ∧ s.heap = Hh ∧ va_S (gA g) s.heap Hh locs ∧ cells = 0 ∧ slots = 0 ∧ lv_has ls 4 [(3, .int (nI j)), (2, .int (wsum (fun k => F 1 (14 + 17 * r + k)) j)), (0, .ref (A 0)), (1, .int (nI r))]) (μ := fun j => n - j) ?_ 0 _ _ _ _ _ ⟨Nat.zero_le _, rfl, hS, rfl, rfl, lv_sub hl [0, 1, 2, 3] rfl⟩
  intro j Hh locs cells slots ls hInv ih
  obtain ⟨hj, rfl, hS, rfl, rfl, hl⟩ := hInv
  refine lv_iload_n hx hb dX2_width_4 rfl (lv_at hl 0 rfl) ?_
  refine lv_aload_n hx hb dX2_width_5 rfl (lv_at hl 2 rfl) ?_
  refine lv_iload_n hx hb dX2_width_6 rfl (lv_at hl 3 rfl) ?_
  refine lv_iconst (v := nI 0) hx hb dX2_width_7 (by decide) ?_
  refine k_calliS (va_runV (As := [.int (nI r), .int (nI 0)]) (rest := [.int (nI j)]) ⟨hx, hb, hml, hown, hts⟩ (m_of l g r 0 hM (by omega)) (cwV 2 hts (lw_V q1515 q1517 qs32 q56 q1518) rfl rfl rfl hdV_X2_of ⟨Nat.le_of_ble_eq_true rfl, Nat.le_of_ble_eq_true rfl⟩) (preV hK hS h0 rfl) rfl rfl hl.1 rfl (lv_room (Nat.le_of_ble_eq_true rfl)) dX2_width_8 ⟨Nat.le_of_ble_eq_true rfl, Nat.le_of_ble_eq_true rfl⟩) hS (fun t locs ht hS => ?_)
  refine lv_icmp_ge (tgt := 34) hx hb dX2_width_11 (by decide) (fun c11 => ?_) (fun c11 => ?_)
  · rw [show t = nI n from ht.trans hn] at c11
    have hjn : n ≤ j := by rcases Nat.lt_or_ge (j) (n) with z | z; exact absurd c11 (nI_ge z (by omega)); exact z
    have hjn : j = n := by omega
    refine lv_iload_n hx hb dX2_width_34 rfl (lv_at hl 1 rfl) ?_
    exact k_ireti (v := wsum (fun k => F 1 (14 + 17 * r + k)) j) hx hb hret (rfl) hlk hS (Nat.le_of_ble_eq_true rfl) (Nat.le_of_ble_eq_true rfl) (⟨rfl, by rw [hjn]⟩) dX2_width_35
  · rw [show t = nI n from ht.trans hn] at c11
    have hjn : j < n := by rcases Nat.lt_or_ge (j) (n) with z | z; exact z; exact absurd (nI_le z (by omega)) c11
    refine lv_iload_n hx hb dX2_width_14 rfl (lv_at hl 1 rfl) ?_
    refine lv_aload_n hx hb dX2_width_15 rfl (lv_at hl 2 rfl) ?_
    refine lv_iload_n hx hb dX2_width_16 rfl (lv_at hl 3 rfl) ?_
    refine lv_iconst (v := nI 3) hx hb dX2_width_17 (by decide) ?_
    refine lv_iload_n hx hb dX2_width_18 rfl (lv_at hl 0 rfl) ?_
    refine lv_iadd hx hb dX2_width_19 ?_
    refine k_topi (nI (3 + j)) (nI_add 3 j) ?_
    refine k_calliS (va_runV (As := [.int (nI r), .int (nI (3 + j))]) (rest := [.int (wsum (fun k => F 1 (14 + 17 * r + k)) j)]) ⟨hx, hb, hml, hown, hts⟩ (m_of l g r (3 + j) hM (by omega)) (cwV 2 hts (lw_V q1515 q1517 qs32 q56 q1518) rfl rfl rfl hdV_X2_of ⟨Nat.le_of_ble_eq_true rfl, Nat.le_of_ble_eq_true rfl⟩) (preV hK hS h0 rfl) rfl rfl hl.1 rfl (lv_room (Nat.le_of_ble_eq_true rfl)) dX2_width_20 ⟨Nat.le_of_ble_eq_true rfl, Nat.le_of_ble_eq_true rfl⟩) hS (fun t2 locs ht2 hS => ?_)
    refine k_calliS (va_runS (As := [.int t2]) (rest := [.int (wsum (fun k => F 1 (14 + 17 * r + k)) j)]) ⟨hx, hb, hml, hown, hts⟩ (m_wide l g t2) (va_cwS 1 hts (lw_S q1475 q1476 q56 q1477) rfl rfl rfl hdS_X2_wide ⟨Nat.le_of_ble_eq_true rfl, Nat.le_of_ble_eq_true rfl⟩) (preS hK hS) rfl rfl hl.1 rfl (lv_room (Nat.le_of_ble_eq_true rfl)) dX2_width_23 ⟨Nat.le_of_ble_eq_true rfl, Nat.le_of_ble_eq_true rfl⟩) hS (fun t3 locs ht3 hS => ?_)
    refine lv_iadd hx hb dX2_width_26 ?_
    refine k_topi (wsum (fun k => F 1 (14 + 17 * r + k)) (j + 1)) (by rw [ht3, ht2, show 11 + 17 * r + (3 + j) = 14 + 17 * r + j by omega]; rfl) ?_
    refine lv_istore_n (lv' := [(2, .int (wsum (fun k => F 1 (14 + 17 * r + k)) (j + 1))), (3, .int (nI j)), (0, .ref (A 0)), (1, .int (nI r))]) hx hb dX2_width_27 rfl hl (by decide) rfl (fun ls hl => ?_)
    refine lv_iinc (v := nI (j + 1)) (lv' := [(3, .int (nI (j + 1))), (2, .int (wsum (fun k => F 1 (14 + 17 * r + k)) (j + 1))), (0, .ref (A 0)), (1, .int (nI r))]) hx hb dX2_width_28 hl (k := 1) rfl (nI_1 j) (by decide) rfl (fun ls hl => ?_)
    refine lv_goto (tgt := 4) hx hb dX2_width_31 (by decide) ?_
    exact ih (j + 1) _ _ _ _ _ ⟨by omega, rfl, hS, rfl, rfl, lv_sub hl [0, 1, 2, 3] rfl⟩ (by omega)
/-- isName(row, letters) -/
theorem m_isName (l : Launch) (g : GT) {H : Heap} {A : Nat → Nat} {F : Nat → Nat → Int32} {I : Nat → Int32} (r n : Nat) (x : Int64) (hM : MAt g A F I H) (hr20 : r < 20) (hn : F 1 (11 + 17 * r) = nI n) (hn14 : n ≤ 14) : Met l yX2_isName (ws_ yX2_isName cX2_isName 7 (some .boolean)) ({ frames := 1, cells := 0, slots := 0, locals := 22 } : Room) (va_Pc [.ref (A 0), .int (nI r), .long x] (Pre g H)) (Qi g (fun z H1 => H1 = H ∧ z = b2i (nsum (fun k => F 1 (14 + 17 * r + k)) n = x))) 0 0 (gA g) := by
  refine k_met (cc := cX2_isName) (nL := 7) (vs := [.ref (A 0), .int (nI r), .long x]) (by decide +kernel) (Nat.le_of_ble_eq_true rfl) ?_
  intro p e s m below meth c hH hx hb hret hts hown hlk hml hin hK hS ls hl
  subst hH
  have hown : s.vm.findClass RX2 = some m.cls := hown
  have hl : lv_has ls 7 [(0, .ref (A 0)), (1, .int (nI r)), (2, .long x)] := hl
  obtain ⟨h0, h1, h2, h3, h4, n12, n13, n14, n23, n24, n34⟩ := id hM
  refine lv_lconst (v := 0) hx hb dX2_isName_0 (by decide) ?_
  refine lv_lstore (lv' := [(4, .long 0), (0, .ref (A 0)), (1, .int (nI r)), (2, .long x)]) hx hb dX2_isName_1 hl (by decide) rfl (fun ls hl => ?_)
  refine lv_iconst (v := nI 0) hx hb dX2_isName_3 (by decide) ?_
  refine lv_istore (lv' := [(6, .int (nI 0)), (4, .long 0), (0, .ref (A 0)), (1, .int (nI r)), (2, .long x)]) hx hb dX2_isName_4 hl (by decide) rfl (fun ls hl => ?_)
  refine w_loop (Inv := fun (j : Nat) Hh locs cells slots ls => j ≤ n ∧ s.heap = Hh ∧ va_S (gA g) s.heap Hh locs ∧ cells = 0 ∧ slots = 0 ∧ lv_has ls 7 [(6, .int (nI j)), (4, .long (nsum (fun k => F 1 (14 + 17 * r + k)) j)), (0, .ref (A 0)), (1, .int (nI r)), (2, .long x)]) (μ := fun j => n - j) ?_ 0 _ _ _ _ _ ⟨Nat.zero_le _, rfl, hS, rfl, rfl, lv_sub hl [0, 1, 2, 3, 4] rfl⟩
  intro j Hh locs cells slots ls hInv ih
  obtain ⟨hj, rfl, hS, rfl, rfl, hl⟩ := hInv
  refine lv_iload hx hb dX2_isName_6 (lv_at hl 0 rfl) ?_
  refine lv_aload_n hx hb dX2_isName_8 rfl (lv_at hl 2 rfl) ?_
  refine lv_iload_n hx hb dX2_isName_9 rfl (lv_at hl 3 rfl) ?_
  refine lv_iconst (v := nI 0) hx hb dX2_isName_10 (by decide) ?_
  refine k_calliS (va_runV (As := [.int (nI r), .int (nI 0)]) (rest := [.int (nI j)]) ⟨hx, hb, hml, hown, hts⟩ (m_of l g r 0 hM (by omega)) (cwV 2 hts (lw_V q1515 q1517 qs32 q56 q1518) rfl rfl rfl hdV_X2_of ⟨Nat.le_of_ble_eq_true rfl, Nat.le_of_ble_eq_true rfl⟩) (preV hK hS h0 rfl) rfl rfl hl.1 rfl (lv_room (Nat.le_of_ble_eq_true rfl)) dX2_isName_11 ⟨Nat.le_of_ble_eq_true rfl, Nat.le_of_ble_eq_true rfl⟩) hS (fun t locs ht hS => ?_)
  refine lv_icmp_ge (tgt := 45) hx hb dX2_isName_14 (by decide) (fun c14 => ?_) (fun c14 => ?_)
  · rw [show t = nI n from ht.trans hn] at c14
    have hjn : n ≤ j := by rcases Nat.lt_or_ge (j) (n) with z | z; exact absurd c14 (nI_ge z (by omega)); exact z
    have hjn : j = n := by omega
    refine lv_lload hx hb dX2_isName_45 (lv_at hl 1 rfl) ?_
    refine lv_lload_n hx hb dX2_isName_47 rfl (lv_at hl 4 rfl) ?_
    refine W.lcmp hx hb dX2_isName_48 ?_
    refine lv_if_ne (tgt := 56) hx hb dX2_isName_49 (by decide) (fun c49 => ?_) (fun c49 => ?_)
    · refine lv_iconst (v := 0) hx hb dX2_isName_56 (by decide) ?_
      exact k_ireti (v := 0) hx hb hret (rfl) hlk hS (Nat.le_of_ble_eq_true rfl) (Nat.le_of_ble_eq_true rfl) (⟨rfl, (b2i_f (by rw [← hjn]; exact fun h => c49 ((lg_cmp_eq _ _).mpr h))).symm⟩) dX2_isName_57
    · refine lv_iconst (v := 1) hx hb dX2_isName_52 (by decide) ?_
      refine lv_goto (tgt := 57) hx hb dX2_isName_53 (by decide) ?_
      exact k_ireti (v := 1) hx hb hret (rfl) hlk hS (Nat.le_of_ble_eq_true rfl) (Nat.le_of_ble_eq_true rfl) (⟨rfl, (b2i_t (by rw [← hjn]; exact (lg_cmp_eq _ _).mp c49)).symm⟩) dX2_isName_57
  · rw [show t = nI n from ht.trans hn] at c14
    have hjn : j < n := by rcases Nat.lt_or_ge (j) (n) with z | z; exact z; exact absurd (nI_le z (by omega)) c14
    refine lv_ldc2 (v := 32) hx hb hown (hts _ q1573) dX2_isName_17 ?_
    refine lv_lload hx hb dX2_isName_20 (lv_at hl 1 rfl) ?_
    refine lv_lmul hx hb dX2_isName_22 ?_
    refine lv_aload_n hx hb dX2_isName_23 rfl (lv_at hl 2 rfl) ?_
    refine lv_iload_n hx hb dX2_isName_24 rfl (lv_at hl 3 rfl) ?_
    refine lv_iconst (v := nI 3) hx hb dX2_isName_25 (by decide) ?_
    refine lv_iload hx hb dX2_isName_26 (lv_at hl 0 rfl) ?_
    refine lv_iadd hx hb dX2_isName_28 ?_
    refine k_topi (nI (3 + j)) (nI_add 3 j) ?_
    refine k_calliS (va_runV (As := [.int (nI r), .int (nI (3 + j))]) (rest := [.long (32 * (nsum (fun k => F 1 (14 + 17 * r + k)) j))]) ⟨hx, hb, hml, hown, hts⟩ (m_of l g r (3 + j) hM (by omega)) (cwV 2 hts (lw_V q1515 q1517 qs32 q56 q1518) rfl rfl rfl hdV_X2_of ⟨Nat.le_of_ble_eq_true rfl, Nat.le_of_ble_eq_true rfl⟩) (preV hK hS h0 rfl) rfl rfl hl.1 rfl (lv_room (Nat.le_of_ble_eq_true rfl)) dX2_isName_29 ⟨Nat.le_of_ble_eq_true rfl, Nat.le_of_ble_eq_true rfl⟩) hS (fun t2 locs ht2 hS => ?_)
    refine lv_bipush (v := 32) hx hb dX2_isName_32 (by decide) ?_
    refine lv_irem hx hb dX2_isName_34 (by decide) ?_
    refine lv_i2l (v := (t2 - t2 / 32 * 32).toInt64) hx hb dX2_isName_35 (rfl) ?_
    refine lv_ladd hx hb dX2_isName_36 ?_
    refine k_topl (nsum (fun k => F 1 (14 + 17 * r + k)) (j + 1)) (by rw [ht2, show 11 + 17 * r + (3 + j) = 14 + 17 * r + j by omega]; rfl) ?_
    refine lv_lstore (lv' := [(4, .long (nsum (fun k => F 1 (14 + 17 * r + k)) (j + 1))), (6, .int (nI j)), (0, .ref (A 0)), (1, .int (nI r)), (2, .long x)]) hx hb dX2_isName_37 hl (by decide) rfl (fun ls hl => ?_)
    refine lv_iinc (v := nI (j + 1)) (lv' := [(6, .int (nI (j + 1))), (4, .long (nsum (fun k => F 1 (14 + 17 * r + k)) (j + 1))), (0, .ref (A 0)), (1, .int (nI r)), (2, .long x)]) hx hb dX2_isName_39 hl (k := 1) rfl (nI_1 j) (by decide) rfl (fun ls hl => ?_)
    refine lv_goto (tgt := 6) hx hb dX2_isName_42 (by decide) ?_
    exact ih (j + 1) _ _ _ _ _ ⟨by omega, rfl, hS, rfl, rfl, lv_sub hl [0, 1, 2, 3, 4] rfl⟩ (by omega)
/-- kind(row) -/
theorem m_kind (l : Launch) (g : GT) {H : Heap} {A : Nat → Nat} {F : Nat → Nat → Int32} {I : Nat → Int32} (r n : Nat) (hM : MAt g A F I H) (hr20 : r < 20) (hn : F 1 (11 + 17 * r) = nI n) (hn14 : n ≤ 14) : Met l yX2_kind (ws_ yX2_kind cX2_kind 2 (some .int)) ({ frames := 2, cells := 0, slots := 0, locals := 48 } : Room) (va_Pc [.ref (A 0), .int (nI r)] (Pre g H)) (Qi g (fun z H1 => H1 = H ∧ z = kindF (fun k => F 1 (14 + 17 * r + k)) n)) 0 0 (gA g) := by
  refine k_met (cc := cX2_kind) (nL := 2) (vs := [.ref (A 0), .int (nI r)]) (by decide +kernel) (Nat.le_of_ble_eq_true rfl) ?_
  intro p e s m below meth c hH hx hb hret hts hown hlk hml hin hK hS ls hl
  subst hH
  have hown : s.vm.findClass RX2 = some m.cls := hown
  have hl : lv_has ls 2 [(0, .ref (A 0)), (1, .int (nI r))] := hl
  obtain ⟨h0, h1, h2, h3, h4, n12, n13, n14, n23, n24, n34⟩ := id hM
  refine lv_aload_n hx hb dX2_kind_0 rfl (lv_at hl 0 rfl) ?_
  refine lv_iload_n hx hb dX2_kind_1 rfl (lv_at hl 1 rfl) ?_
  refine lv_ldc2 (v := 4375028) hx hb hown (hts _ q1568) dX2_kind_2 ?_
  refine k_calliS (va_runV (As := [.int (nI r), .long 4375028]) (rest := []) ⟨hx, hb, hml, hown, hts⟩ (m_isName l g r n 4375028 hM hr20 hn hn14) (cwV 2 hts (lw_V q1569 q1571 qs40 q56 q1572) rfl rfl rfl hdV_X2_isName ⟨Nat.le_of_ble_eq_true rfl, Nat.le_of_ble_eq_true rfl⟩) (preV hK hS h0 rfl) rfl rfl hl.1 rfl (lv_room (Nat.le_of_ble_eq_true rfl)) dX2_kind_5 ⟨Nat.le_of_ble_eq_true rfl, Nat.le_of_ble_eq_true rfl⟩) hS (fun t0 locs ht0 hS => ?_)
  refine lv_if_eq (tgt := 13) hx hb dX2_kind_8 (by decide) (fun c8 => ?_) (fun c8 => ?_)
  · have c8 := b2f ht0 c8
    refine lv_aload_n hx hb dX2_kind_13 rfl (lv_at hl 0 rfl) ?_
    refine lv_iload_n hx hb dX2_kind_14 rfl (lv_at hl 1 rfl) ?_
    refine lv_ldc2 (v := 20433497) hx hb hown (hts _ q1574) dX2_kind_15 ?_
    refine k_calliS (va_runV (As := [.int (nI r), .long 20433497]) (rest := []) ⟨hx, hb, hml, hown, hts⟩ (m_isName l g r n 20433497 hM hr20 hn hn14) (cwV 2 hts (lw_V q1569 q1571 qs40 q56 q1572) rfl rfl rfl hdV_X2_isName ⟨Nat.le_of_ble_eq_true rfl, Nat.le_of_ble_eq_true rfl⟩) (preV hK hS h0 rfl) rfl rfl hl.1 rfl (lv_room (Nat.le_of_ble_eq_true rfl)) dX2_kind_18 ⟨Nat.le_of_ble_eq_true rfl, Nat.le_of_ble_eq_true rfl⟩) hS (fun t1 locs ht1 hS => ?_)
    refine lv_if_eq (tgt := 26) hx hb dX2_kind_21 (by decide) (fun c21 => ?_) (fun c21 => ?_)
    · have c21 := b2f ht1 c21
      refine lv_aload_n hx hb dX2_kind_26 rfl (lv_at hl 0 rfl) ?_
      refine lv_iload_n hx hb dX2_kind_27 rfl (lv_at hl 1 rfl) ?_
      refine lv_ldc2 (v := 17794008709) hx hb hown (hts _ q1575) dX2_kind_28 ?_
      refine k_calliS (va_runV (As := [.int (nI r), .long 17794008709]) (rest := []) ⟨hx, hb, hml, hown, hts⟩ (m_isName l g r n 17794008709 hM hr20 hn hn14) (cwV 2 hts (lw_V q1569 q1571 qs40 q56 q1572) rfl rfl rfl hdV_X2_isName ⟨Nat.le_of_ble_eq_true rfl, Nat.le_of_ble_eq_true rfl⟩) (preV hK hS h0 rfl) rfl rfl hl.1 rfl (lv_room (Nat.le_of_ble_eq_true rfl)) dX2_kind_31 ⟨Nat.le_of_ble_eq_true rfl, Nat.le_of_ble_eq_true rfl⟩) hS (fun t2 locs ht2 hS => ?_)
      refine lv_if_eq (tgt := 39) hx hb dX2_kind_34 (by decide) (fun c34 => ?_) (fun c34 => ?_)
      · have c34 := b2f ht2 c34
        refine lv_aload_n hx hb dX2_kind_39 rfl (lv_at hl 0 rfl) ?_
        refine lv_iload_n hx hb dX2_kind_40 rfl (lv_at hl 1 rfl) ?_
        refine lv_iconst (v := nI 0) hx hb dX2_kind_41 (by decide) ?_
        refine k_calliS (va_runV (As := [.int (nI r), .int (nI 0)]) (rest := []) ⟨hx, hb, hml, hown, hts⟩ (m_of l g r 0 hM (by omega)) (cwV 2 hts (lw_V q1515 q1517 qs32 q56 q1518) rfl rfl rfl hdV_X2_of ⟨Nat.le_of_ble_eq_true rfl, Nat.le_of_ble_eq_true rfl⟩) (preV hK hS h0 rfl) rfl rfl hl.1 rfl (lv_room (Nat.le_of_ble_eq_true rfl)) dX2_kind_42 ⟨Nat.le_of_ble_eq_true rfl, Nat.le_of_ble_eq_true rfl⟩) hS (fun t locs ht hS => ?_)
        refine lv_iconst (v := 1) hx hb dX2_kind_45 (by decide) ?_
        refine lv_icmp_ne (tgt := 53) hx hb dX2_kind_46 (by decide) (fun c46 => ?_) (fun c46 => ?_)
        · rw [show t = nI n from ht.trans hn] at c46
          have c46 : ¬ n = 1 := fun z => c46 (by rw [z]; rfl)
          refine lv_iconst (v := 0) hx hb dX2_kind_53 (by decide) ?_
          exact k_ireti (v := 0) hx hb hret (rfl) hlk hS (Nat.le_of_ble_eq_true rfl) (Nat.le_of_ble_eq_true rfl) (⟨rfl, by unfold kindF; rw [if_neg c8, if_neg c21, if_neg c34, if_neg c46]⟩) dX2_kind_54
        · rw [show t = nI n from ht.trans hn] at c46
          have c46 : n = 1 := (nI_eq (a := n) (b := 1) (by omega) (by omega)).mp c46
          refine lv_iconst (v := 4) hx hb dX2_kind_49 (by decide) ?_
          refine lv_goto (tgt := 54) hx hb dX2_kind_50 (by decide) ?_
          exact k_ireti (v := 4) hx hb hret (rfl) hlk hS (Nat.le_of_ble_eq_true rfl) (Nat.le_of_ble_eq_true rfl) (⟨rfl, by unfold kindF; rw [if_neg c8, if_neg c21, if_neg c34, if_pos c46]⟩) dX2_kind_54
      · have c34 := b2t ht2 c34
        refine lv_iconst (v := 3) hx hb dX2_kind_37 (by decide) ?_
        exact k_ireti (v := 3) hx hb hret (rfl) hlk hS (Nat.le_of_ble_eq_true rfl) (Nat.le_of_ble_eq_true rfl) (⟨rfl, by unfold kindF; rw [if_neg c8, if_neg c21, if_pos c34]⟩) dX2_kind_38
    · have c21 := b2t ht1 c21
      refine lv_iconst (v := 2) hx hb dX2_kind_24 (by decide) ?_
      exact k_ireti (v := 2) hx hb hret (rfl) hlk hS (Nat.le_of_ble_eq_true rfl) (Nat.le_of_ble_eq_true rfl) (⟨rfl, by unfold kindF; rw [if_neg c8, if_pos c21]⟩) dX2_kind_25
  · have c8 := b2t ht0 c8
    refine lv_iconst (v := 1) hx hb dX2_kind_11 (by decide) ?_
    exact k_ireti (v := 1) hx hb hret (rfl) hlk hS (Nat.le_of_ble_eq_true rfl) (Nat.le_of_ble_eq_true rfl) (⟨rfl, by unfold kindF; rw [if_pos c8]⟩) dX2_kind_12
/-- isEnd() -/
theorem m_isEnd (l : Launch) (g : GT) {H : Heap} {A : Nat → Nat} {F : Nat → Nat → Int32} {I : Nat → Int32} (t sp : Nat) (hM : MAt g A F I H) (ht : I 5 = nI t) (ht60 : t ≤ 60) (hs : I 6 = nI sp) (hsp : sp ≤ t) : Met l yX2_isEnd (ws_ yX2_isEnd cX2_isEnd 1 (some .boolean)) ({ frames := 0, cells := 0, slots := 0, locals := 0 } : Room) (va_Pc [.ref (A 0)] (Pre g H)) (Qi g (fun z H1 => H1 = H ∧ z = b2i (sp = t ∨ F 4 sp = 47))) 0 0 (gA g) := by
  refine k_met (cc := cX2_isEnd) (nL := 1) (vs := [.ref (A 0)]) (by decide +kernel) (Nat.le_of_ble_eq_true rfl) ?_
  intro p e s m below meth c hH hx hb hret hts hown hlk hml hin hK hS ls hl
  subst hH
  have hown : s.vm.findClass RX2 = some m.cls := hown
  have hl : lv_has ls 1 [(0, .ref (A 0))] := hl
  obtain ⟨h0, h1, h2, h3, h4, n12, n13, n14, n23, n24, n34⟩ := id hM
  refine lv_aload_n hx hb dX2_isEnd_0 rfl (lv_at hl 0 rfl) ?_
  refine k_get (ci := 2) hx hb hts in_X2 hown hK h0 rfl 6 (by decide) q1406 (fun _ h9 => h9) rfl dX2_isEnd_1 ?_
  refine lv_aload_n hx hb dX2_isEnd_4 rfl (lv_at hl 0 rfl) ?_
  refine k_get (ci := 2) hx hb hts in_X2 hown hK h0 rfl 5 (by decide) q1405 (fun _ h9 => h9) rfl dX2_isEnd_5 ?_
  refine lv_icmp_eq (tgt := 25) hx hb dX2_isEnd_8 (by decide) (fun c8 => ?_) (fun c8 => ?_)
  · rw [hs, ht] at c8
    have c8 : sp = t := (nI_eq (by omega) (by omega)).mp c8
    refine lv_iconst (v := 1) hx hb dX2_isEnd_25 (by decide) ?_
    refine lv_goto (tgt := 30) hx hb dX2_isEnd_26 (by decide) ?_
    exact k_ireti (v := 1) hx hb hret (rfl) hlk hS (Nat.le_of_ble_eq_true rfl) (Nat.le_of_ble_eq_true rfl) (⟨rfl, (b2i_t (Or.inl c8)).symm⟩) dX2_isEnd_30
  · rw [hs, ht] at c8
    have c8 : ¬ sp = t := fun z => c8 (by rw [z])
    refine lv_aload_n hx hb dX2_isEnd_11 rfl (lv_at hl 0 rfl) ?_
    refine k_get (ci := 2) hx hb hts in_X2 hown hK h0 rfl 4 (by decide) q1404 (fun _ h9 => h9) rfl dX2_isEnd_12 ?_
    refine lv_aload_n hx hb dX2_isEnd_15 rfl (lv_at hl 0 rfl) ?_
    refine k_get (ci := 2) hx hb hts in_X2 hown hK h0 rfl 6 (by decide) q1406 (fun _ h9 => h9) rfl dX2_isEnd_16 ?_
    refine k_ildN hx hb hK h4 (sp) (hs) (by omega) (by decide) dX2_isEnd_19 ?_
    refine lv_bipush (v := 47) hx hb dX2_isEnd_20 (by decide) ?_
    refine lv_icmp_ne (tgt := 29) hx hb dX2_isEnd_22 (by decide) (fun c22 => ?_) (fun c22 => ?_)
    · refine lv_iconst (v := 0) hx hb dX2_isEnd_29 (by decide) ?_
      exact k_ireti (v := 0) hx hb hret (rfl) hlk hS (Nat.le_of_ble_eq_true rfl) (Nat.le_of_ble_eq_true rfl) (⟨rfl, (b2i_f (fun h => h.elim c8 c22)).symm⟩) dX2_isEnd_30
    · refine lv_iconst (v := 1) hx hb dX2_isEnd_25 (by decide) ?_
      refine lv_goto (tgt := 30) hx hb dX2_isEnd_26 (by decide) ?_
      exact k_ireti (v := 1) hx hb hret (rfl) hlk hS (Nat.le_of_ble_eq_true rfl) (Nat.le_of_ble_eq_true rfl) (⟨rfl, (b2i_t (Or.inr c22)).symm⟩) dX2_isEnd_30
/-- mayStand() -/
theorem m_mayStand (l : Launch) (g : GT) {H : Heap} {A : Nat → Nat} {F : Nat → Nat → Int32} {I : Nat → Int32} (sp fr : Nat) (hM : MAt g A F I H) (hs : I 6 = nI sp) (hsp : sp < 60) (hf : I 7 = nI fr) (hfr : fr ≤ sp) : Met l yX2_mayStand (ws_ yX2_mayStand cX2_mayStand 3 (some .boolean)) ({ frames := 1, cells := 0, slots := 0, locals := 22 } : Room) (va_Pc [.ref (A 0)] (Pre g H)) (Qi g (fun z H1 => H1 = H ∧ z = b2i (sp - fr < 14 ∧ ((65 ≤ F 4 sp ∧ F 4 sp ≤ 90) ∨ (F 4 sp = 32 ∧ fr < sp ∧ F 4 (sp - 1) ≠ 32))))) 0 0 (gA g) := by
  refine k_met (cc := cX2_mayStand) (nL := 3) (vs := [.ref (A 0)]) (by decide +kernel) (Nat.le_of_ble_eq_true rfl) ?_
  intro p e s m below meth c hH hx hb hret hts hown hlk hml hin hK hS ls hl
  subst hH
  have hown : s.vm.findClass RX2 = some m.cls := hown
  have hl : lv_has ls 3 [(0, .ref (A 0))] := hl
  obtain ⟨h0, h1, h2, h3, h4, n12, n13, n14, n23, n24, n34⟩ := id hM
  refine lv_aload_n hx hb dX2_mayStand_0 rfl (lv_at hl 0 rfl) ?_
  refine k_get (ci := 2) hx hb hts in_X2 hown hK h0 rfl 6 (by decide) q1406 (fun _ h9 => h9) rfl dX2_mayStand_1 ?_
  refine lv_aload_n hx hb dX2_mayStand_4 rfl (lv_at hl 0 rfl) ?_
  refine k_get (ci := 2) hx hb hts in_X2 hown hK h0 rfl 7 (by decide) q1407 (fun _ h9 => h9) rfl dX2_mayStand_5 ?_
  refine lv_isub hx hb dX2_mayStand_8 ?_
  refine k_topi (nI (sp - fr)) (by rw [hs, hf]; exact pk_sub hfr) ?_
  refine lv_istore_n (lv' := [(1, .int (nI (sp - fr))), (0, .ref (A 0))]) hx hb dX2_mayStand_9 rfl hl (by decide) rfl (fun ls hl => ?_)
  refine lv_aload_n hx hb dX2_mayStand_10 rfl (lv_at hl 1 rfl) ?_
  refine k_get (ci := 2) hx hb hts in_X2 hown hK h0 rfl 4 (by decide) q1404 (fun _ h9 => h9) rfl dX2_mayStand_11 ?_
  refine lv_aload_n hx hb dX2_mayStand_14 rfl (lv_at hl 1 rfl) ?_
  refine k_get (ci := 2) hx hb hts in_X2 hown hK h0 rfl 6 (by decide) q1406 (fun _ h9 => h9) rfl dX2_mayStand_15 ?_
  refine k_ildN hx hb hK h4 (sp) (hs) (by omega) (by decide) dX2_mayStand_18 ?_
  refine lv_bipush (v := 32) hx hb dX2_mayStand_19 (by decide) ?_
  refine lv_icmp_ne (tgt := 28) hx hb dX2_mayStand_21 (by decide) (fun c21 => ?_) (fun c21 => ?_)
  · refine lv_iconst (v := 0) hx hb dX2_mayStand_28 (by decide) ?_
    refine lv_istore_n (lv' := [(2, .int 0), (1, .int (nI (sp - fr))), (0, .ref (A 0))]) hx hb dX2_mayStand_29 rfl hl (by decide) rfl (fun ls hl => ?_)
    refine lv_iload_n hx hb dX2_mayStand_30 rfl (lv_at hl 1 rfl) ?_
    refine lv_bipush (v := nI 14) hx hb dX2_mayStand_31 (by decide) ?_
    refine lv_icmp_ge (tgt := 83) hx hb dX2_mayStand_33 (by decide) (fun c33 => ?_) (fun c33 => ?_)
    · have c33 : 14 ≤ sp - fr := by rcases Nat.lt_or_ge (sp - fr) (14) with z | z; exact absurd c33 (nI_ge z (by omega)); exact z
      refine lv_iconst (v := 0) hx hb dX2_mayStand_83 (by decide) ?_
      exact k_ireti (v := 0) hx hb hret (rfl) hlk hS (Nat.le_of_ble_eq_true rfl) (Nat.le_of_ble_eq_true rfl) (⟨rfl, (b2i_f (fun h => absurd h.1 (by omega))).symm⟩) dX2_mayStand_84
    · have c33 : sp - fr < 14 := by rcases Nat.lt_or_ge (sp - fr) (14) with z | z; exact z; exact absurd (nI_le z (by omega)) c33
      refine lv_aload_n hx hb dX2_mayStand_36 rfl (lv_at hl 2 rfl) ?_
      refine k_get (ci := 2) hx hb hts in_X2 hown hK h0 rfl 4 (by decide) q1404 (fun _ h9 => h9) rfl dX2_mayStand_37 ?_
      refine lv_aload_n hx hb dX2_mayStand_40 rfl (lv_at hl 2 rfl) ?_
      refine k_get (ci := 2) hx hb hts in_X2 hown hK h0 rfl 6 (by decide) q1406 (fun _ h9 => h9) rfl dX2_mayStand_41 ?_
      refine k_ildN hx hb hK h4 (sp) (hs) (by omega) (by decide) dX2_mayStand_44 ?_
      refine lv_bipush (v := 65) hx hb dX2_mayStand_45 (by decide) ?_
      refine lv_bipush (v := 90) hx hb dX2_mayStand_47 (by decide) ?_
      refine k_calliS (va_runS (As := [.int ((F 4) sp), .int 65, .int 90]) (rest := []) ⟨hx, hb, hml, hown, hts⟩ (m_in l g (F 4 sp) 65 90) (va_cwS 3 hts (lw_S q1444 q1445 q56 q1446) rfl rfl rfl hdS_X2_in ⟨Nat.le_of_ble_eq_true rfl, Nat.le_of_ble_eq_true rfl⟩) (preS hK hS) rfl rfl hl.1 rfl (lv_room (Nat.le_of_ble_eq_true rfl)) dX2_mayStand_49 ⟨Nat.le_of_ble_eq_true rfl, Nat.le_of_ble_eq_true rfl⟩) hS (fun t1 locs ht1 hS => ?_)
      refine lv_if_ne (tgt := 79) hx hb dX2_mayStand_52 (by decide) (fun c52 => ?_) (fun c52 => ?_)
      · have c52 := b2t ht1 c52
        refine lv_iconst (v := 1) hx hb dX2_mayStand_79 (by decide) ?_
        refine lv_goto (tgt := 84) hx hb dX2_mayStand_80 (by decide) ?_
        exact k_ireti (v := 1) hx hb hret (rfl) hlk hS (Nat.le_of_ble_eq_true rfl) (Nat.le_of_ble_eq_true rfl) (⟨rfl, (b2i_t ⟨c33, Or.inl c52⟩).symm⟩) dX2_mayStand_84
      · have c52 := b2f ht1 c52
        refine lv_iload_n hx hb dX2_mayStand_55 rfl (lv_at hl 0 rfl) ?_
        refine lv_if_eq (tgt := 83) hx hb dX2_mayStand_56 (by decide) (fun c56 => ?_) (fun c56 => absurd (by decide) c56)
        refine lv_iconst (v := 0) hx hb dX2_mayStand_83 (by decide) ?_
        exact k_ireti (v := 0) hx hb hret (rfl) hlk hS (Nat.le_of_ble_eq_true rfl) (Nat.le_of_ble_eq_true rfl) (⟨rfl, (b2i_f (fun h => h.2.elim c52 (fun h => absurd h.1 c21))).symm⟩) dX2_mayStand_84
  · refine lv_iconst (v := 1) hx hb dX2_mayStand_24 (by decide) ?_
    refine lv_goto (tgt := 29) hx hb dX2_mayStand_25 (by decide) ?_
    refine lv_istore_n (lv' := [(2, .int 1), (1, .int (nI (sp - fr))), (0, .ref (A 0))]) hx hb dX2_mayStand_29 rfl hl (by decide) rfl (fun ls hl => ?_)
    refine lv_iload_n hx hb dX2_mayStand_30 rfl (lv_at hl 1 rfl) ?_
    refine lv_bipush (v := nI 14) hx hb dX2_mayStand_31 (by decide) ?_
    refine lv_icmp_ge (tgt := 83) hx hb dX2_mayStand_33 (by decide) (fun c33 => ?_) (fun c33 => ?_)
    · have c33 : 14 ≤ sp - fr := by rcases Nat.lt_or_ge (sp - fr) (14) with z | z; exact absurd c33 (nI_ge z (by omega)); exact z
      refine lv_iconst (v := 0) hx hb dX2_mayStand_83 (by decide) ?_
      exact k_ireti (v := 0) hx hb hret (rfl) hlk hS (Nat.le_of_ble_eq_true rfl) (Nat.le_of_ble_eq_true rfl) (⟨rfl, (b2i_f (fun h => absurd h.1 (by omega))).symm⟩) dX2_mayStand_84
    · have c33 : sp - fr < 14 := by rcases Nat.lt_or_ge (sp - fr) (14) with z | z; exact z; exact absurd (nI_le z (by omega)) c33
      refine lv_aload_n hx hb dX2_mayStand_36 rfl (lv_at hl 2 rfl) ?_
      refine k_get (ci := 2) hx hb hts in_X2 hown hK h0 rfl 4 (by decide) q1404 (fun _ h9 => h9) rfl dX2_mayStand_37 ?_
      refine lv_aload_n hx hb dX2_mayStand_40 rfl (lv_at hl 2 rfl) ?_
      refine k_get (ci := 2) hx hb hts in_X2 hown hK h0 rfl 6 (by decide) q1406 (fun _ h9 => h9) rfl dX2_mayStand_41 ?_
      refine k_ildN hx hb hK h4 (sp) (hs) (by omega) (by decide) dX2_mayStand_44 ?_
      refine lv_bipush (v := 65) hx hb dX2_mayStand_45 (by decide) ?_
      refine lv_bipush (v := 90) hx hb dX2_mayStand_47 (by decide) ?_
      refine k_calliS (va_runS (As := [.int ((F 4) sp), .int 65, .int 90]) (rest := []) ⟨hx, hb, hml, hown, hts⟩ (m_in l g (F 4 sp) 65 90) (va_cwS 3 hts (lw_S q1444 q1445 q56 q1446) rfl rfl rfl hdS_X2_in ⟨Nat.le_of_ble_eq_true rfl, Nat.le_of_ble_eq_true rfl⟩) (preS hK hS) rfl rfl hl.1 rfl (lv_room (Nat.le_of_ble_eq_true rfl)) dX2_mayStand_49 ⟨Nat.le_of_ble_eq_true rfl, Nat.le_of_ble_eq_true rfl⟩) hS (fun t1 locs ht1 hS => ?_)
      refine lv_if_ne (tgt := 79) hx hb dX2_mayStand_52 (by decide) (fun c52 => ?_) (fun c52 => ?_)
      · have c52 := b2t ht1 c52
        refine lv_iconst (v := 1) hx hb dX2_mayStand_79 (by decide) ?_
        refine lv_goto (tgt := 84) hx hb dX2_mayStand_80 (by decide) ?_
        exact k_ireti (v := 1) hx hb hret (rfl) hlk hS (Nat.le_of_ble_eq_true rfl) (Nat.le_of_ble_eq_true rfl) (⟨rfl, (b2i_t ⟨c33, Or.inl c52⟩).symm⟩) dX2_mayStand_84
      · have c52 := b2f ht1 c52
        refine lv_iload_n hx hb dX2_mayStand_55 rfl (lv_at hl 0 rfl) ?_
        refine lv_if_eq (tgt := 83) hx hb dX2_mayStand_56 (by decide) (fun c56 => absurd c56 (by decide)) (fun c56 => ?_)
        refine lv_iload_n hx hb dX2_mayStand_59 rfl (lv_at hl 1 rfl) ?_
        refine lv_if_le (tgt := 83) hx hb dX2_mayStand_60 (by decide) (fun c60 => ?_) (fun c60 => ?_)
        · have c60 : ¬ fr < sp := fun z => absurd c60 (nI_nle (n := sp - fr) (by omega) (by omega))
          refine lv_iconst (v := 0) hx hb dX2_mayStand_83 (by decide) ?_
          exact k_ireti (v := 0) hx hb hret (rfl) hlk hS (Nat.le_of_ble_eq_true rfl) (Nat.le_of_ble_eq_true rfl) (⟨rfl, (b2i_f (fun h => h.2.elim c52 (fun h => absurd h.2.1 c60))).symm⟩) dX2_mayStand_84
        · have c60 : fr < sp := by rcases Nat.lt_or_ge fr sp with z | z; exact z; exact absurd (by rw [show sp - fr = 0 by omega]; exact Int32.le_refl 0) c60
          refine lv_aload_n hx hb dX2_mayStand_63 rfl (lv_at hl 2 rfl) ?_
          refine k_get (ci := 2) hx hb hts in_X2 hown hK h0 rfl 4 (by decide) q1404 (fun _ h9 => h9) rfl dX2_mayStand_64 ?_
          refine lv_aload_n hx hb dX2_mayStand_67 rfl (lv_at hl 2 rfl) ?_
          refine k_get (ci := 2) hx hb hts in_X2 hown hK h0 rfl 6 (by decide) q1406 (fun _ h9 => h9) rfl dX2_mayStand_68 ?_
          refine lv_iconst (v := nI 1) hx hb dX2_mayStand_71 (by decide) ?_
          refine lv_isub hx hb dX2_mayStand_72 ?_
          refine k_topi (nI (sp - 1)) (by rw [hs]; exact pk_sub (by omega)) ?_
          refine k_ildN hx hb hK h4 (sp - 1) (rfl) (by omega) (by decide) dX2_mayStand_73 ?_
          refine lv_bipush (v := 32) hx hb dX2_mayStand_74 (by decide) ?_
          refine lv_icmp_eq (tgt := 83) hx hb dX2_mayStand_76 (by decide) (fun c76 => ?_) (fun c76 => ?_)
          · refine lv_iconst (v := 0) hx hb dX2_mayStand_83 (by decide) ?_
            exact k_ireti (v := 0) hx hb hret (rfl) hlk hS (Nat.le_of_ble_eq_true rfl) (Nat.le_of_ble_eq_true rfl) (⟨rfl, (b2i_f (fun h => h.2.elim c52 (fun h => absurd c76 h.2.2))).symm⟩) dX2_mayStand_84
          · refine lv_iconst (v := 1) hx hb dX2_mayStand_79 (by decide) ?_
            refine lv_goto (tgt := 84) hx hb dX2_mayStand_80 (by decide) ?_
            exact k_ireti (v := 1) hx hb hret (rfl) hlk hS (Nat.le_of_ble_eq_true rfl) (Nat.le_of_ble_eq_true rfl) (⟨rfl, (b2i_t ⟨c33, Or.inr ⟨c21, c60, c76⟩⟩).symm⟩) dX2_mayStand_84
