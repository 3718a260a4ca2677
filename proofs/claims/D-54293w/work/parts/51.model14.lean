/-! ===== HandBlindsModel: mend, drive, set (printed by tools/model14.py) ===== -/
set_option maxRecDepth 100000
theorem okB_on {b : BV} {x : Int32} (hok : okB b) (h : x = -1 ∨ (0 ≤ x ∧ x < nI b.2.1.length)) : okB (b.1, b.2.1, upd b.2.2 4 x) := by
  obtain ⟨k1, k2, k3, k4, k5, k6, k7, k8, k9⟩ := hok
  refine ⟨k1, k2, k3, k4, k5, ?_, k7, k8, k9⟩
  rcases h with h | h
  · exact Or.inl h
  · have : b.2.1.length ≤ 6 := k2
    obtain ⟨k, a, e⟩ := row_nat h (by omega)
    exact Or.inr ⟨k, a, e⟩
theorem SRel_set {f : Nat → Int32} {b : BV} {k : Nat} {y : Int32} (h : SRel f b) (hk : k ≤ 2) : SRel (upd f (8 + k) y) (b.1, b.2.1, upd b.2.2 k y) := by
  rcases (show k = 0 ∨ k = 1 ∨ k = 2 by omega) with rfl | rfl | rfl
  · exact h.nums (fun k hk => if_neg (by omega)) rfl h.sh rfl h.on h.c4 h.c5 h.c6 h.c7 rfl h.c9 h.c10
  · exact h.nums (fun k hk => if_neg (by omega)) rfl h.sh rfl h.on h.c4 h.c5 h.c6 h.c7 h.w rfl h.c10
  · exact h.nums (fun k hk => if_neg (by omega)) rfl h.sh rfl h.on h.c4 h.c5 h.c6 h.c7 h.w h.c9 rfl
theorem okB_set {b : BV} {k : Nat} {y : Int32} (hok : okB b) (h : (0 ≤ nI k ∧ nI k ≤ 2) ∧ ((if nI k = 0 then 4 else 1) ≤ y ∧ y ≤ (if nI k = 0 then 60 else if nI k = 1 then 200 else 50))) (hk : k ≤ 2) : okB (b.1, b.2.1, upd b.2.2 k y) := by
  obtain ⟨k1, k2, k3, k4, k5, k6, k7, k8, k9⟩ := hok
  rcases (show k = 0 ∨ k = 1 ∨ k = 2 by omega) with rfl | rfl | rfl
  · exact ⟨k1, k2, k3, k4, k5, k6, h.2, k8, k9⟩
  · exact ⟨k1, k2, k3, k4, k5, k6, k7, h.2, k9⟩
  · exact ⟨k1, k2, k3, k4, k5, k6, k7, k8, h.2⟩
/-- mend(row) -/
theorem mp_mend (l : Launch) (g : GT) {H : Heap} {A : Nat → Nat} {a : AV} (x : Int32) (hMR : MR g A a H) : Met l yX2_mend (ws_ yX2_mend cX2_mend 2 (some .int)) ({ frames := 2, cells := 0, slots := 0, locals := 43 } : Room) (va_Pc [.ref (A 0), .int x] (Pre g H)) (Qi g (fun z H1 => z = (ordA a (mendV a.1 x)).2 ∧ MR g A (ordA a (mendV a.1 x)).1 H1 ∧ Fx (MM A) H H1)) 0 0 (gA g) := by
  refine k_met (cc := cX2_mend) (nL := 2) (vs := [.ref (A 0), .int x]) (by decide +kernel) (Nat.le_of_ble_eq_true rfl) ?_
  intro p e s m below meth c hH hx hb hret hts hown hlk hml hin hK hS ls hl
  subst hH
  have hown : s.vm.findClass RX2 = some m.cls := hown
  have hl : lv_has ls 2 [(0, .ref (A 0)), (1, .int x)] := hl
  obtain ⟨F, I, hM, hs, hok, hn3, hH, hn5, hT⟩ := hMR
  obtain ⟨h0, h1, h2, h3, h4, n12, n13, n14, n23, n24, n34⟩ := id hM
  have hF : Fx (MM A) s.heap s.heap := Fx.rf
  have hl20 := hok.1
  have hl6 := hok.2.1
  have hl4 := hH.1
  have hl60 := hT.1
  have hR : MRel F I a := ⟨hs, hok, hn3, hH, hn5, hT⟩
  refine lv_aload_n hx hb dX2_mend_0 rfl (lv_at hl 0 rfl) ?_
  refine lv_iload_n hx hb dX2_mend_1 rfl (lv_at hl 1 rfl) ?_
  refine k_calliS (va_runV (As := [.int x]) (rest := []) ⟨hx, hb, hml, hown, hts⟩ (m_isRow l g x hM) (cwV 1 hts (lw_V q1500 q1502 qs30 q56 q1503) rfl rfl rfl hdV_X2_isRow ⟨Nat.le_of_ble_eq_true rfl, Nat.le_of_ble_eq_true rfl⟩) (preV hK hS h0 rfl) rfl rfl hl.1 rfl (lv_room (Nat.le_of_ble_eq_true rfl)) dX2_mend_2 ⟨Nat.le_of_ble_eq_true rfl, Nat.le_of_ble_eq_true rfl⟩) hS (fun z1 locs hz1 hS => ?_)
  refine lv_if_ne (tgt := 11) hx hb dX2_mend_5 (by decide) (fun c5 => ?_) (fun c5 => ?_)
  · have c5 := b2t hz1 c5
    rw [hs.rows] at c5
    have c5V := c5
    obtain ⟨r, hr, rfl⟩ := row_nat c5 (by omega)
    have hrr := hs.row hr
    refine lv_aload_n hx hb dX2_mend_11 rfl (lv_at hl 0 rfl) ?_
    refine lv_iload_n hx hb dX2_mend_12 rfl (lv_at hl 1 rfl) ?_
    refine k_calliS (va_runV (As := [.int (nI r)]) (rest := []) ⟨hx, hb, hml, hown, hts⟩ (m_isTorn l g r hM (by omega)) (cwV 1 hts (lw_V q1523 q1525 qs33 q56 q1526) rfl rfl rfl hdV_X2_isTorn ⟨Nat.le_of_ble_eq_true rfl, Nat.le_of_ble_eq_true rfl⟩) (preV hK hS h0 rfl) rfl rfl hl.1 rfl (lv_room (Nat.le_of_ble_eq_true rfl)) dX2_mend_13 ⟨Nat.le_of_ble_eq_true rfl, Nat.le_of_ble_eq_true rfl⟩) hS (fun z2 locs hz2 hS => ?_)
    refine lv_if_ne (tgt := 22) hx hb dX2_mend_16 (by decide) (fun c16 => ?_) (fun c16 => ?_)
    · have c16 := b2t hz2 c16
      rw [hrr.2.2.1] at c16
      refine lv_aload_n hx hb dX2_mend_22 rfl (lv_at hl 0 rfl) ?_
      refine k_callv (va_runV (As := []) (rest := []) ⟨hx, hb, hml, hown, hts⟩ (m_changes l g a.2.1.length hM hn3 hH.1) (cwV 0 hts (lw_V q1492 q1494 qs29 q56 q1495) rfl rfl rfl hdV_X2_changes ⟨Nat.le_of_ble_eq_true rfl, Nat.le_of_ble_eq_true rfl⟩) (preV hK hS h0 rfl) rfl rfl hl.1 rfl (lv_room (Nat.le_of_ble_eq_true rfl)) dX2_mend_23 ⟨Nat.le_of_ble_eq_true rfl, Nat.le_of_ble_eq_true rfl⟩) hS (fun H_3 locs hp1 hS => ?_)
      obtain ⟨hF2, hM1⟩ := hp1
      have hF := hF.trans hF2 (fun q _ h => h)
      have hM1 : MAt g A (va_up (va_up F 2 (chg (F 2) (F 1) a.2.1.length)) 1 (F 1)) (upd I 3 (nI (if a.2.1.length = 4 then 4 else a.2.1.length + 1))) H_3 := by rw [show va_up (va_up F 2 (chg (F 2) (F 1) a.2.1.length)) 1 (F 1) = (va_up F 2 (chg (F 2) (F 1) a.2.1.length)) from upF_id (va_up F 2 (chg (F 2) (F 1) a.2.1.length)) 1]; exact hM1
      obtain ⟨h_4, h_5, h_6, h_7, h_8, -, -, -, -, -, -⟩ := id hM1
      have h_4 : Ob g (A 0) 2 [.ref (A 1), .ref (A 2), .ref (A 3), .int (nI (if a.2.1.length = 4 then 4 else a.2.1.length + 1)), .ref (A 4), .int (I 5), .int (I 6), .int (I 7), .int (I 8), .int (I 9), .int (I 10), .int (I 11), .int (I 12)] H_3 := h_4
      have h_5 : Ar g (A 1) 0 (aI 369 (F 1)) H_3 := h_5
      have h_6 : Ar g (A 2) 0 (aI 1476 (chg (F 2) (F 1) a.2.1.length)) H_3 := h_6
      refine lv_aload_n hx hb dX2_mend_26 rfl (lv_at hl 0 rfl) ?_
      refine lv_iload_n hx hb dX2_mend_27 rfl (lv_at hl 1 rfl) ?_
      refine lv_iconst (v := nI 1) hx hb dX2_mend_28 (by decide) ?_
      refine lv_aload_n hx hb dX2_mend_29 rfl (lv_at hl 0 rfl) ?_
      refine lv_iload_n hx hb dX2_mend_30 rfl (lv_at hl 1 rfl) ?_
      refine lv_iconst (v := nI 1) hx hb dX2_mend_31 (by decide) ?_
      refine k_calliS (va_runV (As := [.int (nI r), .int (nI 1)]) (rest := [.int (nI 1), .int (nI r), .ref (A 0)]) ⟨hx, hb, hml, hown, hts⟩ (m_of l g r 1 hM1 (by omega)) (cwV 2 hts (lw_V q1515 q1517 qs32 q56 q1518) rfl rfl rfl hdV_X2_of ⟨Nat.le_of_ble_eq_true rfl, Nat.le_of_ble_eq_true rfl⟩) (preV hK hS h_4 rfl) rfl rfl hl.1 rfl (lv_room (Nat.le_of_ble_eq_true rfl)) dX2_mend_32 ⟨Nat.le_of_ble_eq_true rfl, Nat.le_of_ble_eq_true rfl⟩) hS (fun t1 locs ht1 hS => ?_)
      have ht1 : t1 = (rowV a.1 r).2.1 := by rw [ht1, show 11 + 17 * r + 1 = 12 + 17 * r by omega]; exact hrr.2.1
      subst ht1
      refine lv_iconst (v := 2) hx hb dX2_mend_35 (by decide) ?_
      refine lv_idiv hx hb dX2_mend_36 (by decide) ?_
      refine k_callv (va_runV (As := [.int (nI r), .int (nI 1), .int (((rowV a.1 r).2.1) / 2)]) (rest := []) ⟨hx, hb, hml, hown, hts⟩ (m_sets2 l g r 1 ((rowV a.1 r).2.1 / 2) (f := F 1) hM1 (by omega)) (cwV 3 hts (lw_V q1482 q1484 qs28 q56 q1485) rfl rfl rfl hdV_X2_sets ⟨Nat.le_of_ble_eq_true rfl, Nat.le_of_ble_eq_true rfl⟩) (preV hK hS h_4 rfl) rfl rfl hl.1 rfl (lv_room (Nat.le_of_ble_eq_true rfl)) dX2_mend_37 ⟨Nat.le_of_ble_eq_true rfl, Nat.le_of_ble_eq_true rfl⟩) hS (fun H_10 locs hp2 hS => ?_)
      obtain ⟨hM2, hF2⟩ := hp2
      have hF := hF.trans hF2 (fun q _ h => h)
      obtain ⟨h_11, h_12, h_13, h_14, h_15, -, -, -, -, -, -⟩ := id hM2
      have h_11 : Ob g (A 0) 2 [.ref (A 1), .ref (A 2), .ref (A 3), .int (nI (if a.2.1.length = 4 then 4 else a.2.1.length + 1)), .ref (A 4), .int (I 5), .int (I 6), .int (I 7), .int (I 8), .int (I 9), .int (I 10), .int (I 11), .int (I 12)] H_10 := h_11
      have h_12 : Ar g (A 1) 0 (aI 369 (upd (F 1) (11 + 17 * r + 1) ((rowV a.1 r).2.1 / 2))) H_10 := h_12
      have h_13 : Ar g (A 2) 0 (aI 1476 (chg (F 2) (F 1) a.2.1.length)) H_10 := h_13
      refine lv_aload_n hx hb dX2_mend_40 rfl (lv_at hl 0 rfl) ?_
      refine lv_iload_n hx hb dX2_mend_41 rfl (lv_at hl 1 rfl) ?_
      refine lv_iconst (v := nI 2) hx hb dX2_mend_42 (by decide) ?_
      refine lv_iconst (v := 0) hx hb dX2_mend_43 (by decide) ?_
      refine k_callv (va_runV (As := [.int (nI r), .int (nI 2), .int 0]) (rest := []) ⟨hx, hb, hml, hown, hts⟩ (m_sets2 l g r 2 (0) (f := upd (F 1) (11 + 17 * r + 1) ((rowV a.1 r).2.1 / 2)) hM2 (by omega)) (cwV 3 hts (lw_V q1482 q1484 qs28 q56 q1485) rfl rfl rfl hdV_X2_sets ⟨Nat.le_of_ble_eq_true rfl, Nat.le_of_ble_eq_true rfl⟩) (preV hK hS h_11 rfl) rfl rfl hl.1 rfl (lv_room (Nat.le_of_ble_eq_true rfl)) dX2_mend_44 ⟨Nat.le_of_ble_eq_true rfl, Nat.le_of_ble_eq_true rfl⟩) hS (fun H_16 locs hp3 hS => ?_)
      obtain ⟨hM3, hF2⟩ := hp3
      have hF := hF.trans hF2 (fun q _ h => h)
      obtain ⟨h_17, h_18, h_19, h_20, h_21, -, -, -, -, -, -⟩ := id hM3
      have h_17 : Ob g (A 0) 2 [.ref (A 1), .ref (A 2), .ref (A 3), .int (nI (if a.2.1.length = 4 then 4 else a.2.1.length + 1)), .ref (A 4), .int (I 5), .int (I 6), .int (I 7), .int (I 8), .int (I 9), .int (I 10), .int (I 11), .int (I 12)] H_16 := h_17
      have h_18 : Ar g (A 1) 0 (aI 369 (upd (upd (F 1) (11 + 17 * r + 1) ((rowV a.1 r).2.1 / 2)) (11 + 17 * r + 2) (0))) H_16 := h_18
      have h_19 : Ar g (A 2) 0 (aI 1476 (chg (F 2) (F 1) a.2.1.length)) H_16 := h_19
      refine lv_aload_n hx hb dX2_mend_47 rfl (lv_at hl 0 rfl) ?_
      refine lv_iload_n hx hb dX2_mend_48 rfl (lv_at hl 1 rfl) ?_
      refine lv_iconst (v := nI 1) hx hb dX2_mend_49 (by decide) ?_
      refine k_calliS (va_runV (As := [.int (nI r), .int (nI 1)]) (rest := []) ⟨hx, hb, hml, hown, hts⟩ (m_of l g r 1 hM3 (by omega)) (cwV 2 hts (lw_V q1515 q1517 qs32 q56 q1518) rfl rfl rfl hdV_X2_of ⟨Nat.le_of_ble_eq_true rfl, Nat.le_of_ble_eq_true rfl⟩) (preV hK hS h_17 rfl) rfl rfl hl.1 rfl (lv_room (Nat.le_of_ble_eq_true rfl)) dX2_mend_50 ⟨Nat.le_of_ble_eq_true rfl, Nat.le_of_ble_eq_true rfl⟩) hS (fun t2 locs ht2 hS => ?_)
      exact k_ireti (v := t2) hx hb hret (rfl) hlk hS (Nat.le_of_ble_eq_true rfl) (Nat.le_of_ble_eq_true rfl) (⟨by unfold mendV; rw [if_pos c5V, nI_clamp (by omega), if_pos c16, ordA_some, ht2]; show (if 11 + 17 * r + 1 = 11 + 17 * r + 2 then _ else if 11 + 17 * r + 1 = 11 + 17 * r + 1 then _ else _) = _; rw [if_neg (by omega), if_pos rfl], by unfold mendV; rw [if_pos c5V, nI_clamp (by omega), if_pos c16, ordA_some]; exact ⟨_, _, hM3, hR.chg (hs.setRow hok hr (fun k k1 k2 => by show upd (upd (F 1) _ _) _ _ k = F 1 k; unfold upd; rw [if_neg (by omega), if_neg (by omega)]) (by show upd (upd (F 1) _ _) _ _ (12 + 17 * r) = _; unfold upd; rw [if_neg (by omega), if_pos (by omega)]) (by show upd (upd (F 1) _ _) _ _ (13 + 17 * r) = _; unfold upd; rw [if_pos (by omega)])) (hok.setRow hr (Or.inl rfl)) rfl rfl rfl rfl⟩, hF⟩) dX2_mend_53
    · have c16 := b2f hz2 c16
      rw [hrr.2.2.1] at c16
      refine lv_ldc (v := (-1000002)) hx hb hown (hts _ q1491) dX2_mend_19 ?_
      exact k_ireti (v := (-1000002)) hx hb hret (rfl) hlk hS (Nat.le_of_ble_eq_true rfl) (Nat.le_of_ble_eq_true rfl) (⟨by unfold mendV; rw [if_pos c5V, nI_clamp (by omega), if_neg c16]; rfl, by unfold mendV; rw [if_pos c5V, nI_clamp (by omega), if_neg c16]; exact ⟨F, I, hM, hR⟩, hF⟩) dX2_mend_21
  · have c5 := b2f hz1 c5
    rw [hs.rows] at c5
    refine lv_ldc (v := (-1000001)) hx hb hown (hts _ q1447) dX2_mend_8 ?_
    exact k_ireti (v := (-1000001)) hx hb hret (rfl) hlk hS (Nat.le_of_ble_eq_true rfl) (Nat.le_of_ble_eq_true rfl) (⟨by unfold mendV; rw [if_neg c5]; rfl, by unfold mendV; rw [if_neg c5]; exact ⟨F, I, hM, hR⟩, hF⟩) dX2_mend_10
/-- drive(route) -/
theorem mp_drive (l : Launch) (g : GT) {H : Heap} {A : Nat → Nat} {a : AV} (x : Int32) (hMR : MR g A a H) : Met l yX2_drive (ws_ yX2_drive cX2_drive 3 (some .int)) ({ frames := 1, cells := 0, slots := 0, locals := 21 } : Room) (va_Pc [.ref (A 0), .int x] (Pre g H)) (Qi g (fun z H1 => z = (ordA a (drivesV a.1 x)).2 ∧ MR g A (ordA a (drivesV a.1 x)).1 H1 ∧ Fx (MM A) H H1)) 0 0 (gA g) := by
  refine k_met (cc := cX2_drive) (nL := 3) (vs := [.ref (A 0), .int x]) (by decide +kernel) (Nat.le_of_ble_eq_true rfl) ?_
  intro p e s m below meth c hH hx hb hret hts hown hlk hml hin hK hS ls hl
  subst hH
  have hown : s.vm.findClass RX2 = some m.cls := hown
  have hl : lv_has ls 3 [(0, .ref (A 0)), (1, .int x)] := hl
  obtain ⟨F, I, hM, hs, hok, hn3, hH, hn5, hT⟩ := hMR
  obtain ⟨h0, h1, h2, h3, h4, n12, n13, n14, n23, n24, n34⟩ := id hM
  have hF : Fx (MM A) s.heap s.heap := Fx.rf
  have hl20 := hok.1
  have hl6 := hok.2.1
  have hl4 := hH.1
  have hl60 := hT.1
  have hR : MRel F I a := ⟨hs, hok, hn3, hH, hn5, hT⟩
  refine lv_iload_n hx hb dX2_drive_0 rfl (lv_at hl 1 rfl) ?_
  refine lv_iconst (v := (-1)) hx hb dX2_drive_1 (by decide) ?_
  refine lv_icmp_eq (tgt := 16) hx hb dX2_drive_2 (by decide) (fun c2 => ?_) (fun c2 => ?_)
  · have hdr : x = -1 ∨ (0 ≤ x ∧ x < nI a.1.2.1.length) := Or.inl c2
    refine lv_aload_n hx hb dX2_drive_16 rfl (lv_at hl 0 rfl) ?_
    refine k_callv (va_runV (As := []) (rest := []) ⟨hx, hb, hml, hown, hts⟩ (m_changes l g a.2.1.length hM hn3 hH.1) (cwV 0 hts (lw_V q1492 q1494 qs29 q56 q1495) rfl rfl rfl hdV_X2_changes ⟨Nat.le_of_ble_eq_true rfl, Nat.le_of_ble_eq_true rfl⟩) (preV hK hS h0 rfl) rfl rfl hl.1 rfl (lv_room (Nat.le_of_ble_eq_true rfl)) dX2_drive_17 ⟨Nat.le_of_ble_eq_true rfl, Nat.le_of_ble_eq_true rfl⟩) hS (fun H_1 locs hp1 hS => ?_)
    obtain ⟨hF2, hM1⟩ := hp1
    have hF := hF.trans hF2 (fun q _ h => h)
    have hM1 : MAt g A (va_up (va_up F 2 (chg (F 2) (F 1) a.2.1.length)) 1 (F 1)) (upd I 3 (nI (if a.2.1.length = 4 then 4 else a.2.1.length + 1))) H_1 := by rw [show va_up (va_up F 2 (chg (F 2) (F 1) a.2.1.length)) 1 (F 1) = (va_up F 2 (chg (F 2) (F 1) a.2.1.length)) from upF_id (va_up F 2 (chg (F 2) (F 1) a.2.1.length)) 1]; exact hM1
    obtain ⟨h_2, h_3, h_4, h_5, h_6, -, -, -, -, -, -⟩ := id hM1
    have h_2 : Ob g (A 0) 2 [.ref (A 1), .ref (A 2), .ref (A 3), .int (nI (if a.2.1.length = 4 then 4 else a.2.1.length + 1)), .ref (A 4), .int (I 5), .int (I 6), .int (I 7), .int (I 8), .int (I 9), .int (I 10), .int (I 11), .int (I 12)] H_1 := h_2
    have h_3 : Ar g (A 1) 0 (aI 369 (F 1)) H_1 := h_3
    have h_4 : Ar g (A 2) 0 (aI 1476 (chg (F 2) (F 1) a.2.1.length)) H_1 := h_4
    refine lv_aload_n hx hb dX2_drive_20 rfl (lv_at hl 0 rfl) ?_
    refine k_get (ci := 2) hx hb hts in_X2 hown hK h_2 rfl 0 (by decide) q1400 (fun _ h9 => h9) rfl dX2_drive_21 ?_
    refine lv_iconst (v := nI 3) hx hb dX2_drive_24 (by decide) ?_
    refine k_ildN hx hb hK h_3 (3) (rfl) (by omega) (by decide) dX2_drive_25 ?_
    refine k_topi (a.1.2.2 4) (hs.on) ?_
    refine lv_istore_n (lv' := [(2, .int (a.1.2.2 4)), (0, .ref (A 0)), (1, .int x)]) hx hb dX2_drive_26 rfl hl (by decide) rfl (fun ls hl => ?_)
    refine lv_aload_n hx hb dX2_drive_27 rfl (lv_at hl 1 rfl) ?_
    refine k_get (ci := 2) hx hb hts in_X2 hown hK h_2 rfl 0 (by decide) q1400 (fun _ h9 => h9) rfl dX2_drive_28 ?_
    refine lv_iconst (v := nI 3) hx hb dX2_drive_31 (by decide) ?_
    refine lv_iload_n hx hb dX2_drive_32 rfl (lv_at hl 2 rfl) ?_
    refine k_istN hx hb hK hS h_3 (3) (rfl) (by omega) (by decide) dX2_drive_33 (fun H_7 locs h_8 u_9 hS => ?_)
    have h_8 : Ar g (A 1) 0 (aI 369 (upd (F 1) 3 x)) H_7 := h_8
    have h_10 := h_2.upd u_9 (Ob.neA hK.gg h_2 h_3 (by decide) (by decide))
    have h_11 := h_4.upd u_9 (Ne.symm n12)
    have h_12 := h_5.upd u_9 (Ne.symm n13)
    have h_13 := h_6.upd u_9 (Ne.symm n14)
    have hF_14 := hF.put u_9 (Or.inl (Or.inr (Or.inl rfl)))
    refine lv_iload_n hx hb dX2_drive_34 rfl (lv_at hl 0 rfl) ?_
    exact k_ireti (v := a.1.2.2 4) hx hb hret (rfl) hlk hS (Nat.le_of_ble_eq_true rfl) (Nat.le_of_ble_eq_true rfl) (⟨by unfold drivesV; rw [if_pos hdr, ordA_some], by unfold drivesV; rw [if_pos hdr, ordA_some]; exact ⟨_, _, MAt.mk (F := va_up (va_up F 2 (chg (F 2) (F 1) a.2.1.length)) 1 (upd (F 1) 3 x)) (I := upd I 3 (nI (if a.2.1.length = 4 then 4 else a.2.1.length + 1))) h_10 h_8 h_11 h_12 h_13 n12 n13 n14 n23 n24 n34, hR.chg (hs.nums (fun k hk => if_neg (by omega)) rfl hs.sh rfl rfl hs.c4 hs.c5 hs.c6 hs.c7 hs.w hs.c9 hs.c10) (okB_on hok hdr) rfl rfl rfl rfl⟩, hF_14⟩) dX2_drive_35
  · refine lv_aload_n hx hb dX2_drive_5 rfl (lv_at hl 0 rfl) ?_
    refine lv_iload_n hx hb dX2_drive_6 rfl (lv_at hl 1 rfl) ?_
    refine k_calliS (va_runV (As := [.int x]) (rest := []) ⟨hx, hb, hml, hown, hts⟩ (m_isRoute l g x hM) (cwV 1 hts (lw_V q1552 q1554 qs37 q56 q1555) rfl rfl rfl hdV_X2_isRoute ⟨Nat.le_of_ble_eq_true rfl, Nat.le_of_ble_eq_true rfl⟩) (preV hK hS h0 rfl) rfl rfl hl.1 rfl (lv_room (Nat.le_of_ble_eq_true rfl)) dX2_drive_7 ⟨Nat.le_of_ble_eq_true rfl, Nat.le_of_ble_eq_true rfl⟩) hS (fun z1 locs hz1 hS => ?_)
    refine lv_if_ne (tgt := 16) hx hb dX2_drive_10 (by decide) (fun c10 => ?_) (fun c10 => ?_)
    · have c10 := b2t hz1 c10
      rw [hs.rts] at c10
      have hdr : x = -1 ∨ (0 ≤ x ∧ x < nI a.1.2.1.length) := Or.inr c10
      refine lv_aload_n hx hb dX2_drive_16 rfl (lv_at hl 0 rfl) ?_
      refine k_callv (va_runV (As := []) (rest := []) ⟨hx, hb, hml, hown, hts⟩ (m_changes l g a.2.1.length hM hn3 hH.1) (cwV 0 hts (lw_V q1492 q1494 qs29 q56 q1495) rfl rfl rfl hdV_X2_changes ⟨Nat.le_of_ble_eq_true rfl, Nat.le_of_ble_eq_true rfl⟩) (preV hK hS h0 rfl) rfl rfl hl.1 rfl (lv_room (Nat.le_of_ble_eq_true rfl)) dX2_drive_17 ⟨Nat.le_of_ble_eq_true rfl, Nat.le_of_ble_eq_true rfl⟩) hS (fun H_16 locs hp1 hS => ?_)
      obtain ⟨hF2, hM1⟩ := hp1
      have hF := hF.trans hF2 (fun q _ h => h)
      have hM1 : MAt g A (va_up (va_up F 2 (chg (F 2) (F 1) a.2.1.length)) 1 (F 1)) (upd I 3 (nI (if a.2.1.length = 4 then 4 else a.2.1.length + 1))) H_16 := by rw [show va_up (va_up F 2 (chg (F 2) (F 1) a.2.1.length)) 1 (F 1) = (va_up F 2 (chg (F 2) (F 1) a.2.1.length)) from upF_id (va_up F 2 (chg (F 2) (F 1) a.2.1.length)) 1]; exact hM1
      obtain ⟨h_17, h_18, h_19, h_20, h_21, -, -, -, -, -, -⟩ := id hM1
      have h_17 : Ob g (A 0) 2 [.ref (A 1), .ref (A 2), .ref (A 3), .int (nI (if a.2.1.length = 4 then 4 else a.2.1.length + 1)), .ref (A 4), .int (I 5), .int (I 6), .int (I 7), .int (I 8), .int (I 9), .int (I 10), .int (I 11), .int (I 12)] H_16 := h_17
      have h_18 : Ar g (A 1) 0 (aI 369 (F 1)) H_16 := h_18
      have h_19 : Ar g (A 2) 0 (aI 1476 (chg (F 2) (F 1) a.2.1.length)) H_16 := h_19
      refine lv_aload_n hx hb dX2_drive_20 rfl (lv_at hl 0 rfl) ?_
      refine k_get (ci := 2) hx hb hts in_X2 hown hK h_17 rfl 0 (by decide) q1400 (fun _ h9 => h9) rfl dX2_drive_21 ?_
      refine lv_iconst (v := nI 3) hx hb dX2_drive_24 (by decide) ?_
      refine k_ildN hx hb hK h_18 (3) (rfl) (by omega) (by decide) dX2_drive_25 ?_
      refine k_topi (a.1.2.2 4) (hs.on) ?_
      refine lv_istore_n (lv' := [(2, .int (a.1.2.2 4)), (0, .ref (A 0)), (1, .int x)]) hx hb dX2_drive_26 rfl hl (by decide) rfl (fun ls hl => ?_)
      refine lv_aload_n hx hb dX2_drive_27 rfl (lv_at hl 1 rfl) ?_
      refine k_get (ci := 2) hx hb hts in_X2 hown hK h_17 rfl 0 (by decide) q1400 (fun _ h9 => h9) rfl dX2_drive_28 ?_
      refine lv_iconst (v := nI 3) hx hb dX2_drive_31 (by decide) ?_
      refine lv_iload_n hx hb dX2_drive_32 rfl (lv_at hl 2 rfl) ?_
      refine k_istN hx hb hK hS h_18 (3) (rfl) (by omega) (by decide) dX2_drive_33 (fun H_22 locs h_23 u_24 hS => ?_)
      have h_23 : Ar g (A 1) 0 (aI 369 (upd (F 1) 3 x)) H_22 := h_23
      have h_25 := h_17.upd u_24 (Ob.neA hK.gg h_17 h_18 (by decide) (by decide))
      have h_26 := h_19.upd u_24 (Ne.symm n12)
      have h_27 := h_20.upd u_24 (Ne.symm n13)
      have h_28 := h_21.upd u_24 (Ne.symm n14)
      have hF_29 := hF.put u_24 (Or.inl (Or.inr (Or.inl rfl)))
      refine lv_iload_n hx hb dX2_drive_34 rfl (lv_at hl 0 rfl) ?_
      exact k_ireti (v := a.1.2.2 4) hx hb hret (rfl) hlk hS (Nat.le_of_ble_eq_true rfl) (Nat.le_of_ble_eq_true rfl) (⟨by unfold drivesV; rw [if_pos hdr, ordA_some], by unfold drivesV; rw [if_pos hdr, ordA_some]; exact ⟨_, _, MAt.mk (F := va_up (va_up F 2 (chg (F 2) (F 1) a.2.1.length)) 1 (upd (F 1) 3 x)) (I := upd I 3 (nI (if a.2.1.length = 4 then 4 else a.2.1.length + 1))) h_25 h_23 h_26 h_27 h_28 n12 n13 n14 n23 n24 n34, hR.chg (hs.nums (fun k hk => if_neg (by omega)) rfl hs.sh rfl rfl hs.c4 hs.c5 hs.c6 hs.c7 hs.w hs.c9 hs.c10) (okB_on hok hdr) rfl rfl rfl rfl⟩, hF_29⟩) dX2_drive_35
    · have c10 := b2f hz1 c10
      rw [hs.rts] at c10
      refine lv_ldc (v := (-1000001)) hx hb hown (hts _ q1447) dX2_drive_13 ?_
      exact k_ireti (v := (-1000001)) hx hb hret (rfl) hlk hS (Nat.le_of_ble_eq_true rfl) (Nat.le_of_ble_eq_true rfl) (⟨by unfold drivesV; rw [if_neg (fun h => h.elim c2 c10)]; rfl, by unfold drivesV; rw [if_neg (fun h => h.elim c2 c10)]; exact ⟨F, I, hM, hR⟩, hF⟩) dX2_drive_15
/-- set(what, value) -/
theorem mp_set (l : Launch) (g : GT) {H : Heap} {A : Nat → Nat} {a : AV} (x y : Int32) (hMR : MR g A a H) : Met l yX2_set (ws_ yX2_set cX2_set 4 (some .int)) ({ frames := 1, cells := 0, slots := 0, locals := 22 } : Room) (va_Pc [.ref (A 0), .int x, .int y] (Pre g H)) (Qi g (fun z H1 => z = (ordA a (setsV a.1 x y)).2 ∧ MR g A (ordA a (setsV a.1 x y)).1 H1 ∧ Fx (MM A) H H1)) 0 0 (gA g) := by
  refine k_met (cc := cX2_set) (nL := 4) (vs := [.ref (A 0), .int x, .int y]) (by decide +kernel) (Nat.le_of_ble_eq_true rfl) ?_
  intro p e s m below meth c hH hx hb hret hts hown hlk hml hin hK hS ls hl
  subst hH
  have hown : s.vm.findClass RX2 = some m.cls := hown
  have hl : lv_has ls 4 [(0, .ref (A 0)), (1, .int x), (2, .int y)] := hl
  obtain ⟨F, I, hM, hs, hok, hn3, hH, hn5, hT⟩ := hMR
  obtain ⟨h0, h1, h2, h3, h4, n12, n13, n14, n23, n24, n34⟩ := id hM
  have hF : Fx (MM A) s.heap s.heap := Fx.rf
  have hl20 := hok.1
  have hl6 := hok.2.1
  have hl4 := hH.1
  have hl60 := hT.1
  have hR : MRel F I a := ⟨hs, hok, hn3, hH, hn5, hT⟩
  refine lv_iload_n hx hb dX2_set_0 rfl (lv_at hl 1 rfl) ?_
  refine lv_iconst (v := 0) hx hb dX2_set_1 (by decide) ?_
  refine lv_iconst (v := 2) hx hb dX2_set_2 (by decide) ?_
  refine k_calliS (va_runS (As := [.int x, .int 0, .int 2]) (rest := []) ⟨hx, hb, hml, hown, hts⟩ (m_in l g x 0 2) (va_cwS 3 hts (lw_S q1444 q1445 q56 q1446) rfl rfl rfl hdS_X2_in ⟨Nat.le_of_ble_eq_true rfl, Nat.le_of_ble_eq_true rfl⟩) (preS hK hS) rfl rfl hl.1 rfl (lv_room (Nat.le_of_ble_eq_true rfl)) dX2_set_3 ⟨Nat.le_of_ble_eq_true rfl, Nat.le_of_ble_eq_true rfl⟩) hS (fun z1 locs hz1 hS => ?_)
  refine lv_if_eq (tgt := 29) hx hb dX2_set_6 (by decide) (fun c6 => ?_) (fun c6 => ?_)
  · have c6 := b2f hz1 c6
    have hcd : ¬ ((0 ≤ x ∧ x ≤ 2) ∧ ((if x = 0 then 4 else 1) ≤ y ∧ y ≤ (if x = 0 then 60 else if x = 1 then 200 else 50))) := fun h => c6 h.1
    refine lv_ldc (v := (-1000001)) hx hb hown (hts _ q1447) dX2_set_29 ?_
    exact k_ireti (v := (-1000001)) hx hb hret (rfl) hlk hS (Nat.le_of_ble_eq_true rfl) (Nat.le_of_ble_eq_true rfl) (⟨by unfold setsV; rw [if_neg hcd]; rfl, by unfold setsV; rw [if_neg hcd]; exact ⟨F, I, hM, hR⟩, hF⟩) dX2_set_31
  · have c6 := b2t hz1 c6
    refine lv_iload_n hx hb dX2_set_9 rfl (lv_at hl 2 rfl) ?_
    refine lv_iload_n hx hb dX2_set_10 rfl (lv_at hl 1 rfl) ?_
    refine lv_if_ne (tgt := 18) hx hb dX2_set_11 (by decide) (fun c11 => ?_) (fun c11 => ?_)
    · refine lv_iconst (v := 1) hx hb dX2_set_18 (by decide) ?_
      refine lv_iload_n hx hb dX2_set_19 rfl (lv_at hl 1 rfl) ?_
      refine k_calliS (va_runS (As := [.int x]) (rest := [.int 1, .int y]) ⟨hx, hb, hml, hown, hts⟩ (m_mostOf l g x) (va_cwS 1 hts (lw_S q1584 q1585 q56 q1586) rfl rfl rfl hdS_X2_mostOf ⟨Nat.le_of_ble_eq_true rfl, Nat.le_of_ble_eq_true rfl⟩) (preS hK hS) rfl rfl hl.1 rfl (lv_room (Nat.le_of_ble_eq_true rfl)) dX2_set_20 ⟨Nat.le_of_ble_eq_true rfl, Nat.le_of_ble_eq_true rfl⟩) hS (fun t1 locs ht1 hS => ?_)
      refine k_calliS (va_runS (As := [.int y, .int 1, .int t1]) (rest := []) ⟨hx, hb, hml, hown, hts⟩ (m_in l g y 1 t1) (va_cwS 3 hts (lw_S q1444 q1445 q56 q1446) rfl rfl rfl hdS_X2_in ⟨Nat.le_of_ble_eq_true rfl, Nat.le_of_ble_eq_true rfl⟩) (preS hK hS) rfl rfl hl.1 rfl (lv_room (Nat.le_of_ble_eq_true rfl)) dX2_set_23 ⟨Nat.le_of_ble_eq_true rfl, Nat.le_of_ble_eq_true rfl⟩) hS (fun z2 locs hz2 hS => ?_)
      refine lv_if_ne (tgt := 32) hx hb dX2_set_26 (by decide) (fun c26 => ?_) (fun c26 => ?_)
      · have c26 := b2t hz2 c26
        rw [ht1] at c26
        have hcd : (0 ≤ x ∧ x ≤ 2) ∧ ((if x = 0 then 4 else 1) ≤ y ∧ y ≤ (if x = 0 then 60 else if x = 1 then 200 else 50)) := ⟨c6, by rw [show (if x = 0 then (4 : Int32) else 1) = 1 from if_neg c11]; exact c26⟩
        obtain ⟨k, hk1, hk2, rfl⟩ := nI_lit (lo := 0) (hi := 2) c6.1 c6.2 (by omega) (by omega)
        refine lv_aload_n hx hb dX2_set_32 rfl (lv_at hl 0 rfl) ?_
        refine k_callv (va_runV (As := []) (rest := []) ⟨hx, hb, hml, hown, hts⟩ (m_changes l g a.2.1.length hM hn3 hH.1) (cwV 0 hts (lw_V q1492 q1494 qs29 q56 q1495) rfl rfl rfl hdV_X2_changes ⟨Nat.le_of_ble_eq_true rfl, Nat.le_of_ble_eq_true rfl⟩) (preV hK hS h0 rfl) rfl rfl hl.1 rfl (lv_room (Nat.le_of_ble_eq_true rfl)) dX2_set_33 ⟨Nat.le_of_ble_eq_true rfl, Nat.le_of_ble_eq_true rfl⟩) hS (fun H_4 locs hp1 hS => ?_)
        obtain ⟨hF2, hM1⟩ := hp1
        have hF := hF.trans hF2 (fun q _ h => h)
        have hM1 : MAt g A (va_up (va_up F 2 (chg (F 2) (F 1) a.2.1.length)) 1 (F 1)) (upd I 3 (nI (if a.2.1.length = 4 then 4 else a.2.1.length + 1))) H_4 := by rw [show va_up (va_up F 2 (chg (F 2) (F 1) a.2.1.length)) 1 (F 1) = (va_up F 2 (chg (F 2) (F 1) a.2.1.length)) from upF_id (va_up F 2 (chg (F 2) (F 1) a.2.1.length)) 1]; exact hM1
        obtain ⟨h_5, h_6, h_7, h_8, h_9, -, -, -, -, -, -⟩ := id hM1
        have h_5 : Ob g (A 0) 2 [.ref (A 1), .ref (A 2), .ref (A 3), .int (nI (if a.2.1.length = 4 then 4 else a.2.1.length + 1)), .ref (A 4), .int (I 5), .int (I 6), .int (I 7), .int (I 8), .int (I 9), .int (I 10), .int (I 11), .int (I 12)] H_4 := h_5
        have h_6 : Ar g (A 1) 0 (aI 369 (F 1)) H_4 := h_6
        have h_7 : Ar g (A 2) 0 (aI 1476 (chg (F 2) (F 1) a.2.1.length)) H_4 := h_7
        refine lv_aload_n hx hb dX2_set_36 rfl (lv_at hl 0 rfl) ?_
        refine k_get (ci := 2) hx hb hts in_X2 hown hK h_5 rfl 0 (by decide) q1400 (fun _ h9 => h9) rfl dX2_set_37 ?_
        refine lv_bipush (v := nI 8) hx hb dX2_set_40 (by decide) ?_
        refine lv_iload_n hx hb dX2_set_42 rfl (lv_at hl 1 rfl) ?_
        refine lv_iadd hx hb dX2_set_43 ?_
        refine k_topi (nI (8 + k)) (nI_add 8 k) ?_
        refine k_ildN hx hb hK h_6 (8 + k) (rfl) (by omega) (by decide) dX2_set_44 ?_
        refine lv_istore_n (lv' := [(3, .int ((F 1) (8 + k))), (0, .ref (A 0)), (1, .int (nI k)), (2, .int y)]) hx hb dX2_set_45 rfl hl (by decide) rfl (fun ls hl => ?_)
        refine lv_aload_n hx hb dX2_set_46 rfl (lv_at hl 1 rfl) ?_
        refine k_get (ci := 2) hx hb hts in_X2 hown hK h_5 rfl 0 (by decide) q1400 (fun _ h9 => h9) rfl dX2_set_47 ?_
        refine lv_bipush (v := nI 8) hx hb dX2_set_50 (by decide) ?_
        refine lv_iload_n hx hb dX2_set_52 rfl (lv_at hl 2 rfl) ?_
        refine lv_iadd hx hb dX2_set_53 ?_
        refine k_topi (nI (8 + k)) (nI_add 8 k) ?_
        refine lv_iload_n hx hb dX2_set_54 rfl (lv_at hl 3 rfl) ?_
        refine k_istN hx hb hK hS h_6 (8 + k) (rfl) (by omega) (by decide) dX2_set_55 (fun H_10 locs h_11 u_12 hS => ?_)
        have h_11 : Ar g (A 1) 0 (aI 369 (upd (F 1) (8 + k) y)) H_10 := h_11
        have h_13 := h_5.upd u_12 (Ob.neA hK.gg h_5 h_6 (by decide) (by decide))
        have h_14 := h_7.upd u_12 (Ne.symm n12)
        have h_15 := h_8.upd u_12 (Ne.symm n13)
        have h_16 := h_9.upd u_12 (Ne.symm n14)
        have hF_17 := hF.put u_12 (Or.inl (Or.inr (Or.inl rfl)))
        refine lv_iload_n hx hb dX2_set_56 rfl (lv_at hl 0 rfl) ?_
        exact k_ireti (v := (F 1) (8 + k)) hx hb hret (rfl) hlk hS (Nat.le_of_ble_eq_true rfl) (Nat.le_of_ble_eq_true rfl) (⟨by unfold setsV; rw [if_pos hcd, ordA_some, nI_clamp (by omega)]; rcases (show k = 0 ∨ k = 1 ∨ k = 2 by omega) with rfl | rfl | rfl; exact hs.w; exact hs.c9; exact hs.c10, by unfold setsV; rw [if_pos hcd, ordA_some, nI_clamp (by omega)]; exact ⟨_, _, MAt.mk (F := va_up (va_up F 2 (chg (F 2) (F 1) a.2.1.length)) 1 (upd (F 1) (8 + k) y)) (I := upd I 3 (nI (if a.2.1.length = 4 then 4 else a.2.1.length + 1))) h_13 h_11 h_14 h_15 h_16 n12 n13 n14 n23 n24 n34, hR.chg (SRel_set hs (by omega)) (okB_set hok hcd (by omega)) rfl rfl rfl rfl⟩, hF_17⟩) dX2_set_57
      · have c26 := b2f hz2 c26
        rw [ht1] at c26
        have hcd : ¬ ((0 ≤ x ∧ x ≤ 2) ∧ ((if x = 0 then 4 else 1) ≤ y ∧ y ≤ (if x = 0 then 60 else if x = 1 then 200 else 50))) := fun h => c26 (by have h2 := h.2; rw [show (if x = 0 then (4 : Int32) else 1) = 1 from if_neg c11] at h2; exact h2)
        refine lv_ldc (v := (-1000001)) hx hb hown (hts _ q1447) dX2_set_29 ?_
        exact k_ireti (v := (-1000001)) hx hb hret (rfl) hlk hS (Nat.le_of_ble_eq_true rfl) (Nat.le_of_ble_eq_true rfl) (⟨by unfold setsV; rw [if_neg hcd]; rfl, by unfold setsV; rw [if_neg hcd]; exact ⟨F, I, hM, hR⟩, hF⟩) dX2_set_31
    · refine lv_iconst (v := 4) hx hb dX2_set_14 (by decide) ?_
      refine lv_goto (tgt := 19) hx hb dX2_set_15 (by decide) ?_
      refine lv_iload_n hx hb dX2_set_19 rfl (lv_at hl 1 rfl) ?_
      refine k_calliS (va_runS (As := [.int x]) (rest := [.int 4, .int y]) ⟨hx, hb, hml, hown, hts⟩ (m_mostOf l g x) (va_cwS 1 hts (lw_S q1584 q1585 q56 q1586) rfl rfl rfl hdS_X2_mostOf ⟨Nat.le_of_ble_eq_true rfl, Nat.le_of_ble_eq_true rfl⟩) (preS hK hS) rfl rfl hl.1 rfl (lv_room (Nat.le_of_ble_eq_true rfl)) dX2_set_20 ⟨Nat.le_of_ble_eq_true rfl, Nat.le_of_ble_eq_true rfl⟩) hS (fun t1 locs ht1 hS => ?_)
      refine k_calliS (va_runS (As := [.int y, .int 4, .int t1]) (rest := []) ⟨hx, hb, hml, hown, hts⟩ (m_in l g y 4 t1) (va_cwS 3 hts (lw_S q1444 q1445 q56 q1446) rfl rfl rfl hdS_X2_in ⟨Nat.le_of_ble_eq_true rfl, Nat.le_of_ble_eq_true rfl⟩) (preS hK hS) rfl rfl hl.1 rfl (lv_room (Nat.le_of_ble_eq_true rfl)) dX2_set_23 ⟨Nat.le_of_ble_eq_true rfl, Nat.le_of_ble_eq_true rfl⟩) hS (fun z2 locs hz2 hS => ?_)
      refine lv_if_ne (tgt := 32) hx hb dX2_set_26 (by decide) (fun c26 => ?_) (fun c26 => ?_)
      · have c26 := b2t hz2 c26
        rw [ht1] at c26
        have hcd : (0 ≤ x ∧ x ≤ 2) ∧ ((if x = 0 then 4 else 1) ≤ y ∧ y ≤ (if x = 0 then 60 else if x = 1 then 200 else 50)) := ⟨c6, by rw [show (if x = 0 then (4 : Int32) else 1) = 4 from if_pos c11]; exact c26⟩
        obtain ⟨k, hk1, hk2, rfl⟩ := nI_lit (lo := 0) (hi := 2) c6.1 c6.2 (by omega) (by omega)
        refine lv_aload_n hx hb dX2_set_32 rfl (lv_at hl 0 rfl) ?_
        refine k_callv (va_runV (As := []) (rest := []) ⟨hx, hb, hml, hown, hts⟩ (m_changes l g a.2.1.length hM hn3 hH.1) (cwV 0 hts (lw_V q1492 q1494 qs29 q56 q1495) rfl rfl rfl hdV_X2_changes ⟨Nat.le_of_ble_eq_true rfl, Nat.le_of_ble_eq_true rfl⟩) (preV hK hS h0 rfl) rfl rfl hl.1 rfl (lv_room (Nat.le_of_ble_eq_true rfl)) dX2_set_33 ⟨Nat.le_of_ble_eq_true rfl, Nat.le_of_ble_eq_true rfl⟩) hS (fun H_20 locs hp1 hS => ?_)
        obtain ⟨hF2, hM1⟩ := hp1
        have hF := hF.trans hF2 (fun q _ h => h)
        have hM1 : MAt g A (va_up (va_up F 2 (chg (F 2) (F 1) a.2.1.length)) 1 (F 1)) (upd I 3 (nI (if a.2.1.length = 4 then 4 else a.2.1.length + 1))) H_20 := by rw [show va_up (va_up F 2 (chg (F 2) (F 1) a.2.1.length)) 1 (F 1) = (va_up F 2 (chg (F 2) (F 1) a.2.1.length)) from upF_id (va_up F 2 (chg (F 2) (F 1) a.2.1.length)) 1]; exact hM1
        obtain ⟨h_21, h_22, h_23, h_24, h_25, -, -, -, -, -, -⟩ := id hM1
        have h_21 : Ob g (A 0) 2 [.ref (A 1), .ref (A 2), .ref (A 3), .int (nI (if a.2.1.length = 4 then 4 else a.2.1.length + 1)), .ref (A 4), .int (I 5), .int (I 6), .int (I 7), .int (I 8), .int (I 9), .int (I 10), .int (I 11), .int (I 12)] H_20 := h_21
        have h_22 : Ar g (A 1) 0 (aI 369 (F 1)) H_20 := h_22
        have h_23 : Ar g (A 2) 0 (aI 1476 (chg (F 2) (F 1) a.2.1.length)) H_20 := h_23
        refine lv_aload_n hx hb dX2_set_36 rfl (lv_at hl 0 rfl) ?_
        refine k_get (ci := 2) hx hb hts in_X2 hown hK h_21 rfl 0 (by decide) q1400 (fun _ h9 => h9) rfl dX2_set_37 ?_
        refine lv_bipush (v := nI 8) hx hb dX2_set_40 (by decide) ?_
        refine lv_iload_n hx hb dX2_set_42 rfl (lv_at hl 1 rfl) ?_
        refine lv_iadd hx hb dX2_set_43 ?_
        refine k_topi (nI (8 + k)) (nI_add 8 k) ?_
        refine k_ildN hx hb hK h_22 (8 + k) (rfl) (by omega) (by decide) dX2_set_44 ?_
        refine lv_istore_n (lv' := [(3, .int ((F 1) (8 + k))), (0, .ref (A 0)), (1, .int (nI k)), (2, .int y)]) hx hb dX2_set_45 rfl hl (by decide) rfl (fun ls hl => ?_)
        refine lv_aload_n hx hb dX2_set_46 rfl (lv_at hl 1 rfl) ?_
        refine k_get (ci := 2) hx hb hts in_X2 hown hK h_21 rfl 0 (by decide) q1400 (fun _ h9 => h9) rfl dX2_set_47 ?_
        refine lv_bipush (v := nI 8) hx hb dX2_set_50 (by decide) ?_
        refine lv_iload_n hx hb dX2_set_52 rfl (lv_at hl 2 rfl) ?_
        refine lv_iadd hx hb dX2_set_53 ?_
        refine k_topi (nI (8 + k)) (nI_add 8 k) ?_
        refine lv_iload_n hx hb dX2_set_54 rfl (lv_at hl 3 rfl) ?_
        refine k_istN hx hb hK hS h_22 (8 + k) (rfl) (by omega) (by decide) dX2_set_55 (fun H_26 locs h_27 u_28 hS => ?_)
        have h_27 : Ar g (A 1) 0 (aI 369 (upd (F 1) (8 + k) y)) H_26 := h_27
        have h_29 := h_21.upd u_28 (Ob.neA hK.gg h_21 h_22 (by decide) (by decide))
        have h_30 := h_23.upd u_28 (Ne.symm n12)
        have h_31 := h_24.upd u_28 (Ne.symm n13)
        have h_32 := h_25.upd u_28 (Ne.symm n14)
        have hF_33 := hF.put u_28 (Or.inl (Or.inr (Or.inl rfl)))
        refine lv_iload_n hx hb dX2_set_56 rfl (lv_at hl 0 rfl) ?_
        exact k_ireti (v := (F 1) (8 + k)) hx hb hret (rfl) hlk hS (Nat.le_of_ble_eq_true rfl) (Nat.le_of_ble_eq_true rfl) (⟨by unfold setsV; rw [if_pos hcd, ordA_some, nI_clamp (by omega)]; rcases (show k = 0 ∨ k = 1 ∨ k = 2 by omega) with rfl | rfl | rfl; exact hs.w; exact hs.c9; exact hs.c10, by unfold setsV; rw [if_pos hcd, ordA_some, nI_clamp (by omega)]; exact ⟨_, _, MAt.mk (F := va_up (va_up F 2 (chg (F 2) (F 1) a.2.1.length)) 1 (upd (F 1) (8 + k) y)) (I := upd I 3 (nI (if a.2.1.length = 4 then 4 else a.2.1.length + 1))) h_29 h_27 h_30 h_31 h_32 n12 n13 n14 n23 n24 n34, hR.chg (SRel_set hs (by omega)) (okB_set hok hcd (by omega)) rfl rfl rfl rfl⟩, hF_33⟩) dX2_set_57
      · have c26 := b2f hz2 c26
        rw [ht1] at c26
        have hcd : ¬ ((0 ≤ x ∧ x ≤ 2) ∧ ((if x = 0 then 4 else 1) ≤ y ∧ y ≤ (if x = 0 then 60 else if x = 1 then 200 else 50))) := fun h => c26 (by have h2 := h.2; rw [show (if x = 0 then (4 : Int32) else 1) = 4 from if_pos c11] at h2; exact h2)
        refine lv_ldc (v := (-1000001)) hx hb hown (hts _ q1447) dX2_set_29 ?_
        exact k_ireti (v := (-1000001)) hx hb hret (rfl) hlk hS (Nat.le_of_ble_eq_true rfl) (Nat.le_of_ble_eq_true rfl) (⟨by unfold setsV; rw [if_neg hcd]; rfl, by unfold setsV; rw [if_neg hcd]; exact ⟨F, I, hM, hR⟩, hF⟩) dX2_set_31
