/-! ===== HandBlindsModel: leaves (printed by tools/model16.py) ===== -/
set_option maxRecDepth 100000
/-- a row is left at a speed, as the one with this number of a cranking: the blind, whether it tears -/
def leaveB (b : BV) (r : Nat) (x : Int32) (j : Nat) : BV × Int32 := if x = 3 ∧ j % 2 = 1 then (b, 0) else
  (setRow b r ((rowV b r).1, (rowV b r).2.1 + x, if (¬ (rowV b r).2.2 = 1 ∧ b.2.2 1 < (rowV b r).2.1 + x) ∨ (rowV b r).2.2 = 1 then 1 else 0), if ¬ (rowV b r).2.2 = 1 ∧ b.2.2 1 < (rowV b r).2.1 + x then 1 else 0)
theorem leaveB_nums (b : BV) (r : Nat) (x : Int32) (j : Nat) : (leaveB b r x j).1.2.2 = b.2.2 := by
  unfold leaveB; split <;> rfl
theorem leaveB_len (b : BV) (r : Nat) (x : Int32) (j : Nat) : (leaveB b r x j).1.1.length = b.1.length := by
  unfold leaveB; split
  · rfl
  · exact setRow_len _ _ _
theorem leaveB_rts (b : BV) (r : Nat) (x : Int32) (j : Nat) : (leaveB b r x j).1.2.1 = b.2.1 := by
  unfold leaveB; split <;> rfl
/-- leaves(row, speed) -/
theorem m_leaves (l : Launch) (g : GT) {H : Heap} {A : Nat → Nat} {F : Nat → Nat → Int32} {I : Nat → Int32} (b : BV) (r j : Nat) (x : Int32) (hM : MAt g A F I H) (hs : SRel (F 1) b) (hok : okB b) (hr : r < b.1.length) (hj : I 11 = nI j) (hj31 : j < 2 ^ 31) : Met l yX2_leaves (ws_ yX2_leaves cX2_leaves 4 none) ({ frames := 2, cells := 0, slots := 0, locals := 43 } : Room) (va_Pc [.ref (A 0), .int (nI r), .int x] (Pre g H)) (Qv g (fun H1 => Fx (MM A) H H1 ∧ ∃ f : Nat → Int32, SRel f (leaveB b r x j).1 ∧ okB (leaveB b r x j).1 ∧ MAt g A (va_up F 1 f) (upd I 12 (I 12 + (leaveB b r x j).2)) H1)) 0 0 (gA g) := by
  refine k_met (cc := cX2_leaves) (nL := 4) (vs := [.ref (A 0), .int (nI r), .int x]) (by decide +kernel) (Nat.le_of_ble_eq_true rfl) ?_
  intro p e s m below meth c hH hx hb hret hts hown hlk hml hin hK hS ls hl
  subst hH
  have hown : s.vm.findClass RX2 = some m.cls := hown
  have hl : lv_has ls 4 [(0, .ref (A 0)), (1, .int (nI r)), (2, .int x)] := hl
  obtain ⟨h0, h1, h2, h3, h4, n12, n13, n14, n23, n24, n34⟩ := id hM
  have hF : Fx (MM A) s.heap s.heap := Fx.rf
  have hl20 := hok.1
  have hl6 := hok.2.1
  have hrr := hs.row hr
  have h14 := hok.name hr
  have hM0 : MAt g A (va_up F 1 (F 1)) I s.heap := by rw [upF_id]; exact hM
  refine lv_iload_n hx hb dX2_leaves_0 rfl (lv_at hl 2 rfl) ?_
  refine lv_iconst (v := 3) hx hb dX2_leaves_1 (by decide) ?_
  refine lv_icmp_ne (tgt := 16) hx hb dX2_leaves_2 (by decide) (fun c2 => ?_) (fun c2 => ?_)
  · have hsk : ¬ (x = 3 ∧ j % 2 = 1) := fun h => c2 h.1
    refine lv_aload_n hx hb dX2_leaves_16 rfl (lv_at hl 0 rfl) ?_
    refine lv_iload_n hx hb dX2_leaves_17 rfl (lv_at hl 1 rfl) ?_
    refine lv_iconst (v := nI 1) hx hb dX2_leaves_18 (by decide) ?_
    refine lv_aload_n hx hb dX2_leaves_19 rfl (lv_at hl 0 rfl) ?_
    refine lv_iload_n hx hb dX2_leaves_20 rfl (lv_at hl 1 rfl) ?_
    refine lv_iconst (v := nI 1) hx hb dX2_leaves_21 (by decide) ?_
    refine k_calliS (va_runV (As := [.int (nI r), .int (nI 1)]) (rest := [.int (nI 1), .int (nI r), .ref (A 0)]) ⟨hx, hb, hml, hown, hts⟩ (m_of l g r 1 hM (by omega)) (cwV 2 hts (lw_V q1515 q1517 qs32 q56 q1518) rfl rfl rfl hdV_X2_of ⟨Nat.le_of_ble_eq_true rfl, Nat.le_of_ble_eq_true rfl⟩) (preV hK hS h0 rfl) rfl rfl hl.1 rfl (lv_room (Nat.le_of_ble_eq_true rfl)) dX2_leaves_22 ⟨Nat.le_of_ble_eq_true rfl, Nat.le_of_ble_eq_true rfl⟩) hS (fun t1 locs ht1 hS => ?_)
    have ht1 : t1 = (rowV b r).2.1 := by rw [ht1, show 11 + 17 * r + 1 = 12 + 17 * r by omega]; exact hrr.2.1
    subst ht1
    refine lv_iload_n hx hb dX2_leaves_25 rfl (lv_at hl 2 rfl) ?_
    refine lv_iadd hx hb dX2_leaves_26 ?_
    refine k_callv (va_runV (As := [.int (nI r), .int (nI 1), .int (((rowV b r).2.1) + x)]) (rest := []) ⟨hx, hb, hml, hown, hts⟩ (m_sets2 l g r 1 ((rowV b r).2.1 + x) (f := F 1) hM0 (by omega)) (cwV 3 hts (lw_V q1482 q1484 qs28 q56 q1485) rfl rfl rfl hdV_X2_sets ⟨Nat.le_of_ble_eq_true rfl, Nat.le_of_ble_eq_true rfl⟩) (preV hK hS h0 rfl) rfl rfl hl.1 rfl (lv_room (Nat.le_of_ble_eq_true rfl)) dX2_leaves_27 ⟨Nat.le_of_ble_eq_true rfl, Nat.le_of_ble_eq_true rfl⟩) hS (fun H_2 locs hp2 hS => ?_)
    obtain ⟨hM2, hF2⟩ := hp2
    have hF := hF.trans hF2 (fun q _ h => h)
    obtain ⟨h_3, h_4, h_5, h_6, h_7, -, -, -, -, -, -⟩ := id hM2
    have h_3 : Ob g (A 0) 2 [.ref (A 1), .ref (A 2), .ref (A 3), .int (I 3), .ref (A 4), .int (I 5), .int (I 6), .int (I 7), .int (I 8), .int (I 9), .int (I 10), .int (I 11), .int (I 12)] H_2 := h_3
    have h_4 : Ar g (A 1) 0 (aI 369 (upd (F 1) (11 + 17 * r + 1) ((rowV b r).2.1 + x))) H_2 := h_4
    refine lv_aload_n hx hb dX2_leaves_30 rfl (lv_at hl 0 rfl) ?_
    refine lv_iload_n hx hb dX2_leaves_31 rfl (lv_at hl 1 rfl) ?_
    refine k_calliS (va_runV (As := [.int (nI r)]) (rest := []) ⟨hx, hb, hml, hown, hts⟩ (m_isTorn l g r hM2 (by omega)) (cwV 1 hts (lw_V q1523 q1525 qs33 q56 q1526) rfl rfl rfl hdV_X2_isTorn ⟨Nat.le_of_ble_eq_true rfl, Nat.le_of_ble_eq_true rfl⟩) (preV hK hS h_3 rfl) rfl rfl hl.1 rfl (lv_room (Nat.le_of_ble_eq_true rfl)) dX2_leaves_32 ⟨Nat.le_of_ble_eq_true rfl, Nat.le_of_ble_eq_true rfl⟩) hS (fun z1 locs hz1 hS => ?_)
    refine lv_if_ne (tgt := 58) hx hb dX2_leaves_35 (by decide) (fun c35 => ?_) (fun c35 => ?_)
    · have c35 := b2t hz1 c35
      have e13 : (upd (F 1) (11 + 17 * r + 1) ((rowV b r).2.1 + x)) (13 + 17 * r) = (rowV b r).2.2 := by unfold upd; rw [if_neg (by omega)]; exact hrr.2.2.1
      have c35 : (rowV b r).2.2 = 1 := e13.symm.trans c35
      refine lv_iconst (v := 0) hx hb dX2_leaves_58 (by decide) ?_
      refine lv_istore_n (lv' := [(3, .int 0), (0, .ref (A 0)), (1, .int (nI r)), (2, .int x)]) hx hb dX2_leaves_59 rfl hl (by decide) rfl (fun ls hl => ?_)
      refine lv_aload_n hx hb dX2_leaves_60 rfl (lv_at hl 1 rfl) ?_
      refine lv_iload_n hx hb dX2_leaves_61 rfl (lv_at hl 2 rfl) ?_
      refine lv_iconst (v := nI 2) hx hb dX2_leaves_62 (by decide) ?_
      refine lv_iload_n hx hb dX2_leaves_63 rfl (lv_at hl 0 rfl) ?_
      refine lv_if_ne (tgt := 75) hx hb dX2_leaves_64 (by decide) (fun c64 => by first | exact absurd c64 (by decide) | exact absurd (by decide) c64) (fun c64 => ?_)
      refine lv_aload_n hx hb dX2_leaves_67 rfl (lv_at hl 1 rfl) ?_
      refine lv_iload_n hx hb dX2_leaves_68 rfl (lv_at hl 2 rfl) ?_
      refine k_calliS (va_runV (As := [.int (nI r)]) (rest := [.int (nI 2), .int (nI r), .ref (A 0)]) ⟨hx, hb, hml, hown, hts⟩ (m_isTorn l g r hM2 (by omega)) (cwV 1 hts (lw_V q1523 q1525 qs33 q56 q1526) rfl rfl rfl hdV_X2_isTorn ⟨Nat.le_of_ble_eq_true rfl, Nat.le_of_ble_eq_true rfl⟩) (preV hK hS h_3 rfl) rfl rfl hl.1 rfl (lv_room (Nat.le_of_ble_eq_true rfl)) dX2_leaves_69 ⟨Nat.le_of_ble_eq_true rfl, Nat.le_of_ble_eq_true rfl⟩) hS (fun z2 locs hz2 hS => ?_)
      refine lv_if_eq (tgt := 79) hx hb dX2_leaves_72 (by decide) (fun c72 => ?_) (fun c72 => ?_)
      · have c72 := b2f hz2 c72
        exact absurd (e13.trans c35) c72
      · have c72 := b2t hz2 c72
        refine lv_iconst (v := 1) hx hb dX2_leaves_75 (by decide) ?_
        refine lv_goto (tgt := 80) hx hb dX2_leaves_76 (by decide) ?_
        refine k_callv (va_runV (As := [.int (nI r), .int (nI 2), .int 1]) (rest := []) ⟨hx, hb, hml, hown, hts⟩ (m_sets2 l g r 2 1 (f := upd (F 1) (11 + 17 * r + 1) ((rowV b r).2.1 + x)) hM2 (by omega)) (cwV 3 hts (lw_V q1482 q1484 qs28 q56 q1485) rfl rfl rfl hdV_X2_sets ⟨Nat.le_of_ble_eq_true rfl, Nat.le_of_ble_eq_true rfl⟩) (preV hK hS h_3 rfl) rfl rfl hl.1 rfl (lv_room (Nat.le_of_ble_eq_true rfl)) dX2_leaves_80 ⟨Nat.le_of_ble_eq_true rfl, Nat.le_of_ble_eq_true rfl⟩) hS (fun H_10 locs hp3 hS => ?_)
        obtain ⟨hM3, hF2⟩ := hp3
        have hF := hF.trans hF2 (fun q _ h => h)
        obtain ⟨h_11, h_12, h_13, h_14, h_15, -, -, -, -, -, -⟩ := id hM3
        have h_11 : Ob g (A 0) 2 [.ref (A 1), .ref (A 2), .ref (A 3), .int (I 3), .ref (A 4), .int (I 5), .int (I 6), .int (I 7), .int (I 8), .int (I 9), .int (I 10), .int (I 11), .int (I 12)] H_10 := h_11
        have h_12 : Ar g (A 1) 0 (aI 369 (upd (upd (F 1) (11 + 17 * r + 1) ((rowV b r).2.1 + x)) (11 + 17 * r + 2) 1)) H_10 := h_12
        refine lv_aload_n hx hb dX2_leaves_83 rfl (lv_at hl 1 rfl) ?_
        refine lv_dup hx hb dX2_leaves_84 rfl ?_
        refine k_get (ci := 2) hx hb hts in_X2 hown hK h_11 rfl 12 (by decide) q1412 (fun _ h9 => h9) rfl dX2_leaves_85 ?_
        refine lv_iload_n hx hb dX2_leaves_88 rfl (lv_at hl 0 rfl) ?_
        refine lv_if_eq (tgt := 96) hx hb dX2_leaves_89 (by decide) (fun c89 => ?_) (fun c89 => by first | exact absurd c89 (by decide) | exact absurd (by decide) c89)
        refine lv_iconst (v := 0) hx hb dX2_leaves_96 (by decide) ?_
        refine lv_iadd hx hb dX2_leaves_97 ?_
        refine k_put (ci := 2) hx hb hts in_X2 tyX2 tyX2_ok nmX2 hown hK hS h_11 rfl 12 (by decide) q1412 (fun _ h9 => h9) rfl (rfl) (rfl) (Nat.le_of_ble_eq_true rfl) dX2_leaves_98 (fun H_16 locs h_17 u_18 hS => ?_)
        have h_17 : Ob g (A 0) 2 [.ref (A 1), .ref (A 2), .ref (A 3), .int (I 3), .ref (A 4), .int (I 5), .int (I 6), .int (I 7), .int (I 8), .int (I 9), .int (I 10), .int (I 11), .int ((I 12) + 0)] H_16 := h_17
        have h_19 := h_12.upd u_18 (Ne.symm (Ob.neA hK.gg h_11 h_12 (by decide) (by decide)))
        have h_20 := h_13.upd u_18 (Ne.symm (Ob.neA hK.gg h_11 h_13 (by decide) (by decide)))
        have h_21 := h_14.upd u_18 (Ne.symm (Ob.neA hK.gg h_11 h_14 (by decide) (by decide)))
        have h_22 := h_15.upd u_18 (Ne.symm (Ob.neA hK.gg h_11 h_15 (by decide) (by decide)))
        have hF_23 := hF.put u_18 (Or.inl (Or.inl rfl))
        have hLB : leaveB b r x j = (setRow b r ((rowV b r).1, (rowV b r).2.1 + x, 1), 0) := by unfold leaveB; rw [if_neg hsk, if_pos (Or.inr c35), if_neg (fun h => h.1 c35)]
        exact k_retv hx hb hret hlk hS (Nat.le_of_ble_eq_true rfl) (Nat.le_of_ble_eq_true rfl) (⟨hF_23, upd (upd (F 1) (11 + 17 * r + 1) ((rowV b r).2.1 + x)) (11 + 17 * r + 2) 1, by rw [hLB]; exact hs.setRow hok hr (fun k k1 k2 => by unfold upd; rw [if_neg (by omega), if_neg (by omega)]) (by unfold upd; rw [if_neg (by omega), if_pos (by omega)]) (by unfold upd; rw [if_pos (by omega)]), by rw [hLB]; exact hok.setRow hr (Or.inr rfl), by rw [hLB]; exact MAt.mk (F := va_up F 1 (upd (upd (F 1) (11 + 17 * r + 1) ((rowV b r).2.1 + x)) (11 + 17 * r + 2) 1)) (I := upd I 12 (I 12 + 0)) h_17 h_19 h_20 h_21 h_22 n12 n13 n14 n23 n24 n34⟩) dX2_leaves_101
    · have c35 := b2f hz1 c35
      have e13 : (upd (F 1) (11 + 17 * r + 1) ((rowV b r).2.1 + x)) (13 + 17 * r) = (rowV b r).2.2 := by unfold upd; rw [if_neg (by omega)]; exact hrr.2.2.1
      have c35 : ¬ (rowV b r).2.2 = 1 := fun h => c35 (e13.trans h)
      refine lv_aload_n hx hb dX2_leaves_38 rfl (lv_at hl 0 rfl) ?_
      refine lv_iload_n hx hb dX2_leaves_39 rfl (lv_at hl 1 rfl) ?_
      refine lv_iconst (v := nI 1) hx hb dX2_leaves_40 (by decide) ?_
      refine k_calliS (va_runV (As := [.int (nI r), .int (nI 1)]) (rest := []) ⟨hx, hb, hml, hown, hts⟩ (m_of l g r 1 hM2 (by omega)) (cwV 2 hts (lw_V q1515 q1517 qs32 q56 q1518) rfl rfl rfl hdV_X2_of ⟨Nat.le_of_ble_eq_true rfl, Nat.le_of_ble_eq_true rfl⟩) (preV hK hS h_3 rfl) rfl rfl hl.1 rfl (lv_room (Nat.le_of_ble_eq_true rfl)) dX2_leaves_41 ⟨Nat.le_of_ble_eq_true rfl, Nat.le_of_ble_eq_true rfl⟩) hS (fun t2 locs ht2 hS => ?_)
      have ht2 : t2 = (rowV b r).2.1 + x := by rw [ht2]; show upd _ _ _ _ = _; unfold upd; rw [if_pos rfl]
      subst ht2
      refine lv_aload_n hx hb dX2_leaves_44 rfl (lv_at hl 0 rfl) ?_
      refine k_get (ci := 2) hx hb hts in_X2 hown hK h_3 rfl 0 (by decide) q1400 (fun _ h9 => h9) rfl dX2_leaves_45 ?_
      refine lv_bipush (v := nI 9) hx hb dX2_leaves_48 (by decide) ?_
      refine k_ildN hx hb hK h_4 (9) (rfl) (by omega) (by decide) dX2_leaves_50 ?_
      refine k_topi (b.2.2 1) (by unfold upd; rw [if_neg (by omega)]; exact hs.c9) ?_
      refine lv_icmp_le (tgt := 58) hx hb dX2_leaves_51 (by decide) (fun c51 => ?_) (fun c51 => ?_)
      · refine lv_iconst (v := 0) hx hb dX2_leaves_58 (by decide) ?_
        refine lv_istore_n (lv' := [(3, .int 0), (0, .ref (A 0)), (1, .int (nI r)), (2, .int x)]) hx hb dX2_leaves_59 rfl hl (by decide) rfl (fun ls hl => ?_)
        refine lv_aload_n hx hb dX2_leaves_60 rfl (lv_at hl 1 rfl) ?_
        refine lv_iload_n hx hb dX2_leaves_61 rfl (lv_at hl 2 rfl) ?_
        refine lv_iconst (v := nI 2) hx hb dX2_leaves_62 (by decide) ?_
        refine lv_iload_n hx hb dX2_leaves_63 rfl (lv_at hl 0 rfl) ?_
        refine lv_if_ne (tgt := 75) hx hb dX2_leaves_64 (by decide) (fun c64 => by first | exact absurd c64 (by decide) | exact absurd (by decide) c64) (fun c64 => ?_)
        refine lv_aload_n hx hb dX2_leaves_67 rfl (lv_at hl 1 rfl) ?_
        refine lv_iload_n hx hb dX2_leaves_68 rfl (lv_at hl 2 rfl) ?_
        refine k_calliS (va_runV (As := [.int (nI r)]) (rest := [.int (nI 2), .int (nI r), .ref (A 0)]) ⟨hx, hb, hml, hown, hts⟩ (m_isTorn l g r hM2 (by omega)) (cwV 1 hts (lw_V q1523 q1525 qs33 q56 q1526) rfl rfl rfl hdV_X2_isTorn ⟨Nat.le_of_ble_eq_true rfl, Nat.le_of_ble_eq_true rfl⟩) (preV hK hS h_3 rfl) rfl rfl hl.1 rfl (lv_room (Nat.le_of_ble_eq_true rfl)) dX2_leaves_69 ⟨Nat.le_of_ble_eq_true rfl, Nat.le_of_ble_eq_true rfl⟩) hS (fun z2 locs hz2 hS => ?_)
        refine lv_if_eq (tgt := 79) hx hb dX2_leaves_72 (by decide) (fun c72 => ?_) (fun c72 => ?_)
        · have c72 := b2f hz2 c72
          refine lv_iconst (v := 0) hx hb dX2_leaves_79 (by decide) ?_
          refine k_callv (va_runV (As := [.int (nI r), .int (nI 2), .int 0]) (rest := []) ⟨hx, hb, hml, hown, hts⟩ (m_sets2 l g r 2 0 (f := upd (F 1) (11 + 17 * r + 1) ((rowV b r).2.1 + x)) hM2 (by omega)) (cwV 3 hts (lw_V q1482 q1484 qs28 q56 q1485) rfl rfl rfl hdV_X2_sets ⟨Nat.le_of_ble_eq_true rfl, Nat.le_of_ble_eq_true rfl⟩) (preV hK hS h_3 rfl) rfl rfl hl.1 rfl (lv_room (Nat.le_of_ble_eq_true rfl)) dX2_leaves_80 ⟨Nat.le_of_ble_eq_true rfl, Nat.le_of_ble_eq_true rfl⟩) hS (fun H_26 locs hp3 hS => ?_)
          obtain ⟨hM3, hF2⟩ := hp3
          have hF := hF.trans hF2 (fun q _ h => h)
          obtain ⟨h_27, h_28, h_29, h_30, h_31, -, -, -, -, -, -⟩ := id hM3
          have h_27 : Ob g (A 0) 2 [.ref (A 1), .ref (A 2), .ref (A 3), .int (I 3), .ref (A 4), .int (I 5), .int (I 6), .int (I 7), .int (I 8), .int (I 9), .int (I 10), .int (I 11), .int (I 12)] H_26 := h_27
          have h_28 : Ar g (A 1) 0 (aI 369 (upd (upd (F 1) (11 + 17 * r + 1) ((rowV b r).2.1 + x)) (11 + 17 * r + 2) 0)) H_26 := h_28
          refine lv_aload_n hx hb dX2_leaves_83 rfl (lv_at hl 1 rfl) ?_
          refine lv_dup hx hb dX2_leaves_84 rfl ?_
          refine k_get (ci := 2) hx hb hts in_X2 hown hK h_27 rfl 12 (by decide) q1412 (fun _ h9 => h9) rfl dX2_leaves_85 ?_
          refine lv_iload_n hx hb dX2_leaves_88 rfl (lv_at hl 0 rfl) ?_
          refine lv_if_eq (tgt := 96) hx hb dX2_leaves_89 (by decide) (fun c89 => ?_) (fun c89 => by first | exact absurd c89 (by decide) | exact absurd (by decide) c89)
          refine lv_iconst (v := 0) hx hb dX2_leaves_96 (by decide) ?_
          refine lv_iadd hx hb dX2_leaves_97 ?_
          refine k_put (ci := 2) hx hb hts in_X2 tyX2 tyX2_ok nmX2 hown hK hS h_27 rfl 12 (by decide) q1412 (fun _ h9 => h9) rfl (rfl) (rfl) (Nat.le_of_ble_eq_true rfl) dX2_leaves_98 (fun H_32 locs h_33 u_34 hS => ?_)
          have h_33 : Ob g (A 0) 2 [.ref (A 1), .ref (A 2), .ref (A 3), .int (I 3), .ref (A 4), .int (I 5), .int (I 6), .int (I 7), .int (I 8), .int (I 9), .int (I 10), .int (I 11), .int ((I 12) + 0)] H_32 := h_33
          have h_35 := h_28.upd u_34 (Ne.symm (Ob.neA hK.gg h_27 h_28 (by decide) (by decide)))
          have h_36 := h_29.upd u_34 (Ne.symm (Ob.neA hK.gg h_27 h_29 (by decide) (by decide)))
          have h_37 := h_30.upd u_34 (Ne.symm (Ob.neA hK.gg h_27 h_30 (by decide) (by decide)))
          have h_38 := h_31.upd u_34 (Ne.symm (Ob.neA hK.gg h_27 h_31 (by decide) (by decide)))
          have hF_39 := hF.put u_34 (Or.inl (Or.inl rfl))
          have hLB : leaveB b r x j = (setRow b r ((rowV b r).1, (rowV b r).2.1 + x, 0), 0) := by unfold leaveB; rw [if_neg hsk, if_neg (fun h => h.elim (fun h => absurd h.2 (Int32.not_lt.mpr c51)) c35), if_neg (fun h => absurd h.2 (Int32.not_lt.mpr c51))]
          exact k_retv hx hb hret hlk hS (Nat.le_of_ble_eq_true rfl) (Nat.le_of_ble_eq_true rfl) (⟨hF_39, upd (upd (F 1) (11 + 17 * r + 1) ((rowV b r).2.1 + x)) (11 + 17 * r + 2) 0, by rw [hLB]; exact hs.setRow hok hr (fun k k1 k2 => by unfold upd; rw [if_neg (by omega), if_neg (by omega)]) (by unfold upd; rw [if_neg (by omega), if_pos (by omega)]) (by unfold upd; rw [if_pos (by omega)]), by rw [hLB]; exact hok.setRow hr (Or.inl rfl), by rw [hLB]; exact MAt.mk (F := va_up F 1 (upd (upd (F 1) (11 + 17 * r + 1) ((rowV b r).2.1 + x)) (11 + 17 * r + 2) 0)) (I := upd I 12 (I 12 + 0)) h_33 h_35 h_36 h_37 h_38 n12 n13 n14 n23 n24 n34⟩) dX2_leaves_101
        · have c72 := b2t hz2 c72
          exact absurd (e13.symm.trans c72) c35
      · refine lv_iconst (v := 1) hx hb dX2_leaves_54 (by decide) ?_
        refine lv_goto (tgt := 59) hx hb dX2_leaves_55 (by decide) ?_
        refine lv_istore_n (lv' := [(3, .int 1), (0, .ref (A 0)), (1, .int (nI r)), (2, .int x)]) hx hb dX2_leaves_59 rfl hl (by decide) rfl (fun ls hl => ?_)
        refine lv_aload_n hx hb dX2_leaves_60 rfl (lv_at hl 1 rfl) ?_
        refine lv_iload_n hx hb dX2_leaves_61 rfl (lv_at hl 2 rfl) ?_
        refine lv_iconst (v := nI 2) hx hb dX2_leaves_62 (by decide) ?_
        refine lv_iload_n hx hb dX2_leaves_63 rfl (lv_at hl 0 rfl) ?_
        refine lv_if_ne (tgt := 75) hx hb dX2_leaves_64 (by decide) (fun c64 => ?_) (fun c64 => by first | exact absurd c64 (by decide) | exact absurd (by decide) c64)
        refine lv_iconst (v := 1) hx hb dX2_leaves_75 (by decide) ?_
        refine lv_goto (tgt := 80) hx hb dX2_leaves_76 (by decide) ?_
        refine k_callv (va_runV (As := [.int (nI r), .int (nI 2), .int 1]) (rest := []) ⟨hx, hb, hml, hown, hts⟩ (m_sets2 l g r 2 1 (f := upd (F 1) (11 + 17 * r + 1) ((rowV b r).2.1 + x)) hM2 (by omega)) (cwV 3 hts (lw_V q1482 q1484 qs28 q56 q1485) rfl rfl rfl hdV_X2_sets ⟨Nat.le_of_ble_eq_true rfl, Nat.le_of_ble_eq_true rfl⟩) (preV hK hS h_3 rfl) rfl rfl hl.1 rfl (lv_room (Nat.le_of_ble_eq_true rfl)) dX2_leaves_80 ⟨Nat.le_of_ble_eq_true rfl, Nat.le_of_ble_eq_true rfl⟩) hS (fun H_40 locs hp3 hS => ?_)
        obtain ⟨hM3, hF2⟩ := hp3
        have hF := hF.trans hF2 (fun q _ h => h)
        obtain ⟨h_41, h_42, h_43, h_44, h_45, -, -, -, -, -, -⟩ := id hM3
        have h_41 : Ob g (A 0) 2 [.ref (A 1), .ref (A 2), .ref (A 3), .int (I 3), .ref (A 4), .int (I 5), .int (I 6), .int (I 7), .int (I 8), .int (I 9), .int (I 10), .int (I 11), .int (I 12)] H_40 := h_41
        have h_42 : Ar g (A 1) 0 (aI 369 (upd (upd (F 1) (11 + 17 * r + 1) ((rowV b r).2.1 + x)) (11 + 17 * r + 2) 1)) H_40 := h_42
        refine lv_aload_n hx hb dX2_leaves_83 rfl (lv_at hl 1 rfl) ?_
        refine lv_dup hx hb dX2_leaves_84 rfl ?_
        refine k_get (ci := 2) hx hb hts in_X2 hown hK h_41 rfl 12 (by decide) q1412 (fun _ h9 => h9) rfl dX2_leaves_85 ?_
        refine lv_iload_n hx hb dX2_leaves_88 rfl (lv_at hl 0 rfl) ?_
        refine lv_if_eq (tgt := 96) hx hb dX2_leaves_89 (by decide) (fun c89 => by first | exact absurd c89 (by decide) | exact absurd (by decide) c89) (fun c89 => ?_)
        refine lv_iconst (v := 1) hx hb dX2_leaves_92 (by decide) ?_
        refine lv_goto (tgt := 97) hx hb dX2_leaves_93 (by decide) ?_
        refine lv_iadd hx hb dX2_leaves_97 ?_
        refine k_put (ci := 2) hx hb hts in_X2 tyX2 tyX2_ok nmX2 hown hK hS h_41 rfl 12 (by decide) q1412 (fun _ h9 => h9) rfl (rfl) (rfl) (Nat.le_of_ble_eq_true rfl) dX2_leaves_98 (fun H_46 locs h_47 u_48 hS => ?_)
        have h_47 : Ob g (A 0) 2 [.ref (A 1), .ref (A 2), .ref (A 3), .int (I 3), .ref (A 4), .int (I 5), .int (I 6), .int (I 7), .int (I 8), .int (I 9), .int (I 10), .int (I 11), .int ((I 12) + 1)] H_46 := h_47
        have h_49 := h_42.upd u_48 (Ne.symm (Ob.neA hK.gg h_41 h_42 (by decide) (by decide)))
        have h_50 := h_43.upd u_48 (Ne.symm (Ob.neA hK.gg h_41 h_43 (by decide) (by decide)))
        have h_51 := h_44.upd u_48 (Ne.symm (Ob.neA hK.gg h_41 h_44 (by decide) (by decide)))
        have h_52 := h_45.upd u_48 (Ne.symm (Ob.neA hK.gg h_41 h_45 (by decide) (by decide)))
        have hF_53 := hF.put u_48 (Or.inl (Or.inl rfl))
        have hLB : leaveB b r x j = (setRow b r ((rowV b r).1, (rowV b r).2.1 + x, 1), 1) := by unfold leaveB; rw [if_neg hsk, if_pos (Or.inl ⟨c35, i_nle c51⟩), if_pos ⟨c35, i_nle c51⟩]
        exact k_retv hx hb hret hlk hS (Nat.le_of_ble_eq_true rfl) (Nat.le_of_ble_eq_true rfl) (⟨hF_53, upd (upd (F 1) (11 + 17 * r + 1) ((rowV b r).2.1 + x)) (11 + 17 * r + 2) 1, by rw [hLB]; exact hs.setRow hok hr (fun k k1 k2 => by unfold upd; rw [if_neg (by omega), if_neg (by omega)]) (by unfold upd; rw [if_neg (by omega), if_pos (by omega)]) (by unfold upd; rw [if_pos (by omega)]), by rw [hLB]; exact hok.setRow hr (Or.inr rfl), by rw [hLB]; exact MAt.mk (F := va_up F 1 (upd (upd (F 1) (11 + 17 * r + 1) ((rowV b r).2.1 + x)) (11 + 17 * r + 2) 1)) (I := upd I 12 (I 12 + 1)) h_47 h_49 h_50 h_51 h_52 n12 n13 n14 n23 n24 n34⟩) dX2_leaves_101
  · refine lv_aload_n hx hb dX2_leaves_5 rfl (lv_at hl 0 rfl) ?_
    refine k_get (ci := 2) hx hb hts in_X2 hown hK h0 rfl 11 (by decide) q1411 (fun _ h9 => h9) rfl dX2_leaves_6 ?_
    refine k_topi (nI j) (hj) ?_
    refine lv_iconst (v := nI 2) hx hb dX2_leaves_9 (by decide) ?_
    refine lv_irem hx hb dX2_leaves_10 (by decide) ?_
    refine k_topi (nI (j % 2)) (pk_rem hj31 (by omega) (by omega)) ?_
    refine lv_iconst (v := nI 1) hx hb dX2_leaves_11 (by decide) ?_
    refine lv_icmp_ne (tgt := 16) hx hb dX2_leaves_12 (by decide) (fun c12 => ?_) (fun c12 => ?_)
    · have c12 : ¬ j % 2 = 1 := fun z => c12 (by rw [z])
      have hsk : ¬ (x = 3 ∧ j % 2 = 1) := fun h => c12 h.2
      refine lv_aload_n hx hb dX2_leaves_16 rfl (lv_at hl 0 rfl) ?_
      refine lv_iload_n hx hb dX2_leaves_17 rfl (lv_at hl 1 rfl) ?_
      refine lv_iconst (v := nI 1) hx hb dX2_leaves_18 (by decide) ?_
      refine lv_aload_n hx hb dX2_leaves_19 rfl (lv_at hl 0 rfl) ?_
      refine lv_iload_n hx hb dX2_leaves_20 rfl (lv_at hl 1 rfl) ?_
      refine lv_iconst (v := nI 1) hx hb dX2_leaves_21 (by decide) ?_
      refine k_calliS (va_runV (As := [.int (nI r), .int (nI 1)]) (rest := [.int (nI 1), .int (nI r), .ref (A 0)]) ⟨hx, hb, hml, hown, hts⟩ (m_of l g r 1 hM (by omega)) (cwV 2 hts (lw_V q1515 q1517 qs32 q56 q1518) rfl rfl rfl hdV_X2_of ⟨Nat.le_of_ble_eq_true rfl, Nat.le_of_ble_eq_true rfl⟩) (preV hK hS h0 rfl) rfl rfl hl.1 rfl (lv_room (Nat.le_of_ble_eq_true rfl)) dX2_leaves_22 ⟨Nat.le_of_ble_eq_true rfl, Nat.le_of_ble_eq_true rfl⟩) hS (fun t1 locs ht1 hS => ?_)
      have ht1 : t1 = (rowV b r).2.1 := by rw [ht1, show 11 + 17 * r + 1 = 12 + 17 * r by omega]; exact hrr.2.1
      subst ht1
      refine lv_iload_n hx hb dX2_leaves_25 rfl (lv_at hl 2 rfl) ?_
      refine lv_iadd hx hb dX2_leaves_26 ?_
      refine k_callv (va_runV (As := [.int (nI r), .int (nI 1), .int (((rowV b r).2.1) + x)]) (rest := []) ⟨hx, hb, hml, hown, hts⟩ (m_sets2 l g r 1 ((rowV b r).2.1 + x) (f := F 1) hM0 (by omega)) (cwV 3 hts (lw_V q1482 q1484 qs28 q56 q1485) rfl rfl rfl hdV_X2_sets ⟨Nat.le_of_ble_eq_true rfl, Nat.le_of_ble_eq_true rfl⟩) (preV hK hS h0 rfl) rfl rfl hl.1 rfl (lv_room (Nat.le_of_ble_eq_true rfl)) dX2_leaves_27 ⟨Nat.le_of_ble_eq_true rfl, Nat.le_of_ble_eq_true rfl⟩) hS (fun H_55 locs hp2 hS => ?_)
      obtain ⟨hM2, hF2⟩ := hp2
      have hF := hF.trans hF2 (fun q _ h => h)
      obtain ⟨h_56, h_57, h_58, h_59, h_60, -, -, -, -, -, -⟩ := id hM2
      have h_56 : Ob g (A 0) 2 [.ref (A 1), .ref (A 2), .ref (A 3), .int (I 3), .ref (A 4), .int (I 5), .int (I 6), .int (I 7), .int (I 8), .int (I 9), .int (I 10), .int (I 11), .int (I 12)] H_55 := h_56
      have h_57 : Ar g (A 1) 0 (aI 369 (upd (F 1) (11 + 17 * r + 1) ((rowV b r).2.1 + x))) H_55 := h_57
      refine lv_aload_n hx hb dX2_leaves_30 rfl (lv_at hl 0 rfl) ?_
      refine lv_iload_n hx hb dX2_leaves_31 rfl (lv_at hl 1 rfl) ?_
      refine k_calliS (va_runV (As := [.int (nI r)]) (rest := []) ⟨hx, hb, hml, hown, hts⟩ (m_isTorn l g r hM2 (by omega)) (cwV 1 hts (lw_V q1523 q1525 qs33 q56 q1526) rfl rfl rfl hdV_X2_isTorn ⟨Nat.le_of_ble_eq_true rfl, Nat.le_of_ble_eq_true rfl⟩) (preV hK hS h_56 rfl) rfl rfl hl.1 rfl (lv_room (Nat.le_of_ble_eq_true rfl)) dX2_leaves_32 ⟨Nat.le_of_ble_eq_true rfl, Nat.le_of_ble_eq_true rfl⟩) hS (fun z1 locs hz1 hS => ?_)
      refine lv_if_ne (tgt := 58) hx hb dX2_leaves_35 (by decide) (fun c35 => ?_) (fun c35 => ?_)
      · have c35 := b2t hz1 c35
        have e13 : (upd (F 1) (11 + 17 * r + 1) ((rowV b r).2.1 + x)) (13 + 17 * r) = (rowV b r).2.2 := by unfold upd; rw [if_neg (by omega)]; exact hrr.2.2.1
        have c35 : (rowV b r).2.2 = 1 := e13.symm.trans c35
        refine lv_iconst (v := 0) hx hb dX2_leaves_58 (by decide) ?_
        refine lv_istore_n (lv' := [(3, .int 0), (0, .ref (A 0)), (1, .int (nI r)), (2, .int x)]) hx hb dX2_leaves_59 rfl hl (by decide) rfl (fun ls hl => ?_)
        refine lv_aload_n hx hb dX2_leaves_60 rfl (lv_at hl 1 rfl) ?_
        refine lv_iload_n hx hb dX2_leaves_61 rfl (lv_at hl 2 rfl) ?_
        refine lv_iconst (v := nI 2) hx hb dX2_leaves_62 (by decide) ?_
        refine lv_iload_n hx hb dX2_leaves_63 rfl (lv_at hl 0 rfl) ?_
        refine lv_if_ne (tgt := 75) hx hb dX2_leaves_64 (by decide) (fun c64 => by first | exact absurd c64 (by decide) | exact absurd (by decide) c64) (fun c64 => ?_)
        refine lv_aload_n hx hb dX2_leaves_67 rfl (lv_at hl 1 rfl) ?_
        refine lv_iload_n hx hb dX2_leaves_68 rfl (lv_at hl 2 rfl) ?_
        refine k_calliS (va_runV (As := [.int (nI r)]) (rest := [.int (nI 2), .int (nI r), .ref (A 0)]) ⟨hx, hb, hml, hown, hts⟩ (m_isTorn l g r hM2 (by omega)) (cwV 1 hts (lw_V q1523 q1525 qs33 q56 q1526) rfl rfl rfl hdV_X2_isTorn ⟨Nat.le_of_ble_eq_true rfl, Nat.le_of_ble_eq_true rfl⟩) (preV hK hS h_56 rfl) rfl rfl hl.1 rfl (lv_room (Nat.le_of_ble_eq_true rfl)) dX2_leaves_69 ⟨Nat.le_of_ble_eq_true rfl, Nat.le_of_ble_eq_true rfl⟩) hS (fun z2 locs hz2 hS => ?_)
        refine lv_if_eq (tgt := 79) hx hb dX2_leaves_72 (by decide) (fun c72 => ?_) (fun c72 => ?_)
        · have c72 := b2f hz2 c72
          exact absurd (e13.trans c35) c72
        · have c72 := b2t hz2 c72
          refine lv_iconst (v := 1) hx hb dX2_leaves_75 (by decide) ?_
          refine lv_goto (tgt := 80) hx hb dX2_leaves_76 (by decide) ?_
          refine k_callv (va_runV (As := [.int (nI r), .int (nI 2), .int 1]) (rest := []) ⟨hx, hb, hml, hown, hts⟩ (m_sets2 l g r 2 1 (f := upd (F 1) (11 + 17 * r + 1) ((rowV b r).2.1 + x)) hM2 (by omega)) (cwV 3 hts (lw_V q1482 q1484 qs28 q56 q1485) rfl rfl rfl hdV_X2_sets ⟨Nat.le_of_ble_eq_true rfl, Nat.le_of_ble_eq_true rfl⟩) (preV hK hS h_56 rfl) rfl rfl hl.1 rfl (lv_room (Nat.le_of_ble_eq_true rfl)) dX2_leaves_80 ⟨Nat.le_of_ble_eq_true rfl, Nat.le_of_ble_eq_true rfl⟩) hS (fun H_63 locs hp3 hS => ?_)
          obtain ⟨hM3, hF2⟩ := hp3
          have hF := hF.trans hF2 (fun q _ h => h)
          obtain ⟨h_64, h_65, h_66, h_67, h_68, -, -, -, -, -, -⟩ := id hM3
          have h_64 : Ob g (A 0) 2 [.ref (A 1), .ref (A 2), .ref (A 3), .int (I 3), .ref (A 4), .int (I 5), .int (I 6), .int (I 7), .int (I 8), .int (I 9), .int (I 10), .int (I 11), .int (I 12)] H_63 := h_64
          have h_65 : Ar g (A 1) 0 (aI 369 (upd (upd (F 1) (11 + 17 * r + 1) ((rowV b r).2.1 + x)) (11 + 17 * r + 2) 1)) H_63 := h_65
          refine lv_aload_n hx hb dX2_leaves_83 rfl (lv_at hl 1 rfl) ?_
          refine lv_dup hx hb dX2_leaves_84 rfl ?_
          refine k_get (ci := 2) hx hb hts in_X2 hown hK h_64 rfl 12 (by decide) q1412 (fun _ h9 => h9) rfl dX2_leaves_85 ?_
          refine lv_iload_n hx hb dX2_leaves_88 rfl (lv_at hl 0 rfl) ?_
          refine lv_if_eq (tgt := 96) hx hb dX2_leaves_89 (by decide) (fun c89 => ?_) (fun c89 => by first | exact absurd c89 (by decide) | exact absurd (by decide) c89)
          refine lv_iconst (v := 0) hx hb dX2_leaves_96 (by decide) ?_
          refine lv_iadd hx hb dX2_leaves_97 ?_
          refine k_put (ci := 2) hx hb hts in_X2 tyX2 tyX2_ok nmX2 hown hK hS h_64 rfl 12 (by decide) q1412 (fun _ h9 => h9) rfl (rfl) (rfl) (Nat.le_of_ble_eq_true rfl) dX2_leaves_98 (fun H_69 locs h_70 u_71 hS => ?_)
          have h_70 : Ob g (A 0) 2 [.ref (A 1), .ref (A 2), .ref (A 3), .int (I 3), .ref (A 4), .int (I 5), .int (I 6), .int (I 7), .int (I 8), .int (I 9), .int (I 10), .int (I 11), .int ((I 12) + 0)] H_69 := h_70
          have h_72 := h_65.upd u_71 (Ne.symm (Ob.neA hK.gg h_64 h_65 (by decide) (by decide)))
          have h_73 := h_66.upd u_71 (Ne.symm (Ob.neA hK.gg h_64 h_66 (by decide) (by decide)))
          have h_74 := h_67.upd u_71 (Ne.symm (Ob.neA hK.gg h_64 h_67 (by decide) (by decide)))
          have h_75 := h_68.upd u_71 (Ne.symm (Ob.neA hK.gg h_64 h_68 (by decide) (by decide)))
          have hF_76 := hF.put u_71 (Or.inl (Or.inl rfl))
          have hLB : leaveB b r x j = (setRow b r ((rowV b r).1, (rowV b r).2.1 + x, 1), 0) := by unfold leaveB; rw [if_neg hsk, if_pos (Or.inr c35), if_neg (fun h => h.1 c35)]
          exact k_retv hx hb hret hlk hS (Nat.le_of_ble_eq_true rfl) (Nat.le_of_ble_eq_true rfl) (⟨hF_76, upd (upd (F 1) (11 + 17 * r + 1) ((rowV b r).2.1 + x)) (11 + 17 * r + 2) 1, by rw [hLB]; exact hs.setRow hok hr (fun k k1 k2 => by unfold upd; rw [if_neg (by omega), if_neg (by omega)]) (by unfold upd; rw [if_neg (by omega), if_pos (by omega)]) (by unfold upd; rw [if_pos (by omega)]), by rw [hLB]; exact hok.setRow hr (Or.inr rfl), by rw [hLB]; exact MAt.mk (F := va_up F 1 (upd (upd (F 1) (11 + 17 * r + 1) ((rowV b r).2.1 + x)) (11 + 17 * r + 2) 1)) (I := upd I 12 (I 12 + 0)) h_70 h_72 h_73 h_74 h_75 n12 n13 n14 n23 n24 n34⟩) dX2_leaves_101
      · have c35 := b2f hz1 c35
        have e13 : (upd (F 1) (11 + 17 * r + 1) ((rowV b r).2.1 + x)) (13 + 17 * r) = (rowV b r).2.2 := by unfold upd; rw [if_neg (by omega)]; exact hrr.2.2.1
        have c35 : ¬ (rowV b r).2.2 = 1 := fun h => c35 (e13.trans h)
        refine lv_aload_n hx hb dX2_leaves_38 rfl (lv_at hl 0 rfl) ?_
        refine lv_iload_n hx hb dX2_leaves_39 rfl (lv_at hl 1 rfl) ?_
        refine lv_iconst (v := nI 1) hx hb dX2_leaves_40 (by decide) ?_
        refine k_calliS (va_runV (As := [.int (nI r), .int (nI 1)]) (rest := []) ⟨hx, hb, hml, hown, hts⟩ (m_of l g r 1 hM2 (by omega)) (cwV 2 hts (lw_V q1515 q1517 qs32 q56 q1518) rfl rfl rfl hdV_X2_of ⟨Nat.le_of_ble_eq_true rfl, Nat.le_of_ble_eq_true rfl⟩) (preV hK hS h_56 rfl) rfl rfl hl.1 rfl (lv_room (Nat.le_of_ble_eq_true rfl)) dX2_leaves_41 ⟨Nat.le_of_ble_eq_true rfl, Nat.le_of_ble_eq_true rfl⟩) hS (fun t2 locs ht2 hS => ?_)
        have ht2 : t2 = (rowV b r).2.1 + x := by rw [ht2]; show upd _ _ _ _ = _; unfold upd; rw [if_pos rfl]
        subst ht2
        refine lv_aload_n hx hb dX2_leaves_44 rfl (lv_at hl 0 rfl) ?_
        refine k_get (ci := 2) hx hb hts in_X2 hown hK h_56 rfl 0 (by decide) q1400 (fun _ h9 => h9) rfl dX2_leaves_45 ?_
        refine lv_bipush (v := nI 9) hx hb dX2_leaves_48 (by decide) ?_
        refine k_ildN hx hb hK h_57 (9) (rfl) (by omega) (by decide) dX2_leaves_50 ?_
        refine k_topi (b.2.2 1) (by unfold upd; rw [if_neg (by omega)]; exact hs.c9) ?_
        refine lv_icmp_le (tgt := 58) hx hb dX2_leaves_51 (by decide) (fun c51 => ?_) (fun c51 => ?_)
        · refine lv_iconst (v := 0) hx hb dX2_leaves_58 (by decide) ?_
          refine lv_istore_n (lv' := [(3, .int 0), (0, .ref (A 0)), (1, .int (nI r)), (2, .int x)]) hx hb dX2_leaves_59 rfl hl (by decide) rfl (fun ls hl => ?_)
          refine lv_aload_n hx hb dX2_leaves_60 rfl (lv_at hl 1 rfl) ?_
          refine lv_iload_n hx hb dX2_leaves_61 rfl (lv_at hl 2 rfl) ?_
          refine lv_iconst (v := nI 2) hx hb dX2_leaves_62 (by decide) ?_
          refine lv_iload_n hx hb dX2_leaves_63 rfl (lv_at hl 0 rfl) ?_
          refine lv_if_ne (tgt := 75) hx hb dX2_leaves_64 (by decide) (fun c64 => by first | exact absurd c64 (by decide) | exact absurd (by decide) c64) (fun c64 => ?_)
          refine lv_aload_n hx hb dX2_leaves_67 rfl (lv_at hl 1 rfl) ?_
          refine lv_iload_n hx hb dX2_leaves_68 rfl (lv_at hl 2 rfl) ?_
          refine k_calliS (va_runV (As := [.int (nI r)]) (rest := [.int (nI 2), .int (nI r), .ref (A 0)]) ⟨hx, hb, hml, hown, hts⟩ (m_isTorn l g r hM2 (by omega)) (cwV 1 hts (lw_V q1523 q1525 qs33 q56 q1526) rfl rfl rfl hdV_X2_isTorn ⟨Nat.le_of_ble_eq_true rfl, Nat.le_of_ble_eq_true rfl⟩) (preV hK hS h_56 rfl) rfl rfl hl.1 rfl (lv_room (Nat.le_of_ble_eq_true rfl)) dX2_leaves_69 ⟨Nat.le_of_ble_eq_true rfl, Nat.le_of_ble_eq_true rfl⟩) hS (fun z2 locs hz2 hS => ?_)
          refine lv_if_eq (tgt := 79) hx hb dX2_leaves_72 (by decide) (fun c72 => ?_) (fun c72 => ?_)
          · have c72 := b2f hz2 c72
            refine lv_iconst (v := 0) hx hb dX2_leaves_79 (by decide) ?_
            refine k_callv (va_runV (As := [.int (nI r), .int (nI 2), .int 0]) (rest := []) ⟨hx, hb, hml, hown, hts⟩ (m_sets2 l g r 2 0 (f := upd (F 1) (11 + 17 * r + 1) ((rowV b r).2.1 + x)) hM2 (by omega)) (cwV 3 hts (lw_V q1482 q1484 qs28 q56 q1485) rfl rfl rfl hdV_X2_sets ⟨Nat.le_of_ble_eq_true rfl, Nat.le_of_ble_eq_true rfl⟩) (preV hK hS h_56 rfl) rfl rfl hl.1 rfl (lv_room (Nat.le_of_ble_eq_true rfl)) dX2_leaves_80 ⟨Nat.le_of_ble_eq_true rfl, Nat.le_of_ble_eq_true rfl⟩) hS (fun H_79 locs hp3 hS => ?_)
            obtain ⟨hM3, hF2⟩ := hp3
            have hF := hF.trans hF2 (fun q _ h => h)
            obtain ⟨h_80, h_81, h_82, h_83, h_84, -, -, -, -, -, -⟩ := id hM3
            have h_80 : Ob g (A 0) 2 [.ref (A 1), .ref (A 2), .ref (A 3), .int (I 3), .ref (A 4), .int (I 5), .int (I 6), .int (I 7), .int (I 8), .int (I 9), .int (I 10), .int (I 11), .int (I 12)] H_79 := h_80
            have h_81 : Ar g (A 1) 0 (aI 369 (upd (upd (F 1) (11 + 17 * r + 1) ((rowV b r).2.1 + x)) (11 + 17 * r + 2) 0)) H_79 := h_81
            refine lv_aload_n hx hb dX2_leaves_83 rfl (lv_at hl 1 rfl) ?_
            refine lv_dup hx hb dX2_leaves_84 rfl ?_
            refine k_get (ci := 2) hx hb hts in_X2 hown hK h_80 rfl 12 (by decide) q1412 (fun _ h9 => h9) rfl dX2_leaves_85 ?_
            refine lv_iload_n hx hb dX2_leaves_88 rfl (lv_at hl 0 rfl) ?_
            refine lv_if_eq (tgt := 96) hx hb dX2_leaves_89 (by decide) (fun c89 => ?_) (fun c89 => by first | exact absurd c89 (by decide) | exact absurd (by decide) c89)
            refine lv_iconst (v := 0) hx hb dX2_leaves_96 (by decide) ?_
            refine lv_iadd hx hb dX2_leaves_97 ?_
            refine k_put (ci := 2) hx hb hts in_X2 tyX2 tyX2_ok nmX2 hown hK hS h_80 rfl 12 (by decide) q1412 (fun _ h9 => h9) rfl (rfl) (rfl) (Nat.le_of_ble_eq_true rfl) dX2_leaves_98 (fun H_85 locs h_86 u_87 hS => ?_)
            have h_86 : Ob g (A 0) 2 [.ref (A 1), .ref (A 2), .ref (A 3), .int (I 3), .ref (A 4), .int (I 5), .int (I 6), .int (I 7), .int (I 8), .int (I 9), .int (I 10), .int (I 11), .int ((I 12) + 0)] H_85 := h_86
            have h_88 := h_81.upd u_87 (Ne.symm (Ob.neA hK.gg h_80 h_81 (by decide) (by decide)))
            have h_89 := h_82.upd u_87 (Ne.symm (Ob.neA hK.gg h_80 h_82 (by decide) (by decide)))
            have h_90 := h_83.upd u_87 (Ne.symm (Ob.neA hK.gg h_80 h_83 (by decide) (by decide)))
            have h_91 := h_84.upd u_87 (Ne.symm (Ob.neA hK.gg h_80 h_84 (by decide) (by decide)))
            have hF_92 := hF.put u_87 (Or.inl (Or.inl rfl))
            have hLB : leaveB b r x j = (setRow b r ((rowV b r).1, (rowV b r).2.1 + x, 0), 0) := by unfold leaveB; rw [if_neg hsk, if_neg (fun h => h.elim (fun h => absurd h.2 (Int32.not_lt.mpr c51)) c35), if_neg (fun h => absurd h.2 (Int32.not_lt.mpr c51))]
            exact k_retv hx hb hret hlk hS (Nat.le_of_ble_eq_true rfl) (Nat.le_of_ble_eq_true rfl) (⟨hF_92, upd (upd (F 1) (11 + 17 * r + 1) ((rowV b r).2.1 + x)) (11 + 17 * r + 2) 0, by rw [hLB]; exact hs.setRow hok hr (fun k k1 k2 => by unfold upd; rw [if_neg (by omega), if_neg (by omega)]) (by unfold upd; rw [if_neg (by omega), if_pos (by omega)]) (by unfold upd; rw [if_pos (by omega)]), by rw [hLB]; exact hok.setRow hr (Or.inl rfl), by rw [hLB]; exact MAt.mk (F := va_up F 1 (upd (upd (F 1) (11 + 17 * r + 1) ((rowV b r).2.1 + x)) (11 + 17 * r + 2) 0)) (I := upd I 12 (I 12 + 0)) h_86 h_88 h_89 h_90 h_91 n12 n13 n14 n23 n24 n34⟩) dX2_leaves_101
          · have c72 := b2t hz2 c72
            exact absurd (e13.symm.trans c72) c35
        · refine lv_iconst (v := 1) hx hb dX2_leaves_54 (by decide) ?_
          refine lv_goto (tgt := 59) hx hb dX2_leaves_55 (by decide) ?_
          refine lv_istore_n (lv' := [(3, .int 1), (0, .ref (A 0)), (1, .int (nI r)), (2, .int x)]) hx hb dX2_leaves_59 rfl hl (by decide) rfl (fun ls hl => ?_)
          refine lv_aload_n hx hb dX2_leaves_60 rfl (lv_at hl 1 rfl) ?_
          refine lv_iload_n hx hb dX2_leaves_61 rfl (lv_at hl 2 rfl) ?_
          refine lv_iconst (v := nI 2) hx hb dX2_leaves_62 (by decide) ?_
          refine lv_iload_n hx hb dX2_leaves_63 rfl (lv_at hl 0 rfl) ?_
          refine lv_if_ne (tgt := 75) hx hb dX2_leaves_64 (by decide) (fun c64 => ?_) (fun c64 => by first | exact absurd c64 (by decide) | exact absurd (by decide) c64)
          refine lv_iconst (v := 1) hx hb dX2_leaves_75 (by decide) ?_
          refine lv_goto (tgt := 80) hx hb dX2_leaves_76 (by decide) ?_
          refine k_callv (va_runV (As := [.int (nI r), .int (nI 2), .int 1]) (rest := []) ⟨hx, hb, hml, hown, hts⟩ (m_sets2 l g r 2 1 (f := upd (F 1) (11 + 17 * r + 1) ((rowV b r).2.1 + x)) hM2 (by omega)) (cwV 3 hts (lw_V q1482 q1484 qs28 q56 q1485) rfl rfl rfl hdV_X2_sets ⟨Nat.le_of_ble_eq_true rfl, Nat.le_of_ble_eq_true rfl⟩) (preV hK hS h_56 rfl) rfl rfl hl.1 rfl (lv_room (Nat.le_of_ble_eq_true rfl)) dX2_leaves_80 ⟨Nat.le_of_ble_eq_true rfl, Nat.le_of_ble_eq_true rfl⟩) hS (fun H_93 locs hp3 hS => ?_)
          obtain ⟨hM3, hF2⟩ := hp3
          have hF := hF.trans hF2 (fun q _ h => h)
          obtain ⟨h_94, h_95, h_96, h_97, h_98, -, -, -, -, -, -⟩ := id hM3
          have h_94 : Ob g (A 0) 2 [.ref (A 1), .ref (A 2), .ref (A 3), .int (I 3), .ref (A 4), .int (I 5), .int (I 6), .int (I 7), .int (I 8), .int (I 9), .int (I 10), .int (I 11), .int (I 12)] H_93 := h_94
          have h_95 : Ar g (A 1) 0 (aI 369 (upd (upd (F 1) (11 + 17 * r + 1) ((rowV b r).2.1 + x)) (11 + 17 * r + 2) 1)) H_93 := h_95
          refine lv_aload_n hx hb dX2_leaves_83 rfl (lv_at hl 1 rfl) ?_
          refine lv_dup hx hb dX2_leaves_84 rfl ?_
          refine k_get (ci := 2) hx hb hts in_X2 hown hK h_94 rfl 12 (by decide) q1412 (fun _ h9 => h9) rfl dX2_leaves_85 ?_
          refine lv_iload_n hx hb dX2_leaves_88 rfl (lv_at hl 0 rfl) ?_
          refine lv_if_eq (tgt := 96) hx hb dX2_leaves_89 (by decide) (fun c89 => by first | exact absurd c89 (by decide) | exact absurd (by decide) c89) (fun c89 => ?_)
          refine lv_iconst (v := 1) hx hb dX2_leaves_92 (by decide) ?_
          refine lv_goto (tgt := 97) hx hb dX2_leaves_93 (by decide) ?_
          refine lv_iadd hx hb dX2_leaves_97 ?_
          refine k_put (ci := 2) hx hb hts in_X2 tyX2 tyX2_ok nmX2 hown hK hS h_94 rfl 12 (by decide) q1412 (fun _ h9 => h9) rfl (rfl) (rfl) (Nat.le_of_ble_eq_true rfl) dX2_leaves_98 (fun H_99 locs h_100 u_101 hS => ?_)
          have h_100 : Ob g (A 0) 2 [.ref (A 1), .ref (A 2), .ref (A 3), .int (I 3), .ref (A 4), .int (I 5), .int (I 6), .int (I 7), .int (I 8), .int (I 9), .int (I 10), .int (I 11), .int ((I 12) + 1)] H_99 := h_100
          have h_102 := h_95.upd u_101 (Ne.symm (Ob.neA hK.gg h_94 h_95 (by decide) (by decide)))
          have h_103 := h_96.upd u_101 (Ne.symm (Ob.neA hK.gg h_94 h_96 (by decide) (by decide)))
          have h_104 := h_97.upd u_101 (Ne.symm (Ob.neA hK.gg h_94 h_97 (by decide) (by decide)))
          have h_105 := h_98.upd u_101 (Ne.symm (Ob.neA hK.gg h_94 h_98 (by decide) (by decide)))
          have hF_106 := hF.put u_101 (Or.inl (Or.inl rfl))
          have hLB : leaveB b r x j = (setRow b r ((rowV b r).1, (rowV b r).2.1 + x, 1), 1) := by unfold leaveB; rw [if_neg hsk, if_pos (Or.inl ⟨c35, i_nle c51⟩), if_pos ⟨c35, i_nle c51⟩]
          exact k_retv hx hb hret hlk hS (Nat.le_of_ble_eq_true rfl) (Nat.le_of_ble_eq_true rfl) (⟨hF_106, upd (upd (F 1) (11 + 17 * r + 1) ((rowV b r).2.1 + x)) (11 + 17 * r + 2) 1, by rw [hLB]; exact hs.setRow hok hr (fun k k1 k2 => by unfold upd; rw [if_neg (by omega), if_neg (by omega)]) (by unfold upd; rw [if_neg (by omega), if_pos (by omega)]) (by unfold upd; rw [if_pos (by omega)]), by rw [hLB]; exact hok.setRow hr (Or.inr rfl), by rw [hLB]; exact MAt.mk (F := va_up F 1 (upd (upd (F 1) (11 + 17 * r + 1) ((rowV b r).2.1 + x)) (11 + 17 * r + 2) 1)) (I := upd I 12 (I 12 + 1)) h_100 h_102 h_103 h_104 h_105 n12 n13 n14 n23 n24 n34⟩) dX2_leaves_101
    · have c12 : j % 2 = 1 := (nI_eq (a := j % 2) (b := 1) (by omega) (by omega)).mp c12
      exact k_retv hx hb hret hlk hS (Nat.le_of_ble_eq_true rfl) (Nat.le_of_ble_eq_true rfl) (⟨hF, F 1, by unfold leaveB; rw [if_pos ⟨c2, c12⟩]; exact hs, by unfold leaveB; rw [if_pos ⟨c2, c12⟩]; exact hok, by unfold leaveB; rw [if_pos ⟨c2, c12⟩, Int32.add_zero, upd_id]; exact hM0⟩) dX2_leaves_15
