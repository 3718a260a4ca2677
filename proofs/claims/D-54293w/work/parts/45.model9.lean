/-! ===== HandBlindsModel: wrongBy (printed by tools/model9.py) ===== -/
set_option maxRecDepth 100000
theorem nI_nem1 (k : Nat) (h : k < 2 ^ 31) : nI k ≠ -1 := by
  intro e
  have := nI_pos' h
  rw [e] at this
  exact absurd this (by decide)
/-- wrongBy(row), a row -/
theorem m_wrongBy (l : Launch) (g : GT) {H : Heap} {A : Nat → Nat} {F : Nat → Nat → Int32} {I : Nat → Int32} (b : BV) (r : Nat) (hM : MAt g A F I H) (hs : SRel (F 1) b) (hok : okB b) (hr : r < b.1.length) : Met l yX2_wrongBy (ws_ yX2_wrongBy cX2_wrongBy 2 (some .int)) ({ frames := 3, cells := 0, slots := 0, locals := 69 } : Room) (va_Pc [.ref (A 0), .int (nI r)] (Pre g H)) (Qi g (fun z H1 => H1 = H ∧ z = wrongR b r)) 0 0 (gA g) := by
  refine k_met (cc := cX2_wrongBy) (nL := 2) (vs := [.ref (A 0), .int (nI r)]) (by decide +kernel) (Nat.le_of_ble_eq_true rfl) ?_
  intro p e s m below meth c hH hx hb hret hts hown hlk hml hin hK hS ls hl
  subst hH
  have hown : s.vm.findClass RX2 = some m.cls := hown
  have hl : lv_has ls 2 [(0, .ref (A 0)), (1, .int (nI r))] := hl
  obtain ⟨h0, h1, h2, h3, h4, n12, n13, n14, n23, n24, n34⟩ := id hM
  have hl20 := hok.1
  have hl6 := hok.2.1
  have hrr := hs.row hr
  have h14 := hok.name hr
  have hknd := (hok.2.2.1 r hr).1
  refine lv_iload_n hx hb dX2_wrongBy_0 rfl (lv_at hl 1 rfl) ?_
  refine lv_if_ge (tgt := 6) hx hb dX2_wrongBy_1 (by decide) (fun c1 => ?_) (fun c1 => ?_)
  · refine lv_aload_n hx hb dX2_wrongBy_6 rfl (lv_at hl 0 rfl) ?_
    refine lv_iload_n hx hb dX2_wrongBy_7 rfl (lv_at hl 1 rfl) ?_
    refine k_calliS (va_runV (As := [.int (nI r)]) (rest := []) ⟨hx, hb, hml, hown, hts⟩ (m_isTorn l g r hM (by omega)) (cwV 1 hts (lw_V q1523 q1525 qs33 q56 q1526) rfl rfl rfl hdV_X2_isTorn ⟨Nat.le_of_ble_eq_true rfl, Nat.le_of_ble_eq_true rfl⟩) (preV hK hS h0 rfl) rfl rfl hl.1 rfl (lv_room (Nat.le_of_ble_eq_true rfl)) dX2_wrongBy_8 ⟨Nat.le_of_ble_eq_true rfl, Nat.le_of_ble_eq_true rfl⟩) hS (fun z1 locs hz1 hS => ?_)
    refine lv_if_eq (tgt := 16) hx hb dX2_wrongBy_11 (by decide) (fun c11 => ?_) (fun c11 => ?_)
    · have c11 := b2f hz1 c11
      rw [hrr.2.2.1] at c11
      rcases hok.2.2.2.2.2.1 with hon | ⟨k, hk, hon⟩
      · refine lv_aload_n hx hb dX2_wrongBy_16 rfl (lv_at hl 0 rfl) ?_
        refine k_get (ci := 2) hx hb hts in_X2 hown hK h0 rfl 0 (by decide) q1400 (fun _ h9 => h9) rfl dX2_wrongBy_17 ?_
        refine lv_iconst (v := nI 3) hx hb dX2_wrongBy_20 (by decide) ?_
        refine k_ildN hx hb hK h1 (3) (rfl) (by omega) (by decide) dX2_wrongBy_21 ?_
        refine k_topi ((-1)) (hs.on.trans hon) ?_
        refine lv_if_ge (tgt := 45) hx hb dX2_wrongBy_22 (by decide) (fun c22 => absurd c22 (by decide)) (fun c22 => ?_)
        refine lv_aload_n hx hb dX2_wrongBy_25 rfl (lv_at hl 0 rfl) ?_
        refine lv_iload_n hx hb dX2_wrongBy_26 rfl (lv_at hl 1 rfl) ?_
        refine k_calliS (va_runV (As := [.int (nI r)]) (rest := []) ⟨hx, hb, hml, hown, hts⟩ (m_kind l g r (rowV b r).1.length hM (by omega) hrr.1 h14.2) (cwV 1 hts (lw_V q1564 q1566 qs39 q56 q1567) rfl rfl rfl hdV_X2_kind ⟨Nat.le_of_ble_eq_true rfl, Nat.le_of_ble_eq_true rfl⟩) (preV hK hS h0 rfl) rfl rfl hl.1 rfl (lv_room (Nat.le_of_ble_eq_true rfl)) dX2_wrongBy_27 ⟨Nat.le_of_ble_eq_true rfl, Nat.le_of_ble_eq_true rfl⟩) hS (fun k1 locs hk1 hS => ?_)
        have hk1 : k1 = kindV (rowV b r).1 := by rw [hk1, ← kindF_V hknd]; exact kindF_congr (fun k hk => hrr.2.2.2 k hk)
        refine lv_iconst (v := 1) hx hb dX2_wrongBy_30 (by decide) ?_
        refine lv_icmp_eq (tgt := 45) hx hb dX2_wrongBy_31 (by decide) (fun c31 => ?_) (fun c31 => ?_)
        · rw [hk1] at c31
          refine lv_aload_n hx hb dX2_wrongBy_45 rfl (lv_at hl 0 rfl) ?_
          refine k_get (ci := 2) hx hb hts in_X2 hown hK h0 rfl 0 (by decide) q1400 (fun _ h9 => h9) rfl dX2_wrongBy_46 ?_
          refine lv_iconst (v := nI 3) hx hb dX2_wrongBy_49 (by decide) ?_
          refine k_ildN hx hb hK h1 (3) (rfl) (by omega) (by decide) dX2_wrongBy_50 ?_
          refine k_topi ((-1)) (hs.on.trans hon) ?_
          refine lv_if_lt (tgt := 83) hx hb dX2_wrongBy_51 (by decide) (fun c51 => ?_) (fun c51 => absurd (by decide) c51)
          refine lv_aload_n hx hb dX2_wrongBy_83 rfl (lv_at hl 0 rfl) ?_
          refine lv_aload_n hx hb dX2_wrongBy_84 rfl (lv_at hl 0 rfl) ?_
          refine lv_iload_n hx hb dX2_wrongBy_85 rfl (lv_at hl 1 rfl) ?_
          refine k_calliS (va_runV (As := [.int (nI r)]) (rest := [.ref (A 0)]) ⟨hx, hb, hml, hown, hts⟩ (m_width l g r (rowV b r).1.length hM (by omega) hrr.1 h14.2) (cwV 1 hts (lw_V q1576 q1578 qs41 q56 q1579) rfl rfl rfl hdV_X2_width ⟨Nat.le_of_ble_eq_true rfl, Nat.le_of_ble_eq_true rfl⟩) (preV hK hS h0 rfl) rfl rfl hl.1 rfl (lv_room (Nat.le_of_ble_eq_true rfl)) dX2_wrongBy_86 ⟨Nat.le_of_ble_eq_true rfl, Nat.le_of_ble_eq_true rfl⟩) hS (fun wd1 locs hwd1 hS => ?_)
          refine k_calliS (va_runV (As := [.int wd1]) (rest := []) ⟨hx, hb, hml, hown, hts⟩ (m_squeezed l g wd1 hM (by rw [hs.w]; exact hok.wide0)) (cwV 1 hts (lw_V q1478 q1480 qs27 q56 q1481) rfl rfl rfl hdV_X2_squeezed ⟨Nat.le_of_ble_eq_true rfl, Nat.le_of_ble_eq_true rfl⟩) (preV hK hS h0 rfl) rfl rfl hl.1 rfl (lv_room (Nat.le_of_ble_eq_true rfl)) dX2_wrongBy_89 ⟨Nat.le_of_ble_eq_true rfl, Nat.le_of_ble_eq_true rfl⟩) hS (fun sq1 locs hsq1 hS => ?_)
          refine lv_bipush (v := 120) hx hb dX2_wrongBy_92 (by decide) ?_
          refine lv_icmp_le (tgt := 101) hx hb dX2_wrongBy_94 (by decide) (fun c94 => ?_) (fun c94 => ?_)
          · rw [show sq1 = sqV b (rowV b r).1 by rw [hsq1, hwd1]; unfold sqV; rw [hrr.wsum, hs.w]] at c94
            refine lv_iconst (v := 0) hx hb dX2_wrongBy_101 (by decide) ?_
            exact k_ireti (v := 0) hx hb hret (rfl) hlk hS (Nat.le_of_ble_eq_true rfl) (Nat.le_of_ble_eq_true rfl) (⟨rfl, by unfold wrongR; rw [if_neg c11, if_neg (fun h => absurd c31 h.2.1), if_neg (fun h => h.1 hon), if_neg (Int32.not_lt.mpr c94)]⟩) dX2_wrongBy_102
          · rw [show sq1 = sqV b (rowV b r).1 by rw [hsq1, hwd1]; unfold sqV; rw [hrr.wsum, hs.w]] at c94
            refine lv_iconst (v := 5) hx hb dX2_wrongBy_97 (by decide) ?_
            refine lv_goto (tgt := 102) hx hb dX2_wrongBy_98 (by decide) ?_
            exact k_ireti (v := 5) hx hb hret (rfl) hlk hS (Nat.le_of_ble_eq_true rfl) (Nat.le_of_ble_eq_true rfl) (⟨rfl, by unfold wrongR; rw [if_neg c11, if_neg (fun h => absurd c31 h.2.1), if_neg (fun h => h.1 hon), if_pos (i_nle c94)]⟩) dX2_wrongBy_102
        · rw [hk1] at c31
          refine lv_aload_n hx hb dX2_wrongBy_34 rfl (lv_at hl 0 rfl) ?_
          refine lv_iload_n hx hb dX2_wrongBy_35 rfl (lv_at hl 1 rfl) ?_
          refine k_calliS (va_runV (As := [.int (nI r)]) (rest := []) ⟨hx, hb, hml, hown, hts⟩ (m_kind l g r (rowV b r).1.length hM (by omega) hrr.1 h14.2) (cwV 1 hts (lw_V q1564 q1566 qs39 q56 q1567) rfl rfl rfl hdV_X2_kind ⟨Nat.le_of_ble_eq_true rfl, Nat.le_of_ble_eq_true rfl⟩) (preV hK hS h0 rfl) rfl rfl hl.1 rfl (lv_room (Nat.le_of_ble_eq_true rfl)) dX2_wrongBy_36 ⟨Nat.le_of_ble_eq_true rfl, Nat.le_of_ble_eq_true rfl⟩) hS (fun k2 locs hk2 hS => ?_)
          have hk2 : k2 = kindV (rowV b r).1 := by rw [hk2, ← kindF_V hknd]; exact kindF_congr (fun k hk => hrr.2.2.2 k hk)
          refine lv_iconst (v := 2) hx hb dX2_wrongBy_39 (by decide) ?_
          refine lv_icmp_eq (tgt := 45) hx hb dX2_wrongBy_40 (by decide) (fun c40 => ?_) (fun c40 => ?_)
          · rw [hk2] at c40
            refine lv_aload_n hx hb dX2_wrongBy_45 rfl (lv_at hl 0 rfl) ?_
            refine k_get (ci := 2) hx hb hts in_X2 hown hK h0 rfl 0 (by decide) q1400 (fun _ h9 => h9) rfl dX2_wrongBy_46 ?_
            refine lv_iconst (v := nI 3) hx hb dX2_wrongBy_49 (by decide) ?_
            refine k_ildN hx hb hK h1 (3) (rfl) (by omega) (by decide) dX2_wrongBy_50 ?_
            refine k_topi ((-1)) (hs.on.trans hon) ?_
            refine lv_if_lt (tgt := 83) hx hb dX2_wrongBy_51 (by decide) (fun c51 => ?_) (fun c51 => absurd (by decide) c51)
            refine lv_aload_n hx hb dX2_wrongBy_83 rfl (lv_at hl 0 rfl) ?_
            refine lv_aload_n hx hb dX2_wrongBy_84 rfl (lv_at hl 0 rfl) ?_
            refine lv_iload_n hx hb dX2_wrongBy_85 rfl (lv_at hl 1 rfl) ?_
            refine k_calliS (va_runV (As := [.int (nI r)]) (rest := [.ref (A 0)]) ⟨hx, hb, hml, hown, hts⟩ (m_width l g r (rowV b r).1.length hM (by omega) hrr.1 h14.2) (cwV 1 hts (lw_V q1576 q1578 qs41 q56 q1579) rfl rfl rfl hdV_X2_width ⟨Nat.le_of_ble_eq_true rfl, Nat.le_of_ble_eq_true rfl⟩) (preV hK hS h0 rfl) rfl rfl hl.1 rfl (lv_room (Nat.le_of_ble_eq_true rfl)) dX2_wrongBy_86 ⟨Nat.le_of_ble_eq_true rfl, Nat.le_of_ble_eq_true rfl⟩) hS (fun wd1 locs hwd1 hS => ?_)
            refine k_calliS (va_runV (As := [.int wd1]) (rest := []) ⟨hx, hb, hml, hown, hts⟩ (m_squeezed l g wd1 hM (by rw [hs.w]; exact hok.wide0)) (cwV 1 hts (lw_V q1478 q1480 qs27 q56 q1481) rfl rfl rfl hdV_X2_squeezed ⟨Nat.le_of_ble_eq_true rfl, Nat.le_of_ble_eq_true rfl⟩) (preV hK hS h0 rfl) rfl rfl hl.1 rfl (lv_room (Nat.le_of_ble_eq_true rfl)) dX2_wrongBy_89 ⟨Nat.le_of_ble_eq_true rfl, Nat.le_of_ble_eq_true rfl⟩) hS (fun sq1 locs hsq1 hS => ?_)
            refine lv_bipush (v := 120) hx hb dX2_wrongBy_92 (by decide) ?_
            refine lv_icmp_le (tgt := 101) hx hb dX2_wrongBy_94 (by decide) (fun c94 => ?_) (fun c94 => ?_)
            · rw [show sq1 = sqV b (rowV b r).1 by rw [hsq1, hwd1]; unfold sqV; rw [hrr.wsum, hs.w]] at c94
              refine lv_iconst (v := 0) hx hb dX2_wrongBy_101 (by decide) ?_
              exact k_ireti (v := 0) hx hb hret (rfl) hlk hS (Nat.le_of_ble_eq_true rfl) (Nat.le_of_ble_eq_true rfl) (⟨rfl, by unfold wrongR; rw [if_neg c11, if_neg (fun h => absurd c40 h.2.2), if_neg (fun h => h.1 hon), if_neg (Int32.not_lt.mpr c94)]⟩) dX2_wrongBy_102
            · rw [show sq1 = sqV b (rowV b r).1 by rw [hsq1, hwd1]; unfold sqV; rw [hrr.wsum, hs.w]] at c94
              refine lv_iconst (v := 5) hx hb dX2_wrongBy_97 (by decide) ?_
              refine lv_goto (tgt := 102) hx hb dX2_wrongBy_98 (by decide) ?_
              exact k_ireti (v := 5) hx hb hret (rfl) hlk hS (Nat.le_of_ble_eq_true rfl) (Nat.le_of_ble_eq_true rfl) (⟨rfl, by unfold wrongR; rw [if_neg c11, if_neg (fun h => absurd c40 h.2.2), if_neg (fun h => h.1 hon), if_pos (i_nle c94)]⟩) dX2_wrongBy_102
          · rw [hk2] at c40
            refine lv_iconst (v := 3) hx hb dX2_wrongBy_43 (by decide) ?_
            exact k_ireti (v := 3) hx hb hret (rfl) hlk hS (Nat.le_of_ble_eq_true rfl) (Nat.le_of_ble_eq_true rfl) (⟨rfl, by unfold wrongR; rw [if_neg c11, if_pos ⟨hon, c31, c40⟩]⟩) dX2_wrongBy_44
      · have hon1 : b.2.2 4 ≠ -1 := by rw [hon]; exact nI_nem1 k (by omega)
        refine lv_aload_n hx hb dX2_wrongBy_16 rfl (lv_at hl 0 rfl) ?_
        refine k_get (ci := 2) hx hb hts in_X2 hown hK h0 rfl 0 (by decide) q1400 (fun _ h9 => h9) rfl dX2_wrongBy_17 ?_
        refine lv_iconst (v := nI 3) hx hb dX2_wrongBy_20 (by decide) ?_
        refine k_ildN hx hb hK h1 (3) (rfl) (by omega) (by decide) dX2_wrongBy_21 ?_
        refine k_topi (nI k) (hs.on.trans hon) ?_
        refine lv_if_ge (tgt := 45) hx hb dX2_wrongBy_22 (by decide) (fun c22 => ?_) (fun c22 => ?_)
        · refine lv_aload_n hx hb dX2_wrongBy_45 rfl (lv_at hl 0 rfl) ?_
          refine k_get (ci := 2) hx hb hts in_X2 hown hK h0 rfl 0 (by decide) q1400 (fun _ h9 => h9) rfl dX2_wrongBy_46 ?_
          refine lv_iconst (v := nI 3) hx hb dX2_wrongBy_49 (by decide) ?_
          refine k_ildN hx hb hK h1 (3) (rfl) (by omega) (by decide) dX2_wrongBy_50 ?_
          refine k_topi (nI k) (hs.on.trans hon) ?_
          refine lv_if_lt (tgt := 83) hx hb dX2_wrongBy_51 (by decide) (fun c51 => ?_) (fun c51 => ?_)
          · exact absurd c51 (nI_pos (by omega))
          · refine lv_aload_n hx hb dX2_wrongBy_54 rfl (lv_at hl 0 rfl) ?_
            refine lv_aload_n hx hb dX2_wrongBy_55 rfl (lv_at hl 0 rfl) ?_
            refine k_get (ci := 2) hx hb hts in_X2 hown hK h0 rfl 0 (by decide) q1400 (fun _ h9 => h9) rfl dX2_wrongBy_56 ?_
            refine lv_iconst (v := nI 3) hx hb dX2_wrongBy_59 (by decide) ?_
            refine k_ildN hx hb hK h1 (3) (rfl) (by omega) (by decide) dX2_wrongBy_60 ?_
            refine k_topi (nI k) (hs.on.trans hon) ?_
            refine lv_iconst (v := nI 0) hx hb dX2_wrongBy_61 (by decide) ?_
            refine k_calliS (va_runV (As := [.int (nI k), .int (nI 0)]) (rest := []) ⟨hx, hb, hml, hown, hts⟩ (m_ofRoute l g k 0 hM (by omega)) (cwV 2 hts (lw_V q1504 q1506 qs31 q56 q1507) rfl rfl rfl hdV_X2_ofRoute ⟨Nat.le_of_ble_eq_true rfl, Nat.le_of_ble_eq_true rfl⟩) (preV hK hS h0 rfl) rfl rfl hl.1 rfl (lv_room (Nat.le_of_ble_eq_true rfl)) dX2_wrongBy_62 ⟨Nat.le_of_ble_eq_true rfl, Nat.le_of_ble_eq_true rfl⟩) hS (fun t locs ht hS => ?_)
            refine lv_iload_n hx hb dX2_wrongBy_65 rfl (lv_at hl 1 rfl) ?_
            refine lv_ishr hx hb dX2_wrongBy_66 ?_
            refine lv_iconst (v := 1) hx hb dX2_wrongBy_67 (by decide) ?_
            refine lv_iand hx hb dX2_wrongBy_68 ?_
            refine k_topi (b2i ((rtV b k).1.testBit r = true)) (by rw [show t = nI (rtV b k).1 from ht.trans (hs.rt hk).1]; exact bit_and _ r (hok.2.2.2.1 k hk) (by omega)) ?_
            have hbit : b2i ((rtV b k).1.testBit r = true) = b2i ((rtV b k).1.testBit r = true) := rfl
            refine lv_if_ne (tgt := 83) hx hb dX2_wrongBy_69 (by decide) (fun c69 => ?_) (fun c69 => ?_)
            · have c69 := b2t hbit c69
              refine lv_aload_n hx hb dX2_wrongBy_83 rfl (lv_at hl 0 rfl) ?_
              refine lv_aload_n hx hb dX2_wrongBy_84 rfl (lv_at hl 0 rfl) ?_
              refine lv_iload_n hx hb dX2_wrongBy_85 rfl (lv_at hl 1 rfl) ?_
              refine k_calliS (va_runV (As := [.int (nI r)]) (rest := [.ref (A 0)]) ⟨hx, hb, hml, hown, hts⟩ (m_width l g r (rowV b r).1.length hM (by omega) hrr.1 h14.2) (cwV 1 hts (lw_V q1576 q1578 qs41 q56 q1579) rfl rfl rfl hdV_X2_width ⟨Nat.le_of_ble_eq_true rfl, Nat.le_of_ble_eq_true rfl⟩) (preV hK hS h0 rfl) rfl rfl hl.1 rfl (lv_room (Nat.le_of_ble_eq_true rfl)) dX2_wrongBy_86 ⟨Nat.le_of_ble_eq_true rfl, Nat.le_of_ble_eq_true rfl⟩) hS (fun wd1 locs hwd1 hS => ?_)
              refine k_calliS (va_runV (As := [.int wd1]) (rest := []) ⟨hx, hb, hml, hown, hts⟩ (m_squeezed l g wd1 hM (by rw [hs.w]; exact hok.wide0)) (cwV 1 hts (lw_V q1478 q1480 qs27 q56 q1481) rfl rfl rfl hdV_X2_squeezed ⟨Nat.le_of_ble_eq_true rfl, Nat.le_of_ble_eq_true rfl⟩) (preV hK hS h0 rfl) rfl rfl hl.1 rfl (lv_room (Nat.le_of_ble_eq_true rfl)) dX2_wrongBy_89 ⟨Nat.le_of_ble_eq_true rfl, Nat.le_of_ble_eq_true rfl⟩) hS (fun sq1 locs hsq1 hS => ?_)
              refine lv_bipush (v := 120) hx hb dX2_wrongBy_92 (by decide) ?_
              refine lv_icmp_le (tgt := 101) hx hb dX2_wrongBy_94 (by decide) (fun c94 => ?_) (fun c94 => ?_)
              · rw [show sq1 = sqV b (rowV b r).1 by rw [hsq1, hwd1]; unfold sqV; rw [hrr.wsum, hs.w]] at c94
                refine lv_iconst (v := 0) hx hb dX2_wrongBy_101 (by decide) ?_
                exact k_ireti (v := 0) hx hb hret (rfl) hlk hS (Nat.le_of_ble_eq_true rfl) (Nat.le_of_ble_eq_true rfl) (⟨rfl, by unfold wrongR; rw [if_neg c11, if_neg (fun h => hon1 h.1), if_neg (fun h => by have h3 := h.2.2; rw [hon, nI_clamp (by omega), c69] at h3; cases h3), if_neg (Int32.not_lt.mpr c94)]⟩) dX2_wrongBy_102
              · rw [show sq1 = sqV b (rowV b r).1 by rw [hsq1, hwd1]; unfold sqV; rw [hrr.wsum, hs.w]] at c94
                refine lv_iconst (v := 5) hx hb dX2_wrongBy_97 (by decide) ?_
                refine lv_goto (tgt := 102) hx hb dX2_wrongBy_98 (by decide) ?_
                exact k_ireti (v := 5) hx hb hret (rfl) hlk hS (Nat.le_of_ble_eq_true rfl) (Nat.le_of_ble_eq_true rfl) (⟨rfl, by unfold wrongR; rw [if_neg c11, if_neg (fun h => hon1 h.1), if_neg (fun h => by have h3 := h.2.2; rw [hon, nI_clamp (by omega), c69] at h3; cases h3), if_pos (i_nle c94)]⟩) dX2_wrongBy_102
            · have c69 := b2f hbit c69
              refine lv_aload_n hx hb dX2_wrongBy_72 rfl (lv_at hl 0 rfl) ?_
              refine lv_iload_n hx hb dX2_wrongBy_73 rfl (lv_at hl 1 rfl) ?_
              refine k_calliS (va_runV (As := [.int (nI r)]) (rest := []) ⟨hx, hb, hml, hown, hts⟩ (m_kind l g r (rowV b r).1.length hM (by omega) hrr.1 h14.2) (cwV 1 hts (lw_V q1564 q1566 qs39 q56 q1567) rfl rfl rfl hdV_X2_kind ⟨Nat.le_of_ble_eq_true rfl, Nat.le_of_ble_eq_true rfl⟩) (preV hK hS h0 rfl) rfl rfl hl.1 rfl (lv_room (Nat.le_of_ble_eq_true rfl)) dX2_wrongBy_74 ⟨Nat.le_of_ble_eq_true rfl, Nat.le_of_ble_eq_true rfl⟩) hS (fun k3 locs hk3 hS => ?_)
              have hk3 : k3 = kindV (rowV b r).1 := by rw [hk3, ← kindF_V hknd]; exact kindF_congr (fun k hk => hrr.2.2.2 k hk)
              refine lv_iconst (v := 2) hx hb dX2_wrongBy_77 (by decide) ?_
              refine lv_icmp_eq (tgt := 83) hx hb dX2_wrongBy_78 (by decide) (fun c78 => ?_) (fun c78 => ?_)
              · rw [hk3] at c78
                refine lv_aload_n hx hb dX2_wrongBy_83 rfl (lv_at hl 0 rfl) ?_
                refine lv_aload_n hx hb dX2_wrongBy_84 rfl (lv_at hl 0 rfl) ?_
                refine lv_iload_n hx hb dX2_wrongBy_85 rfl (lv_at hl 1 rfl) ?_
                refine k_calliS (va_runV (As := [.int (nI r)]) (rest := [.ref (A 0)]) ⟨hx, hb, hml, hown, hts⟩ (m_width l g r (rowV b r).1.length hM (by omega) hrr.1 h14.2) (cwV 1 hts (lw_V q1576 q1578 qs41 q56 q1579) rfl rfl rfl hdV_X2_width ⟨Nat.le_of_ble_eq_true rfl, Nat.le_of_ble_eq_true rfl⟩) (preV hK hS h0 rfl) rfl rfl hl.1 rfl (lv_room (Nat.le_of_ble_eq_true rfl)) dX2_wrongBy_86 ⟨Nat.le_of_ble_eq_true rfl, Nat.le_of_ble_eq_true rfl⟩) hS (fun wd1 locs hwd1 hS => ?_)
                refine k_calliS (va_runV (As := [.int wd1]) (rest := []) ⟨hx, hb, hml, hown, hts⟩ (m_squeezed l g wd1 hM (by rw [hs.w]; exact hok.wide0)) (cwV 1 hts (lw_V q1478 q1480 qs27 q56 q1481) rfl rfl rfl hdV_X2_squeezed ⟨Nat.le_of_ble_eq_true rfl, Nat.le_of_ble_eq_true rfl⟩) (preV hK hS h0 rfl) rfl rfl hl.1 rfl (lv_room (Nat.le_of_ble_eq_true rfl)) dX2_wrongBy_89 ⟨Nat.le_of_ble_eq_true rfl, Nat.le_of_ble_eq_true rfl⟩) hS (fun sq1 locs hsq1 hS => ?_)
                refine lv_bipush (v := 120) hx hb dX2_wrongBy_92 (by decide) ?_
                refine lv_icmp_le (tgt := 101) hx hb dX2_wrongBy_94 (by decide) (fun c94 => ?_) (fun c94 => ?_)
                · rw [show sq1 = sqV b (rowV b r).1 by rw [hsq1, hwd1]; unfold sqV; rw [hrr.wsum, hs.w]] at c94
                  refine lv_iconst (v := 0) hx hb dX2_wrongBy_101 (by decide) ?_
                  exact k_ireti (v := 0) hx hb hret (rfl) hlk hS (Nat.le_of_ble_eq_true rfl) (Nat.le_of_ble_eq_true rfl) (⟨rfl, by unfold wrongR; rw [if_neg c11, if_neg (fun h => hon1 h.1), if_neg (fun h => absurd c78 h.2.1), if_neg (Int32.not_lt.mpr c94)]⟩) dX2_wrongBy_102
                · rw [show sq1 = sqV b (rowV b r).1 by rw [hsq1, hwd1]; unfold sqV; rw [hrr.wsum, hs.w]] at c94
                  refine lv_iconst (v := 5) hx hb dX2_wrongBy_97 (by decide) ?_
                  refine lv_goto (tgt := 102) hx hb dX2_wrongBy_98 (by decide) ?_
                  exact k_ireti (v := 5) hx hb hret (rfl) hlk hS (Nat.le_of_ble_eq_true rfl) (Nat.le_of_ble_eq_true rfl) (⟨rfl, by unfold wrongR; rw [if_neg c11, if_neg (fun h => hon1 h.1), if_neg (fun h => absurd c78 h.2.1), if_pos (i_nle c94)]⟩) dX2_wrongBy_102
              · rw [hk3] at c78
                refine lv_iconst (v := 4) hx hb dX2_wrongBy_81 (by decide) ?_
                exact k_ireti (v := 4) hx hb hret (rfl) hlk hS (Nat.le_of_ble_eq_true rfl) (Nat.le_of_ble_eq_true rfl) (⟨rfl, by unfold wrongR; rw [if_neg c11, if_neg (fun h => hon1 h.1), if_pos ⟨hon1, c78, by rw [hon, nI_clamp (by omega)]; exact Bool.eq_false_iff.mpr c69⟩]⟩) dX2_wrongBy_82
        · exact absurd (nI_pos' (by omega)) c22
    · have c11 := b2t hz1 c11
      rw [hrr.2.2.1] at c11
      refine lv_iconst (v := 2) hx hb dX2_wrongBy_14 (by decide) ?_
      exact k_ireti (v := 2) hx hb hret (rfl) hlk hS (Nat.le_of_ble_eq_true rfl) (Nat.le_of_ble_eq_true rfl) (⟨rfl, by unfold wrongR; rw [if_pos c11]⟩) dX2_wrongBy_15
  · exact absurd (nI_pos' (by omega)) c1
/-- wrongBy(-1) -/
theorem m_wrongByN (l : Launch) (g : GT) {H : Heap} {A : Nat → Nat} {F : Nat → Nat → Int32} {I : Nat → Int32} (b : BV) (hM : MAt g A F I H) (hs : SRel (F 1) b) (hok : okB b) : Met l yX2_wrongBy (ws_ yX2_wrongBy cX2_wrongBy 2 (some .int)) ({ frames := 0, cells := 0, slots := 0, locals := 0 } : Room) (va_Pc [.ref (A 0), .int (-1)] (Pre g H)) (Qi g (fun z H1 => H1 = H ∧ z = 1)) 0 0 (gA g) := by
  refine k_met (cc := cX2_wrongBy) (nL := 2) (vs := [.ref (A 0), .int (-1)]) (by decide +kernel) (Nat.le_of_ble_eq_true rfl) ?_
  intro p e s m below meth c hH hx hb hret hts hown hlk hml hin hK hS ls hl
  subst hH
  have hown : s.vm.findClass RX2 = some m.cls := hown
  have hl : lv_has ls 2 [(0, .ref (A 0)), (1, .int (-1))] := hl
  obtain ⟨h0, h1, h2, h3, h4, n12, n13, n14, n23, n24, n34⟩ := id hM
  have hl20 := hok.1
  have hl6 := hok.2.1
  refine lv_iload_n hx hb dX2_wrongBy_0 rfl (lv_at hl 1 rfl) ?_
  refine lv_if_ge (tgt := 6) hx hb dX2_wrongBy_1 (by decide) (fun c1 => absurd c1 (by decide)) (fun c1 => ?_)
  refine lv_iconst (v := 1) hx hb dX2_wrongBy_4 (by decide) ?_
  exact k_ireti (v := 1) hx hb hret (rfl) hlk hS (Nat.le_of_ble_eq_true rfl) (Nat.le_of_ble_eq_true rfl) (⟨rfl, rfl⟩) dX2_wrongBy_5
