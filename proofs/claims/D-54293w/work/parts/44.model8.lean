/-! ===== HandBlindsModel: routeOf, alike (printed by tools/model8.py) ===== -/
set_option maxRecDepth 100000
theorem drop_cons {l : List Int32} {j : Nat} (h : j < l.length) : l.drop j = l.getD j 0 :: l.drop (j + 1) := by
  rw [List.drop_eq_getElem_cons h, List.getD_eq_getElem?_getD, List.getElem?_eq_getElem h]
  rfl
theorem apre_step {l m : List Int32} {j : Nat} (h : apre l m = j + apre (l.drop j) (m.drop j)) (h1 : j < l.length) (h2 : j < m.length) (e : l.getD j 0 = m.getD j 0) : apre l m = (j + 1) + apre (l.drop (j + 1)) (m.drop (j + 1)) := by
  rw [h, drop_cons h1, drop_cons h2, apre, if_pos e]
  omega
theorem apre_end1 {l m : List Int32} {j : Nat} (h : l.length ≤ j) : apre (l.drop j) (m.drop j) = 0 := by
  rw [List.drop_eq_nil_of_le h]; simp [apre]
theorem apre_end2 {l m : List Int32} {j : Nat} (h : m.length ≤ j) : apre (l.drop j) (m.drop j) = 0 := by
  rw [List.drop_eq_nil_of_le h]; cases l.drop j <;> simp [apre]
theorem apre_end3 {l m : List Int32} {j : Nat} (h1 : j < l.length) (h2 : j < m.length) (e : ¬ l.getD j 0 = m.getD j 0) : apre (l.drop j) (m.drop j) = 0 := by
  rw [drop_cons h1, drop_cons h2, apre, if_neg e]
/-- ones(set) -/
theorem m_ones (l : Launch) (g : GT) {H : Heap} (x : Nat) (hx20 : x < 2 ^ 20) : Met l yX2_ones (ws_ yX2_ones cX2_ones 3 (some .int)) ({ frames := 0, cells := 0, slots := 0, locals := 0 } : Room) (va_Pc [.int (nI x)] (Pre g H)) (Qi g (fun z H1 => H1 = H ∧ z = nI (cntB x 20))) 0 0 (gA g) := by
  refine k_met (cc := cX2_ones) (nL := 3) (vs := [.int (nI x)]) (by decide +kernel) (Nat.le_of_ble_eq_true rfl) ?_
  intro p e s m below meth c hH hx hb hret hts hown hlk hml hin hK hS ls hl
  subst hH
  have hown : s.vm.findClass RX2 = some m.cls := hown
  have hl : lv_has ls 3 [(0, .int (nI x))] := hl
  refine lv_iconst (v := nI 0) hx hb dX2_ones_0 (by decide) ?_
  refine lv_istore_n (lv' := [(1, .int (nI 0)), (0, .int (nI x))]) hx hb dX2_ones_1 rfl hl (by decide) rfl (fun ls hl => ?_)
  refine lv_iload_n hx hb dX2_ones_2 rfl (lv_at hl 1 rfl) ?_
  refine lv_istore_n (lv' := [(2, .int (nI x)), (1, .int (nI 0)), (0, .int (nI x))]) hx hb dX2_ones_3 rfl hl (by decide) rfl (fun ls hl => ?_)
  refine w_loop2 (Inv := fun (y : Nat) (n : Nat) Hh locs cells slots ls => n + cntB y 20 = cntB x 20 ∧ y < 2 ^ 20 ∧ s.heap = Hh ∧ va_S (gA g) s.heap Hh locs ∧ cells = 0 ∧ slots = 0 ∧ lv_has ls 3 [(2, .int (nI y)), (1, .int (nI n)), (0, .int (nI x))]) (μ := fun y _ => y) ?_ x 0 _ _ _ _ _ ⟨Nat.zero_add _, hx20, rfl, hS, rfl, rfl, lv_sub hl [0, 1, 2] rfl⟩
  intro y n Hh locs cells slots ls hInv ih
  obtain ⟨hn, hy, rfl, hS, rfl, rfl, hl⟩ := hInv
  refine lv_iload_n hx hb dX2_ones_4 rfl (lv_at hl 0 rfl) ?_
  refine lv_if_eq (tgt := 20) hx hb dX2_ones_5 (by decide) (fun c5 => ?_) (fun c5 => ?_)
  · have c5 : y = 0 := (nI_eq (a := y) (b := 0) (by omega) (by omega)).mp c5
    refine lv_iload_n hx hb dX2_ones_20 rfl (lv_at hl 1 rfl) ?_
    exact k_ireti (v := nI n) hx hb hret (rfl) hlk hS (Nat.le_of_ble_eq_true rfl) (Nat.le_of_ble_eq_true rfl) (⟨rfl, by rw [← hn, c5, cntB_0]; rfl⟩) dX2_ones_21
  · have c5 : 0 < y := Nat.pos_of_ne_zero (fun z => c5 (by rw [z]; rfl))
    refine lv_iinc (v := nI (n + 1)) (lv' := [(1, .int (nI (n + 1))), (2, .int (nI y)), (0, .int (nI x))]) hx hb dX2_ones_8 hl (k := 1) rfl (nI_1 n) (by decide) rfl (fun ls hl => ?_)
    refine lv_iload_n hx hb dX2_ones_11 rfl (lv_at hl 1 rfl) ?_
    refine lv_iload_n hx hb dX2_ones_12 rfl (lv_at hl 1 rfl) ?_
    refine lv_iconst (v := nI 1) hx hb dX2_ones_13 (by decide) ?_
    refine lv_isub hx hb dX2_ones_14 ?_
    refine k_topi (nI (y - 1)) (pk_sub (by omega)) ?_
    refine lv_iand hx hb dX2_ones_15 ?_
    refine k_topi (nI (y &&& (y - 1))) (nI_and _ _) ?_
    refine lv_istore_n (lv' := [(2, .int (nI (y &&& (y - 1)))), (1, .int (nI (n + 1))), (0, .int (nI x))]) hx hb dX2_ones_16 rfl hl (by decide) rfl (fun ls hl => ?_)
    refine lv_goto (tgt := 4) hx hb dX2_ones_17 (by decide) ?_
    exact ih (y &&& (y - 1)) (n + 1) _ _ _ _ _ ⟨by have := cntB_clear 20 y c5 hy; omega, Nat.lt_of_le_of_lt Nat.and_le_left hy, rfl, hS, rfl, rfl, lv_sub hl [0, 1, 2] rfl⟩ (by have := @Nat.and_le_right y (y - 1); omega)
/-- routeOf(route, what) -/
theorem mp_routeOf (l : Launch) (g : GT) {H : Heap} {A : Nat → Nat} {F : Nat → Nat → Int32} {I : Nat → Int32} (b : BV) (x y : Int32) (hM : MAt g A F I H) (hs : SRel (F 1) b) (hok : okB b) : Met l yX2_routeOf (ws_ yX2_routeOf cX2_routeOf 4 (some .int)) ({ frames := 2, cells := 0, slots := 0, locals := 44 } : Room) (va_Pc [.ref (A 0), .int x, .int y] (Pre g H)) (Qi g (fun z H1 => H1 = H ∧ z = routeOfV b x y)) 0 0 (gA g) := by
  refine k_met (cc := cX2_routeOf) (nL := 4) (vs := [.ref (A 0), .int x, .int y]) (by decide +kernel) (Nat.le_of_ble_eq_true rfl) ?_
  intro p e s m below meth c hH hx hb hret hts hown hlk hml hin hK hS ls hl
  subst hH
  have hown : s.vm.findClass RX2 = some m.cls := hown
  have hl : lv_has ls 4 [(0, .ref (A 0)), (1, .int x), (2, .int y)] := hl
  obtain ⟨h0, h1, h2, h3, h4, n12, n13, n14, n23, n24, n34⟩ := id hM
  have hl20 := hok.1
  have hl6 := hok.2.1
  refine lv_aload_n hx hb dX2_routeOf_0 rfl (lv_at hl 0 rfl) ?_
  refine lv_iload_n hx hb dX2_routeOf_1 rfl (lv_at hl 1 rfl) ?_
  refine k_calliS (va_runV (As := [.int x]) (rest := []) ⟨hx, hb, hml, hown, hts⟩ (m_isRoute l g x hM) (cwV 1 hts (lw_V q1552 q1554 qs37 q56 q1555) rfl rfl rfl hdV_X2_isRoute ⟨Nat.le_of_ble_eq_true rfl, Nat.le_of_ble_eq_true rfl⟩) (preV hK hS h0 rfl) rfl rfl hl.1 rfl (lv_room (Nat.le_of_ble_eq_true rfl)) dX2_routeOf_2 ⟨Nat.le_of_ble_eq_true rfl, Nat.le_of_ble_eq_true rfl⟩) hS (fun zr locs hrow hS => ?_)
  refine lv_if_eq (tgt := 17) hx hb dX2_routeOf_5 (by decide) (fun c5 => ?_) (fun c5 => ?_)
  · have c5 := b2f hrow c5
    rw [hs.rts] at c5
    refine lv_ldc (v := (-1000001)) hx hb hown (hts _ q1447) dX2_routeOf_17 ?_
    exact k_ireti (v := (-1000001)) hx hb hret (rfl) hlk hS (Nat.le_of_ble_eq_true rfl) (Nat.le_of_ble_eq_true rfl) (⟨rfl, by unfold routeOfV; rw [if_neg (fun h => c5 h.1)]⟩) dX2_routeOf_19
  · have c5 := b2t hrow c5
    rw [hs.rts] at c5
    have c5V := c5
    obtain ⟨r, hr, rfl⟩ := row_nat c5 (by omega)
    refine lv_iload_n hx hb dX2_routeOf_8 rfl (lv_at hl 2 rfl) ?_
    refine lv_iconst (v := 0) hx hb dX2_routeOf_9 (by decide) ?_
    refine lv_iconst (v := 4) hx hb dX2_routeOf_10 (by decide) ?_
    refine k_calliS (va_runS (As := [.int y, .int 0, .int 4]) (rest := []) ⟨hx, hb, hml, hown, hts⟩ (m_in l g y 0 4) (va_cwS 3 hts (lw_S q1444 q1445 q56 q1446) rfl rfl rfl hdS_X2_in ⟨Nat.le_of_ble_eq_true rfl, Nat.le_of_ble_eq_true rfl⟩) (preS hK hS) rfl rfl hl.1 rfl (lv_room (Nat.le_of_ble_eq_true rfl)) dX2_routeOf_11 ⟨Nat.le_of_ble_eq_true rfl, Nat.le_of_ble_eq_true rfl⟩) hS (fun zy locs hzy hS => ?_)
    refine lv_if_ne (tgt := 20) hx hb dX2_routeOf_14 (by decide) (fun c14 => ?_) (fun c14 => ?_)
    · have c14 := b2t hzy c14
      have hRW : routeOfV b (nI r) y = (if y = 0 then nI (rtV b r).1 else if y = 1 then nI (cntB (rtV b r).1 20) else if y = 2 then nI (rtV b r).1 &&& tornV b else if y = 3 then (rtV b r).2.1 else (rtV b r).2.2) := by unfold routeOfV; rw [if_pos ⟨c5V, c14⟩, nI_clamp (by omega)]
      have hrr := hs.rt hr
      refine lv_aload_n hx hb dX2_routeOf_20 rfl (lv_at hl 0 rfl) ?_
      refine lv_iload_n hx hb dX2_routeOf_21 rfl (lv_at hl 1 rfl) ?_
      refine lv_iconst (v := nI 0) hx hb dX2_routeOf_22 (by decide) ?_
      refine k_calliS (va_runV (As := [.int (nI r), .int (nI 0)]) (rest := []) ⟨hx, hb, hml, hown, hts⟩ (m_ofRoute l g r 0 hM (by omega)) (cwV 2 hts (lw_V q1504 q1506 qs31 q56 q1507) rfl rfl rfl hdV_X2_ofRoute ⟨Nat.le_of_ble_eq_true rfl, Nat.le_of_ble_eq_true rfl⟩) (preV hK hS h0 rfl) rfl rfl hl.1 rfl (lv_room (Nat.le_of_ble_eq_true rfl)) dX2_routeOf_23 ⟨Nat.le_of_ble_eq_true rfl, Nat.le_of_ble_eq_true rfl⟩) hS (fun t locs ht hS => ?_)
      have ht : t = nI (rtV b r).1 := ht.trans hrr.1
      subst ht
      refine lv_istore_n (lv' := [(3, .int (nI (rtV b r).1)), (0, .ref (A 0)), (1, .int (nI r)), (2, .int y)]) hx hb dX2_routeOf_26 rfl hl (by decide) rfl (fun ls hl => ?_)
      refine lv_iload_n hx hb dX2_routeOf_27 rfl (lv_at hl 3 rfl) ?_
      refine lv_if_ne (tgt := 35) hx hb dX2_routeOf_28 (by decide) (fun c28 => ?_) (fun c28 => ?_)
      · refine lv_iload_n hx hb dX2_routeOf_35 rfl (lv_at hl 3 rfl) ?_
        refine lv_iconst (v := 1) hx hb dX2_routeOf_36 (by decide) ?_
        refine lv_icmp_ne (tgt := 47) hx hb dX2_routeOf_37 (by decide) (fun c37 => ?_) (fun c37 => ?_)
        · refine lv_iload_n hx hb dX2_routeOf_47 rfl (lv_at hl 3 rfl) ?_
          refine lv_iconst (v := 2) hx hb dX2_routeOf_48 (by decide) ?_
          refine lv_icmp_ne (tgt := 61) hx hb dX2_routeOf_49 (by decide) (fun c49 => ?_) (fun c49 => ?_)
          · obtain ⟨k, hk, rfl⟩ := nI_of (Int32.not_lt.mpr c14.1)
            have hk5 : k < 5 := by have := (nI_leI (b := 4) hk (by omega)).mp c14.2; omega
            have hk2 : 2 < k := by rcases (show k = 0 ∨ k = 1 ∨ k = 2 ∨ 2 < k by omega) with z | z | z | z; exact absurd (by rw [z]; rfl) c28; exact absurd (by rw [z]; rfl) c37; exact absurd (by rw [z]; rfl) c49; exact z
            refine lv_aload_n hx hb dX2_routeOf_61 rfl (lv_at hl 1 rfl) ?_
            refine lv_iload_n hx hb dX2_routeOf_62 rfl (lv_at hl 2 rfl) ?_
            refine lv_iload_n hx hb dX2_routeOf_63 rfl (lv_at hl 3 rfl) ?_
            refine lv_iconst (v := nI 2) hx hb dX2_routeOf_64 (by decide) ?_
            refine lv_isub hx hb dX2_routeOf_65 ?_
            refine k_topi (nI (k - 2)) (pk_sub (by omega)) ?_
            refine k_calliS (va_runV (As := [.int (nI r), .int (nI (k - 2))]) (rest := []) ⟨hx, hb, hml, hown, hts⟩ (m_ofRoute l g r (k - 2) hM (by omega)) (cwV 2 hts (lw_V q1504 q1506 qs31 q56 q1507) rfl rfl rfl hdV_X2_ofRoute ⟨Nat.le_of_ble_eq_true rfl, Nat.le_of_ble_eq_true rfl⟩) (preV hK hS h0 rfl) rfl rfl hl.1 rfl (lv_room (Nat.le_of_ble_eq_true rfl)) dX2_routeOf_66 ⟨Nat.le_of_ble_eq_true rfl, Nat.le_of_ble_eq_true rfl⟩) hS (fun t3 locs ht3 hS => ?_)
            exact k_ireti (v := t3) hx hb hret (rfl) hlk hS (Nat.le_of_ble_eq_true rfl) (Nat.le_of_ble_eq_true rfl) (⟨rfl, by rcases (show k = 3 ∨ k = 4 by omega) with rfl | rfl; rw [hRW, if_neg c28, if_neg c37, if_neg c49, if_pos (by decide), ht3, show 351 + 3 * r + (3 - 2) = 352 + 3 * r by omega]; exact hrr.2.1; rw [hRW, if_neg c28, if_neg c37, if_neg c49, if_neg (by decide), ht3, show 351 + 3 * r + (4 - 2) = 353 + 3 * r by omega]; exact hrr.2.2⟩) dX2_routeOf_69
          · refine lv_iload_n hx hb dX2_routeOf_52 rfl (lv_at hl 0 rfl) ?_
            refine lv_aload_n hx hb dX2_routeOf_53 rfl (lv_at hl 1 rfl) ?_
            refine k_calliS (va_runV (As := []) (rest := [.int (nI (rtV b r).1)]) ⟨hx, hb, hml, hown, hts⟩ (m_tornOnes l g b hM hs hok) (cwV 0 hts (lw_V q1606 q1608 qs43 q56 q1609) rfl rfl rfl hdV_X2_tornOnes ⟨Nat.le_of_ble_eq_true rfl, Nat.le_of_ble_eq_true rfl⟩) (preV hK hS h0 rfl) rfl rfl hl.1 rfl (lv_room (Nat.le_of_ble_eq_true rfl)) dX2_routeOf_54 ⟨Nat.le_of_ble_eq_true rfl, Nat.le_of_ble_eq_true rfl⟩) hS (fun t2 locs ht2 hS => ?_)
            refine lv_iand hx hb dX2_routeOf_57 ?_
            refine lv_goto (tgt := 69) hx hb dX2_routeOf_58 (by decide) ?_
            exact k_ireti (v := (nI (rtV b r).1) &&& t2) hx hb hret (rfl) hlk hS (Nat.le_of_ble_eq_true rfl) (Nat.le_of_ble_eq_true rfl) (⟨rfl, by rw [hRW, if_neg c28, if_neg c37, if_pos c49, ht2]⟩) dX2_routeOf_69
        · refine lv_iload_n hx hb dX2_routeOf_40 rfl (lv_at hl 0 rfl) ?_
          refine k_calliS (va_runS (As := [.int (nI (rtV b r).1)]) (rest := []) ⟨hx, hb, hml, hown, hts⟩ (m_ones l g (rtV b r).1 (hok.2.2.2.1 r hr)) (va_cwS 1 hts (lw_S q1603 q1604 q56 q1605) rfl rfl rfl hdS_X2_ones ⟨Nat.le_of_ble_eq_true rfl, Nat.le_of_ble_eq_true rfl⟩) (preS hK hS) rfl rfl hl.1 rfl (lv_room (Nat.le_of_ble_eq_true rfl)) dX2_routeOf_41 ⟨Nat.le_of_ble_eq_true rfl, Nat.le_of_ble_eq_true rfl⟩) hS (fun t1 locs ht1 hS => ?_)
          refine lv_goto (tgt := 69) hx hb dX2_routeOf_44 (by decide) ?_
          exact k_ireti (v := t1) hx hb hret (rfl) hlk hS (Nat.le_of_ble_eq_true rfl) (Nat.le_of_ble_eq_true rfl) (⟨rfl, by rw [hRW, if_neg c28, if_pos c37, ht1]⟩) dX2_routeOf_69
      · refine lv_iload_n hx hb dX2_routeOf_31 rfl (lv_at hl 0 rfl) ?_
        refine lv_goto (tgt := 69) hx hb dX2_routeOf_32 (by decide) ?_
        exact k_ireti (v := nI (rtV b r).1) hx hb hret (rfl) hlk hS (Nat.le_of_ble_eq_true rfl) (Nat.le_of_ble_eq_true rfl) (⟨rfl, by rw [hRW, if_pos c28]⟩) dX2_routeOf_69
    · have c14 := b2f hzy c14
      refine lv_ldc (v := (-1000001)) hx hb hown (hts _ q1447) dX2_routeOf_17 ?_
      exact k_ireti (v := (-1000001)) hx hb hret (rfl) hlk hS (Nat.le_of_ble_eq_true rfl) (Nat.le_of_ble_eq_true rfl) (⟨rfl, by unfold routeOfV; rw [if_neg (fun h => c14 h.2)]⟩) dX2_routeOf_19
/-- alike(one, other) -/
theorem mp_alike (l : Launch) (g : GT) {H : Heap} {A : Nat → Nat} {F : Nat → Nat → Int32} {I : Nat → Int32} (b : BV) (x y : Int32) (hM : MAt g A F I H) (hs : SRel (F 1) b) (hok : okB b) : Met l yX2_alike (ws_ yX2_alike cX2_alike 4 (some .int)) ({ frames := 1, cells := 0, slots := 0, locals := 22 } : Room) (va_Pc [.ref (A 0), .int x, .int y] (Pre g H)) (Qi g (fun z H1 => H1 = H ∧ z = alikeV b x y)) 0 0 (gA g) := by
  refine k_met (cc := cX2_alike) (nL := 4) (vs := [.ref (A 0), .int x, .int y]) (by decide +kernel) (Nat.le_of_ble_eq_true rfl) ?_
  intro p e s m below meth c hH hx hb hret hts hown hlk hml hin hK hS ls hl
  subst hH
  have hown : s.vm.findClass RX2 = some m.cls := hown
  have hl : lv_has ls 4 [(0, .ref (A 0)), (1, .int x), (2, .int y)] := hl
  obtain ⟨h0, h1, h2, h3, h4, n12, n13, n14, n23, n24, n34⟩ := id hM
  have hl20 := hok.1
  have hl6 := hok.2.1
  refine lv_aload_n hx hb dX2_alike_0 rfl (lv_at hl 0 rfl) ?_
  refine lv_iload_n hx hb dX2_alike_1 rfl (lv_at hl 1 rfl) ?_
  refine k_calliS (va_runV (As := [.int x]) (rest := []) ⟨hx, hb, hml, hown, hts⟩ (m_isRow l g x hM) (cwV 1 hts (lw_V q1500 q1502 qs30 q56 q1503) rfl rfl rfl hdV_X2_isRow ⟨Nat.le_of_ble_eq_true rfl, Nat.le_of_ble_eq_true rfl⟩) (preV hK hS h0 rfl) rfl rfl hl.1 rfl (lv_room (Nat.le_of_ble_eq_true rfl)) dX2_alike_2 ⟨Nat.le_of_ble_eq_true rfl, Nat.le_of_ble_eq_true rfl⟩) hS (fun z1 locs hz1 hS => ?_)
  refine lv_if_eq (tgt := 16) hx hb dX2_alike_5 (by decide) (fun c5 => ?_) (fun c5 => ?_)
  · have c5 := b2f hz1 c5
    rw [hs.rows] at c5
    refine lv_ldc (v := (-1000001)) hx hb hown (hts _ q1447) dX2_alike_16 ?_
    exact k_ireti (v := (-1000001)) hx hb hret (rfl) hlk hS (Nat.le_of_ble_eq_true rfl) (Nat.le_of_ble_eq_true rfl) (⟨rfl, by unfold alikeV; rw [if_neg (fun h => c5 h.1)]⟩) dX2_alike_18
  · have c5 := b2t hz1 c5
    rw [hs.rows] at c5
    have c5V := c5
    obtain ⟨r, hr, rfl⟩ := row_nat c5 (by omega)
    refine lv_aload_n hx hb dX2_alike_8 rfl (lv_at hl 0 rfl) ?_
    refine lv_iload_n hx hb dX2_alike_9 rfl (lv_at hl 2 rfl) ?_
    refine k_calliS (va_runV (As := [.int y]) (rest := []) ⟨hx, hb, hml, hown, hts⟩ (m_isRow l g y hM) (cwV 1 hts (lw_V q1500 q1502 qs30 q56 q1503) rfl rfl rfl hdV_X2_isRow ⟨Nat.le_of_ble_eq_true rfl, Nat.le_of_ble_eq_true rfl⟩) (preV hK hS h0 rfl) rfl rfl hl.1 rfl (lv_room (Nat.le_of_ble_eq_true rfl)) dX2_alike_10 ⟨Nat.le_of_ble_eq_true rfl, Nat.le_of_ble_eq_true rfl⟩) hS (fun z2 locs hz2 hS => ?_)
    refine lv_if_ne (tgt := 19) hx hb dX2_alike_13 (by decide) (fun c13 => ?_) (fun c13 => ?_)
    · have c13 := b2t hz2 c13
      rw [hs.rows] at c13
      have c13V := c13
      obtain ⟨q, hq, rfl⟩ := row_nat c13 (by omega)
      have hra := hs.row hr
      have hqa := hs.row hq
      have h14 := (hok.name hr).2
      have k14 := (hok.name hq).2
      refine lv_iconst (v := nI 0) hx hb dX2_alike_19 (by decide) ?_
      refine lv_istore_n (lv' := [(3, .int (nI 0)), (0, .ref (A 0)), (1, .int (nI r)), (2, .int (nI q))]) hx hb dX2_alike_20 rfl hl (by decide) rfl (fun ls hl => ?_)
      refine w_loop (Inv := fun (j : Nat) Hh locs cells slots ls => j ≤ (rowV b r).1.length ∧ j ≤ (rowV b q).1.length ∧ apre (rowV b r).1 (rowV b q).1 = j + apre ((rowV b r).1.drop j) ((rowV b q).1.drop j) ∧ s.heap = Hh ∧ va_S (gA g) s.heap Hh locs ∧ cells = 0 ∧ slots = 0 ∧ lv_has ls 4 [(3, .int (nI j)), (0, .ref (A 0)), (1, .int (nI r)), (2, .int (nI q))]) (μ := fun j => (rowV b r).1.length - j) ?_ 0 _ _ _ _ _ ⟨Nat.zero_le _, Nat.zero_le _, by simp, rfl, hS, rfl, rfl, lv_sub hl [0, 1, 2, 3] rfl⟩
      intro j Hh locs cells slots ls hInv ih
      obtain ⟨hj, hj2, hj3, rfl, hS, rfl, rfl, hl⟩ := hInv
      refine lv_iload_n hx hb dX2_alike_21 rfl (lv_at hl 0 rfl) ?_
      refine lv_aload_n hx hb dX2_alike_22 rfl (lv_at hl 1 rfl) ?_
      refine lv_iload_n hx hb dX2_alike_23 rfl (lv_at hl 2 rfl) ?_
      refine lv_iconst (v := nI 0) hx hb dX2_alike_24 (by decide) ?_
      refine k_calliS (va_runV (As := [.int (nI r), .int (nI 0)]) (rest := [.int (nI j)]) ⟨hx, hb, hml, hown, hts⟩ (m_of l g r 0 hM (by omega)) (cwV 2 hts (lw_V q1515 q1517 qs32 q56 q1518) rfl rfl rfl hdV_X2_of ⟨Nat.le_of_ble_eq_true rfl, Nat.le_of_ble_eq_true rfl⟩) (preV hK hS h0 rfl) rfl rfl hl.1 rfl (lv_room (Nat.le_of_ble_eq_true rfl)) dX2_alike_25 ⟨Nat.le_of_ble_eq_true rfl, Nat.le_of_ble_eq_true rfl⟩) hS (fun t1 locs ht1 hS => ?_)
      refine lv_icmp_ge (tgt := 66) hx hb dX2_alike_28 (by decide) (fun c28 => ?_) (fun c28 => ?_)
      · rw [show t1 = nI (rowV b r).1.length from ht1.trans hra.1] at c28
        have c28 : (rowV b r).1.length ≤ j := by rcases Nat.lt_or_ge (j) ((rowV b r).1.length) with z | z; exact absurd c28 (nI_ge z (by omega)); exact z
        refine lv_iload_n hx hb dX2_alike_66 rfl (lv_at hl 0 rfl) ?_
        exact k_ireti (v := nI j) hx hb hret (rfl) hlk hS (Nat.le_of_ble_eq_true rfl) (Nat.le_of_ble_eq_true rfl) (⟨rfl, by unfold alikeV; rw [if_pos ⟨c5V, c13V⟩, nI_clamp (by omega), nI_clamp (by omega), hj3, apre_end1 c28]; rfl⟩) dX2_alike_67
      · rw [show t1 = nI (rowV b r).1.length from ht1.trans hra.1] at c28
        have c28 : j < (rowV b r).1.length := by rcases Nat.lt_or_ge (j) ((rowV b r).1.length) with z | z; exact z; exact absurd (nI_le z (by omega)) c28
        refine lv_iload_n hx hb dX2_alike_31 rfl (lv_at hl 0 rfl) ?_
        refine lv_aload_n hx hb dX2_alike_32 rfl (lv_at hl 1 rfl) ?_
        refine lv_iload_n hx hb dX2_alike_33 rfl (lv_at hl 3 rfl) ?_
        refine lv_iconst (v := nI 0) hx hb dX2_alike_34 (by decide) ?_
        refine k_calliS (va_runV (As := [.int (nI q), .int (nI 0)]) (rest := [.int (nI j)]) ⟨hx, hb, hml, hown, hts⟩ (m_of l g q 0 hM (by omega)) (cwV 2 hts (lw_V q1515 q1517 qs32 q56 q1518) rfl rfl rfl hdV_X2_of ⟨Nat.le_of_ble_eq_true rfl, Nat.le_of_ble_eq_true rfl⟩) (preV hK hS h0 rfl) rfl rfl hl.1 rfl (lv_room (Nat.le_of_ble_eq_true rfl)) dX2_alike_35 ⟨Nat.le_of_ble_eq_true rfl, Nat.le_of_ble_eq_true rfl⟩) hS (fun t2 locs ht2 hS => ?_)
        refine lv_icmp_ge (tgt := 66) hx hb dX2_alike_38 (by decide) (fun c38 => ?_) (fun c38 => ?_)
        · rw [show t2 = nI (rowV b q).1.length from ht2.trans hqa.1] at c38
          have c38 : (rowV b q).1.length ≤ j := by rcases Nat.lt_or_ge (j) ((rowV b q).1.length) with z | z; exact absurd c38 (nI_ge z (by omega)); exact z
          refine lv_iload_n hx hb dX2_alike_66 rfl (lv_at hl 0 rfl) ?_
          exact k_ireti (v := nI j) hx hb hret (rfl) hlk hS (Nat.le_of_ble_eq_true rfl) (Nat.le_of_ble_eq_true rfl) (⟨rfl, by unfold alikeV; rw [if_pos ⟨c5V, c13V⟩, nI_clamp (by omega), nI_clamp (by omega), hj3, apre_end2 c38]; rfl⟩) dX2_alike_67
        · rw [show t2 = nI (rowV b q).1.length from ht2.trans hqa.1] at c38
          have c38 : j < (rowV b q).1.length := by rcases Nat.lt_or_ge (j) ((rowV b q).1.length) with z | z; exact z; exact absurd (nI_le z (by omega)) c38
          refine lv_aload_n hx hb dX2_alike_41 rfl (lv_at hl 1 rfl) ?_
          refine lv_iload_n hx hb dX2_alike_42 rfl (lv_at hl 2 rfl) ?_
          refine lv_iconst (v := nI 3) hx hb dX2_alike_43 (by decide) ?_
          refine lv_iload_n hx hb dX2_alike_44 rfl (lv_at hl 0 rfl) ?_
          refine lv_iadd hx hb dX2_alike_45 ?_
          refine k_topi (nI (3 + j)) (nI_add 3 j) ?_
          refine k_calliS (va_runV (As := [.int (nI r), .int (nI (3 + j))]) (rest := []) ⟨hx, hb, hml, hown, hts⟩ (m_of l g r (3 + j) hM (by omega)) (cwV 2 hts (lw_V q1515 q1517 qs32 q56 q1518) rfl rfl rfl hdV_X2_of ⟨Nat.le_of_ble_eq_true rfl, Nat.le_of_ble_eq_true rfl⟩) (preV hK hS h0 rfl) rfl rfl hl.1 rfl (lv_room (Nat.le_of_ble_eq_true rfl)) dX2_alike_46 ⟨Nat.le_of_ble_eq_true rfl, Nat.le_of_ble_eq_true rfl⟩) hS (fun t3 locs ht3 hS => ?_)
          refine lv_aload_n hx hb dX2_alike_49 rfl (lv_at hl 1 rfl) ?_
          refine lv_iload_n hx hb dX2_alike_50 rfl (lv_at hl 3 rfl) ?_
          refine lv_iconst (v := nI 3) hx hb dX2_alike_51 (by decide) ?_
          refine lv_iload_n hx hb dX2_alike_52 rfl (lv_at hl 0 rfl) ?_
          refine lv_iadd hx hb dX2_alike_53 ?_
          refine k_topi (nI (3 + j)) (nI_add 3 j) ?_
          refine k_calliS (va_runV (As := [.int (nI q), .int (nI (3 + j))]) (rest := [.int t3]) ⟨hx, hb, hml, hown, hts⟩ (m_of l g q (3 + j) hM (by omega)) (cwV 2 hts (lw_V q1515 q1517 qs32 q56 q1518) rfl rfl rfl hdV_X2_of ⟨Nat.le_of_ble_eq_true rfl, Nat.le_of_ble_eq_true rfl⟩) (preV hK hS h0 rfl) rfl rfl hl.1 rfl (lv_room (Nat.le_of_ble_eq_true rfl)) dX2_alike_54 ⟨Nat.le_of_ble_eq_true rfl, Nat.le_of_ble_eq_true rfl⟩) hS (fun t4 locs ht4 hS => ?_)
          refine lv_icmp_ne (tgt := 66) hx hb dX2_alike_57 (by decide) (fun c57 => ?_) (fun c57 => ?_)
          · rw [show t3 = (rowV b r).1.getD j 0 by rw [ht3, show 11 + 17 * r + (3 + j) = 14 + 17 * r + j by omega]; exact hra.2.2.2 j c28, show t4 = (rowV b q).1.getD j 0 by rw [ht4, show 11 + 17 * q + (3 + j) = 14 + 17 * q + j by omega]; exact hqa.2.2.2 j c38] at c57
            refine lv_iload_n hx hb dX2_alike_66 rfl (lv_at hl 0 rfl) ?_
            exact k_ireti (v := nI j) hx hb hret (rfl) hlk hS (Nat.le_of_ble_eq_true rfl) (Nat.le_of_ble_eq_true rfl) (⟨rfl, by unfold alikeV; rw [if_pos ⟨c5V, c13V⟩, nI_clamp (by omega), nI_clamp (by omega), hj3, apre_end3 c28 c38 c57]; rfl⟩) dX2_alike_67
          · rw [show t3 = (rowV b r).1.getD j 0 by rw [ht3, show 11 + 17 * r + (3 + j) = 14 + 17 * r + j by omega]; exact hra.2.2.2 j c28, show t4 = (rowV b q).1.getD j 0 by rw [ht4, show 11 + 17 * q + (3 + j) = 14 + 17 * q + j by omega]; exact hqa.2.2.2 j c38] at c57
            refine lv_iinc (v := nI (j + 1)) (lv' := [(3, .int (nI (j + 1))), (0, .ref (A 0)), (1, .int (nI r)), (2, .int (nI q))]) hx hb dX2_alike_60 hl (k := 0) rfl (nI_1 j) (by decide) rfl (fun ls hl => ?_)
            refine lv_goto (tgt := 21) hx hb dX2_alike_63 (by decide) ?_
            exact ih (j + 1) _ _ _ _ _ ⟨by omega, by omega, apre_step hj3 c28 c38 c57, rfl, hS, rfl, rfl, lv_sub hl [0, 1, 2, 3] rfl⟩ (by omega)
    · have c13 := b2f hz2 c13
      rw [hs.rows] at c13
      refine lv_ldc (v := (-1000001)) hx hb hown (hts _ q1447) dX2_alike_16 ?_
      exact k_ireti (v := (-1000001)) hx hb hret (rfl) hlk hS (Nat.le_of_ble_eq_true rfl) (Nat.le_of_ble_eq_true rfl) (⟨rfl, by unfold alikeV; rw [if_neg (fun h => c13 h.2)]⟩) dX2_alike_18
