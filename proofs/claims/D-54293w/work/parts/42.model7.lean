/-! ===== HandBlindsModel: what there is (printed by tools/model7.py) ===== -/
set_option maxRecDepth 100000
theorem sl32 : ∀ n, n < 32 → ((nI n &&& 31).toBitVec.smod 32).toNat = n := by decide +kernel
theorem zsh : ∀ n, n < 32 → (0 : Int32) <<< (nI n &&& 31) = 0 := by decide +kernel
theorem bit_and (x i : Nat) (hx : x < 2 ^ 20) (hi : i < 32) : (nI x >>> (nI i &&& 31)) &&& 1 = if x.testBit i = true then 1 else 0 := by
  rw [pk_shrN (by omega) _ i (sl32 i hi)]
  have h1 : x / 2 ^ i < 2 ^ 32 := Nat.lt_of_le_of_lt (Nat.div_le_self _ _) (by omega)
  have h2 : nI (x / 2 ^ i) &&& 1 = nI (x / 2 ^ i % 2 ^ 1) := pk_andN h1 1 (by decide)
  rw [h2, Nat.testBit_eq_decide_div_mod_eq]
  rcases Nat.mod_two_eq_zero_or_one (x / 2 ^ i) with z | z
  · simp [z]; rfl
  · simp [z]; rfl
theorem bit_sh (x i j : Nat) (hx : x < 2 ^ 20) (hi : i < 32) (hj : j < 32) : ((nI x >>> (nI i &&& 31)) &&& 1) <<< (nI j &&& 31) = if x.testBit i = true then 1 <<< (nI j &&& 31) else 0 := by
  rw [bit_and x i hx hi]
  split
  · rfl
  · exact zsh j hj
theorem torn_sh {t : Int32} (j : Nat) (ht : t = 0 ∨ t = 1) (hj : j < 32) : t <<< (nI j &&& 31) = if t = 1 then 1 <<< (nI j &&& 31) else 0 := by
  rcases ht with h | h
  · subst h; rw [if_neg (by decide)]; exact zsh j hj
  · subst h; rw [if_pos rfl]
theorem kindF_congr {c d : Nat → Int32} {n : Nat} (h : ∀ k, k < n → c k = d k) : kindF c n = kindF d n := by unfold kindF; rw [nsum_congr h]
/-- routesOf(row) -/
theorem m_routesOf (l : Launch) (g : GT) {H : Heap} {A : Nat → Nat} {F : Nat → Nat → Int32} {I : Nat → Int32} (b : BV) (i : Nat) (hM : MAt g A F I H) (hs : SRel (F 1) b) (hok : okB b) (hi : i < b.1.length) : Met l yX2_routesOf (ws_ yX2_routesOf cX2_routesOf 4 (some .int)) ({ frames := 1, cells := 0, slots := 0, locals := 22 } : Room) (va_Pc [.ref (A 0), .int (nI i)] (Pre g H)) (Qi g (fun z H1 => H1 = H ∧ z = routesOfV b i)) 0 0 (gA g) := by
  refine k_met (cc := cX2_routesOf) (nL := 4) (vs := [.ref (A 0), .int (nI i)]) (by decide +kernel) (Nat.le_of_ble_eq_true rfl) ?_
  intro p e s m below meth c hH hx hb hret hts hown hlk hml hin hK hS ls hl
  subst hH
  have hown : s.vm.findClass RX2 = some m.cls := hown
  have hl : lv_has ls 4 [(0, .ref (A 0)), (1, .int (nI i))] := hl
  obtain ⟨h0, h1, h2, h3, h4, n12, n13, n14, n23, n24, n34⟩ := id hM
  have hl20 := hok.1
  have hl6 := hok.2.1
  refine lv_iconst (v := 0) hx hb dX2_routesOf_0 (by decide) ?_
  refine lv_istore_n (lv' := [(2, .int 0), (0, .ref (A 0)), (1, .int (nI i))]) hx hb dX2_routesOf_1 rfl hl (by decide) rfl (fun ls hl => ?_)
  refine lv_iconst (v := nI 0) hx hb dX2_routesOf_2 (by decide) ?_
  refine lv_istore_n (lv' := [(3, .int (nI 0)), (2, .int 0), (0, .ref (A 0)), (1, .int (nI i))]) hx hb dX2_routesOf_3 rfl hl (by decide) rfl (fun ls hl => ?_)
  refine w_loop (Inv := fun (j : Nat) Hh locs cells slots ls => j ≤ b.2.1.length ∧ s.heap = Hh ∧ va_S (gA g) s.heap Hh locs ∧ cells = 0 ∧ slots = 0 ∧ lv_has ls 4 [(3, .int (nI j)), (2, .int (orS (fun k => if (rtV b k).1.testBit i = true then 1 <<< (nI k &&& 31) else 0) j)), (0, .ref (A 0)), (1, .int (nI i))]) (μ := fun j => b.2.1.length - j) ?_ 0 _ _ _ _ _ ⟨Nat.zero_le _, rfl, hS, rfl, rfl, lv_sub hl [0, 1, 2, 3] rfl⟩
  intro j Hh locs cells slots ls hInv ih
  obtain ⟨hj, rfl, hS, rfl, rfl, hl⟩ := hInv
  refine lv_iload_n hx hb dX2_routesOf_4 rfl (lv_at hl 0 rfl) ?_
  refine lv_aload_n hx hb dX2_routesOf_5 rfl (lv_at hl 2 rfl) ?_
  refine k_get (ci := 2) hx hb hts in_X2 hown hK h0 rfl 0 (by decide) q1400 (fun _ h9 => h9) rfl dX2_routesOf_6 ?_
  refine lv_iconst (v := nI 2) hx hb dX2_routesOf_9 (by decide) ?_
  refine k_ildN hx hb hK h1 (2) (rfl) (by omega) (by decide) dX2_routesOf_10 ?_
  refine k_topi (nI b.2.1.length) (hs.rts) ?_
  refine lv_icmp_ge (tgt := 35) hx hb dX2_routesOf_11 (by decide) (fun c11 => ?_) (fun c11 => ?_)
  · have hj2 : b.2.1.length ≤ j := by rcases Nat.lt_or_ge (j) (b.2.1.length) with z | z; exact absurd c11 (nI_ge z (by omega)); exact z
    have hj2 : j = b.2.1.length := by omega
    refine lv_iload_n hx hb dX2_routesOf_35 rfl (lv_at hl 1 rfl) ?_
    exact k_ireti (v := orS (fun k => if (rtV b k).1.testBit i = true then 1 <<< (nI k &&& 31) else 0) j) hx hb hret (rfl) hlk hS (Nat.le_of_ble_eq_true rfl) (Nat.le_of_ble_eq_true rfl) (⟨rfl, by unfold routesOfV; rw [hj2]⟩) dX2_routesOf_36
  · have hj2 : j < b.2.1.length := by rcases Nat.lt_or_ge (j) (b.2.1.length) with z | z; exact z; exact absurd (nI_le z (by omega)) c11
    refine lv_iload_n hx hb dX2_routesOf_14 rfl (lv_at hl 1 rfl) ?_
    refine lv_aload_n hx hb dX2_routesOf_15 rfl (lv_at hl 2 rfl) ?_
    refine lv_iload_n hx hb dX2_routesOf_16 rfl (lv_at hl 0 rfl) ?_
    refine lv_iconst (v := nI 0) hx hb dX2_routesOf_17 (by decide) ?_
    refine k_calliS (va_runV (As := [.int (nI j), .int (nI 0)]) (rest := [.int (orS (fun k => if (rtV b k).1.testBit i = true then 1 <<< (nI k &&& 31) else 0) j)]) ⟨hx, hb, hml, hown, hts⟩ (m_ofRoute l g j 0 hM (by omega)) (cwV 2 hts (lw_V q1504 q1506 qs31 q56 q1507) rfl rfl rfl hdV_X2_ofRoute ⟨Nat.le_of_ble_eq_true rfl, Nat.le_of_ble_eq_true rfl⟩) (preV hK hS h0 rfl) rfl rfl hl.1 rfl (lv_room (Nat.le_of_ble_eq_true rfl)) dX2_routesOf_18 ⟨Nat.le_of_ble_eq_true rfl, Nat.le_of_ble_eq_true rfl⟩) hS (fun t locs ht hS => ?_)
    refine lv_iload_n hx hb dX2_routesOf_21 rfl (lv_at hl 3 rfl) ?_
    refine lv_ishr hx hb dX2_routesOf_22 ?_
    refine lv_iconst (v := 1) hx hb dX2_routesOf_23 (by decide) ?_
    refine lv_iand hx hb dX2_routesOf_24 ?_
    refine lv_iload_n hx hb dX2_routesOf_25 rfl (lv_at hl 0 rfl) ?_
    refine lv_ishl hx hb dX2_routesOf_26 ?_
    refine lv_ior hx hb dX2_routesOf_27 ?_
    refine k_topi (orS (fun k => if (rtV b k).1.testBit i = true then 1 <<< (nI k &&& 31) else 0) (j + 1)) (by rw [show t = nI (rtV b j).1 from ht.trans (hs.rt hj2).1]; exact congrArg _ (bit_sh (rtV b j).1 i j (hok.2.2.2.1 j hj2) (by omega) (by omega))) ?_
    refine lv_istore_n (lv' := [(2, .int (orS (fun k => if (rtV b k).1.testBit i = true then 1 <<< (nI k &&& 31) else 0) (j + 1))), (3, .int (nI j)), (0, .ref (A 0)), (1, .int (nI i))]) hx hb dX2_routesOf_28 rfl hl (by decide) rfl (fun ls hl => ?_)
    refine lv_iinc (v := nI (j + 1)) (lv' := [(3, .int (nI (j + 1))), (2, .int (orS (fun k => if (rtV b k).1.testBit i = true then 1 <<< (nI k &&& 31) else 0) (j + 1))), (0, .ref (A 0)), (1, .int (nI i))]) hx hb dX2_routesOf_29 hl (k := 1) rfl (nI_1 j) (by decide) rfl (fun ls hl => ?_)
    refine lv_goto (tgt := 4) hx hb dX2_routesOf_32 (by decide) ?_
    exact ih (j + 1) _ _ _ _ _ ⟨by omega, rfl, hS, rfl, rfl, lv_sub hl [0, 1, 2, 3] rfl⟩ (by omega)
/-- tornOnes() -/
theorem m_tornOnes (l : Launch) (g : GT) {H : Heap} {A : Nat → Nat} {F : Nat → Nat → Int32} {I : Nat → Int32} (b : BV) (hM : MAt g A F I H) (hs : SRel (F 1) b) (hok : okB b) : Met l yX2_tornOnes (ws_ yX2_tornOnes cX2_tornOnes 3 (some .int)) ({ frames := 1, cells := 0, slots := 0, locals := 22 } : Room) (va_Pc [.ref (A 0)] (Pre g H)) (Qi g (fun z H1 => H1 = H ∧ z = tornV b)) 0 0 (gA g) := by
  refine k_met (cc := cX2_tornOnes) (nL := 3) (vs := [.ref (A 0)]) (by decide +kernel) (Nat.le_of_ble_eq_true rfl) ?_
  intro p e s m below meth c hH hx hb hret hts hown hlk hml hin hK hS ls hl
  subst hH
  have hown : s.vm.findClass RX2 = some m.cls := hown
  have hl : lv_has ls 3 [(0, .ref (A 0))] := hl
  obtain ⟨h0, h1, h2, h3, h4, n12, n13, n14, n23, n24, n34⟩ := id hM
  have hl20 := hok.1
  have hl6 := hok.2.1
  refine lv_iconst (v := 0) hx hb dX2_tornOnes_0 (by decide) ?_
  refine lv_istore_n (lv' := [(1, .int 0), (0, .ref (A 0))]) hx hb dX2_tornOnes_1 rfl hl (by decide) rfl (fun ls hl => ?_)
  refine lv_iconst (v := nI 0) hx hb dX2_tornOnes_2 (by decide) ?_
  refine lv_istore_n (lv' := [(2, .int (nI 0)), (1, .int 0), (0, .ref (A 0))]) hx hb dX2_tornOnes_3 rfl hl (by decide) rfl (fun ls hl => ?_)
  refine w_loop (Inv := fun (j : Nat) Hh locs cells slots ls => j ≤ b.1.length ∧ s.heap = Hh ∧ va_S (gA g) s.heap Hh locs ∧ cells = 0 ∧ slots = 0 ∧ lv_has ls 3 [(2, .int (nI j)), (1, .int (orS (fun k => if (rowV b k).2.2 = 1 then 1 <<< (nI k &&& 31) else 0) j)), (0, .ref (A 0))]) (μ := fun j => b.1.length - j) ?_ 0 _ _ _ _ _ ⟨Nat.zero_le _, rfl, hS, rfl, rfl, lv_sub hl [0, 1, 2] rfl⟩
  intro j Hh locs cells slots ls hInv ih
  obtain ⟨hj, rfl, hS, rfl, rfl, hl⟩ := hInv
  refine lv_iload_n hx hb dX2_tornOnes_4 rfl (lv_at hl 0 rfl) ?_
  refine lv_aload_n hx hb dX2_tornOnes_5 rfl (lv_at hl 2 rfl) ?_
  refine k_get (ci := 2) hx hb hts in_X2 hown hK h0 rfl 0 (by decide) q1400 (fun _ h9 => h9) rfl dX2_tornOnes_6 ?_
  refine lv_iconst (v := nI 0) hx hb dX2_tornOnes_9 (by decide) ?_
  refine k_ildN hx hb hK h1 (0) (rfl) (by omega) (by decide) dX2_tornOnes_10 ?_
  refine k_topi (nI b.1.length) (hs.rows) ?_
  refine lv_icmp_ge (tgt := 31) hx hb dX2_tornOnes_11 (by decide) (fun c11 => ?_) (fun c11 => ?_)
  · have hj2 : b.1.length ≤ j := by rcases Nat.lt_or_ge (j) (b.1.length) with z | z; exact absurd c11 (nI_ge z (by omega)); exact z
    have hj2 : j = b.1.length := by omega
    refine lv_iload_n hx hb dX2_tornOnes_31 rfl (lv_at hl 1 rfl) ?_
    exact k_ireti (v := orS (fun k => if (rowV b k).2.2 = 1 then 1 <<< (nI k &&& 31) else 0) j) hx hb hret (rfl) hlk hS (Nat.le_of_ble_eq_true rfl) (Nat.le_of_ble_eq_true rfl) (⟨rfl, by unfold tornV; rw [hj2]⟩) dX2_tornOnes_32
  · have hj2 : j < b.1.length := by rcases Nat.lt_or_ge (j) (b.1.length) with z | z; exact z; exact absurd (nI_le z (by omega)) c11
    refine lv_iload_n hx hb dX2_tornOnes_14 rfl (lv_at hl 1 rfl) ?_
    refine lv_aload_n hx hb dX2_tornOnes_15 rfl (lv_at hl 2 rfl) ?_
    refine lv_iload_n hx hb dX2_tornOnes_16 rfl (lv_at hl 0 rfl) ?_
    refine lv_iconst (v := nI 2) hx hb dX2_tornOnes_17 (by decide) ?_
    refine k_calliS (va_runV (As := [.int (nI j), .int (nI 2)]) (rest := [.int (orS (fun k => if (rowV b k).2.2 = 1 then 1 <<< (nI k &&& 31) else 0) j)]) ⟨hx, hb, hml, hown, hts⟩ (m_of l g j 2 hM (by omega)) (cwV 2 hts (lw_V q1515 q1517 qs32 q56 q1518) rfl rfl rfl hdV_X2_of ⟨Nat.le_of_ble_eq_true rfl, Nat.le_of_ble_eq_true rfl⟩) (preV hK hS h0 rfl) rfl rfl hl.1 rfl (lv_room (Nat.le_of_ble_eq_true rfl)) dX2_tornOnes_18 ⟨Nat.le_of_ble_eq_true rfl, Nat.le_of_ble_eq_true rfl⟩) hS (fun t locs ht hS => ?_)
    refine lv_iload_n hx hb dX2_tornOnes_21 rfl (lv_at hl 0 rfl) ?_
    refine lv_ishl hx hb dX2_tornOnes_22 ?_
    refine lv_ior hx hb dX2_tornOnes_23 ?_
    refine k_topi (orS (fun k => if (rowV b k).2.2 = 1 then 1 <<< (nI k &&& 31) else 0) (j + 1)) (by rw [show t = (rowV b j).2.2 by rw [ht, show 11 + 17 * j + 2 = 13 + 17 * j by omega]; exact (hs.row hj2).2.2.1]; exact congrArg _ (torn_sh j (hok.2.2.1 j hj2).2 (by omega))) ?_
    refine lv_istore_n (lv' := [(1, .int (orS (fun k => if (rowV b k).2.2 = 1 then 1 <<< (nI k &&& 31) else 0) (j + 1))), (2, .int (nI j)), (0, .ref (A 0))]) hx hb dX2_tornOnes_24 rfl hl (by decide) rfl (fun ls hl => ?_)
    refine lv_iinc (v := nI (j + 1)) (lv' := [(2, .int (nI (j + 1))), (1, .int (orS (fun k => if (rowV b k).2.2 = 1 then 1 <<< (nI k &&& 31) else 0) (j + 1))), (0, .ref (A 0))]) hx hb dX2_tornOnes_25 hl (k := 1) rfl (nI_1 j) (by decide) rfl (fun ls hl => ?_)
    refine lv_goto (tgt := 4) hx hb dX2_tornOnes_28 (by decide) ?_
    exact ih (j + 1) _ _ _ _ _ ⟨by omega, rfl, hS, rfl, rfl, lv_sub hl [0, 1, 2] rfl⟩ (by omega)
/-- letter(row, index) -/
theorem mp_letter (l : Launch) (g : GT) {H : Heap} {A : Nat → Nat} {F : Nat → Nat → Int32} {I : Nat → Int32} (b : BV) (x y : Int32) (hM : MAt g A F I H) (hs : SRel (F 1) b) (hok : okB b) : Met l yX2_letter (ws_ yX2_letter cX2_letter 3 (some .int)) ({ frames := 1, cells := 0, slots := 0, locals := 22 } : Room) (va_Pc [.ref (A 0), .int x, .int y] (Pre g H)) (Qi g (fun z H1 => H1 = H ∧ z = letterV b x y)) 0 0 (gA g) := by
  refine k_met (cc := cX2_letter) (nL := 3) (vs := [.ref (A 0), .int x, .int y]) (by decide +kernel) (Nat.le_of_ble_eq_true rfl) ?_
  intro p e s m below meth c hH hx hb hret hts hown hlk hml hin hK hS ls hl
  subst hH
  have hown : s.vm.findClass RX2 = some m.cls := hown
  have hl : lv_has ls 3 [(0, .ref (A 0)), (1, .int x), (2, .int y)] := hl
  obtain ⟨h0, h1, h2, h3, h4, n12, n13, n14, n23, n24, n34⟩ := id hM
  have hl20 := hok.1
  have hl6 := hok.2.1
  refine lv_aload_n hx hb dX2_letter_0 rfl (lv_at hl 0 rfl) ?_
  refine lv_iload_n hx hb dX2_letter_1 rfl (lv_at hl 1 rfl) ?_
  refine k_calliS (va_runV (As := [.int x]) (rest := []) ⟨hx, hb, hml, hown, hts⟩ (m_isRow l g x hM) (cwV 1 hts (lw_V q1500 q1502 qs30 q56 q1503) rfl rfl rfl hdV_X2_isRow ⟨Nat.le_of_ble_eq_true rfl, Nat.le_of_ble_eq_true rfl⟩) (preV hK hS h0 rfl) rfl rfl hl.1 rfl (lv_room (Nat.le_of_ble_eq_true rfl)) dX2_letter_2 ⟨Nat.le_of_ble_eq_true rfl, Nat.le_of_ble_eq_true rfl⟩) hS (fun zr locs hrow hS => ?_)
  refine lv_if_eq (tgt := 12) hx hb dX2_letter_5 (by decide) (fun c5 => ?_) (fun c5 => ?_)
  · have c5 := b2f hrow c5
    rw [hs.rows] at c5
    refine lv_ldc (v := (-1000001)) hx hb hown (hts _ q1447) dX2_letter_12 ?_
    exact k_ireti (v := (-1000001)) hx hb hret (rfl) hlk hS (Nat.le_of_ble_eq_true rfl) (Nat.le_of_ble_eq_true rfl) (⟨rfl, by unfold letterV; rw [if_neg (fun h => c5 h.1)]⟩) dX2_letter_14
  · have c5 := b2t hrow c5
    rw [hs.rows] at c5
    have c5V := c5
    obtain ⟨r, hr, rfl⟩ := row_nat c5 (by omega)
    refine lv_iload_n hx hb dX2_letter_8 rfl (lv_at hl 2 rfl) ?_
    refine lv_if_ge (tgt := 15) hx hb dX2_letter_9 (by decide) (fun c9 => ?_) (fun c9 => ?_)
    · obtain ⟨k, hk, rfl⟩ := nI_of (Int32.not_lt.mpr c9)
      refine lv_iload_n hx hb dX2_letter_15 rfl (lv_at hl 2 rfl) ?_
      refine lv_aload_n hx hb dX2_letter_16 rfl (lv_at hl 0 rfl) ?_
      refine lv_iload_n hx hb dX2_letter_17 rfl (lv_at hl 1 rfl) ?_
      refine lv_iconst (v := nI 0) hx hb dX2_letter_18 (by decide) ?_
      refine k_calliS (va_runV (As := [.int (nI r), .int (nI 0)]) (rest := [.int (nI k)]) ⟨hx, hb, hml, hown, hts⟩ (m_of l g r 0 hM (by omega)) (cwV 2 hts (lw_V q1515 q1517 qs32 q56 q1518) rfl rfl rfl hdV_X2_of ⟨Nat.le_of_ble_eq_true rfl, Nat.le_of_ble_eq_true rfl⟩) (preV hK hS h0 rfl) rfl rfl hl.1 rfl (lv_room (Nat.le_of_ble_eq_true rfl)) dX2_letter_19 ⟨Nat.le_of_ble_eq_true rfl, Nat.le_of_ble_eq_true rfl⟩) hS (fun t locs ht hS => ?_)
      refine lv_icmp_ge (tgt := 36) hx hb dX2_letter_22 (by decide) (fun c22 => ?_) (fun c22 => ?_)
      · rw [show t = nI (rowV b r).1.length from ht.trans (hs.row hr).1] at c22
        have h14 := (hok.name hr).2
        have c22b : (rowV b r).1.length ≤ k := by rcases Nat.lt_or_ge (k) ((rowV b r).1.length) with z | z; exact absurd c22 (nI_ge z (by omega)); exact z
        refine lv_ldc (v := (-1000004)) hx hb hown (hts _ q1486) dX2_letter_36 ?_
        exact k_ireti (v := (-1000004)) hx hb hret (rfl) hlk hS (Nat.le_of_ble_eq_true rfl) (Nat.le_of_ble_eq_true rfl) (⟨rfl, by unfold letterV; rw [if_pos ⟨c5V, nI_pos' hk⟩, nI_clamp (by omega), if_neg (Int32.not_lt.mpr c22)]⟩) dX2_letter_38
      · rw [show t = nI (rowV b r).1.length from ht.trans (hs.row hr).1] at c22
        have h14 := (hok.name hr).2
        have c22b : k < (rowV b r).1.length := by rcases Nat.lt_or_ge (k) ((rowV b r).1.length) with z | z; exact z; exact absurd (nI_le z (by omega)) c22
        refine lv_aload_n hx hb dX2_letter_25 rfl (lv_at hl 0 rfl) ?_
        refine lv_iload_n hx hb dX2_letter_26 rfl (lv_at hl 1 rfl) ?_
        refine lv_iconst (v := nI 3) hx hb dX2_letter_27 (by decide) ?_
        refine lv_iload_n hx hb dX2_letter_28 rfl (lv_at hl 2 rfl) ?_
        refine lv_iadd hx hb dX2_letter_29 ?_
        refine k_topi (nI (3 + k)) (nI_add 3 k) ?_
        refine k_calliS (va_runV (As := [.int (nI r), .int (nI (3 + k))]) (rest := []) ⟨hx, hb, hml, hown, hts⟩ (m_of l g r (3 + k) hM (by omega)) (cwV 2 hts (lw_V q1515 q1517 qs32 q56 q1518) rfl rfl rfl hdV_X2_of ⟨Nat.le_of_ble_eq_true rfl, Nat.le_of_ble_eq_true rfl⟩) (preV hK hS h0 rfl) rfl rfl hl.1 rfl (lv_room (Nat.le_of_ble_eq_true rfl)) dX2_letter_30 ⟨Nat.le_of_ble_eq_true rfl, Nat.le_of_ble_eq_true rfl⟩) hS (fun t2 locs ht2 hS => ?_)
        refine lv_goto (tgt := 38) hx hb dX2_letter_33 (by decide) ?_
        exact k_ireti (v := t2) hx hb hret (rfl) hlk hS (Nat.le_of_ble_eq_true rfl) (Nat.le_of_ble_eq_true rfl) (⟨rfl, by unfold letterV; rw [if_pos ⟨c5V, nI_pos' hk⟩, nI_clamp (by omega), if_pos (i_nle c22), nI_clamp hk, ht2, show 11 + 17 * r + (3 + k) = 14 + 17 * r + k by omega]; exact (hs.row hr).2.2.2 k c22b⟩) dX2_letter_38
    · refine lv_ldc (v := (-1000001)) hx hb hown (hts _ q1447) dX2_letter_12 ?_
      exact k_ireti (v := (-1000001)) hx hb hret (rfl) hlk hS (Nat.le_of_ble_eq_true rfl) (Nat.le_of_ble_eq_true rfl) (⟨rfl, by unfold letterV; rw [if_neg (fun h => c9 h.2)]⟩) dX2_letter_14
/-- rowOf(row, what) -/
theorem mp_rowOf (l : Launch) (g : GT) {H : Heap} {A : Nat → Nat} {F : Nat → Nat → Int32} {I : Nat → Int32} (b : BV) (x y : Int32) (hM : MAt g A F I H) (hs : SRel (F 1) b) (hok : okB b) : Met l yX2_rowOf (ws_ yX2_rowOf cX2_rowOf 3 (some .int)) ({ frames := 3, cells := 0, slots := 0, locals := 69 } : Room) (va_Pc [.ref (A 0), .int x, .int y] (Pre g H)) (Qi g (fun z H1 => H1 = H ∧ z = rowOfV b x y)) 0 0 (gA g) := by
  refine k_met (cc := cX2_rowOf) (nL := 3) (vs := [.ref (A 0), .int x, .int y]) (by decide +kernel) (Nat.le_of_ble_eq_true rfl) ?_
  intro p e s m below meth c hH hx hb hret hts hown hlk hml hin hK hS ls hl
  subst hH
  have hown : s.vm.findClass RX2 = some m.cls := hown
  have hl : lv_has ls 3 [(0, .ref (A 0)), (1, .int x), (2, .int y)] := hl
  obtain ⟨h0, h1, h2, h3, h4, n12, n13, n14, n23, n24, n34⟩ := id hM
  have hl20 := hok.1
  have hl6 := hok.2.1
  refine lv_aload_n hx hb dX2_rowOf_0 rfl (lv_at hl 0 rfl) ?_
  refine lv_iload_n hx hb dX2_rowOf_1 rfl (lv_at hl 1 rfl) ?_
  refine k_calliS (va_runV (As := [.int x]) (rest := []) ⟨hx, hb, hml, hown, hts⟩ (m_isRow l g x hM) (cwV 1 hts (lw_V q1500 q1502 qs30 q56 q1503) rfl rfl rfl hdV_X2_isRow ⟨Nat.le_of_ble_eq_true rfl, Nat.le_of_ble_eq_true rfl⟩) (preV hK hS h0 rfl) rfl rfl hl.1 rfl (lv_room (Nat.le_of_ble_eq_true rfl)) dX2_rowOf_2 ⟨Nat.le_of_ble_eq_true rfl, Nat.le_of_ble_eq_true rfl⟩) hS (fun zr locs hrow hS => ?_)
  refine lv_if_eq (tgt := 18) hx hb dX2_rowOf_5 (by decide) (fun c5 => ?_) (fun c5 => ?_)
  · have c5 := b2f hrow c5
    rw [hs.rows] at c5
    refine lv_ldc (v := (-1000001)) hx hb hown (hts _ q1447) dX2_rowOf_18 ?_
    exact k_ireti (v := (-1000001)) hx hb hret (rfl) hlk hS (Nat.le_of_ble_eq_true rfl) (Nat.le_of_ble_eq_true rfl) (⟨rfl, by unfold rowOfV; rw [if_neg (fun h => c5 h.1)]⟩) dX2_rowOf_20
  · have c5 := b2t hrow c5
    rw [hs.rows] at c5
    have c5V := c5
    obtain ⟨r, hr, rfl⟩ := row_nat c5 (by omega)
    refine lv_iload_n hx hb dX2_rowOf_8 rfl (lv_at hl 2 rfl) ?_
    refine lv_iconst (v := 0) hx hb dX2_rowOf_9 (by decide) ?_
    refine lv_bipush (v := 7) hx hb dX2_rowOf_10 (by decide) ?_
    refine k_calliS (va_runS (As := [.int y, .int 0, .int 7]) (rest := []) ⟨hx, hb, hml, hown, hts⟩ (m_in l g y 0 7) (va_cwS 3 hts (lw_S q1444 q1445 q56 q1446) rfl rfl rfl hdS_X2_in ⟨Nat.le_of_ble_eq_true rfl, Nat.le_of_ble_eq_true rfl⟩) (preS hK hS) rfl rfl hl.1 rfl (lv_room (Nat.le_of_ble_eq_true rfl)) dX2_rowOf_12 ⟨Nat.le_of_ble_eq_true rfl, Nat.le_of_ble_eq_true rfl⟩) hS (fun zy locs hzy hS => ?_)
    refine lv_if_ne (tgt := 21) hx hb dX2_rowOf_15 (by decide) (fun c15 => ?_) (fun c15 => ?_)
    · have c15 := b2t hzy c15
      have c15V := c15
      obtain ⟨k, hk, rfl⟩ := nI_of (Int32.not_lt.mpr c15.1)
      have hk8 : k < 8 := by have := (nI_leI (b := 7) hk (by omega)).mp c15.2; omega
      have hRW : rowOfV b (nI r) (nI k) = (if nI k = 0 then nI (rowV b r).1.length else if nI k = 1 then wideV (rowV b r).1 else if nI k = 2 then sqV b (rowV b r).1 else if nI k = 3 then kindV (rowV b r).1 else if nI k = 4 then (rowV b r).2.1 else if nI k = 5 then (rowV b r).2.2 else if nI k = 6 then routesOfV b r else if nI r = b.2.2 3 then 1 else 0) := by unfold rowOfV; rw [if_pos ⟨c5V, c15V⟩, nI_clamp (by omega)]
      have hrr := hs.row hr
      have h14 := hok.name hr
      have hknd := (hok.2.2.1 r hr).1
      refine lv_iload_n hx hb dX2_rowOf_21 rfl (lv_at hl 2 rfl) ?_
      rcases (show k = 0 ∨ k = 1 ∨ k = 2 ∨ k = 3 ∨ k = 4 ∨ k = 5 ∨ k = 6 ∨ k = 7 from by omega) with rfl | rfl | rfl | rfl | rfl | rfl | rfl | rfl
      · refine lv_tableIn (off := 42) (tgt := 64) hx hb dX2_rowOf_22 (by decide) (by decide) rfl (by decide) ?_
        refine lv_aload_n hx hb dX2_rowOf_64 rfl (lv_at hl 0 rfl) ?_
        refine lv_iload_n hx hb dX2_rowOf_65 rfl (lv_at hl 1 rfl) ?_
        refine lv_iconst (v := nI 0) hx hb dX2_rowOf_66 (by decide) ?_
        refine k_calliS (va_runV (As := [.int (nI r), .int (nI 0)]) (rest := []) ⟨hx, hb, hml, hown, hts⟩ (m_of l g r 0 hM (by omega)) (cwV 2 hts (lw_V q1515 q1517 qs32 q56 q1518) rfl rfl rfl hdV_X2_of ⟨Nat.le_of_ble_eq_true rfl, Nat.le_of_ble_eq_true rfl⟩) (preV hK hS h0 rfl) rfl rfl hl.1 rfl (lv_room (Nat.le_of_ble_eq_true rfl)) dX2_rowOf_67 ⟨Nat.le_of_ble_eq_true rfl, Nat.le_of_ble_eq_true rfl⟩) hS (fun t locs ht hS => ?_)
        exact k_ireti (v := t) hx hb hret (rfl) hlk hS (Nat.le_of_ble_eq_true rfl) (Nat.le_of_ble_eq_true rfl) (⟨rfl, by rw [hRW, if_pos (by decide), ht]; exact hrr.1⟩) dX2_rowOf_70
      · refine lv_tableIn (off := 49) (tgt := 71) hx hb dX2_rowOf_22 (by decide) (by decide) rfl (by decide) ?_
        refine lv_aload_n hx hb dX2_rowOf_71 rfl (lv_at hl 0 rfl) ?_
        refine lv_iload_n hx hb dX2_rowOf_72 rfl (lv_at hl 1 rfl) ?_
        refine k_calliS (va_runV (As := [.int (nI r)]) (rest := []) ⟨hx, hb, hml, hown, hts⟩ (m_width l g r (rowV b r).1.length hM (by omega) hrr.1 h14.2) (cwV 1 hts (lw_V q1576 q1578 qs41 q56 q1579) rfl rfl rfl hdV_X2_width ⟨Nat.le_of_ble_eq_true rfl, Nat.le_of_ble_eq_true rfl⟩) (preV hK hS h0 rfl) rfl rfl hl.1 rfl (lv_room (Nat.le_of_ble_eq_true rfl)) dX2_rowOf_73 ⟨Nat.le_of_ble_eq_true rfl, Nat.le_of_ble_eq_true rfl⟩) hS (fun t locs ht hS => ?_)
        exact k_ireti (v := t) hx hb hret (rfl) hlk hS (Nat.le_of_ble_eq_true rfl) (Nat.le_of_ble_eq_true rfl) (⟨rfl, by rw [hRW, if_neg (by decide), if_pos (by decide), ht]; exact hrr.wsum⟩) dX2_rowOf_76
      · refine lv_tableIn (off := 55) (tgt := 77) hx hb dX2_rowOf_22 (by decide) (by decide) rfl (by decide) ?_
        refine lv_aload_n hx hb dX2_rowOf_77 rfl (lv_at hl 0 rfl) ?_
        refine lv_aload_n hx hb dX2_rowOf_78 rfl (lv_at hl 0 rfl) ?_
        refine lv_iload_n hx hb dX2_rowOf_79 rfl (lv_at hl 1 rfl) ?_
        refine k_calliS (va_runV (As := [.int (nI r)]) (rest := [.ref (A 0)]) ⟨hx, hb, hml, hown, hts⟩ (m_width l g r (rowV b r).1.length hM (by omega) hrr.1 h14.2) (cwV 1 hts (lw_V q1576 q1578 qs41 q56 q1579) rfl rfl rfl hdV_X2_width ⟨Nat.le_of_ble_eq_true rfl, Nat.le_of_ble_eq_true rfl⟩) (preV hK hS h0 rfl) rfl rfl hl.1 rfl (lv_room (Nat.le_of_ble_eq_true rfl)) dX2_rowOf_80 ⟨Nat.le_of_ble_eq_true rfl, Nat.le_of_ble_eq_true rfl⟩) hS (fun t locs ht hS => ?_)
        refine k_calliS (va_runV (As := [.int t]) (rest := []) ⟨hx, hb, hml, hown, hts⟩ (m_squeezed l g t hM (by rw [hs.w]; exact hok.wide0)) (cwV 1 hts (lw_V q1478 q1480 qs27 q56 q1481) rfl rfl rfl hdV_X2_squeezed ⟨Nat.le_of_ble_eq_true rfl, Nat.le_of_ble_eq_true rfl⟩) (preV hK hS h0 rfl) rfl rfl hl.1 rfl (lv_room (Nat.le_of_ble_eq_true rfl)) dX2_rowOf_83 ⟨Nat.le_of_ble_eq_true rfl, Nat.le_of_ble_eq_true rfl⟩) hS (fun t2 locs ht2 hS => ?_)
        exact k_ireti (v := t2) hx hb hret (rfl) hlk hS (Nat.le_of_ble_eq_true rfl) (Nat.le_of_ble_eq_true rfl) (⟨rfl, by rw [hRW, if_neg (by decide), if_neg (by decide), if_pos (by decide), ht2, ht]; unfold sqV; rw [hrr.wsum, hs.w]⟩) dX2_rowOf_86
      · refine lv_tableIn (off := 65) (tgt := 87) hx hb dX2_rowOf_22 (by decide) (by decide) rfl (by decide) ?_
        refine lv_aload_n hx hb dX2_rowOf_87 rfl (lv_at hl 0 rfl) ?_
        refine lv_iload_n hx hb dX2_rowOf_88 rfl (lv_at hl 1 rfl) ?_
        refine k_calliS (va_runV (As := [.int (nI r)]) (rest := []) ⟨hx, hb, hml, hown, hts⟩ (m_kind l g r (rowV b r).1.length hM (by omega) hrr.1 h14.2) (cwV 1 hts (lw_V q1564 q1566 qs39 q56 q1567) rfl rfl rfl hdV_X2_kind ⟨Nat.le_of_ble_eq_true rfl, Nat.le_of_ble_eq_true rfl⟩) (preV hK hS h0 rfl) rfl rfl hl.1 rfl (lv_room (Nat.le_of_ble_eq_true rfl)) dX2_rowOf_89 ⟨Nat.le_of_ble_eq_true rfl, Nat.le_of_ble_eq_true rfl⟩) hS (fun t locs ht hS => ?_)
        exact k_ireti (v := t) hx hb hret (rfl) hlk hS (Nat.le_of_ble_eq_true rfl) (Nat.le_of_ble_eq_true rfl) (⟨rfl, by rw [hRW, if_neg (by decide), if_neg (by decide), if_neg (by decide), if_pos (by decide), ht, ← kindF_V hknd]; exact kindF_congr (fun k hk => hrr.2.2.2 k hk)⟩) dX2_rowOf_92
      · refine lv_tableIn (off := 71) (tgt := 93) hx hb dX2_rowOf_22 (by decide) (by decide) rfl (by decide) ?_
        refine lv_aload_n hx hb dX2_rowOf_93 rfl (lv_at hl 0 rfl) ?_
        refine lv_iload_n hx hb dX2_rowOf_94 rfl (lv_at hl 1 rfl) ?_
        refine lv_iconst (v := nI 1) hx hb dX2_rowOf_95 (by decide) ?_
        refine k_calliS (va_runV (As := [.int (nI r), .int (nI 1)]) (rest := []) ⟨hx, hb, hml, hown, hts⟩ (m_of l g r 1 hM (by omega)) (cwV 2 hts (lw_V q1515 q1517 qs32 q56 q1518) rfl rfl rfl hdV_X2_of ⟨Nat.le_of_ble_eq_true rfl, Nat.le_of_ble_eq_true rfl⟩) (preV hK hS h0 rfl) rfl rfl hl.1 rfl (lv_room (Nat.le_of_ble_eq_true rfl)) dX2_rowOf_96 ⟨Nat.le_of_ble_eq_true rfl, Nat.le_of_ble_eq_true rfl⟩) hS (fun t locs ht hS => ?_)
        exact k_ireti (v := t) hx hb hret (rfl) hlk hS (Nat.le_of_ble_eq_true rfl) (Nat.le_of_ble_eq_true rfl) (⟨rfl, by rw [hRW, if_neg (by decide), if_neg (by decide), if_neg (by decide), if_neg (by decide), if_pos (by decide), ht, show 11 + 17 * r + 1 = 12 + 17 * r by omega]; exact hrr.2.1⟩) dX2_rowOf_99
      · refine lv_tableIn (off := 78) (tgt := 100) hx hb dX2_rowOf_22 (by decide) (by decide) rfl (by decide) ?_
        refine lv_aload_n hx hb dX2_rowOf_100 rfl (lv_at hl 0 rfl) ?_
        refine lv_iload_n hx hb dX2_rowOf_101 rfl (lv_at hl 1 rfl) ?_
        refine lv_iconst (v := nI 2) hx hb dX2_rowOf_102 (by decide) ?_
        refine k_calliS (va_runV (As := [.int (nI r), .int (nI 2)]) (rest := []) ⟨hx, hb, hml, hown, hts⟩ (m_of l g r 2 hM (by omega)) (cwV 2 hts (lw_V q1515 q1517 qs32 q56 q1518) rfl rfl rfl hdV_X2_of ⟨Nat.le_of_ble_eq_true rfl, Nat.le_of_ble_eq_true rfl⟩) (preV hK hS h0 rfl) rfl rfl hl.1 rfl (lv_room (Nat.le_of_ble_eq_true rfl)) dX2_rowOf_103 ⟨Nat.le_of_ble_eq_true rfl, Nat.le_of_ble_eq_true rfl⟩) hS (fun t locs ht hS => ?_)
        exact k_ireti (v := t) hx hb hret (rfl) hlk hS (Nat.le_of_ble_eq_true rfl) (Nat.le_of_ble_eq_true rfl) (⟨rfl, by rw [hRW, if_neg (by decide), if_neg (by decide), if_neg (by decide), if_neg (by decide), if_neg (by decide), if_pos (by decide), ht, show 11 + 17 * r + 2 = 13 + 17 * r by omega]; exact hrr.2.2.1⟩) dX2_rowOf_106
      · refine lv_tableIn (off := 85) (tgt := 107) hx hb dX2_rowOf_22 (by decide) (by decide) rfl (by decide) ?_
        refine lv_aload_n hx hb dX2_rowOf_107 rfl (lv_at hl 0 rfl) ?_
        refine lv_iload_n hx hb dX2_rowOf_108 rfl (lv_at hl 1 rfl) ?_
        refine k_calliS (va_runV (As := [.int (nI r)]) (rest := []) ⟨hx, hb, hml, hown, hts⟩ (m_routesOf l g b r hM hs hok hr) (cwV 1 hts (lw_V q1591 q1593 qs42 q56 q1594) rfl rfl rfl hdV_X2_routesOf ⟨Nat.le_of_ble_eq_true rfl, Nat.le_of_ble_eq_true rfl⟩) (preV hK hS h0 rfl) rfl rfl hl.1 rfl (lv_room (Nat.le_of_ble_eq_true rfl)) dX2_rowOf_109 ⟨Nat.le_of_ble_eq_true rfl, Nat.le_of_ble_eq_true rfl⟩) hS (fun t locs ht hS => ?_)
        exact k_ireti (v := t) hx hb hret (rfl) hlk hS (Nat.le_of_ble_eq_true rfl) (Nat.le_of_ble_eq_true rfl) (⟨rfl, by rw [hRW, if_neg (by decide), if_neg (by decide), if_neg (by decide), if_neg (by decide), if_neg (by decide), if_neg (by decide), if_pos (by decide), ht]⟩) dX2_rowOf_112
      · refine lv_tableOut (tgt := 113) hx hb dX2_rowOf_22 (by decide) (by decide) ?_
        refine lv_aload_n hx hb dX2_rowOf_113 rfl (lv_at hl 0 rfl) ?_
        refine k_get (ci := 2) hx hb hts in_X2 hown hK h0 rfl 0 (by decide) q1400 (fun _ h9 => h9) rfl dX2_rowOf_114 ?_
        refine lv_iconst (v := nI 1) hx hb dX2_rowOf_117 (by decide) ?_
        refine k_ildN hx hb hK h1 (1) (rfl) (by omega) (by decide) dX2_rowOf_118 ?_
        refine k_topi (b.2.2 3) (hs.sh.trans (if_neg (by omega))) ?_
        refine lv_iload_n hx hb dX2_rowOf_119 rfl (lv_at hl 1 rfl) ?_
        refine lv_icmp_ne (tgt := 127) hx hb dX2_rowOf_120 (by decide) (fun c120 => ?_) (fun c120 => ?_)
        · refine lv_iconst (v := 0) hx hb dX2_rowOf_127 (by decide) ?_
          exact k_ireti (v := 0) hx hb hret (rfl) hlk hS (Nat.le_of_ble_eq_true rfl) (Nat.le_of_ble_eq_true rfl) (⟨rfl, by rw [hRW, if_neg (by decide), if_neg (by decide), if_neg (by decide), if_neg (by decide), if_neg (by decide), if_neg (by decide), if_neg (by decide), if_neg (Ne.symm c120)]⟩) dX2_rowOf_128
        · refine lv_iconst (v := 1) hx hb dX2_rowOf_123 (by decide) ?_
          refine lv_goto (tgt := 128) hx hb dX2_rowOf_124 (by decide) ?_
          exact k_ireti (v := 1) hx hb hret (rfl) hlk hS (Nat.le_of_ble_eq_true rfl) (Nat.le_of_ble_eq_true rfl) (⟨rfl, by rw [hRW, if_neg (by decide), if_neg (by decide), if_neg (by decide), if_neg (by decide), if_neg (by decide), if_neg (by decide), if_neg (by decide), if_pos c120.symm]⟩) dX2_rowOf_128
    · have c15 := b2f hzy c15
      refine lv_ldc (v := (-1000001)) hx hb hown (hts _ q1447) dX2_rowOf_18 ?_
      exact k_ireti (v := (-1000001)) hx hb hret (rfl) hlk hS (Nat.le_of_ble_eq_true rfl) (Nat.le_of_ble_eq_true rfl) (⟨rfl, by unfold rowOfV; rw [if_neg (fun h => c15 h.2)]⟩) dX2_rowOf_20
