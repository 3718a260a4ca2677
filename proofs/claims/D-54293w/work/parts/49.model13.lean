/-! ===== HandBlindsModel: fault, add (printed by tools/model13.py) ===== -/
set_option maxRecDepth 100000
theorem find_congr {p q : Nat → Bool} : ∀ {l : List Nat}, (∀ a, a ∈ l → p a = q a) → l.find? p = l.find? q
  | [], _ => rfl
  | x :: l, h => by
    rw [List.find?_cons, List.find?_cons, h x List.mem_cons_self, find_congr (fun a ha => h a (List.mem_cons_of_mem _ ha))]
theorem send_congr {tx ty : Nat → Int32} {t i : Nat} (h : ∀ k, k < t → tx k = ty k) : send tx t i = send ty t i := by
  unfold send
  rw [find_congr (q := fun k => decide (ty (i + k) = 47)) (fun a ha => by have := List.mem_range.mp ha; rw [h (i + a) (by omega)])]
theorem brk_congr2 {c d : Nat → Int32} {n : Nat} (h : ∀ j, j < n → c j = d j) : brk c n = brk d n := by
  unfold brk
  split
  · rfl
  · exact find_congr (fun a ha => badk_congr h (List.mem_range.mp ha))
theorem faultR_congr {c d : Nat → Int32} {n r : Nat} {w : Int32} (h : ∀ j, j < n → c j = d j) : faultR c n w r = faultR d n w r := by
  unfold faultR
  rw [brk_congr2 h, wsum_congr h]
theorem addAll_congr {tx ty : Nat → Int32} {t : Nat} (h : ∀ k, k < t → tx k = ty k) : ∀ (fuel i : Nat) (b : BV) (m : Nat), i ≤ t → addAll tx t fuel i b m = addAll ty t fuel i b m
  | 0, _, _, _, _ => rfl
  | fuel + 1, i, b, m, hi => by
    have hs := send_congr (i := i) h
    have hhi := send_hi (tx := ty) hi
    have hc : ∀ j, j < send ty t i - i → tx (i + j) = ty (i + j) := fun j hj => h (i + j) (by omega)
    rw [addAll, addAll, hs, faultR_congr hc, lets_congr hc]
    cases faultR (fun k => ty (i + k)) (send ty t i - i) (b.2.2 0) b.1.length with
    | some r => rfl
    | none =>
      dsimp only
      split
      · exact addAll_congr h fuel _ _ _ (by omega)
      · rfl
/-- what fault(what) answers -/
def faultV (a : AV) (x : Int32) : Int32 := if 0 ≤ x ∧ x ≤ 2 then match addAll (fun k => a.2.2.getD k 0) a.2.2.length (a.2.2.length + 1) 0 a.1 0 with
    | .inl _ => -1000004
    | .inr r => if x = 0 then nI r.1 else if x = 1 then r.2.1 else r.2.2
  else -1000001
def addA (a : AV) : AV × Int32 := match addAll (fun k => a.2.2.getD k 0) a.2.2.length (a.2.2.length + 1) 0 a.1 0 with
  | .inl r => (chgA a r.1, nI r.2)
  | .inr _ => (a, -1000002)
/-- fault(what) -/
theorem mp_fault (l : Launch) (g : GT) {H : Heap} {A : Nat → Nat} {a : AV} (x : Int32) (hMR : MR g A a H) : Met l yX2_fault (ws_ yX2_fault cX2_fault 3 (some .int)) ({ frames := 5, cells := 0, slots := 0, locals := 110 } : Room) (va_Pc [.ref (A 0), .int x] (Pre g H)) (Qi g (fun z H1 => z = faultV a x ∧ MR g A a H1 ∧ Fx (MM A) H H1)) 0 0 (gA g) := by
  refine k_met (cc := cX2_fault) (nL := 3) (vs := [.ref (A 0), .int x]) (by decide +kernel) (Nat.le_of_ble_eq_true rfl) ?_
  intro p e s m below meth c hH hx hb hret hts hown hlk hml hin hK hS ls hl
  subst hH
  have hown : s.vm.findClass RX2 = some m.cls := hown
  have hl : lv_has ls 3 [(0, .ref (A 0)), (1, .int x)] := hl
  obtain ⟨F, I, hM, hs, hok, hn3, hH, hn5, hT⟩ := hMR
  obtain ⟨h0, h1, h2, h3, h4, n12, n13, n14, n23, n24, n34⟩ := id hM
  have hF : Fx (MM A) s.heap s.heap := Fx.rf
  have hl20 := hok.1
  have hl6 := hok.2.1
  have hl4 := hH.1
  have hl60 := hT.1
  have hR : MRel F I a := ⟨hs, hok, hn3, hH, hn5, hT⟩
  refine lv_iload_n hx hb dX2_fault_0 rfl (lv_at hl 1 rfl) ?_
  refine lv_iconst (v := 0) hx hb dX2_fault_1 (by decide) ?_
  refine lv_iconst (v := 2) hx hb dX2_fault_2 (by decide) ?_
  refine k_calliS (va_runS (As := [.int x, .int 0, .int 2]) (rest := []) ⟨hx, hb, hml, hown, hts⟩ (m_in l g x 0 2) (va_cwS 3 hts (lw_S q1444 q1445 q56 q1446) rfl rfl rfl hdS_X2_in ⟨Nat.le_of_ble_eq_true rfl, Nat.le_of_ble_eq_true rfl⟩) (preS hK hS) rfl rfl hl.1 rfl (lv_room (Nat.le_of_ble_eq_true rfl)) dX2_fault_3 ⟨Nat.le_of_ble_eq_true rfl, Nat.le_of_ble_eq_true rfl⟩) hS (fun z1 locs hz1 hS => ?_)
  refine lv_if_ne (tgt := 12) hx hb dX2_fault_6 (by decide) (fun c6 => ?_) (fun c6 => ?_)
  · have c6 := b2t hz1 c6
    refine lv_aload_n hx hb dX2_fault_12 rfl (lv_at hl 0 rfl) ?_
    refine k_get (ci := 2) hx hb hts in_X2 hown hK h0 rfl 0 (by decide) q1400 (fun _ h9 => h9) rfl dX2_fault_13 ?_
    refine lv_aload_n hx hb dX2_fault_16 rfl (lv_at hl 0 rfl) ?_
    refine k_get (ci := 2) hx hb hts in_X2 hown hK h0 rfl 2 (by decide) q1402 (fun _ h9 => h9) rfl dX2_fault_17 ?_
    refine k_callv (va_runS (As := [.ref (A 1), .ref (A 3)]) (rest := []) ⟨hx, hb, hml, hown, hts⟩ (m_save l g hM) (va_cwS 2 hts (lw_S q1448 q1449 q56 q1450) rfl rfl rfl hdS_X2_copies ⟨Nat.le_of_ble_eq_true rfl, Nat.le_of_ble_eq_true rfl⟩) (preS hK hS) rfl rfl hl.1 rfl (lv_room (Nat.le_of_ble_eq_true rfl)) dX2_fault_20 ⟨Nat.le_of_ble_eq_true rfl, Nat.le_of_ble_eq_true rfl⟩) hS (fun H_2 locs hp1 hS => ?_)
    obtain ⟨hM1, hF2⟩ := hp1
    have hF := hF.trans hF2 (fun q _ h => h)
    obtain ⟨h_3, h_4, h_5, h_6, h_7, -, -, -, -, -, -⟩ := id hM1
    have h_3 : Ob g (A 0) 2 [.ref (A 1), .ref (A 2), .ref (A 3), .int (I 3), .ref (A 4), .int (I 5), .int (I 6), .int (I 7), .int (I 8), .int (I 9), .int (I 10), .int (I 11), .int (I 12)] H_2 := h_3
    have h_6 : Ar g (A 3) 0 (aI 369 (F 1)) H_2 := h_6
    refine lv_aload_n hx hb dX2_fault_23 rfl (lv_at hl 0 rfl) ?_
    refine k_calli (va_runV (As := []) (rest := []) ⟨hx, hb, hml, hown, hts⟩ (m_addsAll l g a.2.2.length a.1 hM1 hn5 hT.1 hs hok) (cwV 0 hts (lw_V q1451 q1453 qs21 q56 q1454) rfl rfl rfl hdV_X2_addsAll ⟨Nat.le_of_ble_eq_true rfl, Nat.le_of_ble_eq_true rfl⟩) (preV hK hS h_3 rfl) rfl rfl hl.1 rfl (lv_room (Nat.le_of_ble_eq_true rfl)) dX2_fault_24 ⟨Nat.le_of_ble_eq_true rfl, Nat.le_of_ble_eq_true rfl⟩) hS (fun z H_8 locs hz hS => ?_)
    obtain ⟨hF2, J, f, j3, j5, hM2, hz⟩ := hz
    have hF := hF.trans hF2 (fun q _ h => h)
    rw [show addAll ((va_up F 3 (F 1)) 4) a.2.2.length (a.2.2.length + 1) 0 a.1 0 = addAll (fun k => a.2.2.getD k 0) a.2.2.length (a.2.2.length + 1) 0 a.1 0 from addAll_congr hT.2 _ _ _ _ (Nat.zero_le _)] at hz
    obtain ⟨h_9, h_10, h_11, h_12, h_13, -, -, -, -, -, -⟩ := id hM2
    have h_9 : Ob g (A 0) 2 [.ref (A 1), .ref (A 2), .ref (A 3), .int (J 3), .ref (A 4), .int (J 5), .int (J 6), .int (J 7), .int (J 8), .int (J 9), .int (J 10), .int (J 11), .int (J 12)] H_8 := h_9
    have h_10 : Ar g (A 1) 0 (aI 369 f) H_8 := h_10
    have h_12 : Ar g (A 3) 0 (aI 369 (F 1)) H_8 := h_12
    refine lv_istore_n (lv' := [(2, .int z), (0, .ref (A 0)), (1, .int x)]) hx hb dX2_fault_27 rfl hl (by decide) rfl (fun ls hl => ?_)
    refine lv_aload_n hx hb dX2_fault_28 rfl (lv_at hl 1 rfl) ?_
    refine k_get (ci := 2) hx hb hts in_X2 hown hK h_9 rfl 2 (by decide) q1402 (fun _ h9 => h9) rfl dX2_fault_29 ?_
    refine lv_aload_n hx hb dX2_fault_32 rfl (lv_at hl 1 rfl) ?_
    refine k_get (ci := 2) hx hb hts in_X2 hown hK h_9 rfl 0 (by decide) q1400 (fun _ h9 => h9) rfl dX2_fault_33 ?_
    refine k_callv (va_runS (As := [.ref (A 3), .ref (A 1)]) (rest := []) ⟨hx, hb, hml, hown, hts⟩ (m_rest l g hM2) (va_cwS 2 hts (lw_S q1448 q1449 q56 q1450) rfl rfl rfl hdS_X2_copies ⟨Nat.le_of_ble_eq_true rfl, Nat.le_of_ble_eq_true rfl⟩) (preS hK hS) rfl rfl hl.1 rfl (lv_room (Nat.le_of_ble_eq_true rfl)) dX2_fault_36 ⟨Nat.le_of_ble_eq_true rfl, Nat.le_of_ble_eq_true rfl⟩) hS (fun H_14 locs hp3 hS => ?_)
    obtain ⟨hM3, hF2⟩ := hp3
    have hF := hF.trans hF2 (fun q _ h => h)
    have hM3 : MAt g A (va_up (va_up F 3 (F 1)) 1 (F 1)) J H_14 := by rw [bx_uu] at hM3; exact hM3
    have hR3 : MRel (va_up (va_up F 3 (F 1)) 1 (F 1)) J a := ⟨hs, hok, j3.trans hn3, hH, j5.trans hn5, hT⟩
    obtain ⟨h_15, h_16, h_17, h_18, h_19, -, -, -, -, -, -⟩ := id hM3
    have h_15 : Ob g (A 0) 2 [.ref (A 1), .ref (A 2), .ref (A 3), .int (J 3), .ref (A 4), .int (J 5), .int (J 6), .int (J 7), .int (J 8), .int (J 9), .int (J 10), .int (J 11), .int (J 12)] H_14 := h_15
    have h_16 : Ar g (A 1) 0 (aI 369 (F 1)) H_14 := h_16
    have h_18 : Ar g (A 3) 0 (aI 369 (F 1)) H_14 := h_18
    refine lv_iload_n hx hb dX2_fault_39 rfl (lv_at hl 0 rfl) ?_
    refine lv_if_eq (tgt := 48) hx hb dX2_fault_40 (by decide) (fun c40 => ?_) (fun c40 => ?_)
    · obtain ⟨-, i, hA, hJ7⟩ := hz.resolve_left (fun h => absurd (h.1.symm.trans c40) (by decide))
      refine lv_iload_n hx hb dX2_fault_48 rfl (lv_at hl 2 rfl) ?_
      refine lv_if_ne (tgt := 59) hx hb dX2_fault_49 (by decide) (fun c49 => ?_) (fun c49 => ?_)
      · refine lv_iload_n hx hb dX2_fault_59 rfl (lv_at hl 2 rfl) ?_
        refine lv_iconst (v := 1) hx hb dX2_fault_60 (by decide) ?_
        refine lv_icmp_ne (tgt := 71) hx hb dX2_fault_61 (by decide) (fun c61 => ?_) (fun c61 => ?_)
        · refine lv_aload_n hx hb dX2_fault_71 rfl (lv_at hl 1 rfl) ?_
          refine k_get (ci := 2) hx hb hts in_X2 hown hK h_15 rfl 9 (by decide) q1409 (fun _ h9 => h9) rfl dX2_fault_72 ?_
          exact k_ireti (v := J 9) hx hb hret (rfl) hlk hS (Nat.le_of_ble_eq_true rfl) (Nat.le_of_ble_eq_true rfl) (⟨by unfold faultV; rw [if_pos c6, hA]; show J 9 = if x = 0 then nI i else if x = 1 then J 8 else J 9; rw [if_neg c49, if_neg c61], ⟨_, J, hM3, hR3⟩, hF⟩) dX2_fault_75
        · refine lv_aload_n hx hb dX2_fault_64 rfl (lv_at hl 1 rfl) ?_
          refine k_get (ci := 2) hx hb hts in_X2 hown hK h_15 rfl 8 (by decide) q1408 (fun _ h9 => h9) rfl dX2_fault_65 ?_
          refine lv_goto (tgt := 75) hx hb dX2_fault_68 (by decide) ?_
          exact k_ireti (v := J 8) hx hb hret (rfl) hlk hS (Nat.le_of_ble_eq_true rfl) (Nat.le_of_ble_eq_true rfl) (⟨by unfold faultV; rw [if_pos c6, hA]; show J 8 = if x = 0 then nI i else if x = 1 then J 8 else J 9; rw [if_neg c49, if_pos c61], ⟨_, J, hM3, hR3⟩, hF⟩) dX2_fault_75
      · refine lv_aload_n hx hb dX2_fault_52 rfl (lv_at hl 1 rfl) ?_
        refine k_get (ci := 2) hx hb hts in_X2 hown hK h_15 rfl 7 (by decide) q1407 (fun _ h9 => h9) rfl dX2_fault_53 ?_
        refine lv_goto (tgt := 75) hx hb dX2_fault_56 (by decide) ?_
        exact k_ireti (v := J 7) hx hb hret (rfl) hlk hS (Nat.le_of_ble_eq_true rfl) (Nat.le_of_ble_eq_true rfl) (⟨by unfold faultV; rw [if_pos c6, hA]; show J 7 = if x = 0 then nI i else _; rw [if_pos c49, hJ7], ⟨_, J, hM3, hR3⟩, hF⟩) dX2_fault_75
    · obtain ⟨-, b2, m, hA, -⟩ := hz.resolve_right (fun h => c40 h.1)
      refine lv_ldc (v := (-1000004)) hx hb hown (hts _ q1486) dX2_fault_43 ?_
      refine lv_goto (tgt := 75) hx hb dX2_fault_45 (by decide) ?_
      exact k_ireti (v := (-1000004)) hx hb hret (rfl) hlk hS (Nat.le_of_ble_eq_true rfl) (Nat.le_of_ble_eq_true rfl) (⟨by unfold faultV; rw [if_pos c6, hA], ⟨_, J, hM3, hR3⟩, hF⟩) dX2_fault_75
  · have c6 := b2f hz1 c6
    refine lv_ldc (v := (-1000001)) hx hb hown (hts _ q1447) dX2_fault_9 ?_
    exact k_ireti (v := (-1000001)) hx hb hret (rfl) hlk hS (Nat.le_of_ble_eq_true rfl) (Nat.le_of_ble_eq_true rfl) (⟨by unfold faultV; rw [if_neg c6], ⟨F, I, hM, hR⟩, hF⟩) dX2_fault_11
/-- add() -/
theorem mp_add (l : Launch) (g : GT) {H : Heap} {A : Nat → Nat} {a : AV} (hMR : MR g A a H) : Met l yX2_add (ws_ yX2_add cX2_add 2 (some .int)) ({ frames := 5, cells := 0, slots := 0, locals := 110 } : Room) (va_Pc [.ref (A 0)] (Pre g H)) (Qi g (fun z H1 => z = (addA a).2 ∧ MR g A (addA a).1 H1 ∧ Fx (MM A) H H1)) 0 0 (gA g) := by
  refine k_met (cc := cX2_add) (nL := 2) (vs := [.ref (A 0)]) (by decide +kernel) (Nat.le_of_ble_eq_true rfl) ?_
  intro p e s m below meth c hH hx hb hret hts hown hlk hml hin hK hS ls hl
  subst hH
  have hown : s.vm.findClass RX2 = some m.cls := hown
  have hl : lv_has ls 2 [(0, .ref (A 0))] := hl
  obtain ⟨F, I, hM, hs, hok, hn3, hH, hn5, hT⟩ := hMR
  obtain ⟨h0, h1, h2, h3, h4, n12, n13, n14, n23, n24, n34⟩ := id hM
  have hF : Fx (MM A) s.heap s.heap := Fx.rf
  have hl20 := hok.1
  have hl6 := hok.2.1
  have hl4 := hH.1
  have hl60 := hT.1
  have hR : MRel F I a := ⟨hs, hok, hn3, hH, hn5, hT⟩
  refine lv_aload_n hx hb dX2_add_0 rfl (lv_at hl 0 rfl) ?_
  refine k_get (ci := 2) hx hb hts in_X2 hown hK h0 rfl 0 (by decide) q1400 (fun _ h9 => h9) rfl dX2_add_1 ?_
  refine lv_aload_n hx hb dX2_add_4 rfl (lv_at hl 0 rfl) ?_
  refine k_get (ci := 2) hx hb hts in_X2 hown hK h0 rfl 2 (by decide) q1402 (fun _ h9 => h9) rfl dX2_add_5 ?_
  refine k_callv (va_runS (As := [.ref (A 1), .ref (A 3)]) (rest := []) ⟨hx, hb, hml, hown, hts⟩ (m_save l g hM) (va_cwS 2 hts (lw_S q1448 q1449 q56 q1450) rfl rfl rfl hdS_X2_copies ⟨Nat.le_of_ble_eq_true rfl, Nat.le_of_ble_eq_true rfl⟩) (preS hK hS) rfl rfl hl.1 rfl (lv_room (Nat.le_of_ble_eq_true rfl)) dX2_add_8 ⟨Nat.le_of_ble_eq_true rfl, Nat.le_of_ble_eq_true rfl⟩) hS (fun H_1 locs hp1 hS => ?_)
  obtain ⟨hM1, hF2⟩ := hp1
  have hF := hF.trans hF2 (fun q _ h => h)
  obtain ⟨h_2, h_3, h_4, h_5, h_6, -, -, -, -, -, -⟩ := id hM1
  have h_2 : Ob g (A 0) 2 [.ref (A 1), .ref (A 2), .ref (A 3), .int (I 3), .ref (A 4), .int (I 5), .int (I 6), .int (I 7), .int (I 8), .int (I 9), .int (I 10), .int (I 11), .int (I 12)] H_1 := h_2
  have h_5 : Ar g (A 3) 0 (aI 369 (F 1)) H_1 := h_5
  refine lv_aload_n hx hb dX2_add_11 rfl (lv_at hl 0 rfl) ?_
  refine k_calli (va_runV (As := []) (rest := []) ⟨hx, hb, hml, hown, hts⟩ (m_addsAll l g a.2.2.length a.1 hM1 hn5 hT.1 hs hok) (cwV 0 hts (lw_V q1451 q1453 qs21 q56 q1454) rfl rfl rfl hdV_X2_addsAll ⟨Nat.le_of_ble_eq_true rfl, Nat.le_of_ble_eq_true rfl⟩) (preV hK hS h_2 rfl) rfl rfl hl.1 rfl (lv_room (Nat.le_of_ble_eq_true rfl)) dX2_add_12 ⟨Nat.le_of_ble_eq_true rfl, Nat.le_of_ble_eq_true rfl⟩) hS (fun z H_7 locs hz hS => ?_)
  obtain ⟨hF2, J, f, j3, j5, hM2, hz⟩ := hz
  have hF := hF.trans hF2 (fun q _ h => h)
  rw [show addAll ((va_up F 3 (F 1)) 4) a.2.2.length (a.2.2.length + 1) 0 a.1 0 = addAll (fun k => a.2.2.getD k 0) a.2.2.length (a.2.2.length + 1) 0 a.1 0 from addAll_congr hT.2 _ _ _ _ (Nat.zero_le _)] at hz
  obtain ⟨h_8, h_9, h_10, h_11, h_12, -, -, -, -, -, -⟩ := id hM2
  have h_8 : Ob g (A 0) 2 [.ref (A 1), .ref (A 2), .ref (A 3), .int (J 3), .ref (A 4), .int (J 5), .int (J 6), .int (J 7), .int (J 8), .int (J 9), .int (J 10), .int (J 11), .int (J 12)] H_7 := h_8
  have h_9 : Ar g (A 1) 0 (aI 369 f) H_7 := h_9
  have h_11 : Ar g (A 3) 0 (aI 369 (F 1)) H_7 := h_11
  refine lv_istore_n (lv' := [(1, .int z), (0, .ref (A 0))]) hx hb dX2_add_15 rfl hl (by decide) rfl (fun ls hl => ?_)
  refine lv_aload_n hx hb dX2_add_16 rfl (lv_at hl 1 rfl) ?_
  refine k_get (ci := 2) hx hb hts in_X2 hown hK h_8 rfl 2 (by decide) q1402 (fun _ h9 => h9) rfl dX2_add_17 ?_
  refine lv_aload_n hx hb dX2_add_20 rfl (lv_at hl 1 rfl) ?_
  refine k_get (ci := 2) hx hb hts in_X2 hown hK h_8 rfl 0 (by decide) q1400 (fun _ h9 => h9) rfl dX2_add_21 ?_
  refine k_callv (va_runS (As := [.ref (A 3), .ref (A 1)]) (rest := []) ⟨hx, hb, hml, hown, hts⟩ (m_rest l g hM2) (va_cwS 2 hts (lw_S q1448 q1449 q56 q1450) rfl rfl rfl hdS_X2_copies ⟨Nat.le_of_ble_eq_true rfl, Nat.le_of_ble_eq_true rfl⟩) (preS hK hS) rfl rfl hl.1 rfl (lv_room (Nat.le_of_ble_eq_true rfl)) dX2_add_24 ⟨Nat.le_of_ble_eq_true rfl, Nat.le_of_ble_eq_true rfl⟩) hS (fun H_13 locs hp3 hS => ?_)
  obtain ⟨hM3, hF2⟩ := hp3
  have hF := hF.trans hF2 (fun q _ h => h)
  have hM3 : MAt g A (va_up (va_up F 3 (F 1)) 1 (F 1)) J H_13 := by rw [bx_uu] at hM3; exact hM3
  have hR3 : MRel (va_up (va_up F 3 (F 1)) 1 (F 1)) J a := ⟨hs, hok, j3.trans hn3, hH, j5.trans hn5, hT⟩
  obtain ⟨h_14, h_15, h_16, h_17, h_18, -, -, -, -, -, -⟩ := id hM3
  have h_14 : Ob g (A 0) 2 [.ref (A 1), .ref (A 2), .ref (A 3), .int (J 3), .ref (A 4), .int (J 5), .int (J 6), .int (J 7), .int (J 8), .int (J 9), .int (J 10), .int (J 11), .int (J 12)] H_13 := h_14
  have h_15 : Ar g (A 1) 0 (aI 369 (F 1)) H_13 := h_15
  have h_17 : Ar g (A 3) 0 (aI 369 (F 1)) H_13 := h_17
  refine lv_iload_n hx hb dX2_add_27 rfl (lv_at hl 0 rfl) ?_
  refine lv_if_ne (tgt := 34) hx hb dX2_add_28 (by decide) (fun c28 => ?_) (fun c28 => ?_)
  · obtain ⟨-, b2, m, hA, -⟩ := hz.resolve_right (fun h => c28 h.1)
    refine lv_aload_n hx hb dX2_add_34 rfl (lv_at hl 1 rfl) ?_
    refine k_callv (va_runV (As := []) (rest := []) ⟨hx, hb, hml, hown, hts⟩ (m_changes l g a.2.1.length hM3 (j3.trans hn3) hH.1) (cwV 0 hts (lw_V q1492 q1494 qs29 q56 q1495) rfl rfl rfl hdV_X2_changes ⟨Nat.le_of_ble_eq_true rfl, Nat.le_of_ble_eq_true rfl⟩) (preV hK hS h_14 rfl) rfl rfl hl.1 rfl (lv_room (Nat.le_of_ble_eq_true rfl)) dX2_add_35 ⟨Nat.le_of_ble_eq_true rfl, Nat.le_of_ble_eq_true rfl⟩) hS (fun H_19 locs hp4 hS => ?_)
    obtain ⟨hF2, hM4⟩ := hp4
    have hF := hF.trans hF2 (fun q _ h => h)
    have hM4 : MAt g A (va_up (va_up (va_up F 3 (F 1)) 1 (F 1)) 2 (chg (F 2) (F 1) a.2.1.length)) (upd J 3 (nI (if a.2.1.length = 4 then 4 else a.2.1.length + 1))) H_19 := hM4
    obtain ⟨h_20, h_21, h_22, h_23, h_24, -, -, -, -, -, -⟩ := id hM4
    have h_20 : Ob g (A 0) 2 [.ref (A 1), .ref (A 2), .ref (A 3), .int (nI (if a.2.1.length = 4 then 4 else a.2.1.length + 1)), .ref (A 4), .int (J 5), .int (J 6), .int (J 7), .int (J 8), .int (J 9), .int (J 10), .int (J 11), .int (J 12)] H_19 := h_20
    have h_21 : Ar g (A 1) 0 (aI 369 (F 1)) H_19 := h_21
    have h_22 : Ar g (A 2) 0 (aI 1476 (chg (F 2) (F 1) a.2.1.length)) H_19 := h_22
    have h_23 : Ar g (A 3) 0 (aI 369 (F 1)) H_19 := h_23
    refine lv_aload_n hx hb dX2_add_38 rfl (lv_at hl 1 rfl) ?_
    refine k_calli (va_runV (As := []) (rest := []) ⟨hx, hb, hml, hown, hts⟩ (m_addsAll l g a.2.2.length a.1 hM4 (j5.trans hn5) hT.1 hs hok) (cwV 0 hts (lw_V q1451 q1453 qs21 q56 q1454) rfl rfl rfl hdV_X2_addsAll ⟨Nat.le_of_ble_eq_true rfl, Nat.le_of_ble_eq_true rfl⟩) (preV hK hS h_20 rfl) rfl rfl hl.1 rfl (lv_room (Nat.le_of_ble_eq_true rfl)) dX2_add_39 ⟨Nat.le_of_ble_eq_true rfl, Nat.le_of_ble_eq_true rfl⟩) hS (fun y H_25 locs hy hS => ?_)
    obtain ⟨hF2, K, f2, k3, k5, hM5, hy⟩ := hy
    have hF := hF.trans hF2 (fun q _ h => h)
    rw [show addAll ((va_up (va_up (va_up F 3 (F 1)) 1 (F 1)) 2 (chg (F 2) (F 1) a.2.1.length)) 4) a.2.2.length (a.2.2.length + 1) 0 a.1 0 = addAll (fun k => a.2.2.getD k 0) a.2.2.length (a.2.2.length + 1) 0 a.1 0 from addAll_congr hT.2 _ _ _ _ (Nat.zero_le _), hA] at hy
    obtain ⟨h_26, h_27, h_28, h_29, h_30, -, -, -, -, -, -⟩ := id hM5
    have h_26 : Ob g (A 0) 2 [.ref (A 1), .ref (A 2), .ref (A 3), .int (K 3), .ref (A 4), .int (K 5), .int (K 6), .int (K 7), .int (K 8), .int (K 9), .int (K 10), .int (K 11), .int (K 12)] H_25 := h_26
    have h_27 : Ar g (A 1) 0 (aI 369 f2) H_25 := h_27
    have h_28 : Ar g (A 2) 0 (aI 1476 (chg (F 2) (F 1) a.2.1.length)) H_25 := h_28
    have h_29 : Ar g (A 3) 0 (aI 369 (F 1)) H_25 := h_29
    refine lv_if_eq (tgt := 52) hx hb dX2_add_42 (by decide) (fun c42 => ?_) (fun c42 => ?_)
    · obtain ⟨-, i, hA2, -⟩ := hy.resolve_left (fun h => absurd (h.1.symm.trans c42) (by decide))
      exact absurd hA2 (by intro h; cases h)
    · obtain ⟨-, b3, m3, hA2, hs3, hok3, hK10⟩ := hy.resolve_right (fun h => c42 h.1)
      cases hA2
      refine lv_aload_n hx hb dX2_add_45 rfl (lv_at hl 1 rfl) ?_
      refine k_get (ci := 2) hx hb hts in_X2 hown hK h_26 rfl 10 (by decide) q1410 (fun _ h9 => h9) rfl dX2_add_46 ?_
      refine k_topi (nI m) (hK10) ?_
      refine lv_goto (tgt := 54) hx hb dX2_add_49 (by decide) ?_
      exact k_ireti (v := nI m) hx hb hret (rfl) hlk hS (Nat.le_of_ble_eq_true rfl) (Nat.le_of_ble_eq_true rfl) (⟨by unfold addA; rw [hA], by unfold addA; rw [hA]; exact ⟨_, K, hM5, hR.chg hs3 hok3 rfl rfl (k3.trans rfl) (k5.trans j5)⟩, hF⟩) dX2_add_54
  · obtain ⟨-, i, hA, hJ7⟩ := hz.resolve_left (fun h => absurd (h.1.symm.trans c28) (by decide))
    refine lv_ldc (v := (-1000002)) hx hb hown (hts _ q1491) dX2_add_31 ?_
    exact k_ireti (v := (-1000002)) hx hb hret (rfl) hlk hS (Nat.le_of_ble_eq_true rfl) (Nat.le_of_ble_eq_true rfl) (⟨by unfold addA; rw [hA], by unfold addA; rw [hA]; exact ⟨_, J, hM3, hR3⟩, hF⟩) dX2_add_33
