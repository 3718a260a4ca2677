/-! ===== HandBlindsModel: adds, addsAll, changes (printed by tools/model4.py) ===== -/
set_option maxRecDepth 100000
theorem upF_id (F : Nat → Nat → Int32) (k : Nat) : va_up F k (F k) = F := by
  funext j; unfold va_up; split <;> simp_all
/-- sets, with the array named -/
theorem m_sets2 (l : Launch) (g : GT) {H : Heap} {A : Nat → Nat} {F : Nat → Nat → Int32} {I : Nat → Int32} (r k : Nat) (x : Int32) {f : Nat → Int32} (hM : MAt g A (va_up F 1 f) I H) (hk : 11 + 17 * r + k < 369) : Met l yX2_sets (ws_ yX2_sets cX2_sets 4 none) ({ frames := 0, cells := 0, slots := 0, locals := 0 } : Room) (va_Pc [.ref (A 0), .int (nI r), .int (nI k), .int x] (Pre g H)) (Qv g (fun H1 => MAt g A (va_up F 1 (upd f (11 + 17 * r + k) x)) I H1 ∧ Fx (MM A) H H1)) 0 0 (gA g) := by
  have h := m_sets l g r k x hM hk
  rw [bx_uu] at h
  exact h
/-- a row that is being written: j of its n letters stand -/
def addP (f : Nat → Int32) (r n : Nat) (c : Nat → Int32) (j : Nat) : Nat → Int32 := fun k => if k = 11 + 17 * r then nI n else if k = 12 + 17 * r then 0 else if k = 13 + 17 * r then 0 else if 14 + 17 * r ≤ k ∧ k < 14 + 17 * r + j then c (k - (14 + 17 * r)) else f k
theorem addP_lo (f : Nat → Int32) (r n : Nat) (c : Nat → Int32) (j : Nat) {k : Nat} (h : k < 11) : addP f r n c j k = f k := by
  unfold addP
  rw [if_neg (by omega), if_neg (by omega), if_neg (by omega), if_neg (by omega)]
theorem addP_0 (f : Nat → Int32) (r n : Nat) (c : Nat → Int32) : upd (upd (upd f (11 + 17 * r + 0) (nI n)) (11 + 17 * r + 1) 0) (11 + 17 * r + 2) 0 = addP f r n c 0 := by
  funext k
  unfold addP upd
  by_cases h1 : k = 13 + 17 * r
  · subst h1; rw [if_pos (by omega), if_neg (by omega), if_neg (by omega), if_pos rfl]
  · rw [if_neg (by omega)]
    by_cases h2 : k = 12 + 17 * r
    · subst h2; rw [if_pos (by omega), if_neg (by omega), if_pos rfl]
    · rw [if_neg (by omega)]
      by_cases h3 : k = 11 + 17 * r
      · subst h3; rw [if_pos (by omega), if_pos rfl]
      · rw [if_neg (by omega), if_neg h3, if_neg h2, if_neg h1, if_neg (by omega)]
theorem addP_s (f : Nat → Int32) (r n : Nat) (c : Nat → Int32) (j : Nat) (x : Int32) (hx : c j = x) : upd (addP f r n c j) (11 + 17 * r + (3 + j)) x = addP f r n c (j + 1) := by
  funext k
  subst hx
  unfold addP upd
  dsimp only
  by_cases h1 : k = 14 + 17 * r + j
  · subst h1; rw [if_pos (by omega), if_neg (by omega), if_neg (by omega), if_neg (by omega), if_pos (by omega)]; congr 1; omega
  · rw [if_neg (by omega)]
    by_cases h2 : k = 11 + 17 * r
    · rw [if_pos h2, if_pos h2]
    · rw [if_neg h2, if_neg h2]
      by_cases h3 : k = 12 + 17 * r
      · rw [if_pos h3, if_pos h3]
      · rw [if_neg h3, if_neg h3]
        by_cases h4 : k = 13 + 17 * r
        · rw [if_pos h4, if_pos h4]
        · rw [if_neg h4, if_neg h4]
          by_cases h5 : 14 + 17 * r ≤ k ∧ k < 14 + 17 * r + j
          · rw [if_pos h5, if_pos (by omega)]
          · rw [if_neg h5, if_neg (by omega)]
theorem brk_le {c : Nat → Int32} {n : Nat} (h : brk c n = none) : 0 < n ∧ n ≤ 14 := by
  unfold brk at h
  by_cases h0 : n = 0
  · rw [if_pos h0] at h; cases h
  · rw [if_neg h0, List.find?_eq_none] at h
    refine ⟨by omega, ?_⟩
    rcases Nat.lt_or_ge 14 n with z | z
    · have := h 14 (List.mem_range.mpr z)
      simp [badk] at this
    · exact z
theorem faultR_b {c : Nat → Int32} {n k r : Nat} {w : Int32} (h : brk c n = some k) : faultR c n w r = some (1, nI k) := by unfold faultR; rw [h]
theorem faultR_w {c : Nat → Int32} {n r : Nat} {w : Int32} (h : brk c n = none) (h2 : 150 < sqz (wsum c n) w) : faultR c n w r = some (2, sqz (wsum c n) w) := by unfold faultR; rw [h]; exact if_pos h2
theorem faultR_r {c : Nat → Int32} {n r : Nat} {w : Int32} (h : brk c n = none) (h2 : ¬ 150 < sqz (wsum c n) w) (h3 : r = 20) : faultR c n w r = some (3, nI n) := by unfold faultR; rw [h]; exact (if_neg h2).trans (if_pos h3)
theorem faultR_0 {c : Nat → Int32} {n r : Nat} {w : Int32} (h : brk c n = none) (h2 : ¬ 150 < sqz (wsum c n) w) (h3 : ¬ r = 20) : faultR c n w r = none := by unfold faultR; rw [h]; exact (if_neg h2).trans (if_neg h3)
/-- the model's array with a row more -/
def addF (f : Nat → Int32) (r n : Nat) (c : Nat → Int32) : Nat → Int32 := upd (upd (addP f r n c n) 0 (nI (r + 1))) 1 (if f 1 < 0 then 0 else f 1)
/-- adds() -/
theorem m_adds (l : Launch) (g : GT) {H : Heap} {A : Nat → Nat} {F : Nat → Nat → Int32} {I : Nat → Int32} (t fr rows : Nat) (hM : MAt g A F I H) (ht : I 5 = nI t) (ht60 : t ≤ 60) (hs : I 6 = nI fr) (hfr : fr ≤ t) (hrows : F 1 0 = nI rows) (hrows20 : rows ≤ 20) (h8 : F 1 8 ≠ 0) : Met l yX2_adds (ws_ yX2_adds cX2_adds 5 (some .boolean)) ({ frames := 3, cells := 0, slots := 0, locals := 65 } : Room) (va_Pc [.ref (A 0)] (Pre g H)) (Qi g (fun z H1 => Fx (MM A) H H1 ∧ ∃ J : Nat → Int32, J 3 = I 3 ∧ J 5 = I 5 ∧ J 7 = nI fr ∧ J 10 = I 10 ∧ ((z = 1 ∧ faultR (fun k => F 4 (fr + k)) (send (F 4) t fr - fr) (F 1 8) rows = none ∧ J 6 = nI (send (F 4) t fr) ∧ MAt g A (va_up F 1 (addF (F 1) rows (send (F 4) t fr - fr) (fun k => F 4 (fr + k)))) J H1) ∨ (z = 0 ∧ faultR (fun k => F 4 (fr + k)) (send (F 4) t fr - fr) (F 1 8) rows = some (J 8, J 9) ∧ MAt g A F J H1)))) 0 0 (gA g) := by
  refine k_met (cc := cX2_adds) (nL := 5) (vs := [.ref (A 0)]) (by decide +kernel) (Nat.le_of_ble_eq_true rfl) ?_
  intro p e s m below meth c hH hx hb hret hts hown hlk hml hin hK hS ls hl
  subst hH
  have hown : s.vm.findClass RX2 = some m.cls := hown
  have hl : lv_has ls 5 [(0, .ref (A 0))] := hl
  obtain ⟨h0, h1, h2, h3, h4, n12, n13, n14, n23, n24, n34⟩ := id hM
  have hF : Fx (MM A) s.heap s.heap := Fx.rf
  have he1 := send_lo (F 4) t fr
  have he2 := send_hi (tx := F 4) hfr
  generalize hE : send (F 4) t fr = e at he1 he2 ⊢
  refine lv_aload_n hx hb dX2_adds_0 rfl (lv_at hl 0 rfl) ?_
  refine lv_aload_n hx hb dX2_adds_1 rfl (lv_at hl 0 rfl) ?_
  refine k_get (ci := 2) hx hb hts in_X2 hown hK h0 rfl 6 (by decide) q1406 (fun _ h9 => h9) rfl dX2_adds_2 ?_
  refine k_topi (nI fr) (hs) ?_
  refine k_put (ci := 2) hx hb hts in_X2 tyX2 tyX2_ok nmX2 hown hK hS h0 rfl 7 (by decide) q1407 (fun _ h9 => h9) rfl (rfl) (rfl) (Nat.le_of_ble_eq_true rfl) dX2_adds_5 (fun H_1 locs h_2 u_3 hS => ?_)
  have h_2 : Ob g (A 0) 2 [.ref (A 1), .ref (A 2), .ref (A 3), .int (I 3), .ref (A 4), .int (I 5), .int (I 6), .int (nI fr), .int (I 8), .int (I 9), .int (I 10), .int (I 11), .int (I 12)] H_1 := h_2
  have h_4 := h1.upd u_3 (Ne.symm (Ob.neA hK.gg h0 h1 (by decide) (by decide)))
  have h_5 := h2.upd u_3 (Ne.symm (Ob.neA hK.gg h0 h2 (by decide) (by decide)))
  have h_6 := h3.upd u_3 (Ne.symm (Ob.neA hK.gg h0 h3 (by decide) (by decide)))
  have h_7 := h4.upd u_3 (Ne.symm (Ob.neA hK.gg h0 h4 (by decide) (by decide)))
  have hF_8 := hF.put u_3 (Or.inl (Or.inl rfl))
  refine lv_aload_n hx hb dX2_adds_8 rfl (lv_at hl 0 rfl) ?_
  have hM1 := MAt.mk (F := F) (I := upd I 7 (nI fr)) h_2 h_4 h_5 h_6 h_7 n12 n13 n14 n23 n24 n34
  refine k_calli (va_runV (As := []) (rest := []) ⟨hx, hb, hml, hown, hts⟩ (m_isFormed l g t fr hM1 ht ht60 hs rfl hfr) (cwV 0 hts (lw_V q1459 q1461 qs23 q56 q1462) rfl rfl rfl hdV_X2_isFormed ⟨Nat.le_of_ble_eq_true rfl, Nat.le_of_ble_eq_true rfl⟩) (preV hK hS h_2 rfl) rfl rfl hl.1 rfl (lv_room (Nat.le_of_ble_eq_true rfl)) dX2_adds_9 ⟨Nat.le_of_ble_eq_true rfl, Nat.le_of_ble_eq_true rfl⟩) hS (fun z H_9 locs hz hS => ?_)
  obtain ⟨hF2, hz⟩ := hz
  rw [hE] at hz
  have hF := hF_8.trans hF2 (fun q _ h => h)
  refine lv_if_ne (tgt := 17) hx hb dX2_adds_12 (by decide) (fun c12 => ?_) (fun c12 => ?_)
  · obtain ⟨-, hbrk, hM2⟩ := hz.resolve_right (fun h => c12 h.1)
    have hn14 := (brk_le hbrk).2
    obtain ⟨h_10, h_11, h_12, h_13, h_14, -, -, -, -, -, -⟩ := id hM2
    have h_10 : Ob g (A 0) 2 [.ref (A 1), .ref (A 2), .ref (A 3), .int (I 3), .ref (A 4), .int (I 5), .int (nI e), .int (nI fr), .int (I 8), .int (I 9), .int (I 10), .int (I 11), .int (I 12)] H_9 := h_10
    refine lv_aload_n hx hb dX2_adds_17 rfl (lv_at hl 0 rfl) ?_
    refine k_get (ci := 2) hx hb hts in_X2 hown hK h_10 rfl 6 (by decide) q1406 (fun _ h9 => h9) rfl dX2_adds_18 ?_
    refine lv_aload_n hx hb dX2_adds_21 rfl (lv_at hl 0 rfl) ?_
    refine k_get (ci := 2) hx hb hts in_X2 hown hK h_10 rfl 7 (by decide) q1407 (fun _ h9 => h9) rfl dX2_adds_22 ?_
    refine lv_isub hx hb dX2_adds_25 ?_
    refine k_topi (nI (e - fr)) (pk_sub he1) ?_
    refine lv_istore_n (lv' := [(1, .int (nI (e - fr))), (0, .ref (A 0))]) hx hb dX2_adds_26 rfl hl (by decide) rfl (fun ls hl => ?_)
    refine lv_iconst (v := 0) hx hb dX2_adds_27 (by decide) ?_
    refine lv_istore_n (lv' := [(2, .int 0), (1, .int (nI (e - fr))), (0, .ref (A 0))]) hx hb dX2_adds_28 rfl hl (by decide) rfl (fun ls hl => ?_)
    refine lv_aload_n hx hb dX2_adds_29 rfl (lv_at hl 2 rfl) ?_
    refine k_get (ci := 2) hx hb hts in_X2 hown hK h_10 rfl 7 (by decide) q1407 (fun _ h9 => h9) rfl dX2_adds_30 ?_
    refine lv_istore_n (lv' := [(3, .int (nI fr)), (2, .int 0), (1, .int (nI (e - fr))), (0, .ref (A 0))]) hx hb dX2_adds_33 rfl hl (by decide) rfl (fun ls hl => ?_)
    refine w_loop (Inv := fun (j : Nat) Hh locs cells slots ls => j ≤ e - fr ∧ H_9 = Hh ∧ va_S (gA g) s.heap Hh locs ∧ cells = 0 ∧ slots = 0 ∧ lv_has ls 5 [(3, .int (nI (fr + j))), (2, .int (wsum (fun k => F 4 (fr + k)) j)), (1, .int (nI (e - fr))), (0, .ref (A 0))]) (μ := fun j => e - fr - j) ?_ 0 _ _ _ _ _ ⟨Nat.zero_le _, rfl, hS, rfl, rfl, lv_sub hl [0, 1, 2, 3] rfl⟩
    intro j Hh locs cells slots ls hInv ih
    obtain ⟨hj, rfl, hS, rfl, rfl, hl⟩ := hInv
    refine lv_iload_n hx hb dX2_adds_34 rfl (lv_at hl 0 rfl) ?_
    refine lv_aload_n hx hb dX2_adds_35 rfl (lv_at hl 3 rfl) ?_
    refine k_get (ci := 2) hx hb hts in_X2 hown hK h_10 rfl 6 (by decide) q1406 (fun _ h9 => h9) rfl dX2_adds_36 ?_
    refine lv_icmp_ge (tgt := 60) hx hb dX2_adds_39 (by decide) (fun c39 => ?_) (fun c39 => ?_)
    · have hj2 : e ≤ fr + j := by rcases Nat.lt_or_ge (fr + j) (e) with z | z; exact absurd c39 (nI_ge z (by omega)); exact z
      have hj2 : j = e - fr := by omega
      refine lv_aload_n hx hb dX2_adds_60 rfl (lv_at hl 3 rfl) ?_
      refine lv_iload_n hx hb dX2_adds_61 rfl (lv_at hl 1 rfl) ?_
      refine k_calliS (va_runV (As := [.int (wsum (fun k => F 4 (fr + k)) j)]) (rest := []) ⟨hx, hb, hml, hown, hts⟩ (m_squeezed l g (wsum (fun k => F 4 (fr + k)) j) hM2 h8) (cwV 1 hts (lw_V q1478 q1480 qs27 q56 q1481) rfl rfl rfl hdV_X2_squeezed ⟨Nat.le_of_ble_eq_true rfl, Nat.le_of_ble_eq_true rfl⟩) (preV hK hS h_10 rfl) rfl rfl hl.1 rfl (lv_room (Nat.le_of_ble_eq_true rfl)) dX2_adds_62 ⟨Nat.le_of_ble_eq_true rfl, Nat.le_of_ble_eq_true rfl⟩) hS (fun t2 locs ht2 hS => ?_)
      refine lv_sipush (v := 150) hx hb dX2_adds_65 (by decide) ?_
      refine lv_icmp_le (tgt := 82) hx hb dX2_adds_68 (by decide) (fun c68 => ?_) (fun c68 => ?_)
      · refine lv_aload_n hx hb dX2_adds_82 rfl (lv_at hl 3 rfl) ?_
        refine k_get (ci := 2) hx hb hts in_X2 hown hK h_10 rfl 0 (by decide) q1400 (fun _ h9 => h9) rfl dX2_adds_83 ?_
        refine lv_iconst (v := nI 0) hx hb dX2_adds_86 (by decide) ?_
        refine k_ildN hx hb hK h_11 (0) (rfl) (by omega) (by decide) dX2_adds_87 ?_
        refine k_topi (nI rows) (hrows) ?_
        refine lv_istore_n (lv' := [(3, .int (nI rows)), (2, .int (wsum (fun k => F 4 (fr + k)) j)), (1, .int (nI (e - fr))), (0, .ref (A 0))]) hx hb dX2_adds_88 rfl hl (by decide) rfl (fun ls hl => ?_)
        refine lv_iload_n hx hb dX2_adds_89 rfl (lv_at hl 0 rfl) ?_
        refine lv_bipush (v := nI 20) hx hb dX2_adds_90 (by decide) ?_
        refine lv_icmp_ne (tgt := 102) hx hb dX2_adds_92 (by decide) (fun c92 => ?_) (fun c92 => ?_)
        · have c92 : ¬ rows = 20 := fun z => c92 (by rw [z])
          refine lv_aload_n hx hb dX2_adds_102 rfl (lv_at hl 3 rfl) ?_
          refine lv_iload_n hx hb dX2_adds_103 rfl (lv_at hl 0 rfl) ?_
          refine lv_iconst (v := nI 0) hx hb dX2_adds_104 (by decide) ?_
          refine lv_iload_n hx hb dX2_adds_105 rfl (lv_at hl 2 rfl) ?_
          have hM4 : MAt g A (va_up F 1 (F 1)) (upd (upd I 7 (nI fr)) 6 (nI e)) H_9 := by rw [upF_id]; exact hM2
          refine k_callv (va_runV (As := [.int (nI rows), .int (nI 0), .int (nI (e - fr))]) (rest := []) ⟨hx, hb, hml, hown, hts⟩ (m_sets2 l g rows (0) (nI (e - fr)) (f := F 1) hM4 (by omega)) (cwV 3 hts (lw_V q1482 q1484 qs28 q56 q1485) rfl rfl rfl hdV_X2_sets ⟨Nat.le_of_ble_eq_true rfl, Nat.le_of_ble_eq_true rfl⟩) (preV hK hS h_10 rfl) rfl rfl hl.1 rfl (lv_room (Nat.le_of_ble_eq_true rfl)) dX2_adds_106 ⟨Nat.le_of_ble_eq_true rfl, Nat.le_of_ble_eq_true rfl⟩) hS (fun H_16 locs hp4 hS => ?_)
          obtain ⟨hM4, hF4⟩ := hp4
          have hF := hF.trans hF4 (fun q _ h => h)
          obtain ⟨h_17, h_18, h_19, h_20, h_21, -, -, -, -, -, -⟩ := id hM4
          have h_17 : Ob g (A 0) 2 [.ref (A 1), .ref (A 2), .ref (A 3), .int (I 3), .ref (A 4), .int (I 5), .int (nI e), .int (nI fr), .int (I 8), .int (I 9), .int (I 10), .int (I 11), .int (I 12)] H_16 := h_17
          have h_18 : Ar g (A 1) 0 (aI 369 (upd (F 1) (11 + 17 * rows + 0) (nI (e - fr)))) H_16 := h_18
          refine lv_aload_n hx hb dX2_adds_109 rfl (lv_at hl 3 rfl) ?_
          refine lv_iload_n hx hb dX2_adds_110 rfl (lv_at hl 0 rfl) ?_
          refine lv_iconst (v := nI 1) hx hb dX2_adds_111 (by decide) ?_
          refine lv_iconst (v := 0) hx hb dX2_adds_112 (by decide) ?_
          refine k_callv (va_runV (As := [.int (nI rows), .int (nI 1), .int 0]) (rest := []) ⟨hx, hb, hml, hown, hts⟩ (m_sets2 l g rows (1) (0) (f := upd (F 1) (11 + 17 * rows + 0) (nI (e - fr))) hM4 (by omega)) (cwV 3 hts (lw_V q1482 q1484 qs28 q56 q1485) rfl rfl rfl hdV_X2_sets ⟨Nat.le_of_ble_eq_true rfl, Nat.le_of_ble_eq_true rfl⟩) (preV hK hS h_17 rfl) rfl rfl hl.1 rfl (lv_room (Nat.le_of_ble_eq_true rfl)) dX2_adds_113 ⟨Nat.le_of_ble_eq_true rfl, Nat.le_of_ble_eq_true rfl⟩) hS (fun H_22 locs hp4 hS => ?_)
          obtain ⟨hM4, hF4⟩ := hp4
          have hF := hF.trans hF4 (fun q _ h => h)
          obtain ⟨h_23, h_24, h_25, h_26, h_27, -, -, -, -, -, -⟩ := id hM4
          have h_23 : Ob g (A 0) 2 [.ref (A 1), .ref (A 2), .ref (A 3), .int (I 3), .ref (A 4), .int (I 5), .int (nI e), .int (nI fr), .int (I 8), .int (I 9), .int (I 10), .int (I 11), .int (I 12)] H_22 := h_23
          have h_24 : Ar g (A 1) 0 (aI 369 (upd (upd (F 1) (11 + 17 * rows + 0) (nI (e - fr))) (11 + 17 * rows + 1) 0)) H_22 := h_24
          refine lv_aload_n hx hb dX2_adds_116 rfl (lv_at hl 3 rfl) ?_
          refine lv_iload_n hx hb dX2_adds_117 rfl (lv_at hl 0 rfl) ?_
          refine lv_iconst (v := nI 2) hx hb dX2_adds_118 (by decide) ?_
          refine lv_iconst (v := 0) hx hb dX2_adds_119 (by decide) ?_
          refine k_callv (va_runV (As := [.int (nI rows), .int (nI 2), .int 0]) (rest := []) ⟨hx, hb, hml, hown, hts⟩ (m_sets2 l g rows (2) (0) (f := upd (upd (F 1) (11 + 17 * rows + 0) (nI (e - fr))) (11 + 17 * rows + 1) 0) hM4 (by omega)) (cwV 3 hts (lw_V q1482 q1484 qs28 q56 q1485) rfl rfl rfl hdV_X2_sets ⟨Nat.le_of_ble_eq_true rfl, Nat.le_of_ble_eq_true rfl⟩) (preV hK hS h_23 rfl) rfl rfl hl.1 rfl (lv_room (Nat.le_of_ble_eq_true rfl)) dX2_adds_120 ⟨Nat.le_of_ble_eq_true rfl, Nat.le_of_ble_eq_true rfl⟩) hS (fun H_28 locs hp4 hS => ?_)
          obtain ⟨hM4, hF4⟩ := hp4
          have hF := hF.trans hF4 (fun q _ h => h)
          rw [addP_0 (F 1) rows (e - fr) (fun k => F 4 (fr + k))] at hM4
          obtain ⟨h_29, h_30, h_31, h_32, h_33, -, -, -, -, -, -⟩ := id hM4
          have h_29 : Ob g (A 0) 2 [.ref (A 1), .ref (A 2), .ref (A 3), .int (I 3), .ref (A 4), .int (I 5), .int (nI e), .int (nI fr), .int (I 8), .int (I 9), .int (I 10), .int (I 11), .int (I 12)] H_28 := h_29
          have h_30 : Ar g (A 1) 0 (aI 369 (addP (F 1) rows (e - fr) (fun k => F 4 (fr + k)) 0)) H_28 := h_30
          refine lv_iconst (v := nI 0) hx hb dX2_adds_123 (by decide) ?_
          refine lv_istore (lv' := [(4, .int (nI 0)), (3, .int (nI rows)), (2, .int (wsum (fun k => F 4 (fr + k)) j)), (1, .int (nI (e - fr))), (0, .ref (A 0))]) hx hb dX2_adds_124 hl (by decide) rfl (fun ls hl => ?_)
          refine w_loop (Inv := fun (i : Nat) H1 locs cells slots ls => i ≤ e - fr ∧ MAt g A (va_up F 1 (addP (F 1) rows (e - fr) (fun k => F 4 (fr + k)) i)) (upd (upd I 7 (nI fr)) 6 (nI e)) H1 ∧ Fx (MM A) s.heap H1 ∧ va_S (gA g) s.heap H1 locs ∧ cells = 0 ∧ slots = 0 ∧ lv_has ls 5 [(4, .int (nI i)), (3, .int (nI rows)), (2, .int (wsum (fun k => F 4 (fr + k)) j)), (1, .int (nI (e - fr))), (0, .ref (A 0))]) (μ := fun i => e - fr - i) ?_ 0 _ _ _ _ _ ⟨Nat.zero_le _, hM4, hF, hS, rfl, rfl, lv_sub hl [0, 1, 2, 3, 4] rfl⟩
          intro i H1 locs cells slots ls hInv ih
          obtain ⟨hi, hM4, hF, hS, rfl, rfl, hl⟩ := hInv
          obtain ⟨h_34, h_35, h_36, h_37, h_38, -, -, -, -, -, -⟩ := id hM4
          have h_34 : Ob g (A 0) 2 [.ref (A 1), .ref (A 2), .ref (A 3), .int (I 3), .ref (A 4), .int (I 5), .int (nI e), .int (nI fr), .int (I 8), .int (I 9), .int (I 10), .int (I 11), .int (I 12)] H1 := h_34
          have h_35 : Ar g (A 1) 0 (aI 369 (addP (F 1) rows (e - fr) (fun k => F 4 (fr + k)) i)) H1 := h_35
          refine lv_iload hx hb dX2_adds_126 (lv_at hl 0 rfl) ?_
          refine lv_iload_n hx hb dX2_adds_128 rfl (lv_at hl 3 rfl) ?_
          refine lv_icmp_ge (tgt := 159) hx hb dX2_adds_129 (by decide) (fun c129 => ?_) (fun c129 => ?_)
          · have hi2 : e - fr ≤ i := by rcases Nat.lt_or_ge (i) (e - fr) with z | z; exact absurd c129 (nI_ge z (by omega)); exact z
            have hi2 : i = e - fr := by omega
            refine lv_aload_n hx hb dX2_adds_159 rfl (lv_at hl 4 rfl) ?_
            refine k_get (ci := 2) hx hb hts in_X2 hown hK h_34 rfl 0 (by decide) q1400 (fun _ h9 => h9) rfl dX2_adds_160 ?_
            refine lv_iconst (v := nI 0) hx hb dX2_adds_163 (by decide) ?_
            refine lv_dup2_11 hx hb dX2_adds_164 rfl rfl ?_
            refine k_ildN hx hb hK h_35 (0) (rfl) (by omega) (by decide) dX2_adds_165 ?_
            refine k_topi (nI rows) ((addP_lo _ _ _ _ _ (by omega)).trans hrows) ?_
            refine lv_iconst (v := 1) hx hb dX2_adds_166 (by decide) ?_
            refine lv_iadd hx hb dX2_adds_167 ?_
            refine k_topi (nI (rows + 1)) (nI_1 rows) ?_
            refine k_istN hx hb hK hS h_35 (0) (rfl) (by omega) (by decide) dX2_adds_168 (fun H_39 locs h_40 u_41 hS => ?_)
            have h_40 : Ar g (A 1) 0 (aI 369 (upd (addP (F 1) rows (e - fr) (fun k => F 4 (fr + k)) i) 0 (nI (rows + 1)))) H_39 := h_40
            have h_42 := h_34.upd u_41 (Ob.neA hK.gg h_34 h_35 (by decide) (by decide))
            have h_43 := h_36.upd u_41 (Ne.symm n12)
            have h_44 := h_37.upd u_41 (Ne.symm n13)
            have h_45 := h_38.upd u_41 (Ne.symm n14)
            have hF_46 := hF.put u_41 (Or.inl (Or.inr (Or.inl rfl)))
            refine lv_aload_n hx hb dX2_adds_169 rfl (lv_at hl 4 rfl) ?_
            refine k_get (ci := 2) hx hb hts in_X2 hown hK h_42 rfl 0 (by decide) q1400 (fun _ h9 => h9) rfl dX2_adds_170 ?_
            refine lv_iconst (v := nI 1) hx hb dX2_adds_173 (by decide) ?_
            refine lv_aload_n hx hb dX2_adds_174 rfl (lv_at hl 4 rfl) ?_
            refine k_get (ci := 2) hx hb hts in_X2 hown hK h_42 rfl 0 (by decide) q1400 (fun _ h9 => h9) rfl dX2_adds_175 ?_
            refine lv_iconst (v := nI 1) hx hb dX2_adds_178 (by decide) ?_
            refine k_ildN hx hb hK h_40 (1) (rfl) (by omega) (by decide) dX2_adds_179 ?_
            refine k_topi (F 1 1) (by show addP (F 1) rows (e - fr) (fun k => F 4 (fr + k)) i 1 = F 1 1; exact addP_lo _ _ _ _ _ (by omega)) ?_
            refine lv_if_ge (tgt := 187) hx hb dX2_adds_180 (by decide) (fun c180 => ?_) (fun c180 => ?_)
            · refine lv_aload_n hx hb dX2_adds_187 rfl (lv_at hl 4 rfl) ?_
              refine k_get (ci := 2) hx hb hts in_X2 hown hK h_42 rfl 0 (by decide) q1400 (fun _ h9 => h9) rfl dX2_adds_188 ?_
              refine lv_iconst (v := nI 1) hx hb dX2_adds_191 (by decide) ?_
              refine k_ildN hx hb hK h_40 (1) (rfl) (by omega) (by decide) dX2_adds_192 ?_
              refine k_topi (F 1 1) (by show addP (F 1) rows (e - fr) (fun k => F 4 (fr + k)) i 1 = F 1 1; exact addP_lo _ _ _ _ _ (by omega)) ?_
              refine k_istN hx hb hK hS h_40 (1) (rfl) (by omega) (by decide) dX2_adds_193 (fun H_47 locs h_48 u_49 hS => ?_)
              have h_48 : Ar g (A 1) 0 (aI 369 (upd (upd (addP (F 1) rows (e - fr) (fun k => F 4 (fr + k)) i) 0 (nI (rows + 1))) 1 (F 1 1))) H_47 := h_48
              have h_50 := h_42.upd u_49 (Ob.neA hK.gg h_42 h_40 (by decide) (by decide))
              have h_51 := h_43.upd u_49 (Ne.symm n12)
              have h_52 := h_44.upd u_49 (Ne.symm n13)
              have h_53 := h_45.upd u_49 (Ne.symm n14)
              have hF_54 := hF_46.put u_49 (Or.inl (Or.inr (Or.inl rfl)))
              refine lv_iconst (v := 1) hx hb dX2_adds_194 (by decide) ?_
              exact k_ireti (v := 1) hx hb hret (rfl) hlk hS (Nat.le_of_ble_eq_true rfl) (Nat.le_of_ble_eq_true rfl) (⟨hF_54, upd (upd I 7 (nI fr)) 6 (nI e), rfl, rfl, rfl, rfl, Or.inl ⟨rfl, by rw [ht2] at c68; rw [← hj2] at hbrk ⊢; exact faultR_0 hbrk (Int32.not_lt.mpr c68) c92, rfl, by have h9 := MAt.mk (F := va_up F 1 (upd (upd (addP (F 1) rows (e - fr) (fun k => F 4 (fr + k)) i) 0 (nI (rows + 1))) 1 (F 1 1))) (I := upd (upd I 7 (nI fr)) 6 (nI e)) h_50 h_48 h_51 h_52 h_53 n12 n13 n14 n23 n24 n34; rw [hi2] at h9; unfold addF; rw [if_neg (Int32.not_lt.mpr c180)]; exact h9⟩⟩) dX2_adds_195
            · refine lv_iconst (v := 0) hx hb dX2_adds_183 (by decide) ?_
              refine lv_goto (tgt := 193) hx hb dX2_adds_184 (by decide) ?_
              refine k_istN hx hb hK hS h_40 (1) (rfl) (by omega) (by decide) dX2_adds_193 (fun H_55 locs h_56 u_57 hS => ?_)
              have h_56 : Ar g (A 1) 0 (aI 369 (upd (upd (addP (F 1) rows (e - fr) (fun k => F 4 (fr + k)) i) 0 (nI (rows + 1))) 1 0)) H_55 := h_56
              have h_58 := h_42.upd u_57 (Ob.neA hK.gg h_42 h_40 (by decide) (by decide))
              have h_59 := h_43.upd u_57 (Ne.symm n12)
              have h_60 := h_44.upd u_57 (Ne.symm n13)
              have h_61 := h_45.upd u_57 (Ne.symm n14)
              have hF_62 := hF_46.put u_57 (Or.inl (Or.inr (Or.inl rfl)))
              refine lv_iconst (v := 1) hx hb dX2_adds_194 (by decide) ?_
              exact k_ireti (v := 1) hx hb hret (rfl) hlk hS (Nat.le_of_ble_eq_true rfl) (Nat.le_of_ble_eq_true rfl) (⟨hF_62, upd (upd I 7 (nI fr)) 6 (nI e), rfl, rfl, rfl, rfl, Or.inl ⟨rfl, by rw [ht2] at c68; rw [← hj2] at hbrk ⊢; exact faultR_0 hbrk (Int32.not_lt.mpr c68) c92, rfl, by have h9 := MAt.mk (F := va_up F 1 (upd (upd (addP (F 1) rows (e - fr) (fun k => F 4 (fr + k)) i) 0 (nI (rows + 1))) 1 (0))) (I := upd (upd I 7 (nI fr)) 6 (nI e)) h_58 h_56 h_59 h_60 h_61 n12 n13 n14 n23 n24 n34; rw [hi2] at h9; unfold addF; rw [if_pos (i_nle c180)]; exact h9⟩⟩) dX2_adds_195
          · have hi2 : i < e - fr := by rcases Nat.lt_or_ge (i) (e - fr) with z | z; exact z; exact absurd (nI_le z (by omega)) c129
            refine lv_aload_n hx hb dX2_adds_132 rfl (lv_at hl 4 rfl) ?_
            refine lv_iload_n hx hb dX2_adds_133 rfl (lv_at hl 1 rfl) ?_
            refine lv_iconst (v := nI 3) hx hb dX2_adds_134 (by decide) ?_
            refine lv_iload hx hb dX2_adds_135 (lv_at hl 0 rfl) ?_
            refine lv_iadd hx hb dX2_adds_137 ?_
            refine k_topi (nI (3 + i)) (nI_add 3 i) ?_
            refine lv_aload_n hx hb dX2_adds_138 rfl (lv_at hl 4 rfl) ?_
            refine k_get (ci := 2) hx hb hts in_X2 hown hK h_34 rfl 4 (by decide) q1404 (fun _ h9 => h9) rfl dX2_adds_139 ?_
            refine lv_aload_n hx hb dX2_adds_142 rfl (lv_at hl 4 rfl) ?_
            refine k_get (ci := 2) hx hb hts in_X2 hown hK h_34 rfl 7 (by decide) q1407 (fun _ h9 => h9) rfl dX2_adds_143 ?_
            refine lv_iload hx hb dX2_adds_146 (lv_at hl 0 rfl) ?_
            refine lv_iadd hx hb dX2_adds_148 ?_
            refine k_topi (nI (fr + i)) (nI_add fr i) ?_
            refine k_ildN hx hb hK h_38 (fr + i) (rfl) (by omega) (by decide) dX2_adds_149 ?_
            refine k_callv (va_runV (As := [.int (nI rows), .int (nI (3 + i)), .int ((F 4) (fr + i))]) (rest := []) ⟨hx, hb, hml, hown, hts⟩ (m_sets2 l g rows (3 + i) (F 4 (fr + i)) (f := addP (F 1) rows (e - fr) (fun k => F 4 (fr + k)) i) hM4 (by omega)) (cwV 3 hts (lw_V q1482 q1484 qs28 q56 q1485) rfl rfl rfl hdV_X2_sets ⟨Nat.le_of_ble_eq_true rfl, Nat.le_of_ble_eq_true rfl⟩) (preV hK hS h_34 rfl) rfl rfl hl.1 rfl (lv_room (Nat.le_of_ble_eq_true rfl)) dX2_adds_150 ⟨Nat.le_of_ble_eq_true rfl, Nat.le_of_ble_eq_true rfl⟩) hS (fun H_63 locs hp4 hS => ?_)
            obtain ⟨hM4, hF4⟩ := hp4
            rw [addP_s (F 1) rows (e - fr) (fun k => F 4 (fr + k)) i _ rfl] at hM4
            have hF := hF.trans hF4 (fun q _ h => h)
            refine lv_iinc (v := nI (i + 1)) (lv' := [(4, .int (nI (i + 1))), (3, .int (nI rows)), (2, .int (wsum (fun k => F 4 (fr + k)) j)), (1, .int (nI (e - fr))), (0, .ref (A 0))]) hx hb dX2_adds_153 hl (k := 0) rfl (nI_1 i) (by decide) rfl (fun ls hl => ?_)
            refine lv_goto (tgt := 126) hx hb dX2_adds_156 (by decide) ?_
            exact ih (i + 1) _ _ _ _ _ ⟨by omega, hM4, hF, hS, rfl, rfl, lv_sub hl [0, 1, 2, 3, 4] rfl⟩ (by omega)
        · have c92 : rows = 20 := (nI_eq (a := rows) (b := 20) (by omega) (by omega)).mp c92
          refine lv_aload_n hx hb dX2_adds_95 rfl (lv_at hl 3 rfl) ?_
          refine lv_iconst (v := 3) hx hb dX2_adds_96 (by decide) ?_
          refine lv_iload_n hx hb dX2_adds_97 rfl (lv_at hl 2 rfl) ?_
          refine k_calli (va_runV (As := [.int 3, .int (nI (e - fr))]) (rest := []) ⟨hx, hb, hml, hown, hts⟩ (m_fails l g 3 (nI (e - fr)) hM2) (cwV 2 hts (lw_V q1471 q1473 qs26 q56 q1474) rfl rfl rfl hdV_X2_fails ⟨Nat.le_of_ble_eq_true rfl, Nat.le_of_ble_eq_true rfl⟩) (preV hK hS h_10 rfl) rfl rfl hl.1 rfl (lv_room (Nat.le_of_ble_eq_true rfl)) dX2_adds_98 ⟨Nat.le_of_ble_eq_true rfl, Nat.le_of_ble_eq_true rfl⟩) hS (fun z3 H_64 locs hz3 hS => ?_)
          obtain ⟨rfl, hM3, hF3⟩ := hz3
          have hF := hF.trans hF3 (fun q _ h => h)
          exact k_ireti (v := 0) hx hb hret (rfl) hlk hS (Nat.le_of_ble_eq_true rfl) (Nat.le_of_ble_eq_true rfl) (⟨hF, upd (upd (upd (upd I 7 (nI fr)) 6 (nI e)) 8 3) 9 (nI (e - fr)), rfl, rfl, rfl, rfl, Or.inr ⟨rfl, by rw [ht2] at c68; rw [← hj2] at hbrk ⊢; exact faultR_r hbrk (Int32.not_lt.mpr c68) c92, hM3⟩⟩) dX2_adds_101
      · refine lv_aload_n hx hb dX2_adds_71 rfl (lv_at hl 3 rfl) ?_
        refine lv_iconst (v := 2) hx hb dX2_adds_72 (by decide) ?_
        refine lv_aload_n hx hb dX2_adds_73 rfl (lv_at hl 3 rfl) ?_
        refine lv_iload_n hx hb dX2_adds_74 rfl (lv_at hl 1 rfl) ?_
        refine k_calliS (va_runV (As := [.int (wsum (fun k => F 4 (fr + k)) j)]) (rest := [.int 2, .ref (A 0)]) ⟨hx, hb, hml, hown, hts⟩ (m_squeezed l g (wsum (fun k => F 4 (fr + k)) j) hM2 h8) (cwV 1 hts (lw_V q1478 q1480 qs27 q56 q1481) rfl rfl rfl hdV_X2_squeezed ⟨Nat.le_of_ble_eq_true rfl, Nat.le_of_ble_eq_true rfl⟩) (preV hK hS h_10 rfl) rfl rfl hl.1 rfl (lv_room (Nat.le_of_ble_eq_true rfl)) dX2_adds_75 ⟨Nat.le_of_ble_eq_true rfl, Nat.le_of_ble_eq_true rfl⟩) hS (fun t3 locs ht3 hS => ?_)
        refine k_calli (va_runV (As := [.int 2, .int t3]) (rest := []) ⟨hx, hb, hml, hown, hts⟩ (m_fails l g 2 t3 hM2) (cwV 2 hts (lw_V q1471 q1473 qs26 q56 q1474) rfl rfl rfl hdV_X2_fails ⟨Nat.le_of_ble_eq_true rfl, Nat.le_of_ble_eq_true rfl⟩) (preV hK hS h_10 rfl) rfl rfl hl.1 rfl (lv_room (Nat.le_of_ble_eq_true rfl)) dX2_adds_78 ⟨Nat.le_of_ble_eq_true rfl, Nat.le_of_ble_eq_true rfl⟩) hS (fun z3 H_66 locs hz3 hS => ?_)
        obtain ⟨rfl, hM3, hF3⟩ := hz3
        have hF := hF.trans hF3 (fun q _ h => h)
        exact k_ireti (v := 0) hx hb hret (rfl) hlk hS (Nat.le_of_ble_eq_true rfl) (Nat.le_of_ble_eq_true rfl) (⟨hF, upd (upd (upd (upd I 7 (nI fr)) 6 (nI e)) 8 2) 9 t3, rfl, rfl, rfl, rfl, Or.inr ⟨rfl, by rw [ht2] at c68; rw [← hj2] at hbrk ⊢; show _ = some (2, t3); rw [ht3]; exact faultR_w hbrk (i_nle c68), hM3⟩⟩) dX2_adds_81
    · have hj2 : fr + j < e := by rcases Nat.lt_or_ge (fr + j) (e) with z | z; exact z; exact absurd (nI_le z (by omega)) c39
      refine lv_iload_n hx hb dX2_adds_42 rfl (lv_at hl 1 rfl) ?_
      refine lv_aload_n hx hb dX2_adds_43 rfl (lv_at hl 3 rfl) ?_
      refine k_get (ci := 2) hx hb hts in_X2 hown hK h_10 rfl 4 (by decide) q1404 (fun _ h9 => h9) rfl dX2_adds_44 ?_
      refine lv_iload_n hx hb dX2_adds_47 rfl (lv_at hl 0 rfl) ?_
      refine k_ildN hx hb hK h_14 (fr + j) (rfl) (by omega) (by decide) dX2_adds_48 ?_
      refine k_calliS (va_runS (As := [.int ((F 4) (fr + j))]) (rest := [.int (wsum (fun k => F 4 (fr + k)) j)]) ⟨hx, hb, hml, hown, hts⟩ (m_wide l g (F 4 (fr + j))) (va_cwS 1 hts (lw_S q1475 q1476 q56 q1477) rfl rfl rfl hdS_X2_wide ⟨Nat.le_of_ble_eq_true rfl, Nat.le_of_ble_eq_true rfl⟩) (preS hK hS) rfl rfl hl.1 rfl (lv_room (Nat.le_of_ble_eq_true rfl)) dX2_adds_49 ⟨Nat.le_of_ble_eq_true rfl, Nat.le_of_ble_eq_true rfl⟩) hS (fun t1 locs ht1 hS => ?_)
      refine lv_iadd hx hb dX2_adds_52 ?_
      refine k_topi (wsum (fun k => F 4 (fr + k)) (j + 1)) (by rw [ht1]; rfl) ?_
      refine lv_istore_n (lv' := [(2, .int (wsum (fun k => F 4 (fr + k)) (j + 1))), (3, .int (nI (fr + j))), (1, .int (nI (e - fr))), (0, .ref (A 0))]) hx hb dX2_adds_53 rfl hl (by decide) rfl (fun ls hl => ?_)
      refine lv_iinc (v := nI (fr + (j + 1))) (lv' := [(3, .int (nI (fr + (j + 1)))), (2, .int (wsum (fun k => F 4 (fr + k)) (j + 1))), (1, .int (nI (e - fr))), (0, .ref (A 0))]) hx hb dX2_adds_54 hl (k := 1) rfl (nI_1 (fr + j)) (by decide) rfl (fun ls hl => ?_)
      refine lv_goto (tgt := 34) hx hb dX2_adds_57 (by decide) ?_
      exact ih (j + 1) _ _ _ _ _ ⟨by omega, rfl, hS, rfl, rfl, lv_sub hl [0, 1, 2, 3] rfl⟩ (by omega)
  · obtain ⟨-, k, sp, hbrk, hM2⟩ := hz.resolve_left (fun h => absurd (h.1.symm.trans c12) (by decide))
    refine lv_iconst (v := 0) hx hb dX2_adds_15 (by decide) ?_
    exact k_ireti (v := 0) hx hb hret (rfl) hlk hS (Nat.le_of_ble_eq_true rfl) (Nat.le_of_ble_eq_true rfl) (⟨hF, upd (upd (upd (upd I 7 (nI fr)) 6 (nI sp)) 8 1) 9 (nI k), rfl, rfl, rfl, rfl, Or.inr ⟨rfl, faultR_b hbrk, hM2⟩⟩) dX2_adds_16
