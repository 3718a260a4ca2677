/-! ===== HandBlindsModel: addsAll (printed by tools/model6.py) ===== -/
set_option maxRecDepth 100000
theorem SRel.w {f : Nat → Int32} {b : BV} (h : SRel f b) : f 8 = b.2.2 0 := h.2.2.2.2.2.2.2.2.1
/-- where addsAll stands behind a name -/
def AAP (tx : Nat → Int32) (t : Nat) (b : BV) (e : Nat) (z : Int32) (J f : Nat → Int32) : Prop :=
  (z = 1 ∧ ∃ m fuel b1, e ≤ t ∧ t ≤ e + fuel ∧ SRel f b1 ∧ okB b1 ∧ J 6 = nI e ∧ J 10 = nI m ∧ addAll tx t (t + 1) 0 b 0 = (if e < t then addAll tx t fuel (e + 1) b1 m else .inl (b1, m))) ∨ (z = 0 ∧ ∃ i, addAll tx t (t + 1) 0 b 0 = .inr (i, J 8, J 9) ∧ J 7 = nI i)
theorem AAP_step {g : GT} {A : Nat → Nat} {F : Nat → Nat → Int32} {f J : Nat → Int32} {H : Heap} {t i m fuel : Nat} {b b1 : BV} {z : Int32} (hA : addAll (F 4) t (t + 1) 0 b 0 = addAll (F 4) t (fuel + 1) i b1 m) (hfu : t ≤ i + fuel) (hi : i ≤ t) (hs : SRel f b1) (hok : okB b1) (j10 : J 10 = nI (m + 1)) (j7 : J 7 = nI i)
    (hz : (z = 1 ∧ faultR (fun k => F 4 (i + k)) (send (F 4) t i - i) (f 8) b1.1.length = none ∧ J 6 = nI (send (F 4) t i) ∧ MAt g A (va_up (va_up F 1 f) 1 (addF f b1.1.length (send (F 4) t i - i) (fun k => F 4 (i + k)))) J H) ∨ (z = 0 ∧ faultR (fun k => F 4 (i + k)) (send (F 4) t i - i) (f 8) b1.1.length = some (J 8, J 9) ∧ MAt g A (va_up F 1 f) J H)) :
    ∃ f2, MAt g A (va_up F 1 f2) J H ∧ AAP (F 4) t b (send (F 4) t i) z J f2 := by
  rcases hz with ⟨z1, hf, h6, hM⟩ | ⟨z0, hf, hM⟩
  · rw [bx_uu] at hM
    obtain ⟨hb, hr⟩ := faultR_none hf
    have hn := (brk_le hb).2
    have h20 := hok.1
    rw [hs.w] at hf
    have hlo := send_lo (F 4) t i
    exact ⟨_, hM, Or.inl ⟨z1, m + 1, fuel, _, send_hi hi, by omega, hs.add hok (by omega) hn, hok.add (by omega) (okName_lets hb), h6, j10, hA.trans (addAll_ok hf)⟩⟩
  · rw [hs.w] at hf
    exact ⟨f, hM, Or.inr ⟨z0, i, hA.trans (addAll_fault hf), j7⟩⟩
/-- addsAll() -/
theorem m_addsAll (l : Launch) (g : GT) {H : Heap} {A : Nat → Nat} {F : Nat → Nat → Int32} {I : Nat → Int32} (t : Nat) (b : BV) (hM : MAt g A F I H) (ht : I 5 = nI t) (ht60 : t ≤ 60) (hb0 : SRel (F 1) b) (hok : okB b) : Met l yX2_addsAll (ws_ yX2_addsAll cX2_addsAll 2 (some .boolean)) ({ frames := 4, cells := 0, slots := 0, locals := 89 } : Room) (va_Pc [.ref (A 0)] (Pre g H)) (Qi g (fun z H1 => Fx (MM A) H H1 ∧ ∃ (J f : Nat → Int32), J 3 = I 3 ∧ J 5 = I 5 ∧ MAt g A (va_up F 1 f) J H1 ∧ ((z = 1 ∧ ∃ b2 m, addAll (F 4) t (t + 1) 0 b 0 = .inl (b2, m) ∧ SRel f b2 ∧ okB b2 ∧ J 10 = nI m) ∨ (z = 0 ∧ ∃ i, addAll (F 4) t (t + 1) 0 b 0 = .inr (i, J 8, J 9) ∧ J 7 = nI i)))) 0 0 (gA g) := by
  refine k_met (cc := cX2_addsAll) (nL := 2) (vs := [.ref (A 0)]) (by decide +kernel) (Nat.le_of_ble_eq_true rfl) ?_
  intro p e s m below meth c hH hx hb hret hts hown hlk hml hin hK hS ls hl
  subst hH
  have hown : s.vm.findClass RX2 = some m.cls := hown
  have hl : lv_has ls 2 [(0, .ref (A 0))] := hl
  obtain ⟨h0, h1, h2, h3, h4, n12, n13, n14, n23, n24, n34⟩ := id hM
  have hF : Fx (MM A) s.heap s.heap := Fx.rf
  refine lv_aload_n hx hb dX2_addsAll_0 rfl (lv_at hl 0 rfl) ?_
  refine lv_iconst (v := nI 0) hx hb dX2_addsAll_1 (by decide) ?_
  refine k_put (ci := 2) hx hb hts in_X2 tyX2 tyX2_ok nmX2 hown hK hS h0 rfl 6 (by decide) q1406 (fun _ h9 => h9) rfl (rfl) (rfl) (Nat.le_of_ble_eq_true rfl) dX2_addsAll_2 (fun H_1 locs h_2 u_3 hS => ?_)
  have h_2 : Ob g (A 0) 2 [.ref (A 1), .ref (A 2), .ref (A 3), .int (I 3), .ref (A 4), .int (I 5), .int (nI 0), .int (I 7), .int (I 8), .int (I 9), .int (I 10), .int (I 11), .int (I 12)] H_1 := h_2
  have h_4 := h1.upd u_3 (Ne.symm (Ob.neA hK.gg h0 h1 (by decide) (by decide)))
  have h_5 := h2.upd u_3 (Ne.symm (Ob.neA hK.gg h0 h2 (by decide) (by decide)))
  have h_6 := h3.upd u_3 (Ne.symm (Ob.neA hK.gg h0 h3 (by decide) (by decide)))
  have h_7 := h4.upd u_3 (Ne.symm (Ob.neA hK.gg h0 h4 (by decide) (by decide)))
  have hF_8 := hF.put u_3 (Or.inl (Or.inl rfl))
  refine lv_aload_n hx hb dX2_addsAll_5 rfl (lv_at hl 0 rfl) ?_
  refine lv_iconst (v := nI 1) hx hb dX2_addsAll_6 (by decide) ?_
  refine k_put (ci := 2) hx hb hts in_X2 tyX2 tyX2_ok nmX2 hown hK hS h_2 rfl 10 (by decide) q1410 (fun _ h9 => h9) rfl (rfl) (rfl) (Nat.le_of_ble_eq_true rfl) dX2_addsAll_7 (fun H_9 locs h_10 u_11 hS => ?_)
  have h_10 : Ob g (A 0) 2 [.ref (A 1), .ref (A 2), .ref (A 3), .int (I 3), .ref (A 4), .int (I 5), .int (nI 0), .int (I 7), .int (I 8), .int (I 9), .int (nI 1), .int (I 11), .int (I 12)] H_9 := h_10
  have h_12 := h_4.upd u_11 (Ne.symm (Ob.neA hK.gg h_2 h_4 (by decide) (by decide)))
  have h_13 := h_5.upd u_11 (Ne.symm (Ob.neA hK.gg h_2 h_5 (by decide) (by decide)))
  have h_14 := h_6.upd u_11 (Ne.symm (Ob.neA hK.gg h_2 h_6 (by decide) (by decide)))
  have h_15 := h_7.upd u_11 (Ne.symm (Ob.neA hK.gg h_2 h_7 (by decide) (by decide)))
  have hF_16 := hF_8.put u_11 (Or.inl (Or.inl rfl))
  refine lv_aload_n hx hb dX2_addsAll_10 rfl (lv_at hl 0 rfl) ?_
  have hM1 : MAt g A (va_up F 1 (F 1)) (upd (upd I 6 (nI 0)) 10 (nI 1)) H_9 := by rw [upF_id]; exact MAt.mk (F := F) (I := upd (upd I 6 (nI 0)) 10 (nI 1)) h_10 h_12 h_13 h_14 h_15 n12 n13 n14 n23 n24 n34
  refine k_calli (va_runV (As := []) (rest := []) ⟨hx, hb, hml, hown, hts⟩ (m_adds l g t 0 b.1.length hM1 ht ht60 rfl (Nat.zero_le _) hb0.1 hok.1 (by show F 1 8 ≠ 0; rw [hb0.w]; exact hok.wide0)) (cwV 0 hts (lw_V q1455 q1457 qs22 q56 q1458) rfl rfl rfl hdV_X2_adds ⟨Nat.le_of_ble_eq_true rfl, Nat.le_of_ble_eq_true rfl⟩) (preV hK hS h_10 rfl) rfl rfl hl.1 rfl (lv_room (Nat.le_of_ble_eq_true rfl)) dX2_addsAll_11 ⟨Nat.le_of_ble_eq_true rfl, Nat.le_of_ble_eq_true rfl⟩) hS (fun z H_17 locs hz hS => ?_)
  obtain ⟨hF2, J, j3, j5, j7, j10, hz⟩ := hz
  have hF := hF_16.trans hF2 (fun q _ h => h)
  obtain ⟨f, hM2, hA⟩ : ∃ f, MAt g A (va_up F 1 f) J H_17 ∧ AAP (F 4) t b (send (F 4) t 0) z J f := AAP_step (fuel := t) (i := 0) (m := 0) rfl (by omega) (Nat.zero_le _) hb0 hok j10 j7 hz
  have j3 : J 3 = I 3 := j3
  have j5 : J 5 = I 5 := j5
  refine lv_istore_n (lv' := [(1, .int z), (0, .ref (A 0))]) hx hb dX2_addsAll_14 rfl hl (by decide) rfl (fun ls hl => ?_)
  refine w_loop4 (Inv := fun (e2 : Nat) (z : Int32) (J : Nat → Int32) (f : Nat → Int32) H1 locs cells slots ls => MAt g A (va_up F 1 f) J H1 ∧ J 3 = I 3 ∧ J 5 = I 5 ∧ Fx (MM A) s.heap H1 ∧ AAP (F 4) t b e2 z J f ∧ va_S (gA g) s.heap H1 locs ∧ cells = 0 ∧ slots = 0 ∧ lv_has ls 2 [(1, .int z), (0, .ref (A 0))]) (μ := fun e2 _ _ _ => t - e2) ?_ (send (F 4) t 0) z J f _ _ _ _ _ ⟨hM2, j3, j5, hF, hA, hS, rfl, rfl, lv_sub hl [0, 1] rfl⟩
  intro e2 z J f H1 locs cells slots ls hInv ih
  obtain ⟨hM2, j3, j5, hF, hA, hS, rfl, rfl, hl⟩ := hInv
  obtain ⟨h_18, h_19, h_20, h_21, h_22, -, -, -, -, -, -⟩ := id hM2
  have h_18 : Ob g (A 0) 2 [.ref (A 1), .ref (A 2), .ref (A 3), .int (J 3), .ref (A 4), .int (J 5), .int (J 6), .int (J 7), .int (J 8), .int (J 9), .int (J 10), .int (J 11), .int (J 12)] H1 := h_18
  have h_19 : Ar g (A 1) 0 (aI 369 f) H1 := h_19
  refine lv_iload_n hx hb dX2_addsAll_15 rfl (lv_at hl 0 rfl) ?_
  refine lv_if_eq (tgt := 58) hx hb dX2_addsAll_16 (by decide) (fun c16 => ?_) (fun c16 => ?_)
  · refine lv_iload_n hx hb dX2_addsAll_58 rfl (lv_at hl 0 rfl) ?_
    exact k_ireti (v := z) hx hb hret (by rcases hA with h | h <;> rw [h.1] <;> rfl) hlk hS (Nat.le_of_ble_eq_true rfl) (Nat.le_of_ble_eq_true rfl) (⟨hF, J, f, j3, j5, hM2, Or.inr (hA.resolve_left (fun h => absurd (h.1.symm.trans c16) (by decide)))⟩) dX2_addsAll_59
  · obtain ⟨hz1, m, fuel, b1, he, hfu, hsr, hok1, hJ6, hJ10, hAA⟩ := hA.resolve_right (fun h => c16 h.1)
    refine lv_aload_n hx hb dX2_addsAll_19 rfl (lv_at hl 1 rfl) ?_
    refine k_get (ci := 2) hx hb hts in_X2 hown hK h_18 rfl 6 (by decide) q1406 (fun _ h9 => h9) rfl dX2_addsAll_20 ?_
    refine k_topi (nI e2) (hJ6) ?_
    refine lv_aload_n hx hb dX2_addsAll_23 rfl (lv_at hl 1 rfl) ?_
    refine k_get (ci := 2) hx hb hts in_X2 hown hK h_18 rfl 5 (by decide) q1405 (fun _ h9 => h9) rfl dX2_addsAll_24 ?_
    refine k_topi (nI t) (j5.trans ht) ?_
    refine lv_icmp_ge (tgt := 58) hx hb dX2_addsAll_27 (by decide) (fun c27 => ?_) (fun c27 => ?_)
    · have he2 : t ≤ e2 := by rcases Nat.lt_or_ge (e2) (t) with z | z; exact absurd c27 (nI_ge z (by omega)); exact z
      refine lv_iload_n hx hb dX2_addsAll_58 rfl (lv_at hl 0 rfl) ?_
      exact k_ireti (v := z) hx hb hret (by rcases hA with h | h <;> rw [h.1] <;> rfl) hlk hS (Nat.le_of_ble_eq_true rfl) (Nat.le_of_ble_eq_true rfl) (⟨hF, J, f, j3, j5, hM2, Or.inl ⟨hz1, b1, m, by rw [hAA, if_neg (by omega)], hsr, hok1, hJ10⟩⟩) dX2_addsAll_59
    · have he2 : e2 < t := by rcases Nat.lt_or_ge (e2) (t) with z | z; exact z; exact absurd (nI_le z (by omega)) c27
      refine lv_aload_n hx hb dX2_addsAll_30 rfl (lv_at hl 1 rfl) ?_
      refine lv_dup hx hb dX2_addsAll_31 rfl ?_
      refine k_get (ci := 2) hx hb hts in_X2 hown hK h_18 rfl 6 (by decide) q1406 (fun _ h9 => h9) rfl dX2_addsAll_32 ?_
      refine k_topi (nI e2) (hJ6) ?_
      refine lv_iconst (v := 1) hx hb dX2_addsAll_35 (by decide) ?_
      refine lv_iadd hx hb dX2_addsAll_36 ?_
      refine k_topi (nI (e2 + 1)) (nI_1 e2) ?_
      refine k_put (ci := 2) hx hb hts in_X2 tyX2 tyX2_ok nmX2 hown hK hS h_18 rfl 6 (by decide) q1406 (fun _ h9 => h9) rfl (rfl) (rfl) (Nat.le_of_ble_eq_true rfl) dX2_addsAll_37 (fun H_23 locs h_24 u_25 hS => ?_)
      have h_24 : Ob g (A 0) 2 [.ref (A 1), .ref (A 2), .ref (A 3), .int (J 3), .ref (A 4), .int (J 5), .int (nI (e2 + 1)), .int (J 7), .int (J 8), .int (J 9), .int (J 10), .int (J 11), .int (J 12)] H_23 := h_24
      have h_26 := h_19.upd u_25 (Ne.symm (Ob.neA hK.gg h_18 h_19 (by decide) (by decide)))
      have h_27 := h_20.upd u_25 (Ne.symm (Ob.neA hK.gg h_18 h_20 (by decide) (by decide)))
      have h_28 := h_21.upd u_25 (Ne.symm (Ob.neA hK.gg h_18 h_21 (by decide) (by decide)))
      have h_29 := h_22.upd u_25 (Ne.symm (Ob.neA hK.gg h_18 h_22 (by decide) (by decide)))
      have hF_30 := hF.put u_25 (Or.inl (Or.inl rfl))
      refine lv_aload_n hx hb dX2_addsAll_40 rfl (lv_at hl 1 rfl) ?_
      refine lv_dup hx hb dX2_addsAll_41 rfl ?_
      refine k_get (ci := 2) hx hb hts in_X2 hown hK h_24 rfl 10 (by decide) q1410 (fun _ h9 => h9) rfl dX2_addsAll_42 ?_
      refine k_topi (nI m) (hJ10) ?_
      refine lv_iconst (v := 1) hx hb dX2_addsAll_45 (by decide) ?_
      refine lv_iadd hx hb dX2_addsAll_46 ?_
      refine k_topi (nI (m + 1)) (nI_1 m) ?_
      refine k_put (ci := 2) hx hb hts in_X2 tyX2 tyX2_ok nmX2 hown hK hS h_24 rfl 10 (by decide) q1410 (fun _ h9 => h9) rfl (rfl) (rfl) (Nat.le_of_ble_eq_true rfl) dX2_addsAll_47 (fun H_31 locs h_32 u_33 hS => ?_)
      have h_32 : Ob g (A 0) 2 [.ref (A 1), .ref (A 2), .ref (A 3), .int (J 3), .ref (A 4), .int (J 5), .int (nI (e2 + 1)), .int (J 7), .int (J 8), .int (J 9), .int (nI (m + 1)), .int (J 11), .int (J 12)] H_31 := h_32
      have h_34 := h_26.upd u_33 (Ne.symm (Ob.neA hK.gg h_24 h_26 (by decide) (by decide)))
      have h_35 := h_27.upd u_33 (Ne.symm (Ob.neA hK.gg h_24 h_27 (by decide) (by decide)))
      have h_36 := h_28.upd u_33 (Ne.symm (Ob.neA hK.gg h_24 h_28 (by decide) (by decide)))
      have h_37 := h_29.upd u_33 (Ne.symm (Ob.neA hK.gg h_24 h_29 (by decide) (by decide)))
      have hF_38 := hF_30.put u_33 (Or.inl (Or.inl rfl))
      refine lv_aload_n hx hb dX2_addsAll_50 rfl (lv_at hl 1 rfl) ?_
      have hM3 := MAt.mk (F := va_up F 1 f) (I := upd (upd J 6 (nI (e2 + 1))) 10 (nI (m + 1))) h_32 h_34 h_35 h_36 h_37 n12 n13 n14 n23 n24 n34
      obtain ⟨fuel, rfl⟩ : ∃ k, fuel = k + 1 := ⟨fuel - 1, by omega⟩
      refine k_calli (va_runV (As := []) (rest := []) ⟨hx, hb, hml, hown, hts⟩ (m_adds l g t (e2 + 1) b1.1.length hM3 (j5.trans ht) ht60 rfl (by omega) hsr.1 hok1.1 (by show f 8 ≠ 0; rw [hsr.w]; exact hok1.wide0)) (cwV 0 hts (lw_V q1455 q1457 qs22 q56 q1458) rfl rfl rfl hdV_X2_adds ⟨Nat.le_of_ble_eq_true rfl, Nat.le_of_ble_eq_true rfl⟩) (preV hK hS h_32 rfl) rfl rfl hl.1 rfl (lv_room (Nat.le_of_ble_eq_true rfl)) dX2_addsAll_51 ⟨Nat.le_of_ble_eq_true rfl, Nat.le_of_ble_eq_true rfl⟩) hS (fun zz H_39 locs hz hS => ?_)
      obtain ⟨hF2, J2, k3, k5, k7, k10, hz⟩ := hz
      have hF := hF_38.trans hF2 (fun q _ h => h)
      obtain ⟨f2, hM4, hA2⟩ : ∃ f2, MAt g A (va_up F 1 f2) J2 H_39 ∧ AAP (F 4) t b (send (F 4) t (e2 + 1)) zz J2 f2 := AAP_step (fuel := fuel) (i := e2 + 1) (m := m) (hAA.trans (if_pos he2)) (by omega) (by omega) hsr hok1 k10 k7 hz
      replace j3 : J2 3 = I 3 := k3.trans j3
      replace j5 : J2 5 = I 5 := k5.trans j5
      refine lv_istore_n (lv' := [(1, .int zz), (0, .ref (A 0))]) hx hb dX2_addsAll_54 rfl hl (by decide) rfl (fun ls hl => ?_)
      refine lv_goto (tgt := 15) hx hb dX2_addsAll_55 (by decide) ?_
      exact ih (send (F 4) t (e2 + 1)) zz J2 f2 _ _ _ _ _ ⟨hM4, j3, j5, hF, hA2, hS, rfl, rfl, lv_sub hl [0, 1] rfl⟩ (by have := send_lo (F 4) t (e2 + 1); have := he2; omega)
