/-! ===== HandBlindsModel: the text machine (printed by tools/model3.py) ===== -/
set_option maxRecDepth 100000
theorem upd_id (f : Nat → Int32) (k : Nat) : upd f k (f k) = f := by
  funext j; unfold upd; split <;> simp_all
/-- isFormed() -/
theorem m_isFormed (l : Launch) (g : GT) {H : Heap} {A : Nat → Nat} {F : Nat → Nat → Int32} {I : Nat → Int32} (t fr : Nat) (hM : MAt g A F I H) (ht : I 5 = nI t) (ht60 : t ≤ 60) (hs : I 6 = nI fr) (hf : I 7 = nI fr) (hfr : fr ≤ t) : Met l yX2_isFormed (ws_ yX2_isFormed cX2_isFormed 2 (some .boolean)) ({ frames := 2, cells := 0, slots := 0, locals := 44 } : Room) (va_Pc [.ref (A 0)] (Pre g H)) (Qi g (fun z H1 => Fx (MM A) H H1 ∧ ((z = 1 ∧ brk (fun k => F 4 (fr + k)) (send (F 4) t fr - fr) = none ∧ MAt g A F (upd I 6 (nI (send (F 4) t fr))) H1) ∨ (z = 0 ∧ ∃ k sp, brk (fun k => F 4 (fr + k)) (send (F 4) t fr - fr) = some k ∧ MAt g A F (upd (upd (upd I 6 (nI sp)) 8 1) 9 (nI k)) H1)))) 0 0 (gA g) := by
  refine k_met (cc := cX2_isFormed) (nL := 2) (vs := [.ref (A 0)]) (by decide +kernel) (Nat.le_of_ble_eq_true rfl) ?_
  intro p e s m below meth c hH hx hb hret hts hown hlk hml hin hK hS ls hl
  subst hH
  have hown : s.vm.findClass RX2 = some m.cls := hown
  have hl : lv_has ls 2 [(0, .ref (A 0))] := hl
  obtain ⟨h0, h1, h2, h3, h4, n12, n13, n14, n23, n24, n34⟩ := id hM
  have hF : Fx (MM A) s.heap s.heap := Fx.rf
  refine w_loop (Inv := fun (sp : Nat) H1 locs cells slots ls => fr ≤ sp ∧ sp ≤ t ∧ MAt g A F (upd I 6 (nI sp)) H1 ∧ Fx (MM A) s.heap H1 ∧ (∀ k, fr ≤ k → k < sp → F 4 k ≠ 47) ∧ (∀ j, j < sp - fr → mst (fun k => F 4 (fr + k)) j) ∧ va_S (gA g) s.heap H1 locs ∧ cells = 0 ∧ slots = 0 ∧ lv_has ls 2 [(0, .ref (A 0))]) (μ := fun sp => t - sp) ?_ fr _ _ _ _ _ ⟨Nat.le_refl _, hfr, by rw [← hs, upd_id]; exact hM, hF, fun k h1 h2 => absurd h1 (by omega), fun j h => absurd h (by omega), hS, rfl, rfl, lv_sub hl [0] rfl⟩
  intro sp H1 locs cells slots ls hInv ih
  obtain ⟨hsp1, hsp2, hM1, hF, hq, hm, hS, rfl, rfl, hl⟩ := hInv
  obtain ⟨h_1, h_2, h_3, h_4, h_5, -, -, -, -, -, -⟩ := id hM1
  have h_1 : Ob g (A 0) 2 [.ref (A 1), .ref (A 2), .ref (A 3), .int (I 3), .ref (A 4), .int (I 5), .int (nI sp), .int (I 7), .int (I 8), .int (I 9), .int (I 10), .int (I 11), .int (I 12)] H1 := h_1
  refine lv_aload_n hx hb dX2_isFormed_0 rfl (lv_at hl 0 rfl) ?_
  refine k_calliS (va_runV (As := []) (rest := []) ⟨hx, hb, hml, hown, hts⟩ (m_isEnd l g t sp hM1 ht ht60 rfl hsp2) (cwV 0 hts (lw_V q1463 q1465 qs24 q56 q1466) rfl rfl rfl hdV_X2_isEnd ⟨Nat.le_of_ble_eq_true rfl, Nat.le_of_ble_eq_true rfl⟩) (preV hK hS h_1 rfl) rfl rfl hl.1 rfl (lv_room (Nat.le_of_ble_eq_true rfl)) dX2_isFormed_1 ⟨Nat.le_of_ble_eq_true rfl, Nat.le_of_ble_eq_true rfl⟩) hS (fun z1 locs hz1 hS => ?_)
  refine lv_if_ne (tgt := 42) hx hb dX2_isFormed_4 (by decide) (fun c4 => ?_) (fun c4 => ?_)
  · have c4 := b2t hz1 c4
    have hE : send (F 4) t fr = sp := send_eq hsp1 hsp2 c4 hq
    refine lv_aload_n hx hb dX2_isFormed_42 rfl (lv_at hl 0 rfl) ?_
    refine k_get (ci := 2) hx hb hts in_X2 hown hK h_1 rfl 6 (by decide) q1406 (fun _ h9 => h9) rfl dX2_isFormed_43 ?_
    refine lv_aload_n hx hb dX2_isFormed_46 rfl (lv_at hl 0 rfl) ?_
    refine k_get (ci := 2) hx hb hts in_X2 hown hK h_1 rfl 7 (by decide) q1407 (fun _ h9 => h9) rfl dX2_isFormed_47 ?_
    refine lv_isub hx hb dX2_isFormed_50 ?_
    refine k_topi (nI (sp - fr)) (by rw [hf]; exact pk_sub hsp1) ?_
    refine lv_istore_n (lv' := [(1, .int (nI (sp - fr))), (0, .ref (A 0))]) hx hb dX2_isFormed_51 rfl hl (by decide) rfl (fun ls hl => ?_)
    refine lv_iload_n hx hb dX2_isFormed_52 rfl (lv_at hl 0 rfl) ?_
    refine lv_if_ne (tgt := 63) hx hb dX2_isFormed_53 (by decide) (fun c53 => ?_) (fun c53 => ?_)
    · have c53 : 0 < sp - fr := Nat.pos_of_ne_zero (fun z => c53 (by rw [z]; rfl))
      refine lv_aload_n hx hb dX2_isFormed_63 rfl (lv_at hl 1 rfl) ?_
      refine k_get (ci := 2) hx hb hts in_X2 hown hK h_1 rfl 4 (by decide) q1404 (fun _ h9 => h9) rfl dX2_isFormed_64 ?_
      refine lv_aload_n hx hb dX2_isFormed_67 rfl (lv_at hl 1 rfl) ?_
      refine k_get (ci := 2) hx hb hts in_X2 hown hK h_1 rfl 6 (by decide) q1406 (fun _ h9 => h9) rfl dX2_isFormed_68 ?_
      refine lv_iconst (v := nI 1) hx hb dX2_isFormed_71 (by decide) ?_
      refine lv_isub hx hb dX2_isFormed_72 ?_
      refine k_topi (nI (sp - 1)) (pk_sub (by omega)) ?_
      refine k_ildN hx hb hK h_5 (sp - 1) (rfl) (by omega) (by decide) dX2_isFormed_73 ?_
      refine lv_bipush (v := 32) hx hb dX2_isFormed_74 (by decide) ?_
      refine lv_icmp_ne (tgt := 90) hx hb dX2_isFormed_76 (by decide) (fun c76 => ?_) (fun c76 => ?_)
      · refine lv_iconst (v := 1) hx hb dX2_isFormed_90 (by decide) ?_
        refine lv_goto (tgt := 95) hx hb dX2_isFormed_91 (by decide) ?_
        exact k_ireti (v := 1) hx hb hret (rfl) hlk hS (Nat.le_of_ble_eq_true rfl) (Nat.le_of_ble_eq_true rfl) (⟨hF, Or.inl ⟨rfl, by rw [hE]; exact brk_L4 c53 hm (by show F 4 (fr + (sp - fr - 1)) ≠ 32; rw [show fr + (sp - fr - 1) = sp - 1 by omega]; exact c76), by rw [hE]; exact hM1⟩⟩) dX2_isFormed_95
      · refine lv_aload_n hx hb dX2_isFormed_79 rfl (lv_at hl 1 rfl) ?_
        refine lv_iconst (v := 1) hx hb dX2_isFormed_80 (by decide) ?_
        refine lv_iload_n hx hb dX2_isFormed_81 rfl (lv_at hl 0 rfl) ?_
        refine lv_iconst (v := nI 1) hx hb dX2_isFormed_82 (by decide) ?_
        refine lv_isub hx hb dX2_isFormed_83 ?_
        refine k_topi (nI (sp - fr - 1)) (pk_sub (by omega)) ?_
        refine k_calli (va_runV (As := [.int 1, .int (nI (sp - fr - 1))]) (rest := []) ⟨hx, hb, hml, hown, hts⟩ (m_fails l g 1 (nI (sp - fr - 1)) hM1) (cwV 2 hts (lw_V q1471 q1473 qs26 q56 q1474) rfl rfl rfl hdV_X2_fails ⟨Nat.le_of_ble_eq_true rfl, Nat.le_of_ble_eq_true rfl⟩) (preV hK hS h_1 rfl) rfl rfl hl.1 rfl (lv_room (Nat.le_of_ble_eq_true rfl)) dX2_isFormed_84 ⟨Nat.le_of_ble_eq_true rfl, Nat.le_of_ble_eq_true rfl⟩) hS (fun z3 H_7 locs hz3 hS => ?_)
        obtain ⟨rfl, hM2, hF2⟩ := hz3
        refine lv_if_eq (tgt := 94) hx hb dX2_isFormed_87 (by decide) (fun c87 => ?_) (fun c87 => absurd (by decide) c87)
        refine lv_iconst (v := 0) hx hb dX2_isFormed_94 (by decide) ?_
        exact k_ireti (v := 0) hx hb hret (rfl) hlk hS (Nat.le_of_ble_eq_true rfl) (Nat.le_of_ble_eq_true rfl) (⟨hF.trans hF2 (fun q _ h => h), Or.inr ⟨rfl, sp - fr - 1, sp, by rw [hE]; exact brk_L3 c53 hm (by show F 4 (fr + (sp - fr - 1)) = 32; rw [show fr + (sp - fr - 1) = sp - 1 by omega]; exact c76), hM2⟩⟩) dX2_isFormed_95
    · have c53 : sp - fr = 0 := (nI_eq (a := sp - fr) (b := 0) (by omega) (by omega)).mp c53
      refine lv_aload_n hx hb dX2_isFormed_56 rfl (lv_at hl 1 rfl) ?_
      refine lv_iconst (v := 1) hx hb dX2_isFormed_57 (by decide) ?_
      refine lv_iconst (v := 0) hx hb dX2_isFormed_58 (by decide) ?_
      refine k_calli (va_runV (As := [.int 1, .int 0]) (rest := []) ⟨hx, hb, hml, hown, hts⟩ (m_fails l g 1 0 hM1) (cwV 2 hts (lw_V q1471 q1473 qs26 q56 q1474) rfl rfl rfl hdV_X2_fails ⟨Nat.le_of_ble_eq_true rfl, Nat.le_of_ble_eq_true rfl⟩) (preV hK hS h_1 rfl) rfl rfl hl.1 rfl (lv_room (Nat.le_of_ble_eq_true rfl)) dX2_isFormed_59 ⟨Nat.le_of_ble_eq_true rfl, Nat.le_of_ble_eq_true rfl⟩) hS (fun z3 H_8 locs hz3 hS => ?_)
      obtain ⟨rfl, hM2, hF2⟩ := hz3
      exact k_ireti (v := 0) hx hb hret (rfl) hlk hS (Nat.le_of_ble_eq_true rfl) (Nat.le_of_ble_eq_true rfl) (⟨hF.trans hF2 (fun q _ h => h), Or.inr ⟨rfl, 0, sp, by rw [hE, c53]; rfl, hM2⟩⟩) dX2_isFormed_62
  · have c4 := b2f hz1 c4
    have hlt : sp < t := by rcases Nat.lt_or_ge sp t with z | z; exact z; exact absurd (Or.inl (by omega)) c4
    refine lv_aload_n hx hb dX2_isFormed_7 rfl (lv_at hl 0 rfl) ?_
    refine k_calliS (va_runV (As := []) (rest := []) ⟨hx, hb, hml, hown, hts⟩ (m_mayStand l g sp fr hM1 rfl (by omega) hf hsp1) (cwV 0 hts (lw_V q1467 q1469 qs25 q56 q1470) rfl rfl rfl hdV_X2_mayStand ⟨Nat.le_of_ble_eq_true rfl, Nat.le_of_ble_eq_true rfl⟩) (preV hK hS h_1 rfl) rfl rfl hl.1 rfl (lv_room (Nat.le_of_ble_eq_true rfl)) dX2_isFormed_8 ⟨Nat.le_of_ble_eq_true rfl, Nat.le_of_ble_eq_true rfl⟩) hS (fun z2 locs hz2 hS => ?_)
    refine lv_if_ne (tgt := 29) hx hb dX2_isFormed_11 (by decide) (fun c11 => ?_) (fun c11 => ?_)
    · have c11 := b2t hz2 c11
      have hme : (sp - fr < 14 ∧ ((65 ≤ F 4 sp ∧ F 4 sp ≤ 90) ∨ (F 4 sp = 32 ∧ fr < sp ∧ F 4 (sp - 1) ≠ 32))) ↔ mst (fun k => F 4 (fr + k)) (sp - fr) := by unfold mst; simp only [show fr + (sp - fr) = sp by omega]; constructor <;> (rintro ⟨h1, h2 | ⟨h2, h3, h4⟩⟩); exact ⟨h1, Or.inl h2⟩; exact ⟨h1, Or.inr ⟨h2, by omega, by rw [show fr + (sp - fr - 1) = sp - 1 by omega]; exact h4⟩⟩; exact ⟨h1, Or.inl h2⟩; exact ⟨h1, Or.inr ⟨h2, by omega, by rw [show fr + (sp - fr - 1) = sp - 1 by omega] at h4; exact h4⟩⟩
      have hst := hme.mp c11
      refine lv_aload_n hx hb dX2_isFormed_29 rfl (lv_at hl 0 rfl) ?_
      refine lv_dup hx hb dX2_isFormed_30 rfl ?_
      refine k_get (ci := 2) hx hb hts in_X2 hown hK h_1 rfl 6 (by decide) q1406 (fun _ h9 => h9) rfl dX2_isFormed_31 ?_
      refine lv_iconst (v := 1) hx hb dX2_isFormed_34 (by decide) ?_
      refine lv_iadd hx hb dX2_isFormed_35 ?_
      refine k_topi (nI (sp + 1)) (nI_1 sp) ?_
      refine k_put (ci := 2) hx hb hts in_X2 tyX2 tyX2_ok nmX2 hown hK hS h_1 rfl 6 (by decide) q1406 (fun _ h9 => h9) rfl (rfl) (rfl) (Nat.le_of_ble_eq_true rfl) dX2_isFormed_36 (fun H_10 locs h_11 u_12 hS => ?_)
      have h_11 : Ob g (A 0) 2 [.ref (A 1), .ref (A 2), .ref (A 3), .int (I 3), .ref (A 4), .int (I 5), .int (nI (sp + 1)), .int (I 7), .int (I 8), .int (I 9), .int (I 10), .int (I 11), .int (I 12)] H_10 := h_11
      have h_13 := h_2.upd u_12 (Ne.symm (Ob.neA hK.gg h_1 h_2 (by decide) (by decide)))
      have h_14 := h_3.upd u_12 (Ne.symm (Ob.neA hK.gg h_1 h_3 (by decide) (by decide)))
      have h_15 := h_4.upd u_12 (Ne.symm (Ob.neA hK.gg h_1 h_4 (by decide) (by decide)))
      have h_16 := h_5.upd u_12 (Ne.symm (Ob.neA hK.gg h_1 h_5 (by decide) (by decide)))
      have hF_17 := hF.put u_12 (Or.inl (Or.inl rfl))
      refine lv_goto (tgt := 0) hx hb dX2_isFormed_39 (by decide) ?_
      exact ih (sp + 1) _ _ _ _ _ ⟨by omega, by omega, MAt.mk (F := F) (I := upd I 6 (nI (sp + 1))) h_11 h_13 h_14 h_15 h_16 n12 n13 n14 n23 n24 n34, hF_17, fun k h1 h2 => by rcases Nat.lt_or_ge k sp with z | z; exact hq k h1 z; rw [show k = sp by omega]; exact fun z => c4 (Or.inr z), fun j h => by rcases Nat.lt_or_ge j (sp - fr) with z | z; exact hm j z; rw [show j = sp - fr by omega]; exact hst, hS, rfl, rfl, lv_sub hl [0] rfl⟩ (by omega)
    · have c11 := b2f hz2 c11
      have hme : (sp - fr < 14 ∧ ((65 ≤ F 4 sp ∧ F 4 sp ≤ 90) ∨ (F 4 sp = 32 ∧ fr < sp ∧ F 4 (sp - 1) ≠ 32))) ↔ mst (fun k => F 4 (fr + k)) (sp - fr) := by unfold mst; simp only [show fr + (sp - fr) = sp by omega]; constructor <;> (rintro ⟨h1, h2 | ⟨h2, h3, h4⟩⟩); exact ⟨h1, Or.inl h2⟩; exact ⟨h1, Or.inr ⟨h2, by omega, by rw [show fr + (sp - fr - 1) = sp - 1 by omega]; exact h4⟩⟩; exact ⟨h1, Or.inl h2⟩; exact ⟨h1, Or.inr ⟨h2, by omega, by rw [show fr + (sp - fr - 1) = sp - 1 by omega] at h4; exact h4⟩⟩
      have hst : ¬ mst (fun k => F 4 (fr + k)) (sp - fr) := fun z => c11 (hme.mpr z)
      refine lv_aload_n hx hb dX2_isFormed_14 rfl (lv_at hl 0 rfl) ?_
      refine lv_iconst (v := 1) hx hb dX2_isFormed_15 (by decide) ?_
      refine lv_aload_n hx hb dX2_isFormed_16 rfl (lv_at hl 0 rfl) ?_
      refine k_get (ci := 2) hx hb hts in_X2 hown hK h_1 rfl 6 (by decide) q1406 (fun _ h9 => h9) rfl dX2_isFormed_17 ?_
      refine lv_aload_n hx hb dX2_isFormed_20 rfl (lv_at hl 0 rfl) ?_
      refine k_get (ci := 2) hx hb hts in_X2 hown hK h_1 rfl 7 (by decide) q1407 (fun _ h9 => h9) rfl dX2_isFormed_21 ?_
      refine lv_isub hx hb dX2_isFormed_24 ?_
      refine k_topi (nI (sp - fr)) (by rw [hf]; exact pk_sub hsp1) ?_
      refine k_calli (va_runV (As := [.int 1, .int (nI (sp - fr))]) (rest := []) ⟨hx, hb, hml, hown, hts⟩ (m_fails l g 1 (nI (sp - fr)) hM1) (cwV 2 hts (lw_V q1471 q1473 qs26 q56 q1474) rfl rfl rfl hdV_X2_fails ⟨Nat.le_of_ble_eq_true rfl, Nat.le_of_ble_eq_true rfl⟩) (preV hK hS h_1 rfl) rfl rfl hl.1 rfl (lv_room (Nat.le_of_ble_eq_true rfl)) dX2_isFormed_25 ⟨Nat.le_of_ble_eq_true rfl, Nat.le_of_ble_eq_true rfl⟩) hS (fun z3 H_18 locs hz3 hS => ?_)
      obtain ⟨rfl, hM2, hF2⟩ := hz3
      exact k_ireti (v := 0) hx hb hret (rfl) hlk hS (Nat.le_of_ble_eq_true rfl) (Nat.le_of_ble_eq_true rfl) (⟨hF.trans hF2 (fun q _ h => h), Or.inr ⟨rfl, sp - fr, sp, brk_L1 hm hst (by have := send_gt (tx := F 4) hsp1 hlt (fun j h1 h2 => by rcases Nat.lt_or_ge j sp with z | z; exact hq j h1 z; rw [show j = sp by omega]; exact fun z => c4 (Or.inr z)); omega), hM2⟩⟩) dX2_isFormed_28
