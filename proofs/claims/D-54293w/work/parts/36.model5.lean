/-! ===== HandBlindsModel: changes, addsAll (printed by tools/model5.py) ===== -/
set_option maxRecDepth 100000
theorem upd_upd (f : Nat → Int32) (k : Nat) (x y : Int32) : upd (upd f k x) k y = upd f k y := by
  funext j; unfold upd; split <;> simp_all
/-- the saved ones move down by one -/
def sh1 (p : Nat → Int32) (i : Nat) : Nat → Int32 := fun k => if k < i then p (k + 369) else p k
theorem sh1_0 (p : Nat → Int32) : sh1 p 0 = p := by funext k; unfold sh1; simp
theorem sh1_s (p : Nat → Int32) (i : Nat) (x : Int32) (hx : p (i + 369) = x) : upd (sh1 p i) i x = sh1 p (i + 1) := by
  funext k
  subst hx
  unfold sh1 upd
  dsimp only
  by_cases h : k = i
  · subst h; rw [if_pos rfl, if_pos (by omega)]
  · rw [if_neg h]
    by_cases h2 : k < i
    · rw [if_pos h2, if_pos (by omega)]
    · rw [if_neg h2, if_neg (by omega)]
def cp2 (p s : Nat → Int32) (j i : Nat) : Nat → Int32 := fun k => if 369 * j ≤ k ∧ k < 369 * j + i then s (k - 369 * j) else p k
theorem cp2_0 (p s : Nat → Int32) (j : Nat) : cp2 p s j 0 = p := by funext k; unfold cp2; rw [if_neg (by omega)]
theorem cp2_s (p s : Nat → Int32) (j i : Nat) (x : Int32) (hx : s i = x) : upd (cp2 p s j i) (369 * j + i) x = cp2 p s j (i + 1) := by
  funext k
  subst hx
  unfold cp2 upd
  dsimp only
  by_cases h : k = 369 * j + i
  · subst h; rw [if_pos rfl, if_pos (by omega)]; congr 1; omega
  · rw [if_neg h]
    by_cases h2 : 369 * j ≤ k ∧ k < 369 * j + i
    · rw [if_pos h2, if_pos (by omega)]
    · rw [if_neg h2, if_neg (by omega)]
/-- the saved arrays with one more, the oldest of four gone -/
def chg (p s : Nat → Int32) (j : Nat) : Nat → Int32 := if j = 4 then cp2 (sh1 p 1107) s 3 369 else cp2 p s j 369
theorem chg_4 (p s : Nat → Int32) : cp2 (sh1 p 1107) s 3 369 = chg p s 4 := by unfold chg; rw [if_pos rfl]
theorem chg_n (p s : Nat → Int32) {j : Nat} (h : ¬ j = 4) : cp2 p s j 369 = chg p s j := by unfold chg; rw [if_neg h]
/-- changes() -/
theorem m_changes (l : Launch) (g : GT) {H : Heap} {A : Nat → Nat} {F : Nat → Nat → Int32} {I : Nat → Int32} (j : Nat) (hM : MAt g A F I H) (hj : I 3 = nI j) (hj4 : j ≤ 4) : Met l yX2_changes (ws_ yX2_changes cX2_changes 2 none) ({ frames := 0, cells := 0, slots := 0, locals := 0 } : Room) (va_Pc [.ref (A 0)] (Pre g H)) (Qv g (fun H1 => Fx (MM A) H H1 ∧ MAt g A (va_up F 2 (chg (F 2) (F 1) j)) (upd I 3 (nI (if j = 4 then 4 else j + 1))) H1)) 0 0 (gA g) := by
  refine k_met (cc := cX2_changes) (nL := 2) (vs := [.ref (A 0)]) (by decide +kernel) (Nat.le_of_ble_eq_true rfl) ?_
  intro p e s m below meth c hH hx hb hret hts hown hlk hml hin hK hS ls hl
  subst hH
  have hown : s.vm.findClass RX2 = some m.cls := hown
  have hl : lv_has ls 2 [(0, .ref (A 0))] := hl
  obtain ⟨h0, h1, h2, h3, h4, n12, n13, n14, n23, n24, n34⟩ := id hM
  have hF : Fx (MM A) s.heap s.heap := Fx.rf
  refine lv_aload_n hx hb dX2_changes_0 rfl (lv_at hl 0 rfl) ?_
  refine k_get (ci := 2) hx hb hts in_X2 hown hK h0 rfl 3 (by decide) q1403 (fun _ h9 => h9) rfl dX2_changes_1 ?_
  refine k_topi (nI j) (hj) ?_
  refine lv_iconst (v := nI 4) hx hb dX2_changes_4 (by decide) ?_
  refine lv_icmp_ne (tgt := 49) hx hb dX2_changes_5 (by decide) (fun c5 => ?_) (fun c5 => ?_)
  · have c5 : ¬ j = 4 := fun z => c5 (by rw [z])
    refine lv_iconst (v := nI 0) hx hb dX2_changes_49 (by decide) ?_
    refine lv_istore_n (lv' := [(1, .int (nI 0)), (0, .ref (A 0))]) hx hb dX2_changes_50 rfl hl (by decide) rfl (fun ls hl => ?_)
    have hM2 := MAt.mk (F := F) (I := I) h0 h1 h2 h3 h4 n12 n13 n14 n23 n24 n34
    refine w_loop (Inv := fun (k : Nat) H1 locs cells slots ls => k ≤ 369 ∧ MAt g A (va_up F 2 (cp2 (F 2) (F 1) j k)) (I) H1 ∧ Fx (MM A) s.heap H1 ∧ va_S (gA g) s.heap H1 locs ∧ cells = 0 ∧ slots = 0 ∧ lv_has ls 2 [(1, .int (nI k)), (0, .ref (A 0))]) (μ := fun k => 369 - k) ?_ 0 _ _ _ _ _ ⟨Nat.zero_le _, by rw [cp2_0, upF_id]; exact hM2, hF, hS, rfl, rfl, lv_sub hl [0, 1] rfl⟩
    intro k H1 locs cells slots ls hInv ih
    obtain ⟨hk, hM3, hF, hS, rfl, rfl, hl⟩ := hInv
    obtain ⟨h_1, h_2, h_3, h_4, h_5, -, -, -, -, -, -⟩ := id hM3
    have h_1 : Ob g (A 0) 2 [.ref (A 1), .ref (A 2), .ref (A 3), .int (I 3), .ref (A 4), .int (I 5), .int (I 6), .int (I 7), .int (I 8), .int (I 9), .int (I 10), .int (I 11), .int (I 12)] H1 := h_1
    have h_3 : Ar g (A 2) 0 (aI 1476 (cp2 (F 2) (F 1) j k)) H1 := h_3
    refine lv_iload_n hx hb dX2_changes_51 rfl (lv_at hl 0 rfl) ?_
    refine lv_sipush (v := nI 369) hx hb dX2_changes_52 (by decide) ?_
    refine lv_icmp_ge (tgt := 85) hx hb dX2_changes_55 (by decide) (fun c55 => ?_) (fun c55 => ?_)
    · have hk2 : 369 ≤ k := by rcases Nat.lt_or_ge (k) (369) with z | z; exact absurd c55 (nI_ge z (by omega)); exact z
      have hk2 : k = 369 := by omega
      refine lv_aload_n hx hb dX2_changes_85 rfl (lv_at hl 1 rfl) ?_
      refine lv_dup hx hb dX2_changes_86 rfl ?_
      refine k_get (ci := 2) hx hb hts in_X2 hown hK h_1 rfl 3 (by decide) q1403 (fun _ h9 => h9) rfl dX2_changes_87 ?_
      refine k_topi (nI j) (hj) ?_
      refine lv_iconst (v := 1) hx hb dX2_changes_90 (by decide) ?_
      refine lv_iadd hx hb dX2_changes_91 ?_
      refine k_topi (nI (j + 1)) (nI_1 j) ?_
      refine k_put (ci := 2) hx hb hts in_X2 tyX2 tyX2_ok nmX2 hown hK hS h_1 rfl 3 (by decide) q1403 (fun _ h9 => h9) rfl (rfl) (rfl) (Nat.le_of_ble_eq_true rfl) dX2_changes_92 (fun H_6 locs h_7 u_8 hS => ?_)
      have h_7 : Ob g (A 0) 2 [.ref (A 1), .ref (A 2), .ref (A 3), .int (nI (j + 1)), .ref (A 4), .int (I 5), .int (I 6), .int (I 7), .int (I 8), .int (I 9), .int (I 10), .int (I 11), .int (I 12)] H_6 := h_7
      have h_9 := h_2.upd u_8 (Ne.symm (Ob.neA hK.gg h_1 h_2 (by decide) (by decide)))
      have h_10 := h_3.upd u_8 (Ne.symm (Ob.neA hK.gg h_1 h_3 (by decide) (by decide)))
      have h_11 := h_4.upd u_8 (Ne.symm (Ob.neA hK.gg h_1 h_4 (by decide) (by decide)))
      have h_12 := h_5.upd u_8 (Ne.symm (Ob.neA hK.gg h_1 h_5 (by decide) (by decide)))
      have hF_13 := hF.put u_8 (Or.inl (Or.inl rfl))
      exact k_retv hx hb hret hlk hS (Nat.le_of_ble_eq_true rfl) (Nat.le_of_ble_eq_true rfl) (⟨hF_13, by have h9 := MAt.mk (F := va_up F 2 (cp2 (F 2) (F 1) j k)) (I := upd I 3 (nI (j + 1))) h_7 h_9 h_10 h_11 h_12 n12 n13 n14 n23 n24 n34; rw [hk2, chg_n _ _ c5] at h9; rw [if_neg c5]; exact h9⟩) dX2_changes_95
    · have hk2 : k < 369 := by rcases Nat.lt_or_ge (k) (369) with z | z; exact z; exact absurd (nI_le z (by omega)) c55
      refine lv_aload_n hx hb dX2_changes_58 rfl (lv_at hl 1 rfl) ?_
      refine k_get (ci := 2) hx hb hts in_X2 hown hK h_1 rfl 1 (by decide) q1401 (fun _ h9 => h9) rfl dX2_changes_59 ?_
      refine lv_sipush (v := nI 369) hx hb dX2_changes_62 (by decide) ?_
      refine lv_aload_n hx hb dX2_changes_65 rfl (lv_at hl 1 rfl) ?_
      refine k_get (ci := 2) hx hb hts in_X2 hown hK h_1 rfl 3 (by decide) q1403 (fun _ h9 => h9) rfl dX2_changes_66 ?_
      refine k_topi (nI j) (hj) ?_
      refine lv_imul hx hb dX2_changes_69 ?_
      refine k_topi (nI (369 * j)) (pk_mul 369 j) ?_
      refine lv_iload_n hx hb dX2_changes_70 rfl (lv_at hl 0 rfl) ?_
      refine lv_iadd hx hb dX2_changes_71 ?_
      refine k_topi (nI (369 * j + k)) (nI_add _ k) ?_
      refine lv_aload_n hx hb dX2_changes_72 rfl (lv_at hl 1 rfl) ?_
      refine k_get (ci := 2) hx hb hts in_X2 hown hK h_1 rfl 0 (by decide) q1400 (fun _ h9 => h9) rfl dX2_changes_73 ?_
      refine lv_iload_n hx hb dX2_changes_76 rfl (lv_at hl 0 rfl) ?_
      refine k_ildN hx hb hK h_2 (k) (rfl) (by omega) (by decide) dX2_changes_77 ?_
      refine k_istN hx hb hK hS h_3 (369 * j + k) (rfl) (by omega) (by decide) dX2_changes_78 (fun H_14 locs h_15 u_16 hS => ?_)
      have h_15 : Ar g (A 2) 0 (aI 1476 (upd (cp2 (F 2) (F 1) j k) (369 * j + k) ((F 1) k))) H_14 := h_15
      have h_17 := h_1.upd u_16 (Ob.neA hK.gg h_1 h_3 (by decide) (by decide))
      have h_18 := h_2.upd u_16 n12
      have h_19 := h_4.upd u_16 (Ne.symm n23)
      have h_20 := h_5.upd u_16 (Ne.symm n24)
      have hF_21 := hF.put u_16 (Or.inl (Or.inr (Or.inr (Or.inl rfl))))
      refine lv_iinc (v := nI (k + 1)) (lv' := [(1, .int (nI (k + 1))), (0, .ref (A 0))]) hx hb dX2_changes_79 hl (k := 0) rfl (nI_1 k) (by decide) rfl (fun ls hl => ?_)
      refine lv_goto (tgt := 51) hx hb dX2_changes_82 (by decide) ?_
      exact ih (k + 1) _ _ _ _ _ ⟨by omega, by have h9 := MAt.mk (F := va_up F 2 (upd (cp2 (F 2) (F 1) j k) (369 * j + k) (F 1 k))) (I := I) h_17 h_18 h_15 h_19 h_20 n12 n13 n14 n23 n24 n34; rw [cp2_s (F 2) (F 1) j k _ rfl] at h9; exact h9, hF_21, hS, rfl, rfl, lv_sub hl [0, 1] rfl⟩ (by omega)
  · have c5 : j = 4 := (nI_eq (a := j) (b := 4) (by omega) (by omega)).mp c5
    refine lv_iconst (v := nI 0) hx hb dX2_changes_8 (by decide) ?_
    refine lv_istore_n (lv' := [(1, .int (nI 0)), (0, .ref (A 0))]) hx hb dX2_changes_9 rfl hl (by decide) rfl (fun ls hl => ?_)
    refine w_loop (Inv := fun (i : Nat) H1 locs cells slots ls => i ≤ 1107 ∧ MAt g A (va_up F 2 (sh1 (F 2) i)) I H1 ∧ Fx (MM A) s.heap H1 ∧ va_S (gA g) s.heap H1 locs ∧ cells = 0 ∧ slots = 0 ∧ lv_has ls 2 [(1, .int (nI i)), (0, .ref (A 0))]) (μ := fun i => 1107 - i) ?_ 0 _ _ _ _ _ ⟨Nat.zero_le _, by rw [sh1_0, upF_id]; exact hM, hF, hS, rfl, rfl, lv_sub hl [0, 1] rfl⟩
    intro i H1 locs cells slots ls hInv ih
    obtain ⟨hi, hM1, hF, hS, rfl, rfl, hl⟩ := hInv
    obtain ⟨h_22, h_23, h_24, h_25, h_26, -, -, -, -, -, -⟩ := id hM1
    have h_22 : Ob g (A 0) 2 [.ref (A 1), .ref (A 2), .ref (A 3), .int (I 3), .ref (A 4), .int (I 5), .int (I 6), .int (I 7), .int (I 8), .int (I 9), .int (I 10), .int (I 11), .int (I 12)] H1 := h_22
    have h_24 : Ar g (A 2) 0 (aI 1476 (sh1 (F 2) i)) H1 := h_24
    refine lv_iload_n hx hb dX2_changes_10 rfl (lv_at hl 0 rfl) ?_
    refine lv_sipush (v := nI 1107) hx hb dX2_changes_11 (by decide) ?_
    refine lv_icmp_ge (tgt := 39) hx hb dX2_changes_14 (by decide) (fun c14 => ?_) (fun c14 => ?_)
    · have hi2 : 1107 ≤ i := by rcases Nat.lt_or_ge (i) (1107) with z | z; exact absurd c14 (nI_ge z (by omega)); exact z
      have hi2 : i = 1107 := by omega
      refine lv_aload_n hx hb dX2_changes_39 rfl (lv_at hl 1 rfl) ?_
      refine lv_dup hx hb dX2_changes_40 rfl ?_
      refine k_get (ci := 2) hx hb hts in_X2 hown hK h_22 rfl 3 (by decide) q1403 (fun _ h9 => h9) rfl dX2_changes_41 ?_
      refine k_topi (nI 4) (hj.trans (by rw [c5])) ?_
      refine lv_iconst (v := 1) hx hb dX2_changes_44 (by decide) ?_
      refine lv_isub hx hb dX2_changes_45 ?_
      refine k_put (ci := 2) hx hb hts in_X2 tyX2 tyX2_ok nmX2 hown hK hS h_22 rfl 3 (by decide) q1403 (fun _ h9 => h9) rfl (rfl) (rfl) (Nat.le_of_ble_eq_true rfl) dX2_changes_46 (fun H_27 locs h_28 u_29 hS => ?_)
      have h_28 : Ob g (A 0) 2 [.ref (A 1), .ref (A 2), .ref (A 3), .int ((nI 4) - 1), .ref (A 4), .int (I 5), .int (I 6), .int (I 7), .int (I 8), .int (I 9), .int (I 10), .int (I 11), .int (I 12)] H_27 := h_28
      have h_30 := h_23.upd u_29 (Ne.symm (Ob.neA hK.gg h_22 h_23 (by decide) (by decide)))
      have h_31 := h_24.upd u_29 (Ne.symm (Ob.neA hK.gg h_22 h_24 (by decide) (by decide)))
      have h_32 := h_25.upd u_29 (Ne.symm (Ob.neA hK.gg h_22 h_25 (by decide) (by decide)))
      have h_33 := h_26.upd u_29 (Ne.symm (Ob.neA hK.gg h_22 h_26 (by decide) (by decide)))
      have hF_34 := hF.put u_29 (Or.inl (Or.inl rfl))
      refine lv_iconst (v := nI 0) hx hb dX2_changes_49 (by decide) ?_
      refine lv_istore_n (lv' := [(1, .int (nI 0)), (0, .ref (A 0))]) hx hb dX2_changes_50 rfl hl (by decide) rfl (fun ls hl => ?_)
      have hM2 := MAt.mk (F := va_up F 2 (sh1 (F 2) i)) (I := upd I 3 (nI 3)) h_28 h_30 h_31 h_32 h_33 n12 n13 n14 n23 n24 n34
      refine w_loop (Inv := fun (k : Nat) H1 locs cells slots ls => k ≤ 369 ∧ MAt g A (va_up F 2 (cp2 (sh1 (F 2) i) (F 1) 3 k)) (upd I 3 (nI 3)) H1 ∧ Fx (MM A) s.heap H1 ∧ va_S (gA g) s.heap H1 locs ∧ cells = 0 ∧ slots = 0 ∧ lv_has ls 2 [(1, .int (nI k)), (0, .ref (A 0))]) (μ := fun k => 369 - k) ?_ 0 _ _ _ _ _ ⟨Nat.zero_le _, by rw [cp2_0]; exact hM2, hF_34, hS, rfl, rfl, lv_sub hl [0, 1] rfl⟩
      intro k H1 locs cells slots ls hInv ih
      obtain ⟨hk, hM3, hF, hS, rfl, rfl, hl⟩ := hInv
      obtain ⟨h_35, h_36, h_37, h_38, h_39, -, -, -, -, -, -⟩ := id hM3
      have h_35 : Ob g (A 0) 2 [.ref (A 1), .ref (A 2), .ref (A 3), .int (nI 3), .ref (A 4), .int (I 5), .int (I 6), .int (I 7), .int (I 8), .int (I 9), .int (I 10), .int (I 11), .int (I 12)] H1 := h_35
      have h_37 : Ar g (A 2) 0 (aI 1476 (cp2 (sh1 (F 2) i) (F 1) 3 k)) H1 := h_37
      refine lv_iload_n hx hb dX2_changes_51 rfl (lv_at hl 0 rfl) ?_
      refine lv_sipush (v := nI 369) hx hb dX2_changes_52 (by decide) ?_
      refine lv_icmp_ge (tgt := 85) hx hb dX2_changes_55 (by decide) (fun c55 => ?_) (fun c55 => ?_)
      · have hk2 : 369 ≤ k := by rcases Nat.lt_or_ge (k) (369) with z | z; exact absurd c55 (nI_ge z (by omega)); exact z
        have hk2 : k = 369 := by omega
        refine lv_aload_n hx hb dX2_changes_85 rfl (lv_at hl 1 rfl) ?_
        refine lv_dup hx hb dX2_changes_86 rfl ?_
        refine k_get (ci := 2) hx hb hts in_X2 hown hK h_35 rfl 3 (by decide) q1403 (fun _ h9 => h9) rfl dX2_changes_87 ?_
        refine lv_iconst (v := 1) hx hb dX2_changes_90 (by decide) ?_
        refine lv_iadd hx hb dX2_changes_91 ?_
        refine k_topi (nI (3 + 1)) (nI_1 3) ?_
        refine k_put (ci := 2) hx hb hts in_X2 tyX2 tyX2_ok nmX2 hown hK hS h_35 rfl 3 (by decide) q1403 (fun _ h9 => h9) rfl (rfl) (rfl) (Nat.le_of_ble_eq_true rfl) dX2_changes_92 (fun H_40 locs h_41 u_42 hS => ?_)
        have h_41 : Ob g (A 0) 2 [.ref (A 1), .ref (A 2), .ref (A 3), .int (nI (3 + 1)), .ref (A 4), .int (I 5), .int (I 6), .int (I 7), .int (I 8), .int (I 9), .int (I 10), .int (I 11), .int (I 12)] H_40 := h_41
        have h_43 := h_36.upd u_42 (Ne.symm (Ob.neA hK.gg h_35 h_36 (by decide) (by decide)))
        have h_44 := h_37.upd u_42 (Ne.symm (Ob.neA hK.gg h_35 h_37 (by decide) (by decide)))
        have h_45 := h_38.upd u_42 (Ne.symm (Ob.neA hK.gg h_35 h_38 (by decide) (by decide)))
        have h_46 := h_39.upd u_42 (Ne.symm (Ob.neA hK.gg h_35 h_39 (by decide) (by decide)))
        have hF_47 := hF.put u_42 (Or.inl (Or.inl rfl))
        exact k_retv hx hb hret hlk hS (Nat.le_of_ble_eq_true rfl) (Nat.le_of_ble_eq_true rfl) (⟨hF_47, by have h9 := MAt.mk (F := va_up F 2 (cp2 (sh1 (F 2) i) (F 1) 3 k)) (I := upd (upd I 3 (nI 3)) 3 (nI (3 + 1))) h_41 h_43 h_44 h_45 h_46 n12 n13 n14 n23 n24 n34; rw [hk2, hi2, chg_4] at h9; rw [c5, if_pos rfl]; rw [upd_upd] at h9; exact h9⟩) dX2_changes_95
      · have hk2 : k < 369 := by rcases Nat.lt_or_ge (k) (369) with z | z; exact z; exact absurd (nI_le z (by omega)) c55
        refine lv_aload_n hx hb dX2_changes_58 rfl (lv_at hl 1 rfl) ?_
        refine k_get (ci := 2) hx hb hts in_X2 hown hK h_35 rfl 1 (by decide) q1401 (fun _ h9 => h9) rfl dX2_changes_59 ?_
        refine lv_sipush (v := nI 369) hx hb dX2_changes_62 (by decide) ?_
        refine lv_aload_n hx hb dX2_changes_65 rfl (lv_at hl 1 rfl) ?_
        refine k_get (ci := 2) hx hb hts in_X2 hown hK h_35 rfl 3 (by decide) q1403 (fun _ h9 => h9) rfl dX2_changes_66 ?_
        refine lv_imul hx hb dX2_changes_69 ?_
        refine k_topi (nI (369 * 3)) (pk_mul 369 3) ?_
        refine lv_iload_n hx hb dX2_changes_70 rfl (lv_at hl 0 rfl) ?_
        refine lv_iadd hx hb dX2_changes_71 ?_
        refine k_topi (nI (369 * 3 + k)) (nI_add _ k) ?_
        refine lv_aload_n hx hb dX2_changes_72 rfl (lv_at hl 1 rfl) ?_
        refine k_get (ci := 2) hx hb hts in_X2 hown hK h_35 rfl 0 (by decide) q1400 (fun _ h9 => h9) rfl dX2_changes_73 ?_
        refine lv_iload_n hx hb dX2_changes_76 rfl (lv_at hl 0 rfl) ?_
        refine k_ildN hx hb hK h_36 (k) (rfl) (by omega) (by decide) dX2_changes_77 ?_
        refine k_istN hx hb hK hS h_37 (369 * 3 + k) (rfl) (by omega) (by decide) dX2_changes_78 (fun H_48 locs h_49 u_50 hS => ?_)
        have h_49 : Ar g (A 2) 0 (aI 1476 (upd (cp2 (sh1 (F 2) i) (F 1) 3 k) (369 * 3 + k) ((F 1) k))) H_48 := h_49
        have h_51 := h_35.upd u_50 (Ob.neA hK.gg h_35 h_37 (by decide) (by decide))
        have h_52 := h_36.upd u_50 n12
        have h_53 := h_38.upd u_50 (Ne.symm n23)
        have h_54 := h_39.upd u_50 (Ne.symm n24)
        have hF_55 := hF.put u_50 (Or.inl (Or.inr (Or.inr (Or.inl rfl))))
        refine lv_iinc (v := nI (k + 1)) (lv' := [(1, .int (nI (k + 1))), (0, .ref (A 0))]) hx hb dX2_changes_79 hl (k := 0) rfl (nI_1 k) (by decide) rfl (fun ls hl => ?_)
        refine lv_goto (tgt := 51) hx hb dX2_changes_82 (by decide) ?_
        exact ih (k + 1) _ _ _ _ _ ⟨by omega, by have h9 := MAt.mk (F := va_up F 2 (upd (cp2 (sh1 (F 2) i) (F 1) 3 k) (369 * 3 + k) (F 1 k))) (I := upd I 3 (nI 3)) h_51 h_52 h_49 h_53 h_54 n12 n13 n14 n23 n24 n34; rw [cp2_s (sh1 (F 2) i) (F 1) 3 k _ rfl] at h9; exact h9, hF_55, hS, rfl, rfl, lv_sub hl [0, 1] rfl⟩ (by omega)
    · have hi2 : i < 1107 := by rcases Nat.lt_or_ge (i) (1107) with z | z; exact z; exact absurd (nI_le z (by omega)) c14
      refine lv_aload_n hx hb dX2_changes_17 rfl (lv_at hl 1 rfl) ?_
      refine k_get (ci := 2) hx hb hts in_X2 hown hK h_22 rfl 1 (by decide) q1401 (fun _ h9 => h9) rfl dX2_changes_18 ?_
      refine lv_iload_n hx hb dX2_changes_21 rfl (lv_at hl 0 rfl) ?_
      refine lv_aload_n hx hb dX2_changes_22 rfl (lv_at hl 1 rfl) ?_
      refine k_get (ci := 2) hx hb hts in_X2 hown hK h_22 rfl 1 (by decide) q1401 (fun _ h9 => h9) rfl dX2_changes_23 ?_
      refine lv_iload_n hx hb dX2_changes_26 rfl (lv_at hl 0 rfl) ?_
      refine lv_sipush (v := nI 369) hx hb dX2_changes_27 (by decide) ?_
      refine lv_iadd hx hb dX2_changes_30 ?_
      refine k_topi (nI (i + 369)) (nI_add i 369) ?_
      refine k_ildN hx hb hK h_24 (i + 369) (rfl) (by omega) (by decide) dX2_changes_31 ?_
      refine k_topi (F 2 (i + 369)) (by unfold sh1; exact if_neg (by omega)) ?_
      refine k_istN hx hb hK hS h_24 (i) (rfl) (by omega) (by decide) dX2_changes_32 (fun H_56 locs h_57 u_58 hS => ?_)
      have h_57 : Ar g (A 2) 0 (aI 1476 (upd (sh1 (F 2) i) i (F 2 (i + 369)))) H_56 := h_57
      have h_59 := h_22.upd u_58 (Ob.neA hK.gg h_22 h_24 (by decide) (by decide))
      have h_60 := h_23.upd u_58 n12
      have h_61 := h_25.upd u_58 (Ne.symm n23)
      have h_62 := h_26.upd u_58 (Ne.symm n24)
      have hF_63 := hF.put u_58 (Or.inl (Or.inr (Or.inr (Or.inl rfl))))
      refine lv_iinc (v := nI (i + 1)) (lv' := [(1, .int (nI (i + 1))), (0, .ref (A 0))]) hx hb dX2_changes_33 hl (k := 0) rfl (nI_1 i) (by decide) rfl (fun ls hl => ?_)
      refine lv_goto (tgt := 10) hx hb dX2_changes_36 (by decide) ?_
      exact ih (i + 1) _ _ _ _ _ ⟨by omega, by have h9 := MAt.mk (F := va_up F 2 (upd (sh1 (F 2) i) i (F 2 (i + 369)))) (I := I) h_59 h_60 h_57 h_61 h_62 n12 n13 n14 n23 n24 n34; rw [sh1_s (F 2) i _ rfl] at h9; exact h9, hF_63, hS, rfl, rfl, lv_sub hl [0, 1] rfl⟩ (by omega)
