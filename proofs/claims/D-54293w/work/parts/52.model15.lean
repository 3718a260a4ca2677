/-! ===== HandBlindsModel: route, stop (printed by tools/model15.py) ===== -/
set_option maxRecDepth 100000
theorem rtV_add_old {b : BV} {v : RtV} {e : Nat → Int32} {r : Nat} (h : r < b.2.1.length) : rtV (b.1, b.2.1 ++ [v], e) r = rtV b r := by
  unfold rtV
  simp only [List.getD_eq_getElem?_getD, List.getElem?_append_left h]
theorem rtV_add_new {b : BV} {v : RtV} {e : Nat → Int32} : rtV (b.1, b.2.1 ++ [v], e) b.2.1.length = v := by
  unfold rtV
  simp [List.getD_eq_getElem?_getD]
theorem come_lt {n k : Nat} (hn : n ≤ 20) (hk : k < 2 ^ 31) (h : nI k ≤ (1 <<< (nI n &&& 31)) - 1) : k < 2 ^ 20 := by
  rw [nI_shl1 (by omega), show (1 : Int32) = nI 1 from rfl, pk_sub (Nat.one_le_two_pow)] at h
  have h2 : 2 ^ n ≤ 2 ^ 20 := Nat.pow_le_pow_right (by omega) hn
  have h1 : 1 ≤ 2 ^ n := Nat.one_le_two_pow
  have := (nI_leI hk (by omega)).mp h
  omega
theorem SRel_come {f : Nat → Int32} {b : BV} (h : SRel f b) (hok : okB b) (k : Nat) (hq : b.2.1.length < 6) : SRel (upd (upd (upd (upd f (351 + 3 * b.2.1.length + 0) (nI k)) (351 + 3 * b.2.1.length + 1) 0) (351 + 3 * b.2.1.length + 2) 0) 2 (nI (b.2.1.length + 1))) (b.1, b.2.1 ++ [(k, 0, 0)], b.2.2) := by
  have n20 := hok.1
  have lo : ∀ j, j ≠ 2 → j < 351 + 3 * b.2.1.length → upd (upd (upd (upd f (351 + 3 * b.2.1.length + 0) (nI k)) (351 + 3 * b.2.1.length + 1) 0) (351 + 3 * b.2.1.length + 2) 0) 2 (nI (b.2.1.length + 1)) j = f j := by
    intro j h1 h2
    unfold upd
    rw [if_neg h1, if_neg (by omega), if_neg (by omega), if_neg (by omega)]
  refine ⟨(lo 0 (by omega) (by omega)).trans h.rows, (lo 1 (by omega) (by omega)).trans h.sh, ?_, (lo 3 (by omega) (by omega)).trans h.on, (lo 4 (by omega) (by omega)).trans h.c4, (lo 5 (by omega) (by omega)).trans h.c5, (lo 6 (by omega) (by omega)).trans h.c6, (lo 7 (by omega) (by omega)).trans h.c7, (lo 8 (by omega) (by omega)).trans h.w, (lo 9 (by omega) (by omega)).trans h.c9, (lo 10 (by omega) (by omega)).trans h.c10, fun r hr => ?_, fun r hr => ?_⟩
  · rw [List.length_append]; rfl
  · have hr : r < b.1.length := hr
    exact (h.row hr).congr (hok.name hr).2 (fun j j1 j2 => lo j (by omega) (by omega))
  · have hr : r < (b.2.1 ++ [(k, (0 : Int32), (0 : Int32))]).length := hr
    rw [List.length_append, List.length_singleton] at hr
    by_cases e : r < b.2.1.length
    · rw [rtV_add_old e]
      exact (h.rt e).congr (fun j j1 j2 => lo j (by omega) (by omega))
    · have e2 : r = b.2.1.length := by omega
      subst e2
      rw [rtV_add_new]
      refine ⟨?_, ?_, ?_⟩
      · unfold upd; rw [if_neg (by omega), if_neg (by omega), if_neg (by omega), if_pos (by omega)]
      · unfold upd; rw [if_neg (by omega), if_neg (by omega), if_pos (by omega)]
      · unfold upd; rw [if_neg (by omega), if_pos (by omega)]
theorem okB_come {b : BV} {k : Nat} (hok : okB b) (hq : b.2.1.length < 6) (hk : k < 2 ^ 20) : okB (b.1, b.2.1 ++ [(k, 0, 0)], b.2.2) := by
  obtain ⟨h1, h2, h3, h4, h5, h6, h7⟩ := hok
  refine ⟨h1, by rw [List.length_append, List.length_singleton]; omega, h3, fun r hr => ?_, h5, ?_, h7⟩
  · have hr : r < (b.2.1 ++ [(k, (0 : Int32), (0 : Int32))]).length := hr
    rw [List.length_append, List.length_singleton] at hr
    by_cases e : r < b.2.1.length
    · rw [rtV_add_old e]; exact h4 r e
    · have e2 : r = b.2.1.length := by omega
      subst e2
      rw [rtV_add_new]; exact hk
  · rcases h6 with z | ⟨j, a, e⟩
    · exact Or.inl z
    · exact Or.inr ⟨j, by rw [List.length_append]; omega, e⟩
theorem SRel_halt0 {f : Nat → Int32} {b : BV} (h : SRel f b) (r : Int32) : SRel (upd (upd f 6 (b.2.2 7 + 1)) 7 (b.2.2 8 + r)) (b.1, b.2.1, upd (upd b.2.2 7 (b.2.2 7 + 1)) 8 (b.2.2 8 + r)) :=
  h.nums (fun k hk => by unfold upd; rw [if_neg (by omega), if_neg (by omega)]) rfl h.sh rfl h.on h.c4 h.c5 rfl rfl h.w h.c9 h.c10
theorem okB_halt0 {b : BV} (hok : okB b) (x y : Int32) : okB (b.1, b.2.1, upd (upd b.2.2 7 x) 8 y) := hok.nums rfl rfl rfl rfl rfl
theorem SRel_halt1 {f : Nat → Int32} {b : BV} (h : SRel f b) (hok : okB b) {k : Nat} (hk : k < b.2.1.length) (r : Int32) : SRel (upd (upd (upd (upd f 6 (b.2.2 7 + 1)) 7 (b.2.2 8 + r)) (351 + 3 * k + 1) ((rtV b k).2.1 + 1)) (351 + 3 * k + 2) ((rtV b k).2.2 + r)) (b.1, (setRt b k ((rtV b k).1, (rtV b k).2.1 + 1, (rtV b k).2.2 + r)).2.1, upd (upd b.2.2 7 (b.2.2 7 + 1)) 8 (b.2.2 8 + r)) := by
  have h0 := SRel_halt0 h r
  refine SRel.setRt (i := k) (v := ((rtV b k).1, (rtV b k).2.1 + 1, (rtV b k).2.2 + r)) h0 (okB_halt0 hok _ _) hk (fun j hj => ?_) ?_ ?_ ?_
  · unfold upd; rw [if_neg (by omega), if_neg (by omega)]
  · unfold upd; rw [if_neg (by omega), if_neg (by omega), if_neg (by omega), if_neg (by omega)]; exact (h.rt hk).1
  · unfold upd; rw [if_neg (by omega), if_pos (by omega)]
  · unfold upd; rw [if_pos (by omega)]
theorem okB_halt1 {b : BV} (hok : okB b) {k : Nat} (hk : k < b.2.1.length) (s x : Int32) {y z : Int32} : okB (b.1, (setRt b k ((rtV b k).1, s, x)).2.1, upd (upd b.2.2 7 y) 8 z) :=
  okB.setRt (b := (b.1, b.2.1, upd (upd b.2.2 7 y) 8 z)) (okB_halt0 hok _ _) hk (hok.2.2.2.1 k hk)
/-- route(rows) -/
theorem mp_route (l : Launch) (g : GT) {H : Heap} {A : Nat → Nat} {a : AV} (x : Int32) (hMR : MR g A a H) : Met l yX2_route (ws_ yX2_route cX2_route 3 (some .int)) ({ frames := 1, cells := 0, slots := 0, locals := 22 } : Room) (va_Pc [.ref (A 0), .int x] (Pre g H)) (Qi g (fun z H1 => z = (ordA a (comesV a.1 x)).2 ∧ MR g A (ordA a (comesV a.1 x)).1 H1 ∧ Fx (MM A) H H1)) 0 0 (gA g) := by
  refine k_met (cc := cX2_route) (nL := 3) (vs := [.ref (A 0), .int x]) (by decide +kernel) (Nat.le_of_ble_eq_true rfl) ?_
  intro p e s m below meth c hH hx hb hret hts hown hlk hml hin hK hS ls hl
  subst hH
  have hown : s.vm.findClass RX2 = some m.cls := hown
  have hl : lv_has ls 3 [(0, .ref (A 0)), (1, .int x)] := hl
  obtain ⟨F, I, hM, hs, hok, hn3, hH, hn5, hT⟩ := hMR
  obtain ⟨h0, h1, h2, h3, h4, n12, n13, n14, n23, n24, n34⟩ := id hM
  have hF : Fx (MM A) s.heap s.heap := Fx.rf
  have hl20 := hok.1
  have hl6 := hok.2.1
  have hl4 := hH.1
  have hl60 := hT.1
  have hR : MRel F I a := ⟨hs, hok, hn3, hH, hn5, hT⟩
  refine lv_iload_n hx hb dX2_route_0 rfl (lv_at hl 1 rfl) ?_
  refine lv_iconst (v := 1) hx hb dX2_route_1 (by decide) ?_
  refine lv_iconst (v := 1) hx hb dX2_route_2 (by decide) ?_
  refine lv_aload_n hx hb dX2_route_3 rfl (lv_at hl 0 rfl) ?_
  refine k_get (ci := 2) hx hb hts in_X2 hown hK h0 rfl 0 (by decide) q1400 (fun _ h9 => h9) rfl dX2_route_4 ?_
  refine lv_iconst (v := nI 0) hx hb dX2_route_7 (by decide) ?_
  refine k_ildN hx hb hK h1 (0) (rfl) (by omega) (by decide) dX2_route_8 ?_
  refine k_topi (nI a.1.1.length) (hs.rows) ?_
  refine lv_ishl hx hb dX2_route_9 ?_
  refine lv_iconst (v := 1) hx hb dX2_route_10 (by decide) ?_
  refine lv_isub hx hb dX2_route_11 ?_
  refine k_calliS (va_runS (As := [.int x, .int 1, .int ((1 <<< ((nI a.1.1.length) &&& 31)) - 1)]) (rest := []) ⟨hx, hb, hml, hown, hts⟩ (m_in l g x 1 ((1 <<< (nI a.1.1.length &&& 31)) - 1)) (va_cwS 3 hts (lw_S q1444 q1445 q56 q1446) rfl rfl rfl hdS_X2_in ⟨Nat.le_of_ble_eq_true rfl, Nat.le_of_ble_eq_true rfl⟩) (preS hK hS) rfl rfl hl.1 rfl (lv_room (Nat.le_of_ble_eq_true rfl)) dX2_route_12 ⟨Nat.le_of_ble_eq_true rfl, Nat.le_of_ble_eq_true rfl⟩) hS (fun z1 locs hz1 hS => ?_)
  refine lv_if_ne (tgt := 21) hx hb dX2_route_15 (by decide) (fun c15 => ?_) (fun c15 => ?_)
  · have c15 := b2t hz1 c15
    refine lv_aload_n hx hb dX2_route_21 rfl (lv_at hl 0 rfl) ?_
    refine k_get (ci := 2) hx hb hts in_X2 hown hK h0 rfl 0 (by decide) q1400 (fun _ h9 => h9) rfl dX2_route_22 ?_
    refine lv_iconst (v := nI 2) hx hb dX2_route_25 (by decide) ?_
    refine k_ildN hx hb hK h1 (2) (rfl) (by omega) (by decide) dX2_route_26 ?_
    refine k_topi (nI a.1.2.1.length) (hs.rts) ?_
    refine lv_istore_n (lv' := [(2, .int (nI a.1.2.1.length)), (0, .ref (A 0)), (1, .int x)]) hx hb dX2_route_27 rfl hl (by decide) rfl (fun ls hl => ?_)
    refine lv_iload_n hx hb dX2_route_28 rfl (lv_at hl 0 rfl) ?_
    refine lv_bipush (v := nI 6) hx hb dX2_route_29 (by decide) ?_
    refine lv_icmp_ne (tgt := 37) hx hb dX2_route_31 (by decide) (fun c31 => ?_) (fun c31 => ?_)
    · have c31 : ¬ a.1.2.1.length = 6 := fun z => c31 (by rw [z])
      obtain ⟨k, hk, rfl⟩ := nI_of (x := x) (fun z => absurd c15.1 (Int32.not_le.mpr (Int32.lt_trans z (by decide))))
      refine lv_aload_n hx hb dX2_route_37 rfl (lv_at hl 1 rfl) ?_
      refine k_callv (va_runV (As := []) (rest := []) ⟨hx, hb, hml, hown, hts⟩ (m_changes l g a.2.1.length hM hn3 hH.1) (cwV 0 hts (lw_V q1492 q1494 qs29 q56 q1495) rfl rfl rfl hdV_X2_changes ⟨Nat.le_of_ble_eq_true rfl, Nat.le_of_ble_eq_true rfl⟩) (preV hK hS h0 rfl) rfl rfl hl.1 rfl (lv_room (Nat.le_of_ble_eq_true rfl)) dX2_route_38 ⟨Nat.le_of_ble_eq_true rfl, Nat.le_of_ble_eq_true rfl⟩) hS (fun H_2 locs hp1 hS => ?_)
      obtain ⟨hF2, hM1⟩ := hp1
      have hF := hF.trans hF2 (fun q _ h => h)
      have hM1 : MAt g A (va_up (va_up F 2 (chg (F 2) (F 1) a.2.1.length)) 1 (F 1)) (upd I 3 (nI (if a.2.1.length = 4 then 4 else a.2.1.length + 1))) H_2 := by rw [show va_up (va_up F 2 (chg (F 2) (F 1) a.2.1.length)) 1 (F 1) = (va_up F 2 (chg (F 2) (F 1) a.2.1.length)) from upF_id (va_up F 2 (chg (F 2) (F 1) a.2.1.length)) 1]; exact hM1
      obtain ⟨h_3, h_4, h_5, h_6, h_7, -, -, -, -, -, -⟩ := id hM1
      have h_3 : Ob g (A 0) 2 [.ref (A 1), .ref (A 2), .ref (A 3), .int (nI (if a.2.1.length = 4 then 4 else a.2.1.length + 1)), .ref (A 4), .int (I 5), .int (I 6), .int (I 7), .int (I 8), .int (I 9), .int (I 10), .int (I 11), .int (I 12)] H_2 := h_3
      have h_4 : Ar g (A 1) 0 (aI 369 (F 1)) H_2 := h_4
      have h_5 : Ar g (A 2) 0 (aI 1476 (chg (F 2) (F 1) a.2.1.length)) H_2 := h_5
      refine lv_aload_n hx hb dX2_route_41 rfl (lv_at hl 1 rfl) ?_
      refine k_get (ci := 2) hx hb hts in_X2 hown hK h_3 rfl 0 (by decide) q1400 (fun _ h9 => h9) rfl dX2_route_42 ?_
      refine lv_sipush (v := nI 351) hx hb dX2_route_45 (by decide) ?_
      refine lv_iconst (v := nI 3) hx hb dX2_route_48 (by decide) ?_
      refine lv_iload_n hx hb dX2_route_49 rfl (lv_at hl 0 rfl) ?_
      refine lv_imul hx hb dX2_route_50 ?_
      refine k_topi (nI (3 * a.1.2.1.length)) (pk_mul 3 _) ?_
      refine lv_iadd hx hb dX2_route_51 ?_
      refine k_topi (nI (351 + 3 * a.1.2.1.length)) (nI_add 351 _) ?_
      refine lv_iconst (v := nI 0) hx hb dX2_route_52 (by decide) ?_
      refine lv_iadd hx hb dX2_route_53 ?_
      refine k_topi (nI (351 + 3 * a.1.2.1.length + 0)) (nI_add _ 0) ?_
      refine lv_iload_n hx hb dX2_route_54 rfl (lv_at hl 2 rfl) ?_
      refine k_istN hx hb hK hS h_4 (351 + 3 * a.1.2.1.length + 0) (rfl) (by omega) (by decide) dX2_route_55 (fun H_8 locs h_9 u_10 hS => ?_)
      have h_9 : Ar g (A 1) 0 (aI 369 (upd (F 1) (351 + 3 * a.1.2.1.length + 0) (nI k))) H_8 := h_9
      have h_11 := h_3.upd u_10 (Ob.neA hK.gg h_3 h_4 (by decide) (by decide))
      have h_12 := h_5.upd u_10 (Ne.symm n12)
      have h_13 := h_6.upd u_10 (Ne.symm n13)
      have h_14 := h_7.upd u_10 (Ne.symm n14)
      have hF_15 := hF.put u_10 (Or.inl (Or.inr (Or.inl rfl)))
      refine lv_aload_n hx hb dX2_route_56 rfl (lv_at hl 1 rfl) ?_
      refine k_get (ci := 2) hx hb hts in_X2 hown hK h_11 rfl 0 (by decide) q1400 (fun _ h9 => h9) rfl dX2_route_57 ?_
      refine lv_sipush (v := nI 351) hx hb dX2_route_60 (by decide) ?_
      refine lv_iconst (v := nI 3) hx hb dX2_route_63 (by decide) ?_
      refine lv_iload_n hx hb dX2_route_64 rfl (lv_at hl 0 rfl) ?_
      refine lv_imul hx hb dX2_route_65 ?_
      refine k_topi (nI (3 * a.1.2.1.length)) (pk_mul 3 _) ?_
      refine lv_iadd hx hb dX2_route_66 ?_
      refine k_topi (nI (351 + 3 * a.1.2.1.length)) (nI_add 351 _) ?_
      refine lv_iconst (v := nI 1) hx hb dX2_route_67 (by decide) ?_
      refine lv_iadd hx hb dX2_route_68 ?_
      refine k_topi (nI (351 + 3 * a.1.2.1.length + 1)) (nI_add _ 1) ?_
      refine lv_iconst (v := 0) hx hb dX2_route_69 (by decide) ?_
      refine k_istN hx hb hK hS h_9 (351 + 3 * a.1.2.1.length + 1) (rfl) (by omega) (by decide) dX2_route_70 (fun H_16 locs h_17 u_18 hS => ?_)
      have h_17 : Ar g (A 1) 0 (aI 369 (upd (upd (F 1) (351 + 3 * a.1.2.1.length + 0) (nI k)) (351 + 3 * a.1.2.1.length + 1) 0)) H_16 := h_17
      have h_19 := h_11.upd u_18 (Ob.neA hK.gg h_11 h_9 (by decide) (by decide))
      have h_20 := h_12.upd u_18 (Ne.symm n12)
      have h_21 := h_13.upd u_18 (Ne.symm n13)
      have h_22 := h_14.upd u_18 (Ne.symm n14)
      have hF_23 := hF_15.put u_18 (Or.inl (Or.inr (Or.inl rfl)))
      refine lv_aload_n hx hb dX2_route_71 rfl (lv_at hl 1 rfl) ?_
      refine k_get (ci := 2) hx hb hts in_X2 hown hK h_19 rfl 0 (by decide) q1400 (fun _ h9 => h9) rfl dX2_route_72 ?_
      refine lv_sipush (v := nI 351) hx hb dX2_route_75 (by decide) ?_
      refine lv_iconst (v := nI 3) hx hb dX2_route_78 (by decide) ?_
      refine lv_iload_n hx hb dX2_route_79 rfl (lv_at hl 0 rfl) ?_
      refine lv_imul hx hb dX2_route_80 ?_
      refine k_topi (nI (3 * a.1.2.1.length)) (pk_mul 3 _) ?_
      refine lv_iadd hx hb dX2_route_81 ?_
      refine k_topi (nI (351 + 3 * a.1.2.1.length)) (nI_add 351 _) ?_
      refine lv_iconst (v := nI 2) hx hb dX2_route_82 (by decide) ?_
      refine lv_iadd hx hb dX2_route_83 ?_
      refine k_topi (nI (351 + 3 * a.1.2.1.length + 2)) (nI_add _ 2) ?_
      refine lv_iconst (v := 0) hx hb dX2_route_84 (by decide) ?_
      refine k_istN hx hb hK hS h_17 (351 + 3 * a.1.2.1.length + 2) (rfl) (by omega) (by decide) dX2_route_85 (fun H_24 locs h_25 u_26 hS => ?_)
      have h_25 : Ar g (A 1) 0 (aI 369 (upd (upd (upd (F 1) (351 + 3 * a.1.2.1.length + 0) (nI k)) (351 + 3 * a.1.2.1.length + 1) 0) (351 + 3 * a.1.2.1.length + 2) 0)) H_24 := h_25
      have h_27 := h_19.upd u_26 (Ob.neA hK.gg h_19 h_17 (by decide) (by decide))
      have h_28 := h_20.upd u_26 (Ne.symm n12)
      have h_29 := h_21.upd u_26 (Ne.symm n13)
      have h_30 := h_22.upd u_26 (Ne.symm n14)
      have hF_31 := hF_23.put u_26 (Or.inl (Or.inr (Or.inl rfl)))
      refine lv_aload_n hx hb dX2_route_86 rfl (lv_at hl 1 rfl) ?_
      refine k_get (ci := 2) hx hb hts in_X2 hown hK h_27 rfl 0 (by decide) q1400 (fun _ h9 => h9) rfl dX2_route_87 ?_
      refine lv_iconst (v := nI 2) hx hb dX2_route_90 (by decide) ?_
      refine lv_dup2_11 hx hb dX2_route_91 rfl rfl ?_
      refine k_ildN hx hb hK h_25 (2) (rfl) (by omega) (by decide) dX2_route_92 ?_
      refine k_topi (nI a.1.2.1.length) (by show upd (upd (upd (F 1) _ _) _ _) _ _ 2 = _; unfold upd; rw [if_neg (by omega), if_neg (by omega), if_neg (by omega)]; exact hs.rts) ?_
      refine lv_iconst (v := 1) hx hb dX2_route_93 (by decide) ?_
      refine lv_iadd hx hb dX2_route_94 ?_
      refine k_topi (nI (a.1.2.1.length + 1)) (nI_1 _) ?_
      refine k_istN hx hb hK hS h_25 (2) (rfl) (by omega) (by decide) dX2_route_95 (fun H_32 locs h_33 u_34 hS => ?_)
      have h_33 : Ar g (A 1) 0 (aI 369 (upd (upd (upd (upd (F 1) (351 + 3 * a.1.2.1.length + 0) (nI k)) (351 + 3 * a.1.2.1.length + 1) 0) (351 + 3 * a.1.2.1.length + 2) 0) 2 (nI (a.1.2.1.length + 1)))) H_32 := h_33
      have h_35 := h_27.upd u_34 (Ob.neA hK.gg h_27 h_25 (by decide) (by decide))
      have h_36 := h_28.upd u_34 (Ne.symm n12)
      have h_37 := h_29.upd u_34 (Ne.symm n13)
      have h_38 := h_30.upd u_34 (Ne.symm n14)
      have hF_39 := hF_31.put u_34 (Or.inl (Or.inr (Or.inl rfl)))
      refine lv_iload_n hx hb dX2_route_96 rfl (lv_at hl 0 rfl) ?_
      exact k_ireti (v := nI a.1.2.1.length) hx hb hret (rfl) hlk hS (Nat.le_of_ble_eq_true rfl) (Nat.le_of_ble_eq_true rfl) (⟨by unfold comesV; rw [if_pos c15, if_neg c31, ordA_some], by unfold comesV; rw [if_pos c15, if_neg c31, ordA_some, nI_clamp hk]; exact ⟨_, _, MAt.mk (F := va_up (va_up F 2 (chg (F 2) (F 1) a.2.1.length)) 1 (upd (upd (upd (upd (F 1) (351 + 3 * a.1.2.1.length + 0) (nI k)) (351 + 3 * a.1.2.1.length + 1) 0) (351 + 3 * a.1.2.1.length + 2) 0) 2 (nI (a.1.2.1.length + 1)))) (I := upd I 3 (nI (if a.2.1.length = 4 then 4 else a.2.1.length + 1))) h_35 h_33 h_36 h_37 h_38 n12 n13 n14 n23 n24 n34, hR.chg (SRel_come hs hok k (by omega)) (okB_come hok (by omega) (come_lt hl20 hk c15.2)) rfl rfl rfl rfl⟩, hF_39⟩) dX2_route_97
    · have c31 : a.1.2.1.length = 6 := (nI_eq (a := a.1.2.1.length) (b := 6) (by omega) (by omega)).mp c31
      refine lv_ldc (v := (-1000003)) hx hb hown (hts _ q1547) dX2_route_34 ?_
      exact k_ireti (v := (-1000003)) hx hb hret (rfl) hlk hS (Nat.le_of_ble_eq_true rfl) (Nat.le_of_ble_eq_true rfl) (⟨by unfold comesV; rw [if_pos c15, if_pos c31]; rfl, by unfold comesV; rw [if_pos c15, if_pos c31]; exact ⟨F, I, hM, hR⟩, hF⟩) dX2_route_36
  · have c15 := b2f hz1 c15
    refine lv_ldc (v := (-1000001)) hx hb hown (hts _ q1447) dX2_route_18 ?_
    exact k_ireti (v := (-1000001)) hx hb hret (rfl) hlk hS (Nat.le_of_ble_eq_true rfl) (Nat.le_of_ble_eq_true rfl) (⟨by unfold comesV; rw [if_neg c15]; rfl, by unfold comesV; rw [if_neg c15]; exact ⟨F, I, hM, hR⟩, hF⟩) dX2_route_20
/-- stop() -/
theorem mp_stop (l : Launch) (g : GT) {H : Heap} {A : Nat → Nat} {a : AV} (hMR : MR g A a H) : Met l yX2_stop (ws_ yX2_stop cX2_stop 3 (some .int)) ({ frames := 4, cells := 0, slots := 0, locals := 90 } : Room) (va_Pc [.ref (A 0)] (Pre g H)) (Qi g (fun z H1 => z = (ordA a (haltsV a.1)).2 ∧ MR g A (ordA a (haltsV a.1)).1 H1 ∧ Fx (MM A) H H1)) 0 0 (gA g) := by
  refine k_met (cc := cX2_stop) (nL := 3) (vs := [.ref (A 0)]) (by decide +kernel) (Nat.le_of_ble_eq_true rfl) ?_
  intro p e s m below meth c hH hx hb hret hts hown hlk hml hin hK hS ls hl
  subst hH
  have hown : s.vm.findClass RX2 = some m.cls := hown
  have hl : lv_has ls 3 [(0, .ref (A 0))] := hl
  obtain ⟨F, I, hM, hs, hok, hn3, hH, hn5, hT⟩ := hMR
  obtain ⟨h0, h1, h2, h3, h4, n12, n13, n14, n23, n24, n34⟩ := id hM
  have hF : Fx (MM A) s.heap s.heap := Fx.rf
  have hl20 := hok.1
  have hl6 := hok.2.1
  have hl4 := hH.1
  have hl60 := hT.1
  have hR : MRel F I a := ⟨hs, hok, hn3, hH, hn5, hT⟩
  refine lv_aload_n hx hb dX2_stop_0 rfl (lv_at hl 0 rfl) ?_
  refine k_callv (va_runV (As := []) (rest := []) ⟨hx, hb, hml, hown, hts⟩ (m_changes l g a.2.1.length hM hn3 hH.1) (cwV 0 hts (lw_V q1492 q1494 qs29 q56 q1495) rfl rfl rfl hdV_X2_changes ⟨Nat.le_of_ble_eq_true rfl, Nat.le_of_ble_eq_true rfl⟩) (preV hK hS h0 rfl) rfl rfl hl.1 rfl (lv_room (Nat.le_of_ble_eq_true rfl)) dX2_stop_1 ⟨Nat.le_of_ble_eq_true rfl, Nat.le_of_ble_eq_true rfl⟩) hS (fun H_1 locs hp1 hS => ?_)
  obtain ⟨hF2, hM1⟩ := hp1
  have hF := hF.trans hF2 (fun q _ h => h)
  have hM1 : MAt g A (va_up (va_up F 2 (chg (F 2) (F 1) a.2.1.length)) 1 (F 1)) (upd I 3 (nI (if a.2.1.length = 4 then 4 else a.2.1.length + 1))) H_1 := by rw [show va_up (va_up F 2 (chg (F 2) (F 1) a.2.1.length)) 1 (F 1) = (va_up F 2 (chg (F 2) (F 1) a.2.1.length)) from upF_id (va_up F 2 (chg (F 2) (F 1) a.2.1.length)) 1]; exact hM1
  obtain ⟨h_2, h_3, h_4, h_5, h_6, -, -, -, -, -, -⟩ := id hM1
  have h_2 : Ob g (A 0) 2 [.ref (A 1), .ref (A 2), .ref (A 3), .int (nI (if a.2.1.length = 4 then 4 else a.2.1.length + 1)), .ref (A 4), .int (I 5), .int (I 6), .int (I 7), .int (I 8), .int (I 9), .int (I 10), .int (I 11), .int (I 12)] H_1 := h_2
  have h_3 : Ar g (A 1) 0 (aI 369 (F 1)) H_1 := h_3
  have h_4 : Ar g (A 2) 0 (aI 1476 (chg (F 2) (F 1) a.2.1.length)) H_1 := h_4
  by_cases he : a.1.1.length = 0
  · refine lv_aload_n hx hb dX2_stop_4 rfl (lv_at hl 0 rfl) ?_
    refine lv_aload_n hx hb dX2_stop_5 rfl (lv_at hl 0 rfl) ?_
    refine k_get (ci := 2) hx hb hts in_X2 hown hK h_2 rfl 0 (by decide) q1400 (fun _ h9 => h9) rfl dX2_stop_6 ?_
    refine lv_iconst (v := nI 1) hx hb dX2_stop_9 (by decide) ?_
    refine k_ildN hx hb hK h_3 (1) (rfl) (by omega) (by decide) dX2_stop_10 ?_
    refine k_topi ((-1)) (hs.sh.trans (if_pos he)) ?_
    refine k_calliS (va_runV (As := [.int (-1)]) (rest := []) ⟨hx, hb, hml, hown, hts⟩ (m_wrongByN l g a.1 hM1 hs hok) (cwV 1 hts (lw_V q1560 q1562 qs38 q56 q1563) rfl rfl rfl hdV_X2_wrongBy ⟨Nat.le_of_ble_eq_true rfl, Nat.le_of_ble_eq_true rfl⟩) (preV hK hS h_2 rfl) rfl rfl hl.1 rfl (lv_room (Nat.le_of_ble_eq_true rfl)) dX2_stop_11 ⟨Nat.le_of_ble_eq_true rfl, Nat.le_of_ble_eq_true rfl⟩) hS (fun t1 locs ht1 hS => ?_)
    have ht1 : t1 = wrongV a.1 (a.1.2.2 3) := by rw [ht1]; unfold wrongV; rw [if_neg (fun h => absurd h (by rw [he]; rintro ⟨a1, b1⟩; exact absurd a1 (Int32.not_le.mpr b1)))]
    generalize hW : wrongV a.1 (a.1.2.2 3) = wv at ht1
    subst ht1
    refine lv_istore_n (lv' := [(1, .int t1), (0, .ref (A 0))]) hx hb dX2_stop_14 rfl hl (by decide) rfl (fun ls hl => ?_)
    refine lv_iload_n hx hb dX2_stop_15 rfl (lv_at hl 0 rfl) ?_
    refine lv_if_ne (tgt := 23) hx hb dX2_stop_16 (by decide) (fun c16 => ?_) (fun c16 => ?_)
    · refine lv_iconst (v := 0) hx hb dX2_stop_23 (by decide) ?_
      refine lv_istore_n (lv' := [(2, .int 0), (1, .int t1), (0, .ref (A 0))]) hx hb dX2_stop_24 rfl hl (by decide) rfl (fun ls hl => ?_)
      refine lv_aload_n hx hb dX2_stop_25 rfl (lv_at hl 2 rfl) ?_
      refine k_get (ci := 2) hx hb hts in_X2 hown hK h_2 rfl 0 (by decide) q1400 (fun _ h9 => h9) rfl dX2_stop_26 ?_
      refine lv_bipush (v := nI 6) hx hb dX2_stop_29 (by decide) ?_
      refine lv_dup2_11 hx hb dX2_stop_31 rfl rfl ?_
      refine k_ildN hx hb hK h_3 (6) (rfl) (by omega) (by decide) dX2_stop_32 ?_
      refine k_topi (a.1.2.2 7) (hs.c6) ?_
      refine lv_iconst (v := 1) hx hb dX2_stop_33 (by decide) ?_
      refine lv_iadd hx hb dX2_stop_34 ?_
      refine k_istN hx hb hK hS h_3 (6) (rfl) (by omega) (by decide) dX2_stop_35 (fun H_8 locs h_9 u_10 hS => ?_)
      have h_9 : Ar g (A 1) 0 (aI 369 (upd (F 1) 6 ((a.1.2.2 7) + 1))) H_8 := h_9
      have h_11 := h_2.upd u_10 (Ob.neA hK.gg h_2 h_3 (by decide) (by decide))
      have h_12 := h_4.upd u_10 (Ne.symm n12)
      have h_13 := h_5.upd u_10 (Ne.symm n13)
      have h_14 := h_6.upd u_10 (Ne.symm n14)
      have hF_15 := hF.put u_10 (Or.inl (Or.inr (Or.inl rfl)))
      refine lv_aload_n hx hb dX2_stop_36 rfl (lv_at hl 2 rfl) ?_
      refine k_get (ci := 2) hx hb hts in_X2 hown hK h_11 rfl 0 (by decide) q1400 (fun _ h9 => h9) rfl dX2_stop_37 ?_
      refine lv_bipush (v := nI 7) hx hb dX2_stop_40 (by decide) ?_
      refine lv_dup2_11 hx hb dX2_stop_42 rfl rfl ?_
      refine k_ildN hx hb hK h_9 (7) (rfl) (by omega) (by decide) dX2_stop_43 ?_
      refine k_topi (a.1.2.2 8) (hs.c7) ?_
      refine lv_iload_n hx hb dX2_stop_44 rfl (lv_at hl 0 rfl) ?_
      refine lv_iadd hx hb dX2_stop_45 ?_
      refine k_istN hx hb hK hS h_9 (7) (rfl) (by omega) (by decide) dX2_stop_46 (fun H_16 locs h_17 u_18 hS => ?_)
      have h_17 : Ar g (A 1) 0 (aI 369 (upd (upd (F 1) 6 ((a.1.2.2 7) + 1)) 7 ((a.1.2.2 8) + 0))) H_16 := h_17
      have h_19 := h_11.upd u_18 (Ob.neA hK.gg h_11 h_9 (by decide) (by decide))
      have h_20 := h_12.upd u_18 (Ne.symm n12)
      have h_21 := h_13.upd u_18 (Ne.symm n13)
      have h_22 := h_14.upd u_18 (Ne.symm n14)
      have hF_23 := hF_15.put u_18 (Or.inl (Or.inr (Or.inl rfl)))
      rcases hok.2.2.2.2.2.1 with hon | ⟨k, hk, hon⟩
      · refine lv_aload_n hx hb dX2_stop_47 rfl (lv_at hl 2 rfl) ?_
        refine k_get (ci := 2) hx hb hts in_X2 hown hK h_19 rfl 0 (by decide) q1400 (fun _ h9 => h9) rfl dX2_stop_48 ?_
        refine lv_iconst (v := nI 3) hx hb dX2_stop_51 (by decide) ?_
        refine k_ildN hx hb hK h_17 (3) (rfl) (by omega) (by decide) dX2_stop_52 ?_
        refine k_topi ((-1)) (hs.on.trans hon) ?_
        refine lv_if_lt (tgt := 102) hx hb dX2_stop_53 (by decide) (fun c53 => ?_) (fun c53 => absurd (by decide) c53)
        refine lv_iload_n hx hb dX2_stop_102 rfl (lv_at hl 1 rfl) ?_
        have hB : haltB a.1 t1 = (a.1.1, a.1.2.1, upd (upd a.1.2.2 7 (a.1.2.2 7 + 1)) 8 (a.1.2.2 8 + 0)) := by unfold haltB; rw [if_pos hon, if_neg c16]
        exact k_ireti (v := t1) hx hb hret (rfl) hlk hS (Nat.le_of_ble_eq_true rfl) (Nat.le_of_ble_eq_true rfl) (⟨by unfold haltsV; rw [hW, ordA_some], by unfold haltsV; rw [hW, ordA_some, hB]; exact ⟨_, _, MAt.mk (F := va_up (va_up F 2 (chg (F 2) (F 1) a.2.1.length)) 1 (upd (upd (F 1) 6 (a.1.2.2 7 + 1)) 7 (a.1.2.2 8 + 0))) (I := upd I 3 (nI (if a.2.1.length = 4 then 4 else a.2.1.length + 1))) h_19 h_17 h_20 h_21 h_22 n12 n13 n14 n23 n24 n34, hR.chg (SRel_halt0 hs _) (okB_halt0 hok _ _) rfl rfl rfl rfl⟩, hF_23⟩) dX2_stop_103
      · have hon1 : a.1.2.2 4 ≠ -1 := by rw [hon]; exact nI_nem1 k (by omega)
        refine lv_aload_n hx hb dX2_stop_47 rfl (lv_at hl 2 rfl) ?_
        refine k_get (ci := 2) hx hb hts in_X2 hown hK h_19 rfl 0 (by decide) q1400 (fun _ h9 => h9) rfl dX2_stop_48 ?_
        refine lv_iconst (v := nI 3) hx hb dX2_stop_51 (by decide) ?_
        refine k_ildN hx hb hK h_17 (3) (rfl) (by omega) (by decide) dX2_stop_52 ?_
        refine k_topi (nI k) (hs.on.trans hon) ?_
        refine lv_if_lt (tgt := 102) hx hb dX2_stop_53 (by decide) (fun c53 => ?_) (fun c53 => ?_)
        · exact absurd c53 (nI_pos (by omega))
        · refine lv_aload_n hx hb dX2_stop_56 rfl (lv_at hl 2 rfl) ?_
          refine k_get (ci := 2) hx hb hts in_X2 hown hK h_19 rfl 0 (by decide) q1400 (fun _ h9 => h9) rfl dX2_stop_57 ?_
          refine lv_sipush (v := nI 351) hx hb dX2_stop_60 (by decide) ?_
          refine lv_iconst (v := nI 3) hx hb dX2_stop_63 (by decide) ?_
          refine lv_aload_n hx hb dX2_stop_64 rfl (lv_at hl 2 rfl) ?_
          refine k_get (ci := 2) hx hb hts in_X2 hown hK h_19 rfl 0 (by decide) q1400 (fun _ h9 => h9) rfl dX2_stop_65 ?_
          refine lv_iconst (v := nI 3) hx hb dX2_stop_68 (by decide) ?_
          refine k_ildN hx hb hK h_17 (3) (rfl) (by omega) (by decide) dX2_stop_69 ?_
          refine k_topi (nI k) (hs.on.trans hon) ?_
          refine lv_imul hx hb dX2_stop_70 ?_
          refine k_topi (nI (3 * k)) (pk_mul 3 _) ?_
          refine lv_iadd hx hb dX2_stop_71 ?_
          refine k_topi (nI (351 + 3 * k)) (nI_add 351 _) ?_
          refine lv_iconst (v := nI 1) hx hb dX2_stop_72 (by decide) ?_
          refine lv_iadd hx hb dX2_stop_73 ?_
          refine k_topi (nI (351 + 3 * k + 1)) (nI_add _ 1) ?_
          refine lv_dup2_11 hx hb dX2_stop_74 rfl rfl ?_
          refine k_ildN hx hb hK h_17 (351 + 3 * k + 1) (rfl) (by omega) (by decide) dX2_stop_75 ?_
          refine k_topi ((rtV a.1 k).2.1) (by show upd (upd (F 1) _ _) _ _ (351 + 3 * k + 1) = _; unfold upd; rw [if_neg (by omega), if_neg (by omega), show 351 + 3 * k + 1 = 352 + 3 * k by omega]; exact (hs.rt hk).2.1) ?_
          refine lv_iconst (v := 1) hx hb dX2_stop_76 (by decide) ?_
          refine lv_iadd hx hb dX2_stop_77 ?_
          refine k_istN hx hb hK hS h_17 (351 + 3 * k + 1) (rfl) (by omega) (by decide) dX2_stop_78 (fun H_24 locs h_25 u_26 hS => ?_)
          have h_25 : Ar g (A 1) 0 (aI 369 (upd (upd (upd (F 1) 6 ((a.1.2.2 7) + 1)) 7 ((a.1.2.2 8) + 0)) (351 + 3 * k + 1) (((rtV a.1 k).2.1) + 1))) H_24 := h_25
          have h_27 := h_19.upd u_26 (Ob.neA hK.gg h_19 h_17 (by decide) (by decide))
          have h_28 := h_20.upd u_26 (Ne.symm n12)
          have h_29 := h_21.upd u_26 (Ne.symm n13)
          have h_30 := h_22.upd u_26 (Ne.symm n14)
          have hF_31 := hF_23.put u_26 (Or.inl (Or.inr (Or.inl rfl)))
          refine lv_aload_n hx hb dX2_stop_79 rfl (lv_at hl 2 rfl) ?_
          refine k_get (ci := 2) hx hb hts in_X2 hown hK h_27 rfl 0 (by decide) q1400 (fun _ h9 => h9) rfl dX2_stop_80 ?_
          refine lv_sipush (v := nI 351) hx hb dX2_stop_83 (by decide) ?_
          refine lv_iconst (v := nI 3) hx hb dX2_stop_86 (by decide) ?_
          refine lv_aload_n hx hb dX2_stop_87 rfl (lv_at hl 2 rfl) ?_
          refine k_get (ci := 2) hx hb hts in_X2 hown hK h_27 rfl 0 (by decide) q1400 (fun _ h9 => h9) rfl dX2_stop_88 ?_
          refine lv_iconst (v := nI 3) hx hb dX2_stop_91 (by decide) ?_
          refine k_ildN hx hb hK h_25 (3) (rfl) (by omega) (by decide) dX2_stop_92 ?_
          refine k_topi (nI k) (by show upd _ (351 + 3 * k + 1) _ 3 = _; unfold upd; rw [if_neg (by omega)]; exact hs.on.trans hon) ?_
          refine lv_imul hx hb dX2_stop_93 ?_
          refine k_topi (nI (3 * k)) (pk_mul 3 _) ?_
          refine lv_iadd hx hb dX2_stop_94 ?_
          refine k_topi (nI (351 + 3 * k)) (nI_add 351 _) ?_
          refine lv_iconst (v := nI 2) hx hb dX2_stop_95 (by decide) ?_
          refine lv_iadd hx hb dX2_stop_96 ?_
          refine k_topi (nI (351 + 3 * k + 2)) (nI_add _ 2) ?_
          refine lv_dup2_11 hx hb dX2_stop_97 rfl rfl ?_
          refine k_ildN hx hb hK h_25 (351 + 3 * k + 2) (rfl) (by omega) (by decide) dX2_stop_98 ?_
          refine k_topi ((rtV a.1 k).2.2) (by show upd (upd (upd (F 1) _ _) _ _) _ _ (351 + 3 * k + 2) = _; unfold upd; rw [if_neg (by omega), if_neg (by omega), if_neg (by omega), show 351 + 3 * k + 2 = 353 + 3 * k by omega]; exact (hs.rt hk).2.2) ?_
          refine lv_iload_n hx hb dX2_stop_99 rfl (lv_at hl 0 rfl) ?_
          refine lv_iadd hx hb dX2_stop_100 ?_
          refine k_istN hx hb hK hS h_25 (351 + 3 * k + 2) (rfl) (by omega) (by decide) dX2_stop_101 (fun H_32 locs h_33 u_34 hS => ?_)
          have h_33 : Ar g (A 1) 0 (aI 369 (upd (upd (upd (upd (F 1) 6 ((a.1.2.2 7) + 1)) 7 ((a.1.2.2 8) + 0)) (351 + 3 * k + 1) (((rtV a.1 k).2.1) + 1)) (351 + 3 * k + 2) (((rtV a.1 k).2.2) + 0))) H_32 := h_33
          have h_35 := h_27.upd u_34 (Ob.neA hK.gg h_27 h_25 (by decide) (by decide))
          have h_36 := h_28.upd u_34 (Ne.symm n12)
          have h_37 := h_29.upd u_34 (Ne.symm n13)
          have h_38 := h_30.upd u_34 (Ne.symm n14)
          have hF_39 := hF_31.put u_34 (Or.inl (Or.inr (Or.inl rfl)))
          refine lv_iload_n hx hb dX2_stop_102 rfl (lv_at hl 1 rfl) ?_
          have hB : haltB a.1 t1 = (a.1.1, (setRt a.1 k ((rtV a.1 k).1, (rtV a.1 k).2.1 + 1, (rtV a.1 k).2.2 + 0)).2.1, upd (upd a.1.2.2 7 (a.1.2.2 7 + 1)) 8 (a.1.2.2 8 + 0)) := by unfold haltB; rw [if_neg hon1, hon, nI_clamp (by omega), if_neg c16]
          exact k_ireti (v := t1) hx hb hret (rfl) hlk hS (Nat.le_of_ble_eq_true rfl) (Nat.le_of_ble_eq_true rfl) (⟨by unfold haltsV; rw [hW, ordA_some], by unfold haltsV; rw [hW, ordA_some, hB]; exact ⟨_, _, MAt.mk (F := va_up (va_up F 2 (chg (F 2) (F 1) a.2.1.length)) 1 (upd (upd (upd (upd (F 1) 6 (a.1.2.2 7 + 1)) 7 (a.1.2.2 8 + 0)) (351 + 3 * k + 1) ((rtV a.1 k).2.1 + 1)) (351 + 3 * k + 2) ((rtV a.1 k).2.2 + 0))) (I := upd I 3 (nI (if a.2.1.length = 4 then 4 else a.2.1.length + 1))) h_35 h_33 h_36 h_37 h_38 n12 n13 n14 n23 n24 n34, hR.chg (SRel_halt1 hs hok hk _) (okB_halt1 hok hk _ _) rfl rfl rfl rfl⟩, hF_39⟩) dX2_stop_103
    · refine lv_iconst (v := 1) hx hb dX2_stop_19 (by decide) ?_
      refine lv_goto (tgt := 24) hx hb dX2_stop_20 (by decide) ?_
      refine lv_istore_n (lv' := [(2, .int 1), (1, .int t1), (0, .ref (A 0))]) hx hb dX2_stop_24 rfl hl (by decide) rfl (fun ls hl => ?_)
      refine lv_aload_n hx hb dX2_stop_25 rfl (lv_at hl 2 rfl) ?_
      refine k_get (ci := 2) hx hb hts in_X2 hown hK h_2 rfl 0 (by decide) q1400 (fun _ h9 => h9) rfl dX2_stop_26 ?_
      refine lv_bipush (v := nI 6) hx hb dX2_stop_29 (by decide) ?_
      refine lv_dup2_11 hx hb dX2_stop_31 rfl rfl ?_
      refine k_ildN hx hb hK h_3 (6) (rfl) (by omega) (by decide) dX2_stop_32 ?_
      refine k_topi (a.1.2.2 7) (hs.c6) ?_
      refine lv_iconst (v := 1) hx hb dX2_stop_33 (by decide) ?_
      refine lv_iadd hx hb dX2_stop_34 ?_
      refine k_istN hx hb hK hS h_3 (6) (rfl) (by omega) (by decide) dX2_stop_35 (fun H_40 locs h_41 u_42 hS => ?_)
      have h_41 : Ar g (A 1) 0 (aI 369 (upd (F 1) 6 ((a.1.2.2 7) + 1))) H_40 := h_41
      have h_43 := h_2.upd u_42 (Ob.neA hK.gg h_2 h_3 (by decide) (by decide))
      have h_44 := h_4.upd u_42 (Ne.symm n12)
      have h_45 := h_5.upd u_42 (Ne.symm n13)
      have h_46 := h_6.upd u_42 (Ne.symm n14)
      have hF_47 := hF.put u_42 (Or.inl (Or.inr (Or.inl rfl)))
      refine lv_aload_n hx hb dX2_stop_36 rfl (lv_at hl 2 rfl) ?_
      refine k_get (ci := 2) hx hb hts in_X2 hown hK h_43 rfl 0 (by decide) q1400 (fun _ h9 => h9) rfl dX2_stop_37 ?_
      refine lv_bipush (v := nI 7) hx hb dX2_stop_40 (by decide) ?_
      refine lv_dup2_11 hx hb dX2_stop_42 rfl rfl ?_
      refine k_ildN hx hb hK h_41 (7) (rfl) (by omega) (by decide) dX2_stop_43 ?_
      refine k_topi (a.1.2.2 8) (hs.c7) ?_
      refine lv_iload_n hx hb dX2_stop_44 rfl (lv_at hl 0 rfl) ?_
      refine lv_iadd hx hb dX2_stop_45 ?_
      refine k_istN hx hb hK hS h_41 (7) (rfl) (by omega) (by decide) dX2_stop_46 (fun H_48 locs h_49 u_50 hS => ?_)
      have h_49 : Ar g (A 1) 0 (aI 369 (upd (upd (F 1) 6 ((a.1.2.2 7) + 1)) 7 ((a.1.2.2 8) + 1))) H_48 := h_49
      have h_51 := h_43.upd u_50 (Ob.neA hK.gg h_43 h_41 (by decide) (by decide))
      have h_52 := h_44.upd u_50 (Ne.symm n12)
      have h_53 := h_45.upd u_50 (Ne.symm n13)
      have h_54 := h_46.upd u_50 (Ne.symm n14)
      have hF_55 := hF_47.put u_50 (Or.inl (Or.inr (Or.inl rfl)))
      rcases hok.2.2.2.2.2.1 with hon | ⟨k, hk, hon⟩
      · refine lv_aload_n hx hb dX2_stop_47 rfl (lv_at hl 2 rfl) ?_
        refine k_get (ci := 2) hx hb hts in_X2 hown hK h_51 rfl 0 (by decide) q1400 (fun _ h9 => h9) rfl dX2_stop_48 ?_
        refine lv_iconst (v := nI 3) hx hb dX2_stop_51 (by decide) ?_
        refine k_ildN hx hb hK h_49 (3) (rfl) (by omega) (by decide) dX2_stop_52 ?_
        refine k_topi ((-1)) (hs.on.trans hon) ?_
        refine lv_if_lt (tgt := 102) hx hb dX2_stop_53 (by decide) (fun c53 => ?_) (fun c53 => absurd (by decide) c53)
        refine lv_iload_n hx hb dX2_stop_102 rfl (lv_at hl 1 rfl) ?_
        have hB : haltB a.1 t1 = (a.1.1, a.1.2.1, upd (upd a.1.2.2 7 (a.1.2.2 7 + 1)) 8 (a.1.2.2 8 + 1)) := by unfold haltB; rw [if_pos hon, if_pos c16]
        exact k_ireti (v := t1) hx hb hret (rfl) hlk hS (Nat.le_of_ble_eq_true rfl) (Nat.le_of_ble_eq_true rfl) (⟨by unfold haltsV; rw [hW, ordA_some], by unfold haltsV; rw [hW, ordA_some, hB]; exact ⟨_, _, MAt.mk (F := va_up (va_up F 2 (chg (F 2) (F 1) a.2.1.length)) 1 (upd (upd (F 1) 6 (a.1.2.2 7 + 1)) 7 (a.1.2.2 8 + 1))) (I := upd I 3 (nI (if a.2.1.length = 4 then 4 else a.2.1.length + 1))) h_51 h_49 h_52 h_53 h_54 n12 n13 n14 n23 n24 n34, hR.chg (SRel_halt0 hs _) (okB_halt0 hok _ _) rfl rfl rfl rfl⟩, hF_55⟩) dX2_stop_103
      · have hon1 : a.1.2.2 4 ≠ -1 := by rw [hon]; exact nI_nem1 k (by omega)
        refine lv_aload_n hx hb dX2_stop_47 rfl (lv_at hl 2 rfl) ?_
        refine k_get (ci := 2) hx hb hts in_X2 hown hK h_51 rfl 0 (by decide) q1400 (fun _ h9 => h9) rfl dX2_stop_48 ?_
        refine lv_iconst (v := nI 3) hx hb dX2_stop_51 (by decide) ?_
        refine k_ildN hx hb hK h_49 (3) (rfl) (by omega) (by decide) dX2_stop_52 ?_
        refine k_topi (nI k) (hs.on.trans hon) ?_
        refine lv_if_lt (tgt := 102) hx hb dX2_stop_53 (by decide) (fun c53 => ?_) (fun c53 => ?_)
        · exact absurd c53 (nI_pos (by omega))
        · refine lv_aload_n hx hb dX2_stop_56 rfl (lv_at hl 2 rfl) ?_
          refine k_get (ci := 2) hx hb hts in_X2 hown hK h_51 rfl 0 (by decide) q1400 (fun _ h9 => h9) rfl dX2_stop_57 ?_
          refine lv_sipush (v := nI 351) hx hb dX2_stop_60 (by decide) ?_
          refine lv_iconst (v := nI 3) hx hb dX2_stop_63 (by decide) ?_
          refine lv_aload_n hx hb dX2_stop_64 rfl (lv_at hl 2 rfl) ?_
          refine k_get (ci := 2) hx hb hts in_X2 hown hK h_51 rfl 0 (by decide) q1400 (fun _ h9 => h9) rfl dX2_stop_65 ?_
          refine lv_iconst (v := nI 3) hx hb dX2_stop_68 (by decide) ?_
          refine k_ildN hx hb hK h_49 (3) (rfl) (by omega) (by decide) dX2_stop_69 ?_
          refine k_topi (nI k) (hs.on.trans hon) ?_
          refine lv_imul hx hb dX2_stop_70 ?_
          refine k_topi (nI (3 * k)) (pk_mul 3 _) ?_
          refine lv_iadd hx hb dX2_stop_71 ?_
          refine k_topi (nI (351 + 3 * k)) (nI_add 351 _) ?_
          refine lv_iconst (v := nI 1) hx hb dX2_stop_72 (by decide) ?_
          refine lv_iadd hx hb dX2_stop_73 ?_
          refine k_topi (nI (351 + 3 * k + 1)) (nI_add _ 1) ?_
          refine lv_dup2_11 hx hb dX2_stop_74 rfl rfl ?_
          refine k_ildN hx hb hK h_49 (351 + 3 * k + 1) (rfl) (by omega) (by decide) dX2_stop_75 ?_
          refine k_topi ((rtV a.1 k).2.1) (by show upd (upd (F 1) _ _) _ _ (351 + 3 * k + 1) = _; unfold upd; rw [if_neg (by omega), if_neg (by omega), show 351 + 3 * k + 1 = 352 + 3 * k by omega]; exact (hs.rt hk).2.1) ?_
          refine lv_iconst (v := 1) hx hb dX2_stop_76 (by decide) ?_
          refine lv_iadd hx hb dX2_stop_77 ?_
          refine k_istN hx hb hK hS h_49 (351 + 3 * k + 1) (rfl) (by omega) (by decide) dX2_stop_78 (fun H_56 locs h_57 u_58 hS => ?_)
          have h_57 : Ar g (A 1) 0 (aI 369 (upd (upd (upd (F 1) 6 ((a.1.2.2 7) + 1)) 7 ((a.1.2.2 8) + 1)) (351 + 3 * k + 1) (((rtV a.1 k).2.1) + 1))) H_56 := h_57
          have h_59 := h_51.upd u_58 (Ob.neA hK.gg h_51 h_49 (by decide) (by decide))
          have h_60 := h_52.upd u_58 (Ne.symm n12)
          have h_61 := h_53.upd u_58 (Ne.symm n13)
          have h_62 := h_54.upd u_58 (Ne.symm n14)
          have hF_63 := hF_55.put u_58 (Or.inl (Or.inr (Or.inl rfl)))
          refine lv_aload_n hx hb dX2_stop_79 rfl (lv_at hl 2 rfl) ?_
          refine k_get (ci := 2) hx hb hts in_X2 hown hK h_59 rfl 0 (by decide) q1400 (fun _ h9 => h9) rfl dX2_stop_80 ?_
          refine lv_sipush (v := nI 351) hx hb dX2_stop_83 (by decide) ?_
          refine lv_iconst (v := nI 3) hx hb dX2_stop_86 (by decide) ?_
          refine lv_aload_n hx hb dX2_stop_87 rfl (lv_at hl 2 rfl) ?_
          refine k_get (ci := 2) hx hb hts in_X2 hown hK h_59 rfl 0 (by decide) q1400 (fun _ h9 => h9) rfl dX2_stop_88 ?_
          refine lv_iconst (v := nI 3) hx hb dX2_stop_91 (by decide) ?_
          refine k_ildN hx hb hK h_57 (3) (rfl) (by omega) (by decide) dX2_stop_92 ?_
          refine k_topi (nI k) (by show upd _ (351 + 3 * k + 1) _ 3 = _; unfold upd; rw [if_neg (by omega)]; exact hs.on.trans hon) ?_
          refine lv_imul hx hb dX2_stop_93 ?_
          refine k_topi (nI (3 * k)) (pk_mul 3 _) ?_
          refine lv_iadd hx hb dX2_stop_94 ?_
          refine k_topi (nI (351 + 3 * k)) (nI_add 351 _) ?_
          refine lv_iconst (v := nI 2) hx hb dX2_stop_95 (by decide) ?_
          refine lv_iadd hx hb dX2_stop_96 ?_
          refine k_topi (nI (351 + 3 * k + 2)) (nI_add _ 2) ?_
          refine lv_dup2_11 hx hb dX2_stop_97 rfl rfl ?_
          refine k_ildN hx hb hK h_57 (351 + 3 * k + 2) (rfl) (by omega) (by decide) dX2_stop_98 ?_
          refine k_topi ((rtV a.1 k).2.2) (by show upd (upd (upd (F 1) _ _) _ _) _ _ (351 + 3 * k + 2) = _; unfold upd; rw [if_neg (by omega), if_neg (by omega), if_neg (by omega), show 351 + 3 * k + 2 = 353 + 3 * k by omega]; exact (hs.rt hk).2.2) ?_
          refine lv_iload_n hx hb dX2_stop_99 rfl (lv_at hl 0 rfl) ?_
          refine lv_iadd hx hb dX2_stop_100 ?_
          refine k_istN hx hb hK hS h_57 (351 + 3 * k + 2) (rfl) (by omega) (by decide) dX2_stop_101 (fun H_64 locs h_65 u_66 hS => ?_)
          have h_65 : Ar g (A 1) 0 (aI 369 (upd (upd (upd (upd (F 1) 6 ((a.1.2.2 7) + 1)) 7 ((a.1.2.2 8) + 1)) (351 + 3 * k + 1) (((rtV a.1 k).2.1) + 1)) (351 + 3 * k + 2) (((rtV a.1 k).2.2) + 1))) H_64 := h_65
          have h_67 := h_59.upd u_66 (Ob.neA hK.gg h_59 h_57 (by decide) (by decide))
          have h_68 := h_60.upd u_66 (Ne.symm n12)
          have h_69 := h_61.upd u_66 (Ne.symm n13)
          have h_70 := h_62.upd u_66 (Ne.symm n14)
          have hF_71 := hF_63.put u_66 (Or.inl (Or.inr (Or.inl rfl)))
          refine lv_iload_n hx hb dX2_stop_102 rfl (lv_at hl 1 rfl) ?_
          have hB : haltB a.1 t1 = (a.1.1, (setRt a.1 k ((rtV a.1 k).1, (rtV a.1 k).2.1 + 1, (rtV a.1 k).2.2 + 1)).2.1, upd (upd a.1.2.2 7 (a.1.2.2 7 + 1)) 8 (a.1.2.2 8 + 1)) := by unfold haltB; rw [if_neg hon1, hon, nI_clamp (by omega), if_pos c16]
          exact k_ireti (v := t1) hx hb hret (rfl) hlk hS (Nat.le_of_ble_eq_true rfl) (Nat.le_of_ble_eq_true rfl) (⟨by unfold haltsV; rw [hW, ordA_some], by unfold haltsV; rw [hW, ordA_some, hB]; exact ⟨_, _, MAt.mk (F := va_up (va_up F 2 (chg (F 2) (F 1) a.2.1.length)) 1 (upd (upd (upd (upd (F 1) 6 (a.1.2.2 7 + 1)) 7 (a.1.2.2 8 + 1)) (351 + 3 * k + 1) ((rtV a.1 k).2.1 + 1)) (351 + 3 * k + 2) ((rtV a.1 k).2.2 + 1))) (I := upd I 3 (nI (if a.2.1.length = 4 then 4 else a.2.1.length + 1))) h_67 h_65 h_68 h_69 h_70 n12 n13 n14 n23 n24 n34, hR.chg (SRel_halt1 hs hok hk _) (okB_halt1 hok hk _ _) rfl rfl rfl rfl⟩, hF_71⟩) dX2_stop_103
  · obtain ⟨sh, hsh, hsh2⟩ := hok.2.2.2.2.1
    have hsh2 : sh < a.1.1.length := by omega
    refine lv_aload_n hx hb dX2_stop_4 rfl (lv_at hl 0 rfl) ?_
    refine lv_aload_n hx hb dX2_stop_5 rfl (lv_at hl 0 rfl) ?_
    refine k_get (ci := 2) hx hb hts in_X2 hown hK h_2 rfl 0 (by decide) q1400 (fun _ h9 => h9) rfl dX2_stop_6 ?_
    refine lv_iconst (v := nI 1) hx hb dX2_stop_9 (by decide) ?_
    refine k_ildN hx hb hK h_3 (1) (rfl) (by omega) (by decide) dX2_stop_10 ?_
    refine k_topi (nI sh) ((hs.sh.trans (if_neg he)).trans hsh) ?_
    refine k_calliS (va_runV (As := [.int (nI sh)]) (rest := []) ⟨hx, hb, hml, hown, hts⟩ (m_wrongBy l g a.1 sh hM1 hs hok hsh2) (cwV 1 hts (lw_V q1560 q1562 qs38 q56 q1563) rfl rfl rfl hdV_X2_wrongBy ⟨Nat.le_of_ble_eq_true rfl, Nat.le_of_ble_eq_true rfl⟩) (preV hK hS h_2 rfl) rfl rfl hl.1 rfl (lv_room (Nat.le_of_ble_eq_true rfl)) dX2_stop_11 ⟨Nat.le_of_ble_eq_true rfl, Nat.le_of_ble_eq_true rfl⟩) hS (fun t1 locs ht1 hS => ?_)
    have ht1 : t1 = wrongV a.1 (a.1.2.2 3) := by rw [ht1]; unfold wrongV; rw [hsh, if_pos ⟨nI_pos' (by omega), nI_lt hsh2 (by omega)⟩, nI_clamp (by omega)]
    generalize hW : wrongV a.1 (a.1.2.2 3) = wv at ht1
    subst ht1
    refine lv_istore_n (lv' := [(1, .int t1), (0, .ref (A 0))]) hx hb dX2_stop_14 rfl hl (by decide) rfl (fun ls hl => ?_)
    refine lv_iload_n hx hb dX2_stop_15 rfl (lv_at hl 0 rfl) ?_
    refine lv_if_ne (tgt := 23) hx hb dX2_stop_16 (by decide) (fun c16 => ?_) (fun c16 => ?_)
    · refine lv_iconst (v := 0) hx hb dX2_stop_23 (by decide) ?_
      refine lv_istore_n (lv' := [(2, .int 0), (1, .int t1), (0, .ref (A 0))]) hx hb dX2_stop_24 rfl hl (by decide) rfl (fun ls hl => ?_)
      refine lv_aload_n hx hb dX2_stop_25 rfl (lv_at hl 2 rfl) ?_
      refine k_get (ci := 2) hx hb hts in_X2 hown hK h_2 rfl 0 (by decide) q1400 (fun _ h9 => h9) rfl dX2_stop_26 ?_
      refine lv_bipush (v := nI 6) hx hb dX2_stop_29 (by decide) ?_
      refine lv_dup2_11 hx hb dX2_stop_31 rfl rfl ?_
      refine k_ildN hx hb hK h_3 (6) (rfl) (by omega) (by decide) dX2_stop_32 ?_
      refine k_topi (a.1.2.2 7) (hs.c6) ?_
      refine lv_iconst (v := 1) hx hb dX2_stop_33 (by decide) ?_
      refine lv_iadd hx hb dX2_stop_34 ?_
      refine k_istN hx hb hK hS h_3 (6) (rfl) (by omega) (by decide) dX2_stop_35 (fun H_73 locs h_74 u_75 hS => ?_)
      have h_74 : Ar g (A 1) 0 (aI 369 (upd (F 1) 6 ((a.1.2.2 7) + 1))) H_73 := h_74
      have h_76 := h_2.upd u_75 (Ob.neA hK.gg h_2 h_3 (by decide) (by decide))
      have h_77 := h_4.upd u_75 (Ne.symm n12)
      have h_78 := h_5.upd u_75 (Ne.symm n13)
      have h_79 := h_6.upd u_75 (Ne.symm n14)
      have hF_80 := hF.put u_75 (Or.inl (Or.inr (Or.inl rfl)))
      refine lv_aload_n hx hb dX2_stop_36 rfl (lv_at hl 2 rfl) ?_
      refine k_get (ci := 2) hx hb hts in_X2 hown hK h_76 rfl 0 (by decide) q1400 (fun _ h9 => h9) rfl dX2_stop_37 ?_
      refine lv_bipush (v := nI 7) hx hb dX2_stop_40 (by decide) ?_
      refine lv_dup2_11 hx hb dX2_stop_42 rfl rfl ?_
      refine k_ildN hx hb hK h_74 (7) (rfl) (by omega) (by decide) dX2_stop_43 ?_
      refine k_topi (a.1.2.2 8) (hs.c7) ?_
      refine lv_iload_n hx hb dX2_stop_44 rfl (lv_at hl 0 rfl) ?_
      refine lv_iadd hx hb dX2_stop_45 ?_
      refine k_istN hx hb hK hS h_74 (7) (rfl) (by omega) (by decide) dX2_stop_46 (fun H_81 locs h_82 u_83 hS => ?_)
      have h_82 : Ar g (A 1) 0 (aI 369 (upd (upd (F 1) 6 ((a.1.2.2 7) + 1)) 7 ((a.1.2.2 8) + 0))) H_81 := h_82
      have h_84 := h_76.upd u_83 (Ob.neA hK.gg h_76 h_74 (by decide) (by decide))
      have h_85 := h_77.upd u_83 (Ne.symm n12)
      have h_86 := h_78.upd u_83 (Ne.symm n13)
      have h_87 := h_79.upd u_83 (Ne.symm n14)
      have hF_88 := hF_80.put u_83 (Or.inl (Or.inr (Or.inl rfl)))
      rcases hok.2.2.2.2.2.1 with hon | ⟨k, hk, hon⟩
      · refine lv_aload_n hx hb dX2_stop_47 rfl (lv_at hl 2 rfl) ?_
        refine k_get (ci := 2) hx hb hts in_X2 hown hK h_84 rfl 0 (by decide) q1400 (fun _ h9 => h9) rfl dX2_stop_48 ?_
        refine lv_iconst (v := nI 3) hx hb dX2_stop_51 (by decide) ?_
        refine k_ildN hx hb hK h_82 (3) (rfl) (by omega) (by decide) dX2_stop_52 ?_
        refine k_topi ((-1)) (hs.on.trans hon) ?_
        refine lv_if_lt (tgt := 102) hx hb dX2_stop_53 (by decide) (fun c53 => ?_) (fun c53 => absurd (by decide) c53)
        refine lv_iload_n hx hb dX2_stop_102 rfl (lv_at hl 1 rfl) ?_
        have hB : haltB a.1 t1 = (a.1.1, a.1.2.1, upd (upd a.1.2.2 7 (a.1.2.2 7 + 1)) 8 (a.1.2.2 8 + 0)) := by unfold haltB; rw [if_pos hon, if_neg c16]
        exact k_ireti (v := t1) hx hb hret (rfl) hlk hS (Nat.le_of_ble_eq_true rfl) (Nat.le_of_ble_eq_true rfl) (⟨by unfold haltsV; rw [hW, ordA_some], by unfold haltsV; rw [hW, ordA_some, hB]; exact ⟨_, _, MAt.mk (F := va_up (va_up F 2 (chg (F 2) (F 1) a.2.1.length)) 1 (upd (upd (F 1) 6 (a.1.2.2 7 + 1)) 7 (a.1.2.2 8 + 0))) (I := upd I 3 (nI (if a.2.1.length = 4 then 4 else a.2.1.length + 1))) h_84 h_82 h_85 h_86 h_87 n12 n13 n14 n23 n24 n34, hR.chg (SRel_halt0 hs _) (okB_halt0 hok _ _) rfl rfl rfl rfl⟩, hF_88⟩) dX2_stop_103
      · have hon1 : a.1.2.2 4 ≠ -1 := by rw [hon]; exact nI_nem1 k (by omega)
        refine lv_aload_n hx hb dX2_stop_47 rfl (lv_at hl 2 rfl) ?_
        refine k_get (ci := 2) hx hb hts in_X2 hown hK h_84 rfl 0 (by decide) q1400 (fun _ h9 => h9) rfl dX2_stop_48 ?_
        refine lv_iconst (v := nI 3) hx hb dX2_stop_51 (by decide) ?_
        refine k_ildN hx hb hK h_82 (3) (rfl) (by omega) (by decide) dX2_stop_52 ?_
        refine k_topi (nI k) (hs.on.trans hon) ?_
        refine lv_if_lt (tgt := 102) hx hb dX2_stop_53 (by decide) (fun c53 => ?_) (fun c53 => ?_)
        · exact absurd c53 (nI_pos (by omega))
        · refine lv_aload_n hx hb dX2_stop_56 rfl (lv_at hl 2 rfl) ?_
          refine k_get (ci := 2) hx hb hts in_X2 hown hK h_84 rfl 0 (by decide) q1400 (fun _ h9 => h9) rfl dX2_stop_57 ?_
          refine lv_sipush (v := nI 351) hx hb dX2_stop_60 (by decide) ?_
          refine lv_iconst (v := nI 3) hx hb dX2_stop_63 (by decide) ?_
          refine lv_aload_n hx hb dX2_stop_64 rfl (lv_at hl 2 rfl) ?_
          refine k_get (ci := 2) hx hb hts in_X2 hown hK h_84 rfl 0 (by decide) q1400 (fun _ h9 => h9) rfl dX2_stop_65 ?_
          refine lv_iconst (v := nI 3) hx hb dX2_stop_68 (by decide) ?_
          refine k_ildN hx hb hK h_82 (3) (rfl) (by omega) (by decide) dX2_stop_69 ?_
          refine k_topi (nI k) (hs.on.trans hon) ?_
          refine lv_imul hx hb dX2_stop_70 ?_
          refine k_topi (nI (3 * k)) (pk_mul 3 _) ?_
          refine lv_iadd hx hb dX2_stop_71 ?_
          refine k_topi (nI (351 + 3 * k)) (nI_add 351 _) ?_
          refine lv_iconst (v := nI 1) hx hb dX2_stop_72 (by decide) ?_
          refine lv_iadd hx hb dX2_stop_73 ?_
          refine k_topi (nI (351 + 3 * k + 1)) (nI_add _ 1) ?_
          refine lv_dup2_11 hx hb dX2_stop_74 rfl rfl ?_
          refine k_ildN hx hb hK h_82 (351 + 3 * k + 1) (rfl) (by omega) (by decide) dX2_stop_75 ?_
          refine k_topi ((rtV a.1 k).2.1) (by show upd (upd (F 1) _ _) _ _ (351 + 3 * k + 1) = _; unfold upd; rw [if_neg (by omega), if_neg (by omega), show 351 + 3 * k + 1 = 352 + 3 * k by omega]; exact (hs.rt hk).2.1) ?_
          refine lv_iconst (v := 1) hx hb dX2_stop_76 (by decide) ?_
          refine lv_iadd hx hb dX2_stop_77 ?_
          refine k_istN hx hb hK hS h_82 (351 + 3 * k + 1) (rfl) (by omega) (by decide) dX2_stop_78 (fun H_89 locs h_90 u_91 hS => ?_)
          have h_90 : Ar g (A 1) 0 (aI 369 (upd (upd (upd (F 1) 6 ((a.1.2.2 7) + 1)) 7 ((a.1.2.2 8) + 0)) (351 + 3 * k + 1) (((rtV a.1 k).2.1) + 1))) H_89 := h_90
          have h_92 := h_84.upd u_91 (Ob.neA hK.gg h_84 h_82 (by decide) (by decide))
          have h_93 := h_85.upd u_91 (Ne.symm n12)
          have h_94 := h_86.upd u_91 (Ne.symm n13)
          have h_95 := h_87.upd u_91 (Ne.symm n14)
          have hF_96 := hF_88.put u_91 (Or.inl (Or.inr (Or.inl rfl)))
          refine lv_aload_n hx hb dX2_stop_79 rfl (lv_at hl 2 rfl) ?_
          refine k_get (ci := 2) hx hb hts in_X2 hown hK h_92 rfl 0 (by decide) q1400 (fun _ h9 => h9) rfl dX2_stop_80 ?_
          refine lv_sipush (v := nI 351) hx hb dX2_stop_83 (by decide) ?_
          refine lv_iconst (v := nI 3) hx hb dX2_stop_86 (by decide) ?_
          refine lv_aload_n hx hb dX2_stop_87 rfl (lv_at hl 2 rfl) ?_
          refine k_get (ci := 2) hx hb hts in_X2 hown hK h_92 rfl 0 (by decide) q1400 (fun _ h9 => h9) rfl dX2_stop_88 ?_
          refine lv_iconst (v := nI 3) hx hb dX2_stop_91 (by decide) ?_
          refine k_ildN hx hb hK h_90 (3) (rfl) (by omega) (by decide) dX2_stop_92 ?_
          refine k_topi (nI k) (by show upd _ (351 + 3 * k + 1) _ 3 = _; unfold upd; rw [if_neg (by omega)]; exact hs.on.trans hon) ?_
          refine lv_imul hx hb dX2_stop_93 ?_
          refine k_topi (nI (3 * k)) (pk_mul 3 _) ?_
          refine lv_iadd hx hb dX2_stop_94 ?_
          refine k_topi (nI (351 + 3 * k)) (nI_add 351 _) ?_
          refine lv_iconst (v := nI 2) hx hb dX2_stop_95 (by decide) ?_
          refine lv_iadd hx hb dX2_stop_96 ?_
          refine k_topi (nI (351 + 3 * k + 2)) (nI_add _ 2) ?_
          refine lv_dup2_11 hx hb dX2_stop_97 rfl rfl ?_
          refine k_ildN hx hb hK h_90 (351 + 3 * k + 2) (rfl) (by omega) (by decide) dX2_stop_98 ?_
          refine k_topi ((rtV a.1 k).2.2) (by show upd (upd (upd (F 1) _ _) _ _) _ _ (351 + 3 * k + 2) = _; unfold upd; rw [if_neg (by omega), if_neg (by omega), if_neg (by omega), show 351 + 3 * k + 2 = 353 + 3 * k by omega]; exact (hs.rt hk).2.2) ?_
          refine lv_iload_n hx hb dX2_stop_99 rfl (lv_at hl 0 rfl) ?_
          refine lv_iadd hx hb dX2_stop_100 ?_
          refine k_istN hx hb hK hS h_90 (351 + 3 * k + 2) (rfl) (by omega) (by decide) dX2_stop_101 (fun H_97 locs h_98 u_99 hS => ?_)
          have h_98 : Ar g (A 1) 0 (aI 369 (upd (upd (upd (upd (F 1) 6 ((a.1.2.2 7) + 1)) 7 ((a.1.2.2 8) + 0)) (351 + 3 * k + 1) (((rtV a.1 k).2.1) + 1)) (351 + 3 * k + 2) (((rtV a.1 k).2.2) + 0))) H_97 := h_98
          have h_100 := h_92.upd u_99 (Ob.neA hK.gg h_92 h_90 (by decide) (by decide))
          have h_101 := h_93.upd u_99 (Ne.symm n12)
          have h_102 := h_94.upd u_99 (Ne.symm n13)
          have h_103 := h_95.upd u_99 (Ne.symm n14)
          have hF_104 := hF_96.put u_99 (Or.inl (Or.inr (Or.inl rfl)))
          refine lv_iload_n hx hb dX2_stop_102 rfl (lv_at hl 1 rfl) ?_
          have hB : haltB a.1 t1 = (a.1.1, (setRt a.1 k ((rtV a.1 k).1, (rtV a.1 k).2.1 + 1, (rtV a.1 k).2.2 + 0)).2.1, upd (upd a.1.2.2 7 (a.1.2.2 7 + 1)) 8 (a.1.2.2 8 + 0)) := by unfold haltB; rw [if_neg hon1, hon, nI_clamp (by omega), if_neg c16]
          exact k_ireti (v := t1) hx hb hret (rfl) hlk hS (Nat.le_of_ble_eq_true rfl) (Nat.le_of_ble_eq_true rfl) (⟨by unfold haltsV; rw [hW, ordA_some], by unfold haltsV; rw [hW, ordA_some, hB]; exact ⟨_, _, MAt.mk (F := va_up (va_up F 2 (chg (F 2) (F 1) a.2.1.length)) 1 (upd (upd (upd (upd (F 1) 6 (a.1.2.2 7 + 1)) 7 (a.1.2.2 8 + 0)) (351 + 3 * k + 1) ((rtV a.1 k).2.1 + 1)) (351 + 3 * k + 2) ((rtV a.1 k).2.2 + 0))) (I := upd I 3 (nI (if a.2.1.length = 4 then 4 else a.2.1.length + 1))) h_100 h_98 h_101 h_102 h_103 n12 n13 n14 n23 n24 n34, hR.chg (SRel_halt1 hs hok hk _) (okB_halt1 hok hk _ _) rfl rfl rfl rfl⟩, hF_104⟩) dX2_stop_103
    · refine lv_iconst (v := 1) hx hb dX2_stop_19 (by decide) ?_
      refine lv_goto (tgt := 24) hx hb dX2_stop_20 (by decide) ?_
      refine lv_istore_n (lv' := [(2, .int 1), (1, .int t1), (0, .ref (A 0))]) hx hb dX2_stop_24 rfl hl (by decide) rfl (fun ls hl => ?_)
      refine lv_aload_n hx hb dX2_stop_25 rfl (lv_at hl 2 rfl) ?_
      refine k_get (ci := 2) hx hb hts in_X2 hown hK h_2 rfl 0 (by decide) q1400 (fun _ h9 => h9) rfl dX2_stop_26 ?_
      refine lv_bipush (v := nI 6) hx hb dX2_stop_29 (by decide) ?_
      refine lv_dup2_11 hx hb dX2_stop_31 rfl rfl ?_
      refine k_ildN hx hb hK h_3 (6) (rfl) (by omega) (by decide) dX2_stop_32 ?_
      refine k_topi (a.1.2.2 7) (hs.c6) ?_
      refine lv_iconst (v := 1) hx hb dX2_stop_33 (by decide) ?_
      refine lv_iadd hx hb dX2_stop_34 ?_
      refine k_istN hx hb hK hS h_3 (6) (rfl) (by omega) (by decide) dX2_stop_35 (fun H_105 locs h_106 u_107 hS => ?_)
      have h_106 : Ar g (A 1) 0 (aI 369 (upd (F 1) 6 ((a.1.2.2 7) + 1))) H_105 := h_106
      have h_108 := h_2.upd u_107 (Ob.neA hK.gg h_2 h_3 (by decide) (by decide))
      have h_109 := h_4.upd u_107 (Ne.symm n12)
      have h_110 := h_5.upd u_107 (Ne.symm n13)
      have h_111 := h_6.upd u_107 (Ne.symm n14)
      have hF_112 := hF.put u_107 (Or.inl (Or.inr (Or.inl rfl)))
      refine lv_aload_n hx hb dX2_stop_36 rfl (lv_at hl 2 rfl) ?_
      refine k_get (ci := 2) hx hb hts in_X2 hown hK h_108 rfl 0 (by decide) q1400 (fun _ h9 => h9) rfl dX2_stop_37 ?_
      refine lv_bipush (v := nI 7) hx hb dX2_stop_40 (by decide) ?_
      refine lv_dup2_11 hx hb dX2_stop_42 rfl rfl ?_
      refine k_ildN hx hb hK h_106 (7) (rfl) (by omega) (by decide) dX2_stop_43 ?_
      refine k_topi (a.1.2.2 8) (hs.c7) ?_
      refine lv_iload_n hx hb dX2_stop_44 rfl (lv_at hl 0 rfl) ?_
      refine lv_iadd hx hb dX2_stop_45 ?_
      refine k_istN hx hb hK hS h_106 (7) (rfl) (by omega) (by decide) dX2_stop_46 (fun H_113 locs h_114 u_115 hS => ?_)
      have h_114 : Ar g (A 1) 0 (aI 369 (upd (upd (F 1) 6 ((a.1.2.2 7) + 1)) 7 ((a.1.2.2 8) + 1))) H_113 := h_114
      have h_116 := h_108.upd u_115 (Ob.neA hK.gg h_108 h_106 (by decide) (by decide))
      have h_117 := h_109.upd u_115 (Ne.symm n12)
      have h_118 := h_110.upd u_115 (Ne.symm n13)
      have h_119 := h_111.upd u_115 (Ne.symm n14)
      have hF_120 := hF_112.put u_115 (Or.inl (Or.inr (Or.inl rfl)))
      rcases hok.2.2.2.2.2.1 with hon | ⟨k, hk, hon⟩
      · refine lv_aload_n hx hb dX2_stop_47 rfl (lv_at hl 2 rfl) ?_
        refine k_get (ci := 2) hx hb hts in_X2 hown hK h_116 rfl 0 (by decide) q1400 (fun _ h9 => h9) rfl dX2_stop_48 ?_
        refine lv_iconst (v := nI 3) hx hb dX2_stop_51 (by decide) ?_
        refine k_ildN hx hb hK h_114 (3) (rfl) (by omega) (by decide) dX2_stop_52 ?_
        refine k_topi ((-1)) (hs.on.trans hon) ?_
        refine lv_if_lt (tgt := 102) hx hb dX2_stop_53 (by decide) (fun c53 => ?_) (fun c53 => absurd (by decide) c53)
        refine lv_iload_n hx hb dX2_stop_102 rfl (lv_at hl 1 rfl) ?_
        have hB : haltB a.1 t1 = (a.1.1, a.1.2.1, upd (upd a.1.2.2 7 (a.1.2.2 7 + 1)) 8 (a.1.2.2 8 + 1)) := by unfold haltB; rw [if_pos hon, if_pos c16]
        exact k_ireti (v := t1) hx hb hret (rfl) hlk hS (Nat.le_of_ble_eq_true rfl) (Nat.le_of_ble_eq_true rfl) (⟨by unfold haltsV; rw [hW, ordA_some], by unfold haltsV; rw [hW, ordA_some, hB]; exact ⟨_, _, MAt.mk (F := va_up (va_up F 2 (chg (F 2) (F 1) a.2.1.length)) 1 (upd (upd (F 1) 6 (a.1.2.2 7 + 1)) 7 (a.1.2.2 8 + 1))) (I := upd I 3 (nI (if a.2.1.length = 4 then 4 else a.2.1.length + 1))) h_116 h_114 h_117 h_118 h_119 n12 n13 n14 n23 n24 n34, hR.chg (SRel_halt0 hs _) (okB_halt0 hok _ _) rfl rfl rfl rfl⟩, hF_120⟩) dX2_stop_103
      · have hon1 : a.1.2.2 4 ≠ -1 := by rw [hon]; exact nI_nem1 k (by omega)
        refine lv_aload_n hx hb dX2_stop_47 rfl (lv_at hl 2 rfl) ?_
        refine k_get (ci := 2) hx hb hts in_X2 hown hK h_116 rfl 0 (by decide) q1400 (fun _ h9 => h9) rfl dX2_stop_48 ?_
        refine lv_iconst (v := nI 3) hx hb dX2_stop_51 (by decide) ?_
        refine k_ildN hx hb hK h_114 (3) (rfl) (by omega) (by decide) dX2_stop_52 ?_
        refine k_topi (nI k) (hs.on.trans hon) ?_
        refine lv_if_lt (tgt := 102) hx hb dX2_stop_53 (by decide) (fun c53 => ?_) (fun c53 => ?_)
        · exact absurd c53 (nI_pos (by omega))
        · refine lv_aload_n hx hb dX2_stop_56 rfl (lv_at hl 2 rfl) ?_
          refine k_get (ci := 2) hx hb hts in_X2 hown hK h_116 rfl 0 (by decide) q1400 (fun _ h9 => h9) rfl dX2_stop_57 ?_
          refine lv_sipush (v := nI 351) hx hb dX2_stop_60 (by decide) ?_
          refine lv_iconst (v := nI 3) hx hb dX2_stop_63 (by decide) ?_
          refine lv_aload_n hx hb dX2_stop_64 rfl (lv_at hl 2 rfl) ?_
          refine k_get (ci := 2) hx hb hts in_X2 hown hK h_116 rfl 0 (by decide) q1400 (fun _ h9 => h9) rfl dX2_stop_65 ?_
          refine lv_iconst (v := nI 3) hx hb dX2_stop_68 (by decide) ?_
          refine k_ildN hx hb hK h_114 (3) (rfl) (by omega) (by decide) dX2_stop_69 ?_
          refine k_topi (nI k) (hs.on.trans hon) ?_
          refine lv_imul hx hb dX2_stop_70 ?_
          refine k_topi (nI (3 * k)) (pk_mul 3 _) ?_
          refine lv_iadd hx hb dX2_stop_71 ?_
          refine k_topi (nI (351 + 3 * k)) (nI_add 351 _) ?_
          refine lv_iconst (v := nI 1) hx hb dX2_stop_72 (by decide) ?_
          refine lv_iadd hx hb dX2_stop_73 ?_
          refine k_topi (nI (351 + 3 * k + 1)) (nI_add _ 1) ?_
          refine lv_dup2_11 hx hb dX2_stop_74 rfl rfl ?_
          refine k_ildN hx hb hK h_114 (351 + 3 * k + 1) (rfl) (by omega) (by decide) dX2_stop_75 ?_
          refine k_topi ((rtV a.1 k).2.1) (by show upd (upd (F 1) _ _) _ _ (351 + 3 * k + 1) = _; unfold upd; rw [if_neg (by omega), if_neg (by omega), show 351 + 3 * k + 1 = 352 + 3 * k by omega]; exact (hs.rt hk).2.1) ?_
          refine lv_iconst (v := 1) hx hb dX2_stop_76 (by decide) ?_
          refine lv_iadd hx hb dX2_stop_77 ?_
          refine k_istN hx hb hK hS h_114 (351 + 3 * k + 1) (rfl) (by omega) (by decide) dX2_stop_78 (fun H_121 locs h_122 u_123 hS => ?_)
          have h_122 : Ar g (A 1) 0 (aI 369 (upd (upd (upd (F 1) 6 ((a.1.2.2 7) + 1)) 7 ((a.1.2.2 8) + 1)) (351 + 3 * k + 1) (((rtV a.1 k).2.1) + 1))) H_121 := h_122
          have h_124 := h_116.upd u_123 (Ob.neA hK.gg h_116 h_114 (by decide) (by decide))
          have h_125 := h_117.upd u_123 (Ne.symm n12)
          have h_126 := h_118.upd u_123 (Ne.symm n13)
          have h_127 := h_119.upd u_123 (Ne.symm n14)
          have hF_128 := hF_120.put u_123 (Or.inl (Or.inr (Or.inl rfl)))
          refine lv_aload_n hx hb dX2_stop_79 rfl (lv_at hl 2 rfl) ?_
          refine k_get (ci := 2) hx hb hts in_X2 hown hK h_124 rfl 0 (by decide) q1400 (fun _ h9 => h9) rfl dX2_stop_80 ?_
          refine lv_sipush (v := nI 351) hx hb dX2_stop_83 (by decide) ?_
          refine lv_iconst (v := nI 3) hx hb dX2_stop_86 (by decide) ?_
          refine lv_aload_n hx hb dX2_stop_87 rfl (lv_at hl 2 rfl) ?_
          refine k_get (ci := 2) hx hb hts in_X2 hown hK h_124 rfl 0 (by decide) q1400 (fun _ h9 => h9) rfl dX2_stop_88 ?_
          refine lv_iconst (v := nI 3) hx hb dX2_stop_91 (by decide) ?_
          refine k_ildN hx hb hK h_122 (3) (rfl) (by omega) (by decide) dX2_stop_92 ?_
          refine k_topi (nI k) (by show upd _ (351 + 3 * k + 1) _ 3 = _; unfold upd; rw [if_neg (by omega)]; exact hs.on.trans hon) ?_
          refine lv_imul hx hb dX2_stop_93 ?_
          refine k_topi (nI (3 * k)) (pk_mul 3 _) ?_
          refine lv_iadd hx hb dX2_stop_94 ?_
          refine k_topi (nI (351 + 3 * k)) (nI_add 351 _) ?_
          refine lv_iconst (v := nI 2) hx hb dX2_stop_95 (by decide) ?_
          refine lv_iadd hx hb dX2_stop_96 ?_
          refine k_topi (nI (351 + 3 * k + 2)) (nI_add _ 2) ?_
          refine lv_dup2_11 hx hb dX2_stop_97 rfl rfl ?_
          refine k_ildN hx hb hK h_122 (351 + 3 * k + 2) (rfl) (by omega) (by decide) dX2_stop_98 ?_
          refine k_topi ((rtV a.1 k).2.2) (by show upd (upd (upd (F 1) _ _) _ _) _ _ (351 + 3 * k + 2) = _; unfold upd; rw [if_neg (by omega), if_neg (by omega), if_neg (by omega), show 351 + 3 * k + 2 = 353 + 3 * k by omega]; exact (hs.rt hk).2.2) ?_
          refine lv_iload_n hx hb dX2_stop_99 rfl (lv_at hl 0 rfl) ?_
          refine lv_iadd hx hb dX2_stop_100 ?_
          refine k_istN hx hb hK hS h_122 (351 + 3 * k + 2) (rfl) (by omega) (by decide) dX2_stop_101 (fun H_129 locs h_130 u_131 hS => ?_)
          have h_130 : Ar g (A 1) 0 (aI 369 (upd (upd (upd (upd (F 1) 6 ((a.1.2.2 7) + 1)) 7 ((a.1.2.2 8) + 1)) (351 + 3 * k + 1) (((rtV a.1 k).2.1) + 1)) (351 + 3 * k + 2) (((rtV a.1 k).2.2) + 1))) H_129 := h_130
          have h_132 := h_124.upd u_131 (Ob.neA hK.gg h_124 h_122 (by decide) (by decide))
          have h_133 := h_125.upd u_131 (Ne.symm n12)
          have h_134 := h_126.upd u_131 (Ne.symm n13)
          have h_135 := h_127.upd u_131 (Ne.symm n14)
          have hF_136 := hF_128.put u_131 (Or.inl (Or.inr (Or.inl rfl)))
          refine lv_iload_n hx hb dX2_stop_102 rfl (lv_at hl 1 rfl) ?_
          have hB : haltB a.1 t1 = (a.1.1, (setRt a.1 k ((rtV a.1 k).1, (rtV a.1 k).2.1 + 1, (rtV a.1 k).2.2 + 1)).2.1, upd (upd a.1.2.2 7 (a.1.2.2 7 + 1)) 8 (a.1.2.2 8 + 1)) := by unfold haltB; rw [if_neg hon1, hon, nI_clamp (by omega), if_pos c16]
          exact k_ireti (v := t1) hx hb hret (rfl) hlk hS (Nat.le_of_ble_eq_true rfl) (Nat.le_of_ble_eq_true rfl) (⟨by unfold haltsV; rw [hW, ordA_some], by unfold haltsV; rw [hW, ordA_some, hB]; exact ⟨_, _, MAt.mk (F := va_up (va_up F 2 (chg (F 2) (F 1) a.2.1.length)) 1 (upd (upd (upd (upd (F 1) 6 (a.1.2.2 7 + 1)) 7 (a.1.2.2 8 + 1)) (351 + 3 * k + 1) ((rtV a.1 k).2.1 + 1)) (351 + 3 * k + 2) ((rtV a.1 k).2.2 + 1))) (I := upd I 3 (nI (if a.2.1.length = 4 then 4 else a.2.1.length + 1))) h_132 h_130 h_133 h_134 h_135 n12 n13 n14 n23 n24 n34, hR.chg (SRel_halt1 hs hok hk _) (okB_halt1 hok hk _ _) rfl rfl rfl rfl⟩, hF_136⟩) dX2_stop_103
