/-! ===== HandBlindsModel: cranks (printed by tools/model17.py) ===== -/
set_option maxRecDepth 100000
theorem negmul (x : Int32) : -x * (-1) = x := by grind
theorem neg_le0 (m : Nat) (h : m < 2 ^ 31) : -nI m ≤ 0 := by
  rw [Int32.le_iff_toInt_le, sb_negT h]
  have : (0 : Int32).toInt = 0 := rfl
  omega
def stepB (b : BV) (r : Nat) (x : Int32) (j : Nat) (s : Int32) : BV := ((leaveB b r x j).1.1, (leaveB b r x j).1.2.1, upd (leaveB b r x j).1.2.2 3 s)
/-- a cranking in the direction d at the speed x, with at most so many to go: the blind, how many it went, how many tore -/
def crk (d x : Int32) : Nat → Nat → BV → Int32 → BV × Nat × Int32
  | 0, j, b, t => (b, j, t)
  | n + 1, j, b, t => if (0 ≤ b.2.2 3 + d ∧ b.2.2 3 + d < nI b.1.length) ∧ ¬ (0 < j ∧ (rowV b (b.2.2 3).toNatClampNeg).2.2 = 1) then
      crk d x n (j + 1) (stepB b (b.2.2 3).toNatClampNeg x j (b.2.2 3 + d)) (t + (leaveB b (b.2.2 3).toNatClampNeg x j).2)
    else (b, j, t)
theorem crk_stop {d x : Int32} {n j : Nat} {b : BV} {t : Int32} (h : ¬ ((0 ≤ b.2.2 3 + d ∧ b.2.2 3 + d < nI b.1.length) ∧ ¬ (0 < j ∧ (rowV b (b.2.2 3).toNatClampNeg).2.2 = 1))) : crk d x (n + 1) j b t = (b, j, t) := by
  rw [crk, if_neg h]
theorem crk_go {d x : Int32} {n j sh : Nat} {b : BV} {t : Int32} (hsh : b.2.2 3 = nI sh) (h31 : sh < 2 ^ 31) (h : (0 ≤ b.2.2 3 + d ∧ b.2.2 3 + d < nI b.1.length) ∧ ¬ (0 < j ∧ (rowV b (b.2.2 3).toNatClampNeg).2.2 = 1)) : crk d x (n + 1) j b t = crk d x n (j + 1) (stepB b sh x j (nI sh + d)) (t + (leaveB b sh x j).2) := by
  rw [crk, if_pos h, hsh, nI_clamp h31]
/-- the blind behind a cranking, counted -/
def crkE (c : BV × Nat × Int32) : BV := (c.1.1, c.1.2.1, upd (upd c.1.2.2 5 (c.1.2.2 5 + c.2.2)) 6 (c.1.2.2 6 + nI c.2.1))
/-- why a cranking ended -/
def crkW (d : Int32) (m : Nat) (c : BV × Nat × Int32) : Int32 := if c.2.1 = m then 0 else if 0 ≤ c.1.2.2 3 + d ∧ c.1.2.2 3 + d < nI c.1.1.length then 2 else 1
theorem SRel_crkE {f : Nat → Int32} {b : BV} {t : Int32} {n : Nat} (h : SRel f b) : SRel (upd (upd f 4 (b.2.2 5 + t)) 5 (b.2.2 6 + nI n)) (crkE (b, n, t)) :=
  h.nums (fun k hk => by unfold upd; rw [if_neg (by omega), if_neg (by omega)]) rfl h.sh rfl h.on rfl rfl h.c6 h.c7 h.w h.c9 h.c10
theorem okB_crkE {b : BV} {t : Int32} {n : Nat} (h : okB b) : okB (crkE (b, n, t)) := h.nums rfl rfl rfl rfl rfl
theorem SRel_step {f : Nat → Int32} {b : BV} {r j : Nat} {x : Int32} (h : SRel f (leaveB b r x j).1) (hl : 0 < (leaveB b r x j).1.1.length) (s : Int32) : SRel (upd f 1 s) (stepB b r x j s) :=
  h.nums (fun k hk => if_neg (by omega)) rfl (by show s = if _ then _ else upd _ 3 s 3; rw [if_neg (by omega)]; rfl) rfl h.on h.c4 h.c5 h.c6 h.c7 h.w h.c9 h.c10
theorem okB_step {b : BV} {r j k : Nat} {x : Int32} (h : okB (leaveB b r x j).1) (hk : k < (leaveB b r x j).1.1.length) : okB (stepB b r x j (nI k)) := by
  obtain ⟨h1, h2, h3, h4, h5, h6⟩ := h
  exact ⟨h1, h2, h3, h4, ⟨k, rfl, Or.inl hk⟩, h6⟩
theorem held_eq {f : Nat → Int32} {b : BV} {s j : Nat} (h : SRel f b) (hs : s < b.1.length) (h31 : s < 2 ^ 31) (e : b.2.2 3 = nI s) : b2i (f (13 + 17 * s) = 1) = b2i (0 < j + 1 ∧ (rowV b (b.2.2 3).toNatClampNeg).2.2 = 1) := by
  rw [(h.row hs).2.2.1, e, nI_clamp h31]
  unfold b2i
  by_cases z : (rowV b s).2.2 = 1
  · rw [if_pos z, if_pos ⟨by omega, z⟩]
  · rw [if_neg z, if_neg (fun y => z y.2)]
/-- cranks(rows, speed) -/
theorem m_cranks (l : Launch) (g : GT) {H : Heap} {A : Nat → Nat} {F : Nat → Nat → Int32} {I : Nat → Int32} (b : BV) (mm : Nat) (d x y : Int32) (hM : MAt g A F I H) (hs : SRel (F 1) b) (hok : okB b) (hne : 0 < b.1.length) (hm : 0 < mm ∧ mm ≤ 20) (hxm : (d = 1 ∧ x = nI mm) ∨ (d = -1 ∧ x = -nI mm)) : Met l yX2_cranks (ws_ yX2_cranks cX2_cranks 5 (some .int)) ({ frames := 3, cells := 0, slots := 0, locals := 66 } : Room) (va_Pc [.ref (A 0), .int x, .int y] (Pre g H)) (Qi g (fun z H1 => Fx (MM A) H H1 ∧ ∃ (f J : Nat → Int32), SRel f (crkE (crk d y mm 0 b 0)) ∧ okB (crkE (crk d y mm 0 b 0)) ∧ MAt g A (va_up F 1 f) J H1 ∧ J 3 = I 3 ∧ J 5 = I 5 ∧ J 11 = nI (crk d y mm 0 b 0).2.1 ∧ J 12 = (crk d y mm 0 b 0).2.2 ∧ z = crkW d mm (crk d y mm 0 b 0))) 0 0 (gA g) := by
  refine k_met (cc := cX2_cranks) (nL := 5) (vs := [.ref (A 0), .int x, .int y]) (by decide +kernel) (Nat.le_of_ble_eq_true rfl) ?_
  intro p e s m below meth c hH hx hb hret hts hown hlk hml hin hK hS ls hl
  subst hH
  have hown : s.vm.findClass RX2 = some m.cls := hown
  have hl : lv_has ls 5 [(0, .ref (A 0)), (1, .int x), (2, .int y)] := hl
  obtain ⟨h0, h1, h2, h3, h4, n12, n13, n14, n23, n24, n34⟩ := id hM
  have hF : Fx (MM A) s.heap s.heap := Fx.rf
  have hl20 := hok.1
  have hl6 := hok.2.1
  refine lv_iload_n hx hb dX2_cranks_0 rfl (lv_at hl 1 rfl) ?_
  refine lv_if_le (tgt := 8) hx hb dX2_cranks_1 (by decide) (fun c1 => ?_) (fun c1 => ?_)
  · obtain ⟨rfl, rfl⟩ := hxm.resolve_left (fun h => absurd c1 (by rw [h.2]; exact nI_nle hm.1 (by omega)))
    refine lv_iconst (v := (-1)) hx hb dX2_cranks_8 (by decide) ?_
    refine lv_istore_n (lv' := [(3, .int (-1)), (0, .ref (A 0)), (1, .int (-nI mm)), (2, .int y)]) hx hb dX2_cranks_9 rfl hl (by decide) rfl (fun ls hl => ?_)
    refine lv_aload_n hx hb dX2_cranks_10 rfl (lv_at hl 1 rfl) ?_
    refine lv_iconst (v := nI 0) hx hb dX2_cranks_11 (by decide) ?_
    refine k_put (ci := 2) hx hb hts in_X2 tyX2 tyX2_ok nmX2 hown hK hS h0 rfl 11 (by decide) q1411 (fun _ h9 => h9) rfl (rfl) (rfl) (Nat.le_of_ble_eq_true rfl) dX2_cranks_12 (fun H_1 locs h_2 u_3 hS => ?_)
    have h_2 : Ob g (A 0) 2 [.ref (A 1), .ref (A 2), .ref (A 3), .int (I 3), .ref (A 4), .int (I 5), .int (I 6), .int (I 7), .int (I 8), .int (I 9), .int (I 10), .int (nI 0), .int (I 12)] H_1 := h_2
    have h_4 := h1.upd u_3 (Ne.symm (Ob.neA hK.gg h0 h1 (by decide) (by decide)))
    have h_5 := h2.upd u_3 (Ne.symm (Ob.neA hK.gg h0 h2 (by decide) (by decide)))
    have h_6 := h3.upd u_3 (Ne.symm (Ob.neA hK.gg h0 h3 (by decide) (by decide)))
    have h_7 := h4.upd u_3 (Ne.symm (Ob.neA hK.gg h0 h4 (by decide) (by decide)))
    have hF_8 := hF.put u_3 (Or.inl (Or.inl rfl))
    refine lv_aload_n hx hb dX2_cranks_15 rfl (lv_at hl 1 rfl) ?_
    refine lv_iconst (v := 0) hx hb dX2_cranks_16 (by decide) ?_
    refine k_put (ci := 2) hx hb hts in_X2 tyX2 tyX2_ok nmX2 hown hK hS h_2 rfl 12 (by decide) q1412 (fun _ h9 => h9) rfl (rfl) (rfl) (Nat.le_of_ble_eq_true rfl) dX2_cranks_17 (fun H_9 locs h_10 u_11 hS => ?_)
    have h_10 : Ob g (A 0) 2 [.ref (A 1), .ref (A 2), .ref (A 3), .int (I 3), .ref (A 4), .int (I 5), .int (I 6), .int (I 7), .int (I 8), .int (I 9), .int (I 10), .int (nI 0), .int 0] H_9 := h_10
    have h_12 := h_4.upd u_11 (Ne.symm (Ob.neA hK.gg h_2 h_4 (by decide) (by decide)))
    have h_13 := h_5.upd u_11 (Ne.symm (Ob.neA hK.gg h_2 h_5 (by decide) (by decide)))
    have h_14 := h_6.upd u_11 (Ne.symm (Ob.neA hK.gg h_2 h_6 (by decide) (by decide)))
    have h_15 := h_7.upd u_11 (Ne.symm (Ob.neA hK.gg h_2 h_7 (by decide) (by decide)))
    have hF_16 := hF_8.put u_11 (Or.inl (Or.inl rfl))
    refine lv_iconst (v := 0) hx hb dX2_cranks_20 (by decide) ?_
    refine lv_istore (lv' := [(4, .int 0), (3, .int (-1)), (0, .ref (A 0)), (1, .int (-nI mm)), (2, .int y)]) hx hb dX2_cranks_21 hl (by decide) rfl (fun ls hl => ?_)
    refine w_loop4 (Inv := fun (j : Nat) (b1 : BV) (T : Int32) (f : Nat → Int32) H1 locs cells slots ls => j ≤ mm ∧ crk (-1) y mm 0 b 0 = crk (-1) y (mm - j) j b1 T ∧ SRel f b1 ∧ okB b1 ∧ 0 < b1.1.length ∧ MAt g A (va_up F 1 f) (upd (upd I 11 (nI j)) 12 T) H1 ∧ Fx (MM A) s.heap H1 ∧ va_S (gA g) s.heap H1 locs ∧ cells = 0 ∧ slots = 0 ∧ lv_has ls 5 [(4, .int (b2i (0 < j ∧ (rowV b1 (b1.2.2 3).toNatClampNeg).2.2 = 1))), (3, .int (-1)), (0, .ref (A 0)), (1, .int (-nI mm)), (2, .int y)]) (μ := fun j _ _ _ => mm - j) ?_ 0 b 0 (F 1) _ _ _ _ _ ⟨Nat.zero_le _, rfl, hs, hok, hne, by rw [upF_id]; exact MAt.mk (F := F) (I := upd (upd I 11 (nI 0)) 12 0) h_10 h_12 h_13 h_14 h_15 n12 n13 n14 n23 n24 n34, hF_16, hS, rfl, rfl, lv_sub hl [0, 1, 2, 3, 4] rfl⟩
    intro j b1 T f H1 locs cells slots ls hInv ih
    obtain ⟨hjm, hcrk, hs1, hok1, hlen, hM1, hF, hS, rfl, rfl, hl⟩ := hInv
    obtain ⟨h_17, h_18, h_19, h_20, h_21, -, -, -, -, -, -⟩ := id hM1
    have h_17 : Ob g (A 0) 2 [.ref (A 1), .ref (A 2), .ref (A 3), .int (I 3), .ref (A 4), .int (I 5), .int (I 6), .int (I 7), .int (I 8), .int (I 9), .int (I 10), .int (nI j), .int T] H1 := h_17
    have h_18 : Ar g (A 1) 0 (aI 369 f) H1 := h_18
    obtain ⟨sh, hsh, hsh2⟩ := hok1.2.2.2.2.1
    have hsh2 : sh < b1.1.length := by omega
    have hl20 := hok1.1
    refine lv_aload_n hx hb dX2_cranks_23 rfl (lv_at hl 2 rfl) ?_
    refine k_get (ci := 2) hx hb hts in_X2 hown hK h_17 rfl 11 (by decide) q1411 (fun _ h9 => h9) rfl dX2_cranks_24 ?_
    refine lv_iload_n hx hb dX2_cranks_27 rfl (lv_at hl 3 rfl) ?_
    refine lv_iload_n hx hb dX2_cranks_28 rfl (lv_at hl 1 rfl) ?_
    refine lv_imul hx hb dX2_cranks_29 ?_
    refine k_topi (nI mm) (negmul _) ?_
    refine lv_icmp_eq (tgt := 99) hx hb dX2_cranks_30 (by decide) (fun c30 => ?_) (fun c30 => ?_)
    · have c30 : j = mm := (nI_eq (by omega) (by omega)).mp c30
      have hc : crk (-1) y mm 0 b 0 = (b1, j, T) := by rw [hcrk, c30, Nat.sub_self]; rfl
      have hE := SRel_crkE hs1 (t := T) (n := j)
      have hEo := okB_crkE hok1 (t := T) (n := j)
      refine lv_aload_n hx hb dX2_cranks_99 rfl (lv_at hl 2 rfl) ?_
      refine k_get (ci := 2) hx hb hts in_X2 hown hK h_17 rfl 0 (by decide) q1400 (fun _ h9 => h9) rfl dX2_cranks_100 ?_
      refine lv_iconst (v := nI 4) hx hb dX2_cranks_103 (by decide) ?_
      refine lv_dup2_11 hx hb dX2_cranks_104 rfl rfl ?_
      refine k_ildN hx hb hK h_18 (4) (rfl) (by omega) (by decide) dX2_cranks_105 ?_
      refine k_topi (b1.2.2 5) (hs1.c4) ?_
      refine lv_aload_n hx hb dX2_cranks_106 rfl (lv_at hl 2 rfl) ?_
      refine k_get (ci := 2) hx hb hts in_X2 hown hK h_17 rfl 12 (by decide) q1412 (fun _ h9 => h9) rfl dX2_cranks_107 ?_
      refine lv_iadd hx hb dX2_cranks_110 ?_
      refine k_istN hx hb hK hS h_18 (4) (rfl) (by omega) (by decide) dX2_cranks_111 (fun H_22 locs h_23 u_24 hS => ?_)
      have h_23 : Ar g (A 1) 0 (aI 369 (upd f 4 ((b1.2.2 5) + T))) H_22 := h_23
      have h_25 := h_17.upd u_24 (Ob.neA hK.gg h_17 h_18 (by decide) (by decide))
      have h_26 := h_19.upd u_24 (Ne.symm n12)
      have h_27 := h_20.upd u_24 (Ne.symm n13)
      have h_28 := h_21.upd u_24 (Ne.symm n14)
      have hF_29 := hF.put u_24 (Or.inl (Or.inr (Or.inl rfl)))
      refine lv_aload_n hx hb dX2_cranks_112 rfl (lv_at hl 2 rfl) ?_
      refine k_get (ci := 2) hx hb hts in_X2 hown hK h_25 rfl 0 (by decide) q1400 (fun _ h9 => h9) rfl dX2_cranks_113 ?_
      refine lv_iconst (v := nI 5) hx hb dX2_cranks_116 (by decide) ?_
      refine lv_dup2_11 hx hb dX2_cranks_117 rfl rfl ?_
      refine k_ildN hx hb hK h_23 (5) (rfl) (by omega) (by decide) dX2_cranks_118 ?_
      refine k_topi (b1.2.2 6) (hs1.c5) ?_
      refine lv_aload_n hx hb dX2_cranks_119 rfl (lv_at hl 2 rfl) ?_
      refine k_get (ci := 2) hx hb hts in_X2 hown hK h_25 rfl 11 (by decide) q1411 (fun _ h9 => h9) rfl dX2_cranks_120 ?_
      refine lv_iadd hx hb dX2_cranks_123 ?_
      refine k_istN hx hb hK hS h_23 (5) (rfl) (by omega) (by decide) dX2_cranks_124 (fun H_30 locs h_31 u_32 hS => ?_)
      have h_31 : Ar g (A 1) 0 (aI 369 (upd (upd f 4 ((b1.2.2 5) + T)) 5 ((b1.2.2 6) + (nI j)))) H_30 := h_31
      have h_33 := h_25.upd u_32 (Ob.neA hK.gg h_25 h_23 (by decide) (by decide))
      have h_34 := h_26.upd u_32 (Ne.symm n12)
      have h_35 := h_27.upd u_32 (Ne.symm n13)
      have h_36 := h_28.upd u_32 (Ne.symm n14)
      have hF_37 := hF_29.put u_32 (Or.inl (Or.inr (Or.inl rfl)))
      refine lv_aload_n hx hb dX2_cranks_125 rfl (lv_at hl 2 rfl) ?_
      refine k_get (ci := 2) hx hb hts in_X2 hown hK h_33 rfl 11 (by decide) q1411 (fun _ h9 => h9) rfl dX2_cranks_126 ?_
      refine lv_iload_n hx hb dX2_cranks_129 rfl (lv_at hl 3 rfl) ?_
      refine lv_iload_n hx hb dX2_cranks_130 rfl (lv_at hl 1 rfl) ?_
      refine lv_imul hx hb dX2_cranks_131 ?_
      refine k_topi (nI mm) (negmul _) ?_
      refine lv_icmp_ne (tgt := 139) hx hb dX2_cranks_132 (by decide) (fun c132 => ?_) (fun c132 => ?_)
      · have c132 : ¬ j = mm := fun z => c132 (by rw [z])
        refine lv_aload_n hx hb dX2_cranks_139 rfl (lv_at hl 2 rfl) ?_
        refine lv_aload_n hx hb dX2_cranks_140 rfl (lv_at hl 2 rfl) ?_
        refine k_get (ci := 2) hx hb hts in_X2 hown hK h_33 rfl 0 (by decide) q1400 (fun _ h9 => h9) rfl dX2_cranks_141 ?_
        refine lv_iconst (v := nI 1) hx hb dX2_cranks_144 (by decide) ?_
        refine k_ildN hx hb hK h_31 (1) (rfl) (by omega) (by decide) dX2_cranks_145 ?_
        refine k_topi (nI sh) ((hs1.sh.trans (if_neg (by omega))).trans hsh) ?_
        refine lv_iload_n hx hb dX2_cranks_146 rfl (lv_at hl 1 rfl) ?_
        refine lv_iadd hx hb dX2_cranks_147 ?_
        have hM5 := MAt.mk (F := va_up F 1 (upd (upd f 4 (b1.2.2 5 + T)) 5 (b1.2.2 6 + nI j))) (I := upd (upd I 11 (nI j)) 12 T) h_33 h_31 h_34 h_35 h_36 n12 n13 n14 n23 n24 n34
        refine k_calliS (va_runV (As := [.int ((nI sh) + (-1))]) (rest := []) ⟨hx, hb, hml, hown, hts⟩ (m_isRow l g (nI sh + (-1)) hM5) (cwV 1 hts (lw_V q1500 q1502 qs30 q56 q1503) rfl rfl rfl hdV_X2_isRow ⟨Nat.le_of_ble_eq_true rfl, Nat.le_of_ble_eq_true rfl⟩) (preV hK hS h_33 rfl) rfl rfl hl.1 rfl (lv_room (Nat.le_of_ble_eq_true rfl)) dX2_cranks_148 ⟨Nat.le_of_ble_eq_true rfl, Nat.le_of_ble_eq_true rfl⟩) hS (fun z5 locs hz5 hS => ?_)
        refine lv_if_eq (tgt := 158) hx hb dX2_cranks_151 (by decide) (fun c151 => ?_) (fun c151 => ?_)
        · have c151 := b2f hz5 c151
          have c151 : ¬ (0 ≤ nI sh + (-1) ∧ nI sh + (-1) < nI b1.1.length) := fun h => c151 (by show _ ∧ _ < f 0; rw [hs1.rows]; exact h)
          refine lv_iconst (v := 1) hx hb dX2_cranks_158 (by decide) ?_
          exact k_ireti (v := 1) hx hb hret (rfl) hlk hS (Nat.le_of_ble_eq_true rfl) (Nat.le_of_ble_eq_true rfl) (⟨hF_37, upd (upd f 4 (b1.2.2 5 + T)) 5 (b1.2.2 6 + nI j), upd (upd I 11 (nI j)) 12 T, by rw [hc]; exact hE, by rw [hc]; exact hEo, MAt.mk (F := va_up F 1 (upd (upd f 4 (b1.2.2 5 + T)) 5 (b1.2.2 6 + nI j))) (I := upd (upd I 11 (nI j)) 12 T) h_33 h_31 h_34 h_35 h_36 n12 n13 n14 n23 n24 n34, rfl, rfl, by rw [hc]; rfl, by rw [hc]; rfl, by rw [hc]; unfold crkW; show _ = if j = mm then _ else if 0 ≤ b1.2.2 3 + (-1) ∧ b1.2.2 3 + (-1) < nI b1.1.length then _ else _; rw [if_neg c132, if_neg (by rw [hsh]; exact c151)]⟩) dX2_cranks_159
        · have c151 := b2t hz5 c151
          have c151 : 0 ≤ nI sh + (-1) ∧ nI sh + (-1) < nI b1.1.length := by have c151 : 0 ≤ nI sh + (-1) ∧ nI sh + (-1) < f 0 := c151; rw [hs1.rows] at c151; exact c151
          refine lv_iconst (v := 2) hx hb dX2_cranks_154 (by decide) ?_
          refine lv_goto (tgt := 159) hx hb dX2_cranks_155 (by decide) ?_
          exact k_ireti (v := 2) hx hb hret (rfl) hlk hS (Nat.le_of_ble_eq_true rfl) (Nat.le_of_ble_eq_true rfl) (⟨hF_37, upd (upd f 4 (b1.2.2 5 + T)) 5 (b1.2.2 6 + nI j), upd (upd I 11 (nI j)) 12 T, by rw [hc]; exact hE, by rw [hc]; exact hEo, MAt.mk (F := va_up F 1 (upd (upd f 4 (b1.2.2 5 + T)) 5 (b1.2.2 6 + nI j))) (I := upd (upd I 11 (nI j)) 12 T) h_33 h_31 h_34 h_35 h_36 n12 n13 n14 n23 n24 n34, rfl, rfl, by rw [hc]; rfl, by rw [hc]; rfl, by rw [hc]; unfold crkW; show _ = if j = mm then _ else if 0 ≤ b1.2.2 3 + (-1) ∧ b1.2.2 3 + (-1) < nI b1.1.length then _ else _; rw [if_neg c132, if_pos (by rw [hsh]; exact c151)]⟩) dX2_cranks_159
      · have c132 : j = mm := (nI_eq (by omega) (by omega)).mp c132
        refine lv_iconst (v := 0) hx hb dX2_cranks_135 (by decide) ?_
        refine lv_goto (tgt := 159) hx hb dX2_cranks_136 (by decide) ?_
        exact k_ireti (v := 0) hx hb hret (rfl) hlk hS (Nat.le_of_ble_eq_true rfl) (Nat.le_of_ble_eq_true rfl) (⟨hF_37, upd (upd f 4 (b1.2.2 5 + T)) 5 (b1.2.2 6 + nI j), upd (upd I 11 (nI j)) 12 T, by rw [hc]; exact hE, by rw [hc]; exact hEo, MAt.mk (F := va_up F 1 (upd (upd f 4 (b1.2.2 5 + T)) 5 (b1.2.2 6 + nI j))) (I := upd (upd I 11 (nI j)) 12 T) h_33 h_31 h_34 h_35 h_36 n12 n13 n14 n23 n24 n34, rfl, rfl, by rw [hc]; rfl, by rw [hc]; rfl, by rw [hc]; unfold crkW; show _ = if j = mm then _ else if 0 ≤ b1.2.2 3 + (-1) ∧ b1.2.2 3 + (-1) < nI b1.1.length then _ else _; rw [if_pos c132]⟩) dX2_cranks_159
    · have c30 : j < mm := by rcases Nat.lt_or_ge j mm with z | z; exact z; exact absurd (by rw [show j = mm by omega]) c30
      obtain ⟨n, hn⟩ : ∃ n, mm - j = n + 1 := ⟨mm - j - 1, by omega⟩
      refine lv_aload_n hx hb dX2_cranks_33 rfl (lv_at hl 2 rfl) ?_
      refine lv_aload_n hx hb dX2_cranks_34 rfl (lv_at hl 2 rfl) ?_
      refine k_get (ci := 2) hx hb hts in_X2 hown hK h_17 rfl 0 (by decide) q1400 (fun _ h9 => h9) rfl dX2_cranks_35 ?_
      refine lv_iconst (v := nI 1) hx hb dX2_cranks_38 (by decide) ?_
      refine k_ildN hx hb hK h_18 (1) (rfl) (by omega) (by decide) dX2_cranks_39 ?_
      refine k_topi (nI sh) ((hs1.sh.trans (if_neg (by omega))).trans hsh) ?_
      refine lv_iload_n hx hb dX2_cranks_40 rfl (lv_at hl 1 rfl) ?_
      refine lv_iadd hx hb dX2_cranks_41 ?_
      refine k_calliS (va_runV (As := [.int ((nI sh) + (-1))]) (rest := []) ⟨hx, hb, hml, hown, hts⟩ (m_isRow l g (nI sh + (-1)) hM1) (cwV 1 hts (lw_V q1500 q1502 qs30 q56 q1503) rfl rfl rfl hdV_X2_isRow ⟨Nat.le_of_ble_eq_true rfl, Nat.le_of_ble_eq_true rfl⟩) (preV hK hS h_17 rfl) rfl rfl hl.1 rfl (lv_room (Nat.le_of_ble_eq_true rfl)) dX2_cranks_42 ⟨Nat.le_of_ble_eq_true rfl, Nat.le_of_ble_eq_true rfl⟩) hS (fun z1 locs hz1 hS => ?_)
      refine lv_if_eq (tgt := 99) hx hb dX2_cranks_45 (by decide) (fun c45 => ?_) (fun c45 => ?_)
      · have c45 := b2f hz1 c45
        have c45 : ¬ (0 ≤ nI sh + (-1) ∧ nI sh + (-1) < nI b1.1.length) := fun h => c45 (by show _ ∧ _ < f 0; rw [hs1.rows]; exact h)
        have hc : crk (-1) y mm 0 b 0 = (b1, j, T) := by rw [hcrk, hn]; exact crk_stop (fun h => c45 (by rw [← hsh]; exact h.1))
        have hE := SRel_crkE hs1 (t := T) (n := j)
        have hEo := okB_crkE hok1 (t := T) (n := j)
        refine lv_aload_n hx hb dX2_cranks_99 rfl (lv_at hl 2 rfl) ?_
        refine k_get (ci := 2) hx hb hts in_X2 hown hK h_17 rfl 0 (by decide) q1400 (fun _ h9 => h9) rfl dX2_cranks_100 ?_
        refine lv_iconst (v := nI 4) hx hb dX2_cranks_103 (by decide) ?_
        refine lv_dup2_11 hx hb dX2_cranks_104 rfl rfl ?_
        refine k_ildN hx hb hK h_18 (4) (rfl) (by omega) (by decide) dX2_cranks_105 ?_
        refine k_topi (b1.2.2 5) (hs1.c4) ?_
        refine lv_aload_n hx hb dX2_cranks_106 rfl (lv_at hl 2 rfl) ?_
        refine k_get (ci := 2) hx hb hts in_X2 hown hK h_17 rfl 12 (by decide) q1412 (fun _ h9 => h9) rfl dX2_cranks_107 ?_
        refine lv_iadd hx hb dX2_cranks_110 ?_
        refine k_istN hx hb hK hS h_18 (4) (rfl) (by omega) (by decide) dX2_cranks_111 (fun H_40 locs h_41 u_42 hS => ?_)
        have h_41 : Ar g (A 1) 0 (aI 369 (upd f 4 ((b1.2.2 5) + T))) H_40 := h_41
        have h_43 := h_17.upd u_42 (Ob.neA hK.gg h_17 h_18 (by decide) (by decide))
        have h_44 := h_19.upd u_42 (Ne.symm n12)
        have h_45 := h_20.upd u_42 (Ne.symm n13)
        have h_46 := h_21.upd u_42 (Ne.symm n14)
        have hF_47 := hF.put u_42 (Or.inl (Or.inr (Or.inl rfl)))
        refine lv_aload_n hx hb dX2_cranks_112 rfl (lv_at hl 2 rfl) ?_
        refine k_get (ci := 2) hx hb hts in_X2 hown hK h_43 rfl 0 (by decide) q1400 (fun _ h9 => h9) rfl dX2_cranks_113 ?_
        refine lv_iconst (v := nI 5) hx hb dX2_cranks_116 (by decide) ?_
        refine lv_dup2_11 hx hb dX2_cranks_117 rfl rfl ?_
        refine k_ildN hx hb hK h_41 (5) (rfl) (by omega) (by decide) dX2_cranks_118 ?_
        refine k_topi (b1.2.2 6) (hs1.c5) ?_
        refine lv_aload_n hx hb dX2_cranks_119 rfl (lv_at hl 2 rfl) ?_
        refine k_get (ci := 2) hx hb hts in_X2 hown hK h_43 rfl 11 (by decide) q1411 (fun _ h9 => h9) rfl dX2_cranks_120 ?_
        refine lv_iadd hx hb dX2_cranks_123 ?_
        refine k_istN hx hb hK hS h_41 (5) (rfl) (by omega) (by decide) dX2_cranks_124 (fun H_48 locs h_49 u_50 hS => ?_)
        have h_49 : Ar g (A 1) 0 (aI 369 (upd (upd f 4 ((b1.2.2 5) + T)) 5 ((b1.2.2 6) + (nI j)))) H_48 := h_49
        have h_51 := h_43.upd u_50 (Ob.neA hK.gg h_43 h_41 (by decide) (by decide))
        have h_52 := h_44.upd u_50 (Ne.symm n12)
        have h_53 := h_45.upd u_50 (Ne.symm n13)
        have h_54 := h_46.upd u_50 (Ne.symm n14)
        have hF_55 := hF_47.put u_50 (Or.inl (Or.inr (Or.inl rfl)))
        refine lv_aload_n hx hb dX2_cranks_125 rfl (lv_at hl 2 rfl) ?_
        refine k_get (ci := 2) hx hb hts in_X2 hown hK h_51 rfl 11 (by decide) q1411 (fun _ h9 => h9) rfl dX2_cranks_126 ?_
        refine lv_iload_n hx hb dX2_cranks_129 rfl (lv_at hl 3 rfl) ?_
        refine lv_iload_n hx hb dX2_cranks_130 rfl (lv_at hl 1 rfl) ?_
        refine lv_imul hx hb dX2_cranks_131 ?_
        refine k_topi (nI mm) (negmul _) ?_
        refine lv_icmp_ne (tgt := 139) hx hb dX2_cranks_132 (by decide) (fun c132 => ?_) (fun c132 => ?_)
        · have c132 : ¬ j = mm := fun z => c132 (by rw [z])
          refine lv_aload_n hx hb dX2_cranks_139 rfl (lv_at hl 2 rfl) ?_
          refine lv_aload_n hx hb dX2_cranks_140 rfl (lv_at hl 2 rfl) ?_
          refine k_get (ci := 2) hx hb hts in_X2 hown hK h_51 rfl 0 (by decide) q1400 (fun _ h9 => h9) rfl dX2_cranks_141 ?_
          refine lv_iconst (v := nI 1) hx hb dX2_cranks_144 (by decide) ?_
          refine k_ildN hx hb hK h_49 (1) (rfl) (by omega) (by decide) dX2_cranks_145 ?_
          refine k_topi (nI sh) ((hs1.sh.trans (if_neg (by omega))).trans hsh) ?_
          refine lv_iload_n hx hb dX2_cranks_146 rfl (lv_at hl 1 rfl) ?_
          refine lv_iadd hx hb dX2_cranks_147 ?_
          have hM5 := MAt.mk (F := va_up F 1 (upd (upd f 4 (b1.2.2 5 + T)) 5 (b1.2.2 6 + nI j))) (I := upd (upd I 11 (nI j)) 12 T) h_51 h_49 h_52 h_53 h_54 n12 n13 n14 n23 n24 n34
          refine k_calliS (va_runV (As := [.int ((nI sh) + (-1))]) (rest := []) ⟨hx, hb, hml, hown, hts⟩ (m_isRow l g (nI sh + (-1)) hM5) (cwV 1 hts (lw_V q1500 q1502 qs30 q56 q1503) rfl rfl rfl hdV_X2_isRow ⟨Nat.le_of_ble_eq_true rfl, Nat.le_of_ble_eq_true rfl⟩) (preV hK hS h_51 rfl) rfl rfl hl.1 rfl (lv_room (Nat.le_of_ble_eq_true rfl)) dX2_cranks_148 ⟨Nat.le_of_ble_eq_true rfl, Nat.le_of_ble_eq_true rfl⟩) hS (fun z5 locs hz5 hS => ?_)
          refine lv_if_eq (tgt := 158) hx hb dX2_cranks_151 (by decide) (fun c151 => ?_) (fun c151 => ?_)
          · have c151 := b2f hz5 c151
            have c151 : ¬ (0 ≤ nI sh + (-1) ∧ nI sh + (-1) < nI b1.1.length) := fun h => c151 (by show _ ∧ _ < f 0; rw [hs1.rows]; exact h)
            refine lv_iconst (v := 1) hx hb dX2_cranks_158 (by decide) ?_
            exact k_ireti (v := 1) hx hb hret (rfl) hlk hS (Nat.le_of_ble_eq_true rfl) (Nat.le_of_ble_eq_true rfl) (⟨hF_55, upd (upd f 4 (b1.2.2 5 + T)) 5 (b1.2.2 6 + nI j), upd (upd I 11 (nI j)) 12 T, by rw [hc]; exact hE, by rw [hc]; exact hEo, MAt.mk (F := va_up F 1 (upd (upd f 4 (b1.2.2 5 + T)) 5 (b1.2.2 6 + nI j))) (I := upd (upd I 11 (nI j)) 12 T) h_51 h_49 h_52 h_53 h_54 n12 n13 n14 n23 n24 n34, rfl, rfl, by rw [hc]; rfl, by rw [hc]; rfl, by rw [hc]; unfold crkW; show _ = if j = mm then _ else if 0 ≤ b1.2.2 3 + (-1) ∧ b1.2.2 3 + (-1) < nI b1.1.length then _ else _; rw [if_neg c132, if_neg (by rw [hsh]; exact c151)]⟩) dX2_cranks_159
          · have c151 := b2t hz5 c151
            have c151 : 0 ≤ nI sh + (-1) ∧ nI sh + (-1) < nI b1.1.length := by have c151 : 0 ≤ nI sh + (-1) ∧ nI sh + (-1) < f 0 := c151; rw [hs1.rows] at c151; exact c151
            refine lv_iconst (v := 2) hx hb dX2_cranks_154 (by decide) ?_
            refine lv_goto (tgt := 159) hx hb dX2_cranks_155 (by decide) ?_
            exact k_ireti (v := 2) hx hb hret (rfl) hlk hS (Nat.le_of_ble_eq_true rfl) (Nat.le_of_ble_eq_true rfl) (⟨hF_55, upd (upd f 4 (b1.2.2 5 + T)) 5 (b1.2.2 6 + nI j), upd (upd I 11 (nI j)) 12 T, by rw [hc]; exact hE, by rw [hc]; exact hEo, MAt.mk (F := va_up F 1 (upd (upd f 4 (b1.2.2 5 + T)) 5 (b1.2.2 6 + nI j))) (I := upd (upd I 11 (nI j)) 12 T) h_51 h_49 h_52 h_53 h_54 n12 n13 n14 n23 n24 n34, rfl, rfl, by rw [hc]; rfl, by rw [hc]; rfl, by rw [hc]; unfold crkW; show _ = if j = mm then _ else if 0 ≤ b1.2.2 3 + (-1) ∧ b1.2.2 3 + (-1) < nI b1.1.length then _ else _; rw [if_neg c132, if_pos (by rw [hsh]; exact c151)]⟩) dX2_cranks_159
        · have c132 : j = mm := (nI_eq (by omega) (by omega)).mp c132
          refine lv_iconst (v := 0) hx hb dX2_cranks_135 (by decide) ?_
          refine lv_goto (tgt := 159) hx hb dX2_cranks_136 (by decide) ?_
          exact k_ireti (v := 0) hx hb hret (rfl) hlk hS (Nat.le_of_ble_eq_true rfl) (Nat.le_of_ble_eq_true rfl) (⟨hF_55, upd (upd f 4 (b1.2.2 5 + T)) 5 (b1.2.2 6 + nI j), upd (upd I 11 (nI j)) 12 T, by rw [hc]; exact hE, by rw [hc]; exact hEo, MAt.mk (F := va_up F 1 (upd (upd f 4 (b1.2.2 5 + T)) 5 (b1.2.2 6 + nI j))) (I := upd (upd I 11 (nI j)) 12 T) h_51 h_49 h_52 h_53 h_54 n12 n13 n14 n23 n24 n34, rfl, rfl, by rw [hc]; rfl, by rw [hc]; rfl, by rw [hc]; unfold crkW; show _ = if j = mm then _ else if 0 ≤ b1.2.2 3 + (-1) ∧ b1.2.2 3 + (-1) < nI b1.1.length then _ else _; rw [if_pos c132]⟩) dX2_cranks_159
      · have c45 := b2t hz1 c45
        have c45 : 0 ≤ nI sh + (-1) ∧ nI sh + (-1) < nI b1.1.length := by have c45 : 0 ≤ nI sh + (-1) ∧ nI sh + (-1) < f 0 := c45; rw [hs1.rows] at c45; exact c45
        obtain ⟨sh2, hs2a, hs2b⟩ := row_nat c45 (by omega)
        refine lv_iload hx hb dX2_cranks_48 (lv_at hl 0 rfl) ?_
        have hheld : b2i (0 < j ∧ (rowV b1 (b1.2.2 3).toNatClampNeg).2.2 = 1) = b2i (0 < j ∧ (rowV b1 (b1.2.2 3).toNatClampNeg).2.2 = 1) := rfl
        refine lv_if_ne (tgt := 99) hx hb dX2_cranks_50 (by decide) (fun c50 => ?_) (fun c50 => ?_)
        · have c50 := b2t hheld c50
          have hc : crk (-1) y mm 0 b 0 = (b1, j, T) := by rw [hcrk, hn]; exact crk_stop (fun h => h.2 c50)
          have hE := SRel_crkE hs1 (t := T) (n := j)
          have hEo := okB_crkE hok1 (t := T) (n := j)
          refine lv_aload_n hx hb dX2_cranks_99 rfl (lv_at hl 2 rfl) ?_
          refine k_get (ci := 2) hx hb hts in_X2 hown hK h_17 rfl 0 (by decide) q1400 (fun _ h9 => h9) rfl dX2_cranks_100 ?_
          refine lv_iconst (v := nI 4) hx hb dX2_cranks_103 (by decide) ?_
          refine lv_dup2_11 hx hb dX2_cranks_104 rfl rfl ?_
          refine k_ildN hx hb hK h_18 (4) (rfl) (by omega) (by decide) dX2_cranks_105 ?_
          refine k_topi (b1.2.2 5) (hs1.c4) ?_
          refine lv_aload_n hx hb dX2_cranks_106 rfl (lv_at hl 2 rfl) ?_
          refine k_get (ci := 2) hx hb hts in_X2 hown hK h_17 rfl 12 (by decide) q1412 (fun _ h9 => h9) rfl dX2_cranks_107 ?_
          refine lv_iadd hx hb dX2_cranks_110 ?_
          refine k_istN hx hb hK hS h_18 (4) (rfl) (by omega) (by decide) dX2_cranks_111 (fun H_57 locs h_58 u_59 hS => ?_)
          have h_58 : Ar g (A 1) 0 (aI 369 (upd f 4 ((b1.2.2 5) + T))) H_57 := h_58
          have h_60 := h_17.upd u_59 (Ob.neA hK.gg h_17 h_18 (by decide) (by decide))
          have h_61 := h_19.upd u_59 (Ne.symm n12)
          have h_62 := h_20.upd u_59 (Ne.symm n13)
          have h_63 := h_21.upd u_59 (Ne.symm n14)
          have hF_64 := hF.put u_59 (Or.inl (Or.inr (Or.inl rfl)))
          refine lv_aload_n hx hb dX2_cranks_112 rfl (lv_at hl 2 rfl) ?_
          refine k_get (ci := 2) hx hb hts in_X2 hown hK h_60 rfl 0 (by decide) q1400 (fun _ h9 => h9) rfl dX2_cranks_113 ?_
          refine lv_iconst (v := nI 5) hx hb dX2_cranks_116 (by decide) ?_
          refine lv_dup2_11 hx hb dX2_cranks_117 rfl rfl ?_
          refine k_ildN hx hb hK h_58 (5) (rfl) (by omega) (by decide) dX2_cranks_118 ?_
          refine k_topi (b1.2.2 6) (hs1.c5) ?_
          refine lv_aload_n hx hb dX2_cranks_119 rfl (lv_at hl 2 rfl) ?_
          refine k_get (ci := 2) hx hb hts in_X2 hown hK h_60 rfl 11 (by decide) q1411 (fun _ h9 => h9) rfl dX2_cranks_120 ?_
          refine lv_iadd hx hb dX2_cranks_123 ?_
          refine k_istN hx hb hK hS h_58 (5) (rfl) (by omega) (by decide) dX2_cranks_124 (fun H_65 locs h_66 u_67 hS => ?_)
          have h_66 : Ar g (A 1) 0 (aI 369 (upd (upd f 4 ((b1.2.2 5) + T)) 5 ((b1.2.2 6) + (nI j)))) H_65 := h_66
          have h_68 := h_60.upd u_67 (Ob.neA hK.gg h_60 h_58 (by decide) (by decide))
          have h_69 := h_61.upd u_67 (Ne.symm n12)
          have h_70 := h_62.upd u_67 (Ne.symm n13)
          have h_71 := h_63.upd u_67 (Ne.symm n14)
          have hF_72 := hF_64.put u_67 (Or.inl (Or.inr (Or.inl rfl)))
          refine lv_aload_n hx hb dX2_cranks_125 rfl (lv_at hl 2 rfl) ?_
          refine k_get (ci := 2) hx hb hts in_X2 hown hK h_68 rfl 11 (by decide) q1411 (fun _ h9 => h9) rfl dX2_cranks_126 ?_
          refine lv_iload_n hx hb dX2_cranks_129 rfl (lv_at hl 3 rfl) ?_
          refine lv_iload_n hx hb dX2_cranks_130 rfl (lv_at hl 1 rfl) ?_
          refine lv_imul hx hb dX2_cranks_131 ?_
          refine k_topi (nI mm) (negmul _) ?_
          refine lv_icmp_ne (tgt := 139) hx hb dX2_cranks_132 (by decide) (fun c132 => ?_) (fun c132 => ?_)
          · have c132 : ¬ j = mm := fun z => c132 (by rw [z])
            refine lv_aload_n hx hb dX2_cranks_139 rfl (lv_at hl 2 rfl) ?_
            refine lv_aload_n hx hb dX2_cranks_140 rfl (lv_at hl 2 rfl) ?_
            refine k_get (ci := 2) hx hb hts in_X2 hown hK h_68 rfl 0 (by decide) q1400 (fun _ h9 => h9) rfl dX2_cranks_141 ?_
            refine lv_iconst (v := nI 1) hx hb dX2_cranks_144 (by decide) ?_
            refine k_ildN hx hb hK h_66 (1) (rfl) (by omega) (by decide) dX2_cranks_145 ?_
            refine k_topi (nI sh) ((hs1.sh.trans (if_neg (by omega))).trans hsh) ?_
            refine lv_iload_n hx hb dX2_cranks_146 rfl (lv_at hl 1 rfl) ?_
            refine lv_iadd hx hb dX2_cranks_147 ?_
            have hM5 := MAt.mk (F := va_up F 1 (upd (upd f 4 (b1.2.2 5 + T)) 5 (b1.2.2 6 + nI j))) (I := upd (upd I 11 (nI j)) 12 T) h_68 h_66 h_69 h_70 h_71 n12 n13 n14 n23 n24 n34
            refine k_calliS (va_runV (As := [.int ((nI sh) + (-1))]) (rest := []) ⟨hx, hb, hml, hown, hts⟩ (m_isRow l g (nI sh + (-1)) hM5) (cwV 1 hts (lw_V q1500 q1502 qs30 q56 q1503) rfl rfl rfl hdV_X2_isRow ⟨Nat.le_of_ble_eq_true rfl, Nat.le_of_ble_eq_true rfl⟩) (preV hK hS h_68 rfl) rfl rfl hl.1 rfl (lv_room (Nat.le_of_ble_eq_true rfl)) dX2_cranks_148 ⟨Nat.le_of_ble_eq_true rfl, Nat.le_of_ble_eq_true rfl⟩) hS (fun z5 locs hz5 hS => ?_)
            refine lv_if_eq (tgt := 158) hx hb dX2_cranks_151 (by decide) (fun c151 => ?_) (fun c151 => ?_)
            · have c151 := b2f hz5 c151
              have c151 : ¬ (0 ≤ nI sh + (-1) ∧ nI sh + (-1) < nI b1.1.length) := fun h => c151 (by show _ ∧ _ < f 0; rw [hs1.rows]; exact h)
              refine lv_iconst (v := 1) hx hb dX2_cranks_158 (by decide) ?_
              exact k_ireti (v := 1) hx hb hret (rfl) hlk hS (Nat.le_of_ble_eq_true rfl) (Nat.le_of_ble_eq_true rfl) (⟨hF_72, upd (upd f 4 (b1.2.2 5 + T)) 5 (b1.2.2 6 + nI j), upd (upd I 11 (nI j)) 12 T, by rw [hc]; exact hE, by rw [hc]; exact hEo, MAt.mk (F := va_up F 1 (upd (upd f 4 (b1.2.2 5 + T)) 5 (b1.2.2 6 + nI j))) (I := upd (upd I 11 (nI j)) 12 T) h_68 h_66 h_69 h_70 h_71 n12 n13 n14 n23 n24 n34, rfl, rfl, by rw [hc]; rfl, by rw [hc]; rfl, by rw [hc]; unfold crkW; show _ = if j = mm then _ else if 0 ≤ b1.2.2 3 + (-1) ∧ b1.2.2 3 + (-1) < nI b1.1.length then _ else _; rw [if_neg c132, if_neg (by rw [hsh]; exact c151)]⟩) dX2_cranks_159
            · have c151 := b2t hz5 c151
              have c151 : 0 ≤ nI sh + (-1) ∧ nI sh + (-1) < nI b1.1.length := by have c151 : 0 ≤ nI sh + (-1) ∧ nI sh + (-1) < f 0 := c151; rw [hs1.rows] at c151; exact c151
              refine lv_iconst (v := 2) hx hb dX2_cranks_154 (by decide) ?_
              refine lv_goto (tgt := 159) hx hb dX2_cranks_155 (by decide) ?_
              exact k_ireti (v := 2) hx hb hret (rfl) hlk hS (Nat.le_of_ble_eq_true rfl) (Nat.le_of_ble_eq_true rfl) (⟨hF_72, upd (upd f 4 (b1.2.2 5 + T)) 5 (b1.2.2 6 + nI j), upd (upd I 11 (nI j)) 12 T, by rw [hc]; exact hE, by rw [hc]; exact hEo, MAt.mk (F := va_up F 1 (upd (upd f 4 (b1.2.2 5 + T)) 5 (b1.2.2 6 + nI j))) (I := upd (upd I 11 (nI j)) 12 T) h_68 h_66 h_69 h_70 h_71 n12 n13 n14 n23 n24 n34, rfl, rfl, by rw [hc]; rfl, by rw [hc]; rfl, by rw [hc]; unfold crkW; show _ = if j = mm then _ else if 0 ≤ b1.2.2 3 + (-1) ∧ b1.2.2 3 + (-1) < nI b1.1.length then _ else _; rw [if_neg c132, if_pos (by rw [hsh]; exact c151)]⟩) dX2_cranks_159
          · have c132 : j = mm := (nI_eq (by omega) (by omega)).mp c132
            refine lv_iconst (v := 0) hx hb dX2_cranks_135 (by decide) ?_
            refine lv_goto (tgt := 159) hx hb dX2_cranks_136 (by decide) ?_
            exact k_ireti (v := 0) hx hb hret (rfl) hlk hS (Nat.le_of_ble_eq_true rfl) (Nat.le_of_ble_eq_true rfl) (⟨hF_72, upd (upd f 4 (b1.2.2 5 + T)) 5 (b1.2.2 6 + nI j), upd (upd I 11 (nI j)) 12 T, by rw [hc]; exact hE, by rw [hc]; exact hEo, MAt.mk (F := va_up F 1 (upd (upd f 4 (b1.2.2 5 + T)) 5 (b1.2.2 6 + nI j))) (I := upd (upd I 11 (nI j)) 12 T) h_68 h_66 h_69 h_70 h_71 n12 n13 n14 n23 n24 n34, rfl, rfl, by rw [hc]; rfl, by rw [hc]; rfl, by rw [hc]; unfold crkW; show _ = if j = mm then _ else if 0 ≤ b1.2.2 3 + (-1) ∧ b1.2.2 3 + (-1) < nI b1.1.length then _ else _; rw [if_pos c132]⟩) dX2_cranks_159
        · have c50 := b2f hheld c50
          refine lv_aload_n hx hb dX2_cranks_53 rfl (lv_at hl 2 rfl) ?_
          refine lv_aload_n hx hb dX2_cranks_54 rfl (lv_at hl 2 rfl) ?_
          refine k_get (ci := 2) hx hb hts in_X2 hown hK h_17 rfl 0 (by decide) q1400 (fun _ h9 => h9) rfl dX2_cranks_55 ?_
          refine lv_iconst (v := nI 1) hx hb dX2_cranks_58 (by decide) ?_
          refine k_ildN hx hb hK h_18 (1) (rfl) (by omega) (by decide) dX2_cranks_59 ?_
          refine k_topi (nI sh) ((hs1.sh.trans (if_neg (by omega))).trans hsh) ?_
          refine lv_iload_n hx hb dX2_cranks_60 rfl (lv_at hl 4 rfl) ?_
          refine k_callv (va_runV (As := [.int (nI sh), .int y]) (rest := []) ⟨hx, hb, hml, hown, hts⟩ (m_leaves l g b1 sh j y hM1 hs1 hok1 hsh2 rfl (by omega)) (cwV 2 hts (lw_V q1539 q1541 qs36 q56 q1542) rfl rfl rfl hdV_X2_leaves ⟨Nat.le_of_ble_eq_true rfl, Nat.le_of_ble_eq_true rfl⟩) (preV hK hS h_17 rfl) rfl rfl hl.1 rfl (lv_room (Nat.le_of_ble_eq_true rfl)) dX2_cranks_61 ⟨Nat.le_of_ble_eq_true rfl, Nat.le_of_ble_eq_true rfl⟩) hS (fun H_74 locs hp2 hS => ?_)
          obtain ⟨hF2, f2, hs2, hok2, hM2⟩ := hp2
          have hF := hF.trans hF2 (fun q _ h => h)
          have hM2 : MAt g A (va_up F 1 f2) (upd (upd I 11 (nI j)) 12 (T + (leaveB b1 sh y j).2)) H_74 := by rw [bx_uu, upd_upd] at hM2; exact hM2
          obtain ⟨h_75, h_76, h_77, h_78, h_79, -, -, -, -, -, -⟩ := id hM2
          have h_75 : Ob g (A 0) 2 [.ref (A 1), .ref (A 2), .ref (A 3), .int (I 3), .ref (A 4), .int (I 5), .int (I 6), .int (I 7), .int (I 8), .int (I 9), .int (I 10), .int (nI j), .int (T + (leaveB b1 sh y j).2)] H_74 := h_75
          have h_76 : Ar g (A 1) 0 (aI 369 f2) H_74 := h_76
          have hcrk2 : crk (-1) y mm 0 b 0 = crk (-1) y (mm - (j + 1)) (j + 1) (stepB b1 sh y j (nI sh2)) (T + (leaveB b1 sh y j).2) := by rw [hcrk, hn, show mm - (j + 1) = n by omega, ← hs2b]; exact crk_go hsh (by omega) ⟨by rw [hsh]; exact c45, c50⟩
          refine lv_aload_n hx hb dX2_cranks_64 rfl (lv_at hl 2 rfl) ?_
          refine k_get (ci := 2) hx hb hts in_X2 hown hK h_75 rfl 0 (by decide) q1400 (fun _ h9 => h9) rfl dX2_cranks_65 ?_
          refine lv_iconst (v := nI 1) hx hb dX2_cranks_68 (by decide) ?_
          refine lv_dup2_11 hx hb dX2_cranks_69 rfl rfl ?_
          refine k_ildN hx hb hK h_76 (1) (rfl) (by omega) (by decide) dX2_cranks_70 ?_
          refine k_topi (nI sh) (by rw [hs2.sh, leaveB_len, if_neg (by omega), leaveB_nums]; exact hsh) ?_
          refine lv_iload_n hx hb dX2_cranks_71 rfl (lv_at hl 1 rfl) ?_
          refine lv_iadd hx hb dX2_cranks_72 ?_
          refine k_topi (nI sh2) (hs2b) ?_
          refine k_istN hx hb hK hS h_76 (1) (rfl) (by omega) (by decide) dX2_cranks_73 (fun H_80 locs h_81 u_82 hS => ?_)
          have h_81 : Ar g (A 1) 0 (aI 369 (upd f2 1 (nI sh2))) H_80 := h_81
          have h_83 := h_75.upd u_82 (Ob.neA hK.gg h_75 h_76 (by decide) (by decide))
          have h_84 := h_77.upd u_82 (Ne.symm n12)
          have h_85 := h_78.upd u_82 (Ne.symm n13)
          have h_86 := h_79.upd u_82 (Ne.symm n14)
          have hF_87 := hF.put u_82 (Or.inl (Or.inr (Or.inl rfl)))
          have hs2 := SRel_step hs2 (by rw [leaveB_len]; exact hlen) (nI sh2)
          have hok2 := okB_step hok2 (by rw [leaveB_len]; exact hs2a)
          have hM3 := MAt.mk (F := va_up F 1 (upd f2 1 (nI sh2))) (I := upd (upd I 11 (nI j)) 12 (T + (leaveB b1 sh y j).2)) h_83 h_81 h_84 h_85 h_86 n12 n13 n14 n23 n24 n34
          refine lv_aload_n hx hb dX2_cranks_74 rfl (lv_at hl 2 rfl) ?_
          refine lv_aload_n hx hb dX2_cranks_75 rfl (lv_at hl 2 rfl) ?_
          refine k_get (ci := 2) hx hb hts in_X2 hown hK h_83 rfl 0 (by decide) q1400 (fun _ h9 => h9) rfl dX2_cranks_76 ?_
          refine lv_iconst (v := nI 1) hx hb dX2_cranks_79 (by decide) ?_
          refine k_ildN hx hb hK h_81 (1) (rfl) (by omega) (by decide) dX2_cranks_80 ?_
          refine k_calliS (va_runV (As := [.int ((upd f2 1 (nI sh2)) 1)]) (rest := []) ⟨hx, hb, hml, hown, hts⟩ (m_isTorn l g sh2 hM3 (by omega)) (cwV 1 hts (lw_V q1523 q1525 qs33 q56 q1526) rfl rfl rfl hdV_X2_isTorn ⟨Nat.le_of_ble_eq_true rfl, Nat.le_of_ble_eq_true rfl⟩) (preV hK hS h_83 rfl) rfl rfl hl.1 rfl (lv_room (Nat.le_of_ble_eq_true rfl)) dX2_cranks_81 ⟨Nat.le_of_ble_eq_true rfl, Nat.le_of_ble_eq_true rfl⟩) hS (fun z3 locs hz3 hS => ?_)
          have hz3 : z3 = b2i (0 < j + 1 ∧ (rowV (stepB b1 sh y j (nI sh2)) ((stepB b1 sh y j (nI sh2)).2.2 3).toNatClampNeg).2.2 = 1) := by rw [hz3]; exact held_eq hs2 (by show sh2 < (leaveB b1 sh y j).1.1.length; rw [leaveB_len]; exact hs2a) (by omega) rfl
          subst hz3
          refine lv_istore (lv' := [(4, .int (b2i (0 < j + 1 ∧ (rowV (stepB b1 sh y j (nI sh2)) ((stepB b1 sh y j (nI sh2)).2.2 3).toNatClampNeg).2.2 = 1))), (3, .int (-1)), (0, .ref (A 0)), (1, .int (-nI mm)), (2, .int y)]) hx hb dX2_cranks_84 hl (by decide) rfl (fun ls hl => ?_)
          refine lv_aload_n hx hb dX2_cranks_86 rfl (lv_at hl 2 rfl) ?_
          refine lv_dup hx hb dX2_cranks_87 rfl ?_
          refine k_get (ci := 2) hx hb hts in_X2 hown hK h_83 rfl 11 (by decide) q1411 (fun _ h9 => h9) rfl dX2_cranks_88 ?_
          refine lv_iconst (v := 1) hx hb dX2_cranks_91 (by decide) ?_
          refine lv_iadd hx hb dX2_cranks_92 ?_
          refine k_topi (nI (j + 1)) (nI_1 j) ?_
          refine k_put (ci := 2) hx hb hts in_X2 tyX2 tyX2_ok nmX2 hown hK hS h_83 rfl 11 (by decide) q1411 (fun _ h9 => h9) rfl (rfl) (rfl) (Nat.le_of_ble_eq_true rfl) dX2_cranks_93 (fun H_89 locs h_90 u_91 hS => ?_)
          have h_90 : Ob g (A 0) 2 [.ref (A 1), .ref (A 2), .ref (A 3), .int (I 3), .ref (A 4), .int (I 5), .int (I 6), .int (I 7), .int (I 8), .int (I 9), .int (I 10), .int (nI (j + 1)), .int (T + (leaveB b1 sh y j).2)] H_89 := h_90
          have h_92 := h_81.upd u_91 (Ne.symm (Ob.neA hK.gg h_83 h_81 (by decide) (by decide)))
          have h_93 := h_84.upd u_91 (Ne.symm (Ob.neA hK.gg h_83 h_84 (by decide) (by decide)))
          have h_94 := h_85.upd u_91 (Ne.symm (Ob.neA hK.gg h_83 h_85 (by decide) (by decide)))
          have h_95 := h_86.upd u_91 (Ne.symm (Ob.neA hK.gg h_83 h_86 (by decide) (by decide)))
          have hF_96 := hF_87.put u_91 (Or.inl (Or.inl rfl))
          refine lv_goto (tgt := 23) hx hb dX2_cranks_96 (by decide) ?_
          exact ih (j + 1) (stepB b1 sh y j (nI sh2)) (T + (leaveB b1 sh y j).2) (upd f2 1 (nI sh2)) _ _ _ _ _ ⟨by omega, hcrk2, hs2, hok2, by show 0 < (leaveB b1 sh y j).1.1.length; rw [leaveB_len]; exact hlen, MAt.mk (F := va_up F 1 (upd f2 1 (nI sh2))) (I := upd (upd I 11 (nI (j + 1))) 12 (T + (leaveB b1 sh y j).2)) h_90 h_92 h_93 h_94 h_95 n12 n13 n14 n23 n24 n34, hF_96, hS, rfl, rfl, lv_sub hl [0, 1, 2, 3, 4] rfl⟩ (by omega)
  · obtain ⟨rfl, rfl⟩ := hxm.resolve_right (fun h => c1 (by rw [h.2]; exact neg_le0 mm (by omega)))
    refine lv_iconst (v := 1) hx hb dX2_cranks_4 (by decide) ?_
    refine lv_goto (tgt := 9) hx hb dX2_cranks_5 (by decide) ?_
    refine lv_istore_n (lv' := [(3, .int 1), (0, .ref (A 0)), (1, .int (nI mm)), (2, .int y)]) hx hb dX2_cranks_9 rfl hl (by decide) rfl (fun ls hl => ?_)
    refine lv_aload_n hx hb dX2_cranks_10 rfl (lv_at hl 1 rfl) ?_
    refine lv_iconst (v := nI 0) hx hb dX2_cranks_11 (by decide) ?_
    refine k_put (ci := 2) hx hb hts in_X2 tyX2 tyX2_ok nmX2 hown hK hS h0 rfl 11 (by decide) q1411 (fun _ h9 => h9) rfl (rfl) (rfl) (Nat.le_of_ble_eq_true rfl) dX2_cranks_12 (fun H_97 locs h_98 u_99 hS => ?_)
    have h_98 : Ob g (A 0) 2 [.ref (A 1), .ref (A 2), .ref (A 3), .int (I 3), .ref (A 4), .int (I 5), .int (I 6), .int (I 7), .int (I 8), .int (I 9), .int (I 10), .int (nI 0), .int (I 12)] H_97 := h_98
    have h_100 := h1.upd u_99 (Ne.symm (Ob.neA hK.gg h0 h1 (by decide) (by decide)))
    have h_101 := h2.upd u_99 (Ne.symm (Ob.neA hK.gg h0 h2 (by decide) (by decide)))
    have h_102 := h3.upd u_99 (Ne.symm (Ob.neA hK.gg h0 h3 (by decide) (by decide)))
    have h_103 := h4.upd u_99 (Ne.symm (Ob.neA hK.gg h0 h4 (by decide) (by decide)))
    have hF_104 := hF.put u_99 (Or.inl (Or.inl rfl))
    refine lv_aload_n hx hb dX2_cranks_15 rfl (lv_at hl 1 rfl) ?_
    refine lv_iconst (v := 0) hx hb dX2_cranks_16 (by decide) ?_
    refine k_put (ci := 2) hx hb hts in_X2 tyX2 tyX2_ok nmX2 hown hK hS h_98 rfl 12 (by decide) q1412 (fun _ h9 => h9) rfl (rfl) (rfl) (Nat.le_of_ble_eq_true rfl) dX2_cranks_17 (fun H_105 locs h_106 u_107 hS => ?_)
    have h_106 : Ob g (A 0) 2 [.ref (A 1), .ref (A 2), .ref (A 3), .int (I 3), .ref (A 4), .int (I 5), .int (I 6), .int (I 7), .int (I 8), .int (I 9), .int (I 10), .int (nI 0), .int 0] H_105 := h_106
    have h_108 := h_100.upd u_107 (Ne.symm (Ob.neA hK.gg h_98 h_100 (by decide) (by decide)))
    have h_109 := h_101.upd u_107 (Ne.symm (Ob.neA hK.gg h_98 h_101 (by decide) (by decide)))
    have h_110 := h_102.upd u_107 (Ne.symm (Ob.neA hK.gg h_98 h_102 (by decide) (by decide)))
    have h_111 := h_103.upd u_107 (Ne.symm (Ob.neA hK.gg h_98 h_103 (by decide) (by decide)))
    have hF_112 := hF_104.put u_107 (Or.inl (Or.inl rfl))
    refine lv_iconst (v := 0) hx hb dX2_cranks_20 (by decide) ?_
    refine lv_istore (lv' := [(4, .int 0), (3, .int 1), (0, .ref (A 0)), (1, .int (nI mm)), (2, .int y)]) hx hb dX2_cranks_21 hl (by decide) rfl (fun ls hl => ?_)
    refine w_loop4 (Inv := fun (j : Nat) (b1 : BV) (T : Int32) (f : Nat → Int32) H1 locs cells slots ls => j ≤ mm ∧ crk 1 y mm 0 b 0 = crk 1 y (mm - j) j b1 T ∧ SRel f b1 ∧ okB b1 ∧ 0 < b1.1.length ∧ MAt g A (va_up F 1 f) (upd (upd I 11 (nI j)) 12 T) H1 ∧ Fx (MM A) s.heap H1 ∧ va_S (gA g) s.heap H1 locs ∧ cells = 0 ∧ slots = 0 ∧ lv_has ls 5 [(4, .int (b2i (0 < j ∧ (rowV b1 (b1.2.2 3).toNatClampNeg).2.2 = 1))), (3, .int 1), (0, .ref (A 0)), (1, .int (nI mm)), (2, .int y)]) (μ := fun j _ _ _ => mm - j) ?_ 0 b 0 (F 1) _ _ _ _ _ ⟨Nat.zero_le _, rfl, hs, hok, hne, by rw [upF_id]; exact MAt.mk (F := F) (I := upd (upd I 11 (nI 0)) 12 0) h_106 h_108 h_109 h_110 h_111 n12 n13 n14 n23 n24 n34, hF_112, hS, rfl, rfl, lv_sub hl [0, 1, 2, 3, 4] rfl⟩
    intro j b1 T f H1 locs cells slots ls hInv ih
    obtain ⟨hjm, hcrk, hs1, hok1, hlen, hM1, hF, hS, rfl, rfl, hl⟩ := hInv
    obtain ⟨h_113, h_114, h_115, h_116, h_117, -, -, -, -, -, -⟩ := id hM1
    have h_113 : Ob g (A 0) 2 [.ref (A 1), .ref (A 2), .ref (A 3), .int (I 3), .ref (A 4), .int (I 5), .int (I 6), .int (I 7), .int (I 8), .int (I 9), .int (I 10), .int (nI j), .int T] H1 := h_113
    have h_114 : Ar g (A 1) 0 (aI 369 f) H1 := h_114
    obtain ⟨sh, hsh, hsh2⟩ := hok1.2.2.2.2.1
    have hsh2 : sh < b1.1.length := by omega
    have hl20 := hok1.1
    refine lv_aload_n hx hb dX2_cranks_23 rfl (lv_at hl 2 rfl) ?_
    refine k_get (ci := 2) hx hb hts in_X2 hown hK h_113 rfl 11 (by decide) q1411 (fun _ h9 => h9) rfl dX2_cranks_24 ?_
    refine lv_iload_n hx hb dX2_cranks_27 rfl (lv_at hl 3 rfl) ?_
    refine lv_iload_n hx hb dX2_cranks_28 rfl (lv_at hl 1 rfl) ?_
    refine lv_imul hx hb dX2_cranks_29 ?_
    refine k_topi (nI mm) (Int32.mul_one _) ?_
    refine lv_icmp_eq (tgt := 99) hx hb dX2_cranks_30 (by decide) (fun c30 => ?_) (fun c30 => ?_)
    · have c30 : j = mm := (nI_eq (by omega) (by omega)).mp c30
      have hc : crk 1 y mm 0 b 0 = (b1, j, T) := by rw [hcrk, c30, Nat.sub_self]; rfl
      have hE := SRel_crkE hs1 (t := T) (n := j)
      have hEo := okB_crkE hok1 (t := T) (n := j)
      refine lv_aload_n hx hb dX2_cranks_99 rfl (lv_at hl 2 rfl) ?_
      refine k_get (ci := 2) hx hb hts in_X2 hown hK h_113 rfl 0 (by decide) q1400 (fun _ h9 => h9) rfl dX2_cranks_100 ?_
      refine lv_iconst (v := nI 4) hx hb dX2_cranks_103 (by decide) ?_
      refine lv_dup2_11 hx hb dX2_cranks_104 rfl rfl ?_
      refine k_ildN hx hb hK h_114 (4) (rfl) (by omega) (by decide) dX2_cranks_105 ?_
      refine k_topi (b1.2.2 5) (hs1.c4) ?_
      refine lv_aload_n hx hb dX2_cranks_106 rfl (lv_at hl 2 rfl) ?_
      refine k_get (ci := 2) hx hb hts in_X2 hown hK h_113 rfl 12 (by decide) q1412 (fun _ h9 => h9) rfl dX2_cranks_107 ?_
      refine lv_iadd hx hb dX2_cranks_110 ?_
      refine k_istN hx hb hK hS h_114 (4) (rfl) (by omega) (by decide) dX2_cranks_111 (fun H_118 locs h_119 u_120 hS => ?_)
      have h_119 : Ar g (A 1) 0 (aI 369 (upd f 4 ((b1.2.2 5) + T))) H_118 := h_119
      have h_121 := h_113.upd u_120 (Ob.neA hK.gg h_113 h_114 (by decide) (by decide))
      have h_122 := h_115.upd u_120 (Ne.symm n12)
      have h_123 := h_116.upd u_120 (Ne.symm n13)
      have h_124 := h_117.upd u_120 (Ne.symm n14)
      have hF_125 := hF.put u_120 (Or.inl (Or.inr (Or.inl rfl)))
      refine lv_aload_n hx hb dX2_cranks_112 rfl (lv_at hl 2 rfl) ?_
      refine k_get (ci := 2) hx hb hts in_X2 hown hK h_121 rfl 0 (by decide) q1400 (fun _ h9 => h9) rfl dX2_cranks_113 ?_
      refine lv_iconst (v := nI 5) hx hb dX2_cranks_116 (by decide) ?_
      refine lv_dup2_11 hx hb dX2_cranks_117 rfl rfl ?_
      refine k_ildN hx hb hK h_119 (5) (rfl) (by omega) (by decide) dX2_cranks_118 ?_
      refine k_topi (b1.2.2 6) (hs1.c5) ?_
      refine lv_aload_n hx hb dX2_cranks_119 rfl (lv_at hl 2 rfl) ?_
      refine k_get (ci := 2) hx hb hts in_X2 hown hK h_121 rfl 11 (by decide) q1411 (fun _ h9 => h9) rfl dX2_cranks_120 ?_
      refine lv_iadd hx hb dX2_cranks_123 ?_
      refine k_istN hx hb hK hS h_119 (5) (rfl) (by omega) (by decide) dX2_cranks_124 (fun H_126 locs h_127 u_128 hS => ?_)
      have h_127 : Ar g (A 1) 0 (aI 369 (upd (upd f 4 ((b1.2.2 5) + T)) 5 ((b1.2.2 6) + (nI j)))) H_126 := h_127
      have h_129 := h_121.upd u_128 (Ob.neA hK.gg h_121 h_119 (by decide) (by decide))
      have h_130 := h_122.upd u_128 (Ne.symm n12)
      have h_131 := h_123.upd u_128 (Ne.symm n13)
      have h_132 := h_124.upd u_128 (Ne.symm n14)
      have hF_133 := hF_125.put u_128 (Or.inl (Or.inr (Or.inl rfl)))
      refine lv_aload_n hx hb dX2_cranks_125 rfl (lv_at hl 2 rfl) ?_
      refine k_get (ci := 2) hx hb hts in_X2 hown hK h_129 rfl 11 (by decide) q1411 (fun _ h9 => h9) rfl dX2_cranks_126 ?_
      refine lv_iload_n hx hb dX2_cranks_129 rfl (lv_at hl 3 rfl) ?_
      refine lv_iload_n hx hb dX2_cranks_130 rfl (lv_at hl 1 rfl) ?_
      refine lv_imul hx hb dX2_cranks_131 ?_
      refine k_topi (nI mm) (Int32.mul_one _) ?_
      refine lv_icmp_ne (tgt := 139) hx hb dX2_cranks_132 (by decide) (fun c132 => ?_) (fun c132 => ?_)
      · have c132 : ¬ j = mm := fun z => c132 (by rw [z])
        refine lv_aload_n hx hb dX2_cranks_139 rfl (lv_at hl 2 rfl) ?_
        refine lv_aload_n hx hb dX2_cranks_140 rfl (lv_at hl 2 rfl) ?_
        refine k_get (ci := 2) hx hb hts in_X2 hown hK h_129 rfl 0 (by decide) q1400 (fun _ h9 => h9) rfl dX2_cranks_141 ?_
        refine lv_iconst (v := nI 1) hx hb dX2_cranks_144 (by decide) ?_
        refine k_ildN hx hb hK h_127 (1) (rfl) (by omega) (by decide) dX2_cranks_145 ?_
        refine k_topi (nI sh) ((hs1.sh.trans (if_neg (by omega))).trans hsh) ?_
        refine lv_iload_n hx hb dX2_cranks_146 rfl (lv_at hl 1 rfl) ?_
        refine lv_iadd hx hb dX2_cranks_147 ?_
        have hM5 := MAt.mk (F := va_up F 1 (upd (upd f 4 (b1.2.2 5 + T)) 5 (b1.2.2 6 + nI j))) (I := upd (upd I 11 (nI j)) 12 T) h_129 h_127 h_130 h_131 h_132 n12 n13 n14 n23 n24 n34
        refine k_calliS (va_runV (As := [.int ((nI sh) + 1)]) (rest := []) ⟨hx, hb, hml, hown, hts⟩ (m_isRow l g (nI sh + 1) hM5) (cwV 1 hts (lw_V q1500 q1502 qs30 q56 q1503) rfl rfl rfl hdV_X2_isRow ⟨Nat.le_of_ble_eq_true rfl, Nat.le_of_ble_eq_true rfl⟩) (preV hK hS h_129 rfl) rfl rfl hl.1 rfl (lv_room (Nat.le_of_ble_eq_true rfl)) dX2_cranks_148 ⟨Nat.le_of_ble_eq_true rfl, Nat.le_of_ble_eq_true rfl⟩) hS (fun z5 locs hz5 hS => ?_)
        refine lv_if_eq (tgt := 158) hx hb dX2_cranks_151 (by decide) (fun c151 => ?_) (fun c151 => ?_)
        · have c151 := b2f hz5 c151
          have c151 : ¬ (0 ≤ nI sh + 1 ∧ nI sh + 1 < nI b1.1.length) := fun h => c151 (by show _ ∧ _ < f 0; rw [hs1.rows]; exact h)
          refine lv_iconst (v := 1) hx hb dX2_cranks_158 (by decide) ?_
          exact k_ireti (v := 1) hx hb hret (rfl) hlk hS (Nat.le_of_ble_eq_true rfl) (Nat.le_of_ble_eq_true rfl) (⟨hF_133, upd (upd f 4 (b1.2.2 5 + T)) 5 (b1.2.2 6 + nI j), upd (upd I 11 (nI j)) 12 T, by rw [hc]; exact hE, by rw [hc]; exact hEo, MAt.mk (F := va_up F 1 (upd (upd f 4 (b1.2.2 5 + T)) 5 (b1.2.2 6 + nI j))) (I := upd (upd I 11 (nI j)) 12 T) h_129 h_127 h_130 h_131 h_132 n12 n13 n14 n23 n24 n34, rfl, rfl, by rw [hc]; rfl, by rw [hc]; rfl, by rw [hc]; unfold crkW; show _ = if j = mm then _ else if 0 ≤ b1.2.2 3 + 1 ∧ b1.2.2 3 + 1 < nI b1.1.length then _ else _; rw [if_neg c132, if_neg (by rw [hsh]; exact c151)]⟩) dX2_cranks_159
        · have c151 := b2t hz5 c151
          have c151 : 0 ≤ nI sh + 1 ∧ nI sh + 1 < nI b1.1.length := by have c151 : 0 ≤ nI sh + 1 ∧ nI sh + 1 < f 0 := c151; rw [hs1.rows] at c151; exact c151
          refine lv_iconst (v := 2) hx hb dX2_cranks_154 (by decide) ?_
          refine lv_goto (tgt := 159) hx hb dX2_cranks_155 (by decide) ?_
          exact k_ireti (v := 2) hx hb hret (rfl) hlk hS (Nat.le_of_ble_eq_true rfl) (Nat.le_of_ble_eq_true rfl) (⟨hF_133, upd (upd f 4 (b1.2.2 5 + T)) 5 (b1.2.2 6 + nI j), upd (upd I 11 (nI j)) 12 T, by rw [hc]; exact hE, by rw [hc]; exact hEo, MAt.mk (F := va_up F 1 (upd (upd f 4 (b1.2.2 5 + T)) 5 (b1.2.2 6 + nI j))) (I := upd (upd I 11 (nI j)) 12 T) h_129 h_127 h_130 h_131 h_132 n12 n13 n14 n23 n24 n34, rfl, rfl, by rw [hc]; rfl, by rw [hc]; rfl, by rw [hc]; unfold crkW; show _ = if j = mm then _ else if 0 ≤ b1.2.2 3 + 1 ∧ b1.2.2 3 + 1 < nI b1.1.length then _ else _; rw [if_neg c132, if_pos (by rw [hsh]; exact c151)]⟩) dX2_cranks_159
      · have c132 : j = mm := (nI_eq (by omega) (by omega)).mp c132
        refine lv_iconst (v := 0) hx hb dX2_cranks_135 (by decide) ?_
        refine lv_goto (tgt := 159) hx hb dX2_cranks_136 (by decide) ?_
        exact k_ireti (v := 0) hx hb hret (rfl) hlk hS (Nat.le_of_ble_eq_true rfl) (Nat.le_of_ble_eq_true rfl) (⟨hF_133, upd (upd f 4 (b1.2.2 5 + T)) 5 (b1.2.2 6 + nI j), upd (upd I 11 (nI j)) 12 T, by rw [hc]; exact hE, by rw [hc]; exact hEo, MAt.mk (F := va_up F 1 (upd (upd f 4 (b1.2.2 5 + T)) 5 (b1.2.2 6 + nI j))) (I := upd (upd I 11 (nI j)) 12 T) h_129 h_127 h_130 h_131 h_132 n12 n13 n14 n23 n24 n34, rfl, rfl, by rw [hc]; rfl, by rw [hc]; rfl, by rw [hc]; unfold crkW; show _ = if j = mm then _ else if 0 ≤ b1.2.2 3 + 1 ∧ b1.2.2 3 + 1 < nI b1.1.length then _ else _; rw [if_pos c132]⟩) dX2_cranks_159
    · have c30 : j < mm := by rcases Nat.lt_or_ge j mm with z | z; exact z; exact absurd (by rw [show j = mm by omega]) c30
      obtain ⟨n, hn⟩ : ∃ n, mm - j = n + 1 := ⟨mm - j - 1, by omega⟩
      refine lv_aload_n hx hb dX2_cranks_33 rfl (lv_at hl 2 rfl) ?_
      refine lv_aload_n hx hb dX2_cranks_34 rfl (lv_at hl 2 rfl) ?_
      refine k_get (ci := 2) hx hb hts in_X2 hown hK h_113 rfl 0 (by decide) q1400 (fun _ h9 => h9) rfl dX2_cranks_35 ?_
      refine lv_iconst (v := nI 1) hx hb dX2_cranks_38 (by decide) ?_
      refine k_ildN hx hb hK h_114 (1) (rfl) (by omega) (by decide) dX2_cranks_39 ?_
      refine k_topi (nI sh) ((hs1.sh.trans (if_neg (by omega))).trans hsh) ?_
      refine lv_iload_n hx hb dX2_cranks_40 rfl (lv_at hl 1 rfl) ?_
      refine lv_iadd hx hb dX2_cranks_41 ?_
      refine k_calliS (va_runV (As := [.int ((nI sh) + 1)]) (rest := []) ⟨hx, hb, hml, hown, hts⟩ (m_isRow l g (nI sh + 1) hM1) (cwV 1 hts (lw_V q1500 q1502 qs30 q56 q1503) rfl rfl rfl hdV_X2_isRow ⟨Nat.le_of_ble_eq_true rfl, Nat.le_of_ble_eq_true rfl⟩) (preV hK hS h_113 rfl) rfl rfl hl.1 rfl (lv_room (Nat.le_of_ble_eq_true rfl)) dX2_cranks_42 ⟨Nat.le_of_ble_eq_true rfl, Nat.le_of_ble_eq_true rfl⟩) hS (fun z1 locs hz1 hS => ?_)
      refine lv_if_eq (tgt := 99) hx hb dX2_cranks_45 (by decide) (fun c45 => ?_) (fun c45 => ?_)
      · have c45 := b2f hz1 c45
        have c45 : ¬ (0 ≤ nI sh + 1 ∧ nI sh + 1 < nI b1.1.length) := fun h => c45 (by show _ ∧ _ < f 0; rw [hs1.rows]; exact h)
        have hc : crk 1 y mm 0 b 0 = (b1, j, T) := by rw [hcrk, hn]; exact crk_stop (fun h => c45 (by rw [← hsh]; exact h.1))
        have hE := SRel_crkE hs1 (t := T) (n := j)
        have hEo := okB_crkE hok1 (t := T) (n := j)
        refine lv_aload_n hx hb dX2_cranks_99 rfl (lv_at hl 2 rfl) ?_
        refine k_get (ci := 2) hx hb hts in_X2 hown hK h_113 rfl 0 (by decide) q1400 (fun _ h9 => h9) rfl dX2_cranks_100 ?_
        refine lv_iconst (v := nI 4) hx hb dX2_cranks_103 (by decide) ?_
        refine lv_dup2_11 hx hb dX2_cranks_104 rfl rfl ?_
        refine k_ildN hx hb hK h_114 (4) (rfl) (by omega) (by decide) dX2_cranks_105 ?_
        refine k_topi (b1.2.2 5) (hs1.c4) ?_
        refine lv_aload_n hx hb dX2_cranks_106 rfl (lv_at hl 2 rfl) ?_
        refine k_get (ci := 2) hx hb hts in_X2 hown hK h_113 rfl 12 (by decide) q1412 (fun _ h9 => h9) rfl dX2_cranks_107 ?_
        refine lv_iadd hx hb dX2_cranks_110 ?_
        refine k_istN hx hb hK hS h_114 (4) (rfl) (by omega) (by decide) dX2_cranks_111 (fun H_136 locs h_137 u_138 hS => ?_)
        have h_137 : Ar g (A 1) 0 (aI 369 (upd f 4 ((b1.2.2 5) + T))) H_136 := h_137
        have h_139 := h_113.upd u_138 (Ob.neA hK.gg h_113 h_114 (by decide) (by decide))
        have h_140 := h_115.upd u_138 (Ne.symm n12)
        have h_141 := h_116.upd u_138 (Ne.symm n13)
        have h_142 := h_117.upd u_138 (Ne.symm n14)
        have hF_143 := hF.put u_138 (Or.inl (Or.inr (Or.inl rfl)))
        refine lv_aload_n hx hb dX2_cranks_112 rfl (lv_at hl 2 rfl) ?_
        refine k_get (ci := 2) hx hb hts in_X2 hown hK h_139 rfl 0 (by decide) q1400 (fun _ h9 => h9) rfl dX2_cranks_113 ?_
        refine lv_iconst (v := nI 5) hx hb dX2_cranks_116 (by decide) ?_
        refine lv_dup2_11 hx hb dX2_cranks_117 rfl rfl ?_
        refine k_ildN hx hb hK h_137 (5) (rfl) (by omega) (by decide) dX2_cranks_118 ?_
        refine k_topi (b1.2.2 6) (hs1.c5) ?_
        refine lv_aload_n hx hb dX2_cranks_119 rfl (lv_at hl 2 rfl) ?_
        refine k_get (ci := 2) hx hb hts in_X2 hown hK h_139 rfl 11 (by decide) q1411 (fun _ h9 => h9) rfl dX2_cranks_120 ?_
        refine lv_iadd hx hb dX2_cranks_123 ?_
        refine k_istN hx hb hK hS h_137 (5) (rfl) (by omega) (by decide) dX2_cranks_124 (fun H_144 locs h_145 u_146 hS => ?_)
        have h_145 : Ar g (A 1) 0 (aI 369 (upd (upd f 4 ((b1.2.2 5) + T)) 5 ((b1.2.2 6) + (nI j)))) H_144 := h_145
        have h_147 := h_139.upd u_146 (Ob.neA hK.gg h_139 h_137 (by decide) (by decide))
        have h_148 := h_140.upd u_146 (Ne.symm n12)
        have h_149 := h_141.upd u_146 (Ne.symm n13)
        have h_150 := h_142.upd u_146 (Ne.symm n14)
        have hF_151 := hF_143.put u_146 (Or.inl (Or.inr (Or.inl rfl)))
        refine lv_aload_n hx hb dX2_cranks_125 rfl (lv_at hl 2 rfl) ?_
        refine k_get (ci := 2) hx hb hts in_X2 hown hK h_147 rfl 11 (by decide) q1411 (fun _ h9 => h9) rfl dX2_cranks_126 ?_
        refine lv_iload_n hx hb dX2_cranks_129 rfl (lv_at hl 3 rfl) ?_
        refine lv_iload_n hx hb dX2_cranks_130 rfl (lv_at hl 1 rfl) ?_
        refine lv_imul hx hb dX2_cranks_131 ?_
        refine k_topi (nI mm) (Int32.mul_one _) ?_
        refine lv_icmp_ne (tgt := 139) hx hb dX2_cranks_132 (by decide) (fun c132 => ?_) (fun c132 => ?_)
        · have c132 : ¬ j = mm := fun z => c132 (by rw [z])
          refine lv_aload_n hx hb dX2_cranks_139 rfl (lv_at hl 2 rfl) ?_
          refine lv_aload_n hx hb dX2_cranks_140 rfl (lv_at hl 2 rfl) ?_
          refine k_get (ci := 2) hx hb hts in_X2 hown hK h_147 rfl 0 (by decide) q1400 (fun _ h9 => h9) rfl dX2_cranks_141 ?_
          refine lv_iconst (v := nI 1) hx hb dX2_cranks_144 (by decide) ?_
          refine k_ildN hx hb hK h_145 (1) (rfl) (by omega) (by decide) dX2_cranks_145 ?_
          refine k_topi (nI sh) ((hs1.sh.trans (if_neg (by omega))).trans hsh) ?_
          refine lv_iload_n hx hb dX2_cranks_146 rfl (lv_at hl 1 rfl) ?_
          refine lv_iadd hx hb dX2_cranks_147 ?_
          have hM5 := MAt.mk (F := va_up F 1 (upd (upd f 4 (b1.2.2 5 + T)) 5 (b1.2.2 6 + nI j))) (I := upd (upd I 11 (nI j)) 12 T) h_147 h_145 h_148 h_149 h_150 n12 n13 n14 n23 n24 n34
          refine k_calliS (va_runV (As := [.int ((nI sh) + 1)]) (rest := []) ⟨hx, hb, hml, hown, hts⟩ (m_isRow l g (nI sh + 1) hM5) (cwV 1 hts (lw_V q1500 q1502 qs30 q56 q1503) rfl rfl rfl hdV_X2_isRow ⟨Nat.le_of_ble_eq_true rfl, Nat.le_of_ble_eq_true rfl⟩) (preV hK hS h_147 rfl) rfl rfl hl.1 rfl (lv_room (Nat.le_of_ble_eq_true rfl)) dX2_cranks_148 ⟨Nat.le_of_ble_eq_true rfl, Nat.le_of_ble_eq_true rfl⟩) hS (fun z5 locs hz5 hS => ?_)
          refine lv_if_eq (tgt := 158) hx hb dX2_cranks_151 (by decide) (fun c151 => ?_) (fun c151 => ?_)
          · have c151 := b2f hz5 c151
            have c151 : ¬ (0 ≤ nI sh + 1 ∧ nI sh + 1 < nI b1.1.length) := fun h => c151 (by show _ ∧ _ < f 0; rw [hs1.rows]; exact h)
            refine lv_iconst (v := 1) hx hb dX2_cranks_158 (by decide) ?_
            exact k_ireti (v := 1) hx hb hret (rfl) hlk hS (Nat.le_of_ble_eq_true rfl) (Nat.le_of_ble_eq_true rfl) (⟨hF_151, upd (upd f 4 (b1.2.2 5 + T)) 5 (b1.2.2 6 + nI j), upd (upd I 11 (nI j)) 12 T, by rw [hc]; exact hE, by rw [hc]; exact hEo, MAt.mk (F := va_up F 1 (upd (upd f 4 (b1.2.2 5 + T)) 5 (b1.2.2 6 + nI j))) (I := upd (upd I 11 (nI j)) 12 T) h_147 h_145 h_148 h_149 h_150 n12 n13 n14 n23 n24 n34, rfl, rfl, by rw [hc]; rfl, by rw [hc]; rfl, by rw [hc]; unfold crkW; show _ = if j = mm then _ else if 0 ≤ b1.2.2 3 + 1 ∧ b1.2.2 3 + 1 < nI b1.1.length then _ else _; rw [if_neg c132, if_neg (by rw [hsh]; exact c151)]⟩) dX2_cranks_159
          · have c151 := b2t hz5 c151
            have c151 : 0 ≤ nI sh + 1 ∧ nI sh + 1 < nI b1.1.length := by have c151 : 0 ≤ nI sh + 1 ∧ nI sh + 1 < f 0 := c151; rw [hs1.rows] at c151; exact c151
            refine lv_iconst (v := 2) hx hb dX2_cranks_154 (by decide) ?_
            refine lv_goto (tgt := 159) hx hb dX2_cranks_155 (by decide) ?_
            exact k_ireti (v := 2) hx hb hret (rfl) hlk hS (Nat.le_of_ble_eq_true rfl) (Nat.le_of_ble_eq_true rfl) (⟨hF_151, upd (upd f 4 (b1.2.2 5 + T)) 5 (b1.2.2 6 + nI j), upd (upd I 11 (nI j)) 12 T, by rw [hc]; exact hE, by rw [hc]; exact hEo, MAt.mk (F := va_up F 1 (upd (upd f 4 (b1.2.2 5 + T)) 5 (b1.2.2 6 + nI j))) (I := upd (upd I 11 (nI j)) 12 T) h_147 h_145 h_148 h_149 h_150 n12 n13 n14 n23 n24 n34, rfl, rfl, by rw [hc]; rfl, by rw [hc]; rfl, by rw [hc]; unfold crkW; show _ = if j = mm then _ else if 0 ≤ b1.2.2 3 + 1 ∧ b1.2.2 3 + 1 < nI b1.1.length then _ else _; rw [if_neg c132, if_pos (by rw [hsh]; exact c151)]⟩) dX2_cranks_159
        · have c132 : j = mm := (nI_eq (by omega) (by omega)).mp c132
          refine lv_iconst (v := 0) hx hb dX2_cranks_135 (by decide) ?_
          refine lv_goto (tgt := 159) hx hb dX2_cranks_136 (by decide) ?_
          exact k_ireti (v := 0) hx hb hret (rfl) hlk hS (Nat.le_of_ble_eq_true rfl) (Nat.le_of_ble_eq_true rfl) (⟨hF_151, upd (upd f 4 (b1.2.2 5 + T)) 5 (b1.2.2 6 + nI j), upd (upd I 11 (nI j)) 12 T, by rw [hc]; exact hE, by rw [hc]; exact hEo, MAt.mk (F := va_up F 1 (upd (upd f 4 (b1.2.2 5 + T)) 5 (b1.2.2 6 + nI j))) (I := upd (upd I 11 (nI j)) 12 T) h_147 h_145 h_148 h_149 h_150 n12 n13 n14 n23 n24 n34, rfl, rfl, by rw [hc]; rfl, by rw [hc]; rfl, by rw [hc]; unfold crkW; show _ = if j = mm then _ else if 0 ≤ b1.2.2 3 + 1 ∧ b1.2.2 3 + 1 < nI b1.1.length then _ else _; rw [if_pos c132]⟩) dX2_cranks_159
      · have c45 := b2t hz1 c45
        have c45 : 0 ≤ nI sh + 1 ∧ nI sh + 1 < nI b1.1.length := by have c45 : 0 ≤ nI sh + 1 ∧ nI sh + 1 < f 0 := c45; rw [hs1.rows] at c45; exact c45
        obtain ⟨sh2, hs2a, hs2b⟩ := row_nat c45 (by omega)
        refine lv_iload hx hb dX2_cranks_48 (lv_at hl 0 rfl) ?_
        have hheld : b2i (0 < j ∧ (rowV b1 (b1.2.2 3).toNatClampNeg).2.2 = 1) = b2i (0 < j ∧ (rowV b1 (b1.2.2 3).toNatClampNeg).2.2 = 1) := rfl
        refine lv_if_ne (tgt := 99) hx hb dX2_cranks_50 (by decide) (fun c50 => ?_) (fun c50 => ?_)
        · have c50 := b2t hheld c50
          have hc : crk 1 y mm 0 b 0 = (b1, j, T) := by rw [hcrk, hn]; exact crk_stop (fun h => h.2 c50)
          have hE := SRel_crkE hs1 (t := T) (n := j)
          have hEo := okB_crkE hok1 (t := T) (n := j)
          refine lv_aload_n hx hb dX2_cranks_99 rfl (lv_at hl 2 rfl) ?_
          refine k_get (ci := 2) hx hb hts in_X2 hown hK h_113 rfl 0 (by decide) q1400 (fun _ h9 => h9) rfl dX2_cranks_100 ?_
          refine lv_iconst (v := nI 4) hx hb dX2_cranks_103 (by decide) ?_
          refine lv_dup2_11 hx hb dX2_cranks_104 rfl rfl ?_
          refine k_ildN hx hb hK h_114 (4) (rfl) (by omega) (by decide) dX2_cranks_105 ?_
          refine k_topi (b1.2.2 5) (hs1.c4) ?_
          refine lv_aload_n hx hb dX2_cranks_106 rfl (lv_at hl 2 rfl) ?_
          refine k_get (ci := 2) hx hb hts in_X2 hown hK h_113 rfl 12 (by decide) q1412 (fun _ h9 => h9) rfl dX2_cranks_107 ?_
          refine lv_iadd hx hb dX2_cranks_110 ?_
          refine k_istN hx hb hK hS h_114 (4) (rfl) (by omega) (by decide) dX2_cranks_111 (fun H_153 locs h_154 u_155 hS => ?_)
          have h_154 : Ar g (A 1) 0 (aI 369 (upd f 4 ((b1.2.2 5) + T))) H_153 := h_154
          have h_156 := h_113.upd u_155 (Ob.neA hK.gg h_113 h_114 (by decide) (by decide))
          have h_157 := h_115.upd u_155 (Ne.symm n12)
          have h_158 := h_116.upd u_155 (Ne.symm n13)
          have h_159 := h_117.upd u_155 (Ne.symm n14)
          have hF_160 := hF.put u_155 (Or.inl (Or.inr (Or.inl rfl)))
          refine lv_aload_n hx hb dX2_cranks_112 rfl (lv_at hl 2 rfl) ?_
          refine k_get (ci := 2) hx hb hts in_X2 hown hK h_156 rfl 0 (by decide) q1400 (fun _ h9 => h9) rfl dX2_cranks_113 ?_
          refine lv_iconst (v := nI 5) hx hb dX2_cranks_116 (by decide) ?_
          refine lv_dup2_11 hx hb dX2_cranks_117 rfl rfl ?_
          refine k_ildN hx hb hK h_154 (5) (rfl) (by omega) (by decide) dX2_cranks_118 ?_
          refine k_topi (b1.2.2 6) (hs1.c5) ?_
          refine lv_aload_n hx hb dX2_cranks_119 rfl (lv_at hl 2 rfl) ?_
          refine k_get (ci := 2) hx hb hts in_X2 hown hK h_156 rfl 11 (by decide) q1411 (fun _ h9 => h9) rfl dX2_cranks_120 ?_
          refine lv_iadd hx hb dX2_cranks_123 ?_
          refine k_istN hx hb hK hS h_154 (5) (rfl) (by omega) (by decide) dX2_cranks_124 (fun H_161 locs h_162 u_163 hS => ?_)
          have h_162 : Ar g (A 1) 0 (aI 369 (upd (upd f 4 ((b1.2.2 5) + T)) 5 ((b1.2.2 6) + (nI j)))) H_161 := h_162
          have h_164 := h_156.upd u_163 (Ob.neA hK.gg h_156 h_154 (by decide) (by decide))
          have h_165 := h_157.upd u_163 (Ne.symm n12)
          have h_166 := h_158.upd u_163 (Ne.symm n13)
          have h_167 := h_159.upd u_163 (Ne.symm n14)
          have hF_168 := hF_160.put u_163 (Or.inl (Or.inr (Or.inl rfl)))
          refine lv_aload_n hx hb dX2_cranks_125 rfl (lv_at hl 2 rfl) ?_
          refine k_get (ci := 2) hx hb hts in_X2 hown hK h_164 rfl 11 (by decide) q1411 (fun _ h9 => h9) rfl dX2_cranks_126 ?_
          refine lv_iload_n hx hb dX2_cranks_129 rfl (lv_at hl 3 rfl) ?_
          refine lv_iload_n hx hb dX2_cranks_130 rfl (lv_at hl 1 rfl) ?_
          refine lv_imul hx hb dX2_cranks_131 ?_
          refine k_topi (nI mm) (Int32.mul_one _) ?_
          refine lv_icmp_ne (tgt := 139) hx hb dX2_cranks_132 (by decide) (fun c132 => ?_) (fun c132 => ?_)
          · have c132 : ¬ j = mm := fun z => c132 (by rw [z])
            refine lv_aload_n hx hb dX2_cranks_139 rfl (lv_at hl 2 rfl) ?_
            refine lv_aload_n hx hb dX2_cranks_140 rfl (lv_at hl 2 rfl) ?_
            refine k_get (ci := 2) hx hb hts in_X2 hown hK h_164 rfl 0 (by decide) q1400 (fun _ h9 => h9) rfl dX2_cranks_141 ?_
            refine lv_iconst (v := nI 1) hx hb dX2_cranks_144 (by decide) ?_
            refine k_ildN hx hb hK h_162 (1) (rfl) (by omega) (by decide) dX2_cranks_145 ?_
            refine k_topi (nI sh) ((hs1.sh.trans (if_neg (by omega))).trans hsh) ?_
            refine lv_iload_n hx hb dX2_cranks_146 rfl (lv_at hl 1 rfl) ?_
            refine lv_iadd hx hb dX2_cranks_147 ?_
            have hM5 := MAt.mk (F := va_up F 1 (upd (upd f 4 (b1.2.2 5 + T)) 5 (b1.2.2 6 + nI j))) (I := upd (upd I 11 (nI j)) 12 T) h_164 h_162 h_165 h_166 h_167 n12 n13 n14 n23 n24 n34
            refine k_calliS (va_runV (As := [.int ((nI sh) + 1)]) (rest := []) ⟨hx, hb, hml, hown, hts⟩ (m_isRow l g (nI sh + 1) hM5) (cwV 1 hts (lw_V q1500 q1502 qs30 q56 q1503) rfl rfl rfl hdV_X2_isRow ⟨Nat.le_of_ble_eq_true rfl, Nat.le_of_ble_eq_true rfl⟩) (preV hK hS h_164 rfl) rfl rfl hl.1 rfl (lv_room (Nat.le_of_ble_eq_true rfl)) dX2_cranks_148 ⟨Nat.le_of_ble_eq_true rfl, Nat.le_of_ble_eq_true rfl⟩) hS (fun z5 locs hz5 hS => ?_)
            refine lv_if_eq (tgt := 158) hx hb dX2_cranks_151 (by decide) (fun c151 => ?_) (fun c151 => ?_)
            · have c151 := b2f hz5 c151
              have c151 : ¬ (0 ≤ nI sh + 1 ∧ nI sh + 1 < nI b1.1.length) := fun h => c151 (by show _ ∧ _ < f 0; rw [hs1.rows]; exact h)
              refine lv_iconst (v := 1) hx hb dX2_cranks_158 (by decide) ?_
              exact k_ireti (v := 1) hx hb hret (rfl) hlk hS (Nat.le_of_ble_eq_true rfl) (Nat.le_of_ble_eq_true rfl) (⟨hF_168, upd (upd f 4 (b1.2.2 5 + T)) 5 (b1.2.2 6 + nI j), upd (upd I 11 (nI j)) 12 T, by rw [hc]; exact hE, by rw [hc]; exact hEo, MAt.mk (F := va_up F 1 (upd (upd f 4 (b1.2.2 5 + T)) 5 (b1.2.2 6 + nI j))) (I := upd (upd I 11 (nI j)) 12 T) h_164 h_162 h_165 h_166 h_167 n12 n13 n14 n23 n24 n34, rfl, rfl, by rw [hc]; rfl, by rw [hc]; rfl, by rw [hc]; unfold crkW; show _ = if j = mm then _ else if 0 ≤ b1.2.2 3 + 1 ∧ b1.2.2 3 + 1 < nI b1.1.length then _ else _; rw [if_neg c132, if_neg (by rw [hsh]; exact c151)]⟩) dX2_cranks_159
            · have c151 := b2t hz5 c151
              have c151 : 0 ≤ nI sh + 1 ∧ nI sh + 1 < nI b1.1.length := by have c151 : 0 ≤ nI sh + 1 ∧ nI sh + 1 < f 0 := c151; rw [hs1.rows] at c151; exact c151
              refine lv_iconst (v := 2) hx hb dX2_cranks_154 (by decide) ?_
              refine lv_goto (tgt := 159) hx hb dX2_cranks_155 (by decide) ?_
              exact k_ireti (v := 2) hx hb hret (rfl) hlk hS (Nat.le_of_ble_eq_true rfl) (Nat.le_of_ble_eq_true rfl) (⟨hF_168, upd (upd f 4 (b1.2.2 5 + T)) 5 (b1.2.2 6 + nI j), upd (upd I 11 (nI j)) 12 T, by rw [hc]; exact hE, by rw [hc]; exact hEo, MAt.mk (F := va_up F 1 (upd (upd f 4 (b1.2.2 5 + T)) 5 (b1.2.2 6 + nI j))) (I := upd (upd I 11 (nI j)) 12 T) h_164 h_162 h_165 h_166 h_167 n12 n13 n14 n23 n24 n34, rfl, rfl, by rw [hc]; rfl, by rw [hc]; rfl, by rw [hc]; unfold crkW; show _ = if j = mm then _ else if 0 ≤ b1.2.2 3 + 1 ∧ b1.2.2 3 + 1 < nI b1.1.length then _ else _; rw [if_neg c132, if_pos (by rw [hsh]; exact c151)]⟩) dX2_cranks_159
          · have c132 : j = mm := (nI_eq (by omega) (by omega)).mp c132
            refine lv_iconst (v := 0) hx hb dX2_cranks_135 (by decide) ?_
            refine lv_goto (tgt := 159) hx hb dX2_cranks_136 (by decide) ?_
            exact k_ireti (v := 0) hx hb hret (rfl) hlk hS (Nat.le_of_ble_eq_true rfl) (Nat.le_of_ble_eq_true rfl) (⟨hF_168, upd (upd f 4 (b1.2.2 5 + T)) 5 (b1.2.2 6 + nI j), upd (upd I 11 (nI j)) 12 T, by rw [hc]; exact hE, by rw [hc]; exact hEo, MAt.mk (F := va_up F 1 (upd (upd f 4 (b1.2.2 5 + T)) 5 (b1.2.2 6 + nI j))) (I := upd (upd I 11 (nI j)) 12 T) h_164 h_162 h_165 h_166 h_167 n12 n13 n14 n23 n24 n34, rfl, rfl, by rw [hc]; rfl, by rw [hc]; rfl, by rw [hc]; unfold crkW; show _ = if j = mm then _ else if 0 ≤ b1.2.2 3 + 1 ∧ b1.2.2 3 + 1 < nI b1.1.length then _ else _; rw [if_pos c132]⟩) dX2_cranks_159
        · have c50 := b2f hheld c50
          refine lv_aload_n hx hb dX2_cranks_53 rfl (lv_at hl 2 rfl) ?_
          refine lv_aload_n hx hb dX2_cranks_54 rfl (lv_at hl 2 rfl) ?_
          refine k_get (ci := 2) hx hb hts in_X2 hown hK h_113 rfl 0 (by decide) q1400 (fun _ h9 => h9) rfl dX2_cranks_55 ?_
          refine lv_iconst (v := nI 1) hx hb dX2_cranks_58 (by decide) ?_
          refine k_ildN hx hb hK h_114 (1) (rfl) (by omega) (by decide) dX2_cranks_59 ?_
          refine k_topi (nI sh) ((hs1.sh.trans (if_neg (by omega))).trans hsh) ?_
          refine lv_iload_n hx hb dX2_cranks_60 rfl (lv_at hl 4 rfl) ?_
          refine k_callv (va_runV (As := [.int (nI sh), .int y]) (rest := []) ⟨hx, hb, hml, hown, hts⟩ (m_leaves l g b1 sh j y hM1 hs1 hok1 hsh2 rfl (by omega)) (cwV 2 hts (lw_V q1539 q1541 qs36 q56 q1542) rfl rfl rfl hdV_X2_leaves ⟨Nat.le_of_ble_eq_true rfl, Nat.le_of_ble_eq_true rfl⟩) (preV hK hS h_113 rfl) rfl rfl hl.1 rfl (lv_room (Nat.le_of_ble_eq_true rfl)) dX2_cranks_61 ⟨Nat.le_of_ble_eq_true rfl, Nat.le_of_ble_eq_true rfl⟩) hS (fun H_170 locs hp2 hS => ?_)
          obtain ⟨hF2, f2, hs2, hok2, hM2⟩ := hp2
          have hF := hF.trans hF2 (fun q _ h => h)
          have hM2 : MAt g A (va_up F 1 f2) (upd (upd I 11 (nI j)) 12 (T + (leaveB b1 sh y j).2)) H_170 := by rw [bx_uu, upd_upd] at hM2; exact hM2
          obtain ⟨h_171, h_172, h_173, h_174, h_175, -, -, -, -, -, -⟩ := id hM2
          have h_171 : Ob g (A 0) 2 [.ref (A 1), .ref (A 2), .ref (A 3), .int (I 3), .ref (A 4), .int (I 5), .int (I 6), .int (I 7), .int (I 8), .int (I 9), .int (I 10), .int (nI j), .int (T + (leaveB b1 sh y j).2)] H_170 := h_171
          have h_172 : Ar g (A 1) 0 (aI 369 f2) H_170 := h_172
          have hcrk2 : crk 1 y mm 0 b 0 = crk 1 y (mm - (j + 1)) (j + 1) (stepB b1 sh y j (nI sh2)) (T + (leaveB b1 sh y j).2) := by rw [hcrk, hn, show mm - (j + 1) = n by omega, ← hs2b]; exact crk_go hsh (by omega) ⟨by rw [hsh]; exact c45, c50⟩
          refine lv_aload_n hx hb dX2_cranks_64 rfl (lv_at hl 2 rfl) ?_
          refine k_get (ci := 2) hx hb hts in_X2 hown hK h_171 rfl 0 (by decide) q1400 (fun _ h9 => h9) rfl dX2_cranks_65 ?_
          refine lv_iconst (v := nI 1) hx hb dX2_cranks_68 (by decide) ?_
          refine lv_dup2_11 hx hb dX2_cranks_69 rfl rfl ?_
          refine k_ildN hx hb hK h_172 (1) (rfl) (by omega) (by decide) dX2_cranks_70 ?_
          refine k_topi (nI sh) (by rw [hs2.sh, leaveB_len, if_neg (by omega), leaveB_nums]; exact hsh) ?_
          refine lv_iload_n hx hb dX2_cranks_71 rfl (lv_at hl 1 rfl) ?_
          refine lv_iadd hx hb dX2_cranks_72 ?_
          refine k_topi (nI sh2) (hs2b) ?_
          refine k_istN hx hb hK hS h_172 (1) (rfl) (by omega) (by decide) dX2_cranks_73 (fun H_176 locs h_177 u_178 hS => ?_)
          have h_177 : Ar g (A 1) 0 (aI 369 (upd f2 1 (nI sh2))) H_176 := h_177
          have h_179 := h_171.upd u_178 (Ob.neA hK.gg h_171 h_172 (by decide) (by decide))
          have h_180 := h_173.upd u_178 (Ne.symm n12)
          have h_181 := h_174.upd u_178 (Ne.symm n13)
          have h_182 := h_175.upd u_178 (Ne.symm n14)
          have hF_183 := hF.put u_178 (Or.inl (Or.inr (Or.inl rfl)))
          have hs2 := SRel_step hs2 (by rw [leaveB_len]; exact hlen) (nI sh2)
          have hok2 := okB_step hok2 (by rw [leaveB_len]; exact hs2a)
          have hM3 := MAt.mk (F := va_up F 1 (upd f2 1 (nI sh2))) (I := upd (upd I 11 (nI j)) 12 (T + (leaveB b1 sh y j).2)) h_179 h_177 h_180 h_181 h_182 n12 n13 n14 n23 n24 n34
          refine lv_aload_n hx hb dX2_cranks_74 rfl (lv_at hl 2 rfl) ?_
          refine lv_aload_n hx hb dX2_cranks_75 rfl (lv_at hl 2 rfl) ?_
          refine k_get (ci := 2) hx hb hts in_X2 hown hK h_179 rfl 0 (by decide) q1400 (fun _ h9 => h9) rfl dX2_cranks_76 ?_
          refine lv_iconst (v := nI 1) hx hb dX2_cranks_79 (by decide) ?_
          refine k_ildN hx hb hK h_177 (1) (rfl) (by omega) (by decide) dX2_cranks_80 ?_
          refine k_calliS (va_runV (As := [.int ((upd f2 1 (nI sh2)) 1)]) (rest := []) ⟨hx, hb, hml, hown, hts⟩ (m_isTorn l g sh2 hM3 (by omega)) (cwV 1 hts (lw_V q1523 q1525 qs33 q56 q1526) rfl rfl rfl hdV_X2_isTorn ⟨Nat.le_of_ble_eq_true rfl, Nat.le_of_ble_eq_true rfl⟩) (preV hK hS h_179 rfl) rfl rfl hl.1 rfl (lv_room (Nat.le_of_ble_eq_true rfl)) dX2_cranks_81 ⟨Nat.le_of_ble_eq_true rfl, Nat.le_of_ble_eq_true rfl⟩) hS (fun z3 locs hz3 hS => ?_)
          have hz3 : z3 = b2i (0 < j + 1 ∧ (rowV (stepB b1 sh y j (nI sh2)) ((stepB b1 sh y j (nI sh2)).2.2 3).toNatClampNeg).2.2 = 1) := by rw [hz3]; exact held_eq hs2 (by show sh2 < (leaveB b1 sh y j).1.1.length; rw [leaveB_len]; exact hs2a) (by omega) rfl
          subst hz3
          refine lv_istore (lv' := [(4, .int (b2i (0 < j + 1 ∧ (rowV (stepB b1 sh y j (nI sh2)) ((stepB b1 sh y j (nI sh2)).2.2 3).toNatClampNeg).2.2 = 1))), (3, .int 1), (0, .ref (A 0)), (1, .int (nI mm)), (2, .int y)]) hx hb dX2_cranks_84 hl (by decide) rfl (fun ls hl => ?_)
          refine lv_aload_n hx hb dX2_cranks_86 rfl (lv_at hl 2 rfl) ?_
          refine lv_dup hx hb dX2_cranks_87 rfl ?_
          refine k_get (ci := 2) hx hb hts in_X2 hown hK h_179 rfl 11 (by decide) q1411 (fun _ h9 => h9) rfl dX2_cranks_88 ?_
          refine lv_iconst (v := 1) hx hb dX2_cranks_91 (by decide) ?_
          refine lv_iadd hx hb dX2_cranks_92 ?_
          refine k_topi (nI (j + 1)) (nI_1 j) ?_
          refine k_put (ci := 2) hx hb hts in_X2 tyX2 tyX2_ok nmX2 hown hK hS h_179 rfl 11 (by decide) q1411 (fun _ h9 => h9) rfl (rfl) (rfl) (Nat.le_of_ble_eq_true rfl) dX2_cranks_93 (fun H_185 locs h_186 u_187 hS => ?_)
          have h_186 : Ob g (A 0) 2 [.ref (A 1), .ref (A 2), .ref (A 3), .int (I 3), .ref (A 4), .int (I 5), .int (I 6), .int (I 7), .int (I 8), .int (I 9), .int (I 10), .int (nI (j + 1)), .int (T + (leaveB b1 sh y j).2)] H_185 := h_186
          have h_188 := h_177.upd u_187 (Ne.symm (Ob.neA hK.gg h_179 h_177 (by decide) (by decide)))
          have h_189 := h_180.upd u_187 (Ne.symm (Ob.neA hK.gg h_179 h_180 (by decide) (by decide)))
          have h_190 := h_181.upd u_187 (Ne.symm (Ob.neA hK.gg h_179 h_181 (by decide) (by decide)))
          have h_191 := h_182.upd u_187 (Ne.symm (Ob.neA hK.gg h_179 h_182 (by decide) (by decide)))
          have hF_192 := hF_183.put u_187 (Or.inl (Or.inl rfl))
          refine lv_goto (tgt := 23) hx hb dX2_cranks_96 (by decide) ?_
          exact ih (j + 1) (stepB b1 sh y j (nI sh2)) (T + (leaveB b1 sh y j).2) (upd f2 1 (nI sh2)) _ _ _ _ _ ⟨by omega, hcrk2, hs2, hok2, by show 0 < (leaveB b1 sh y j).1.1.length; rw [leaveB_len]; exact hlen, MAt.mk (F := va_up F 1 (upd f2 1 (nI sh2))) (I := upd (upd I 11 (nI (j + 1))) 12 (T + (leaveB b1 sh y j).2)) h_186 h_188 h_189 h_190 h_191 n12 n13 n14 n23 n24 n34, hF_192, hS, rfl, rfl, lv_sub hl [0, 1, 2, 3, 4] rfl⟩ (by omega)
