/-! ===== HandBlindsModel: crank, would (printed by tools/model18.py) ===== -/
set_option maxRecDepth 100000
/-- 0: it may be cranked; else the answer -/
def mayC (b : BV) (x y : Int32) : Int32 := if (-20 ≤ x ∧ x ≤ 20) ∧ ¬ x = 0 ∧ (1 ≤ y ∧ y ≤ 3) then (if b.1.length = 0 then -1000002 else 0) else -1000001
def dirOf (x : Int32) : Int32 := if 0 < x then 1 else -1
def absN (x : Int32) : Nat := if 0 < x then x.toNatClampNeg else (-x).toNatClampNeg
def crankV (b : BV) (x y : Int32) : Option BV × Int32 := if mayC b x y = 0 then (some (crkE (crk (dirOf x) y (absN x) 0 b 0)), (crk (dirOf x) y (absN x) 0 b 0).1.2.2 3) else (none, mayC b x y)
def wouldV (b : BV) (x y v : Int32) : Int32 := if 0 ≤ v ∧ v ≤ 3 then if mayC b x y = 0 then
      if v = 0 then (crk (dirOf x) y (absN x) 0 b 0).1.2.2 3 else if v = 1 then (crk (dirOf x) y (absN x) 0 b 0).2.2 else if v = 2 then nI (crk (dirOf x) y (absN x) 0 b 0).2.1 else crkW (dirOf x) (absN x) (crk (dirOf x) y (absN x) 0 b 0)
    else mayC b x y
  else -1000001
theorem mayC_ge {b : BV} {x y : Int32} (h : 0 ≤ mayC b x y) : mayC b x y = 0 := by
  unfold mayC at h ⊢
  split
  · rename_i h1
    rw [if_pos h1] at h
    split
    · rename_i h2
      rw [if_pos h2] at h
      exact absurd h (by decide)
    · rfl
  · rename_i h1
    rw [if_neg h1] at h
    exact absurd h (by decide)
theorem abs_dir {x : Int32} (h : -20 ≤ x ∧ x ≤ 20) (h0 : ¬ x = 0) : (0 < absN x ∧ absN x ≤ 20) ∧ ((dirOf x = 1 ∧ x = nI (absN x)) ∨ (dirOf x = -1 ∧ x = -nI (absN x))) := by
  unfold absN dirOf
  by_cases hp : 0 < x
  · rw [if_pos hp, if_pos hp]
    obtain ⟨k, h1, h2, rfl⟩ := nI_lit (lo := 0) (hi := 20) (x := x) (Int32.le_of_lt hp) h.2 (by omega) (by omega)
    rw [nI_clamp (by omega)]
    exact ⟨⟨Nat.pos_of_ne_zero (fun z => h0 (by rw [z]; rfl)), h2⟩, Or.inl ⟨rfl, rfl⟩⟩
  · rw [if_neg hp, if_neg hp]
    have hle : x ≤ 0 := Int32.not_lt.mp hp
    have e : ∃ k, k ≤ 20 ∧ x = -nI k := by
      refine ⟨x.toInt.natAbs, ?_, ?_⟩
      · have a1 := Int32.le_iff_toInt_le.mp h.1
        have a2 := Int32.le_iff_toInt_le.mp hle
        have e1 : (-20 : Int32).toInt = -20 := by decide
        have e2 : (0 : Int32).toInt = 0 := rfl
        omega
      · have a1 := Int32.le_iff_toInt_le.mp h.1
        have a2 := Int32.le_iff_toInt_le.mp hle
        have e1 : (-20 : Int32).toInt = -20 := by decide
        have e2 : (0 : Int32).toInt = 0 := rfl
        apply Int32.toInt_inj.mp
        rw [sb_negT (by omega)]
        omega
    obtain ⟨k, hk, rfl⟩ := e
    rw [Int32.neg_neg, nI_clamp (by omega)]
    exact ⟨⟨Nat.pos_of_ne_zero (fun z => h0 (by rw [z]; rfl)), hk⟩, Or.inr ⟨rfl, rfl⟩⟩
theorem mayC_0 {b : BV} {x y : Int32} (h : mayC b x y = 0) : 0 < b.1.length ∧ (0 < absN x ∧ absN x ≤ 20) ∧ ((dirOf x = 1 ∧ x = nI (absN x)) ∨ (dirOf x = -1 ∧ x = -nI (absN x))) := by
  unfold mayC at h
  split at h
  · rename_i h1
    split at h
    · exact absurd h (by decide)
    · exact ⟨by omega, abs_dir h1.1 h1.2.1⟩
  · exact absurd h (by decide)
theorem crk_len (d x : Int32) : ∀ (n j : Nat) (b : BV) (t : Int32), (crk d x n j b t).1.1.length = b.1.length
  | 0, j, b, t => rfl
  | n + 1, j, b, t => by
    rw [crk]
    split
    · rw [crk_len d x n]; exact leaveB_len _ _ _ _
    · rfl
theorem crkW_ge (d : Int32) (m : Nat) (c : BV × Nat × Int32) : 0 ≤ crkW d m c := by
  unfold crkW
  split
  · decide
  · split <;> decide
/-- mayCrank(rows, speed) -/
theorem m_mayCrank (l : Launch) (g : GT) {H : Heap} {A : Nat → Nat} {F : Nat → Nat → Int32} {I : Nat → Int32} (b : BV) (x y : Int32) (hM : MAt g A F I H) (hs : SRel (F 1) b) (hok : okB b) : Met l yX2_mayCrank (ws_ yX2_mayCrank cX2_mayCrank 3 (some .int)) ({ frames := 1, cells := 0, slots := 0, locals := 22 } : Room) (va_Pc [.ref (A 0), .int x, .int y] (Pre g H)) (Qi g (fun z H1 => H1 = H ∧ z = mayC b x y)) 0 0 (gA g) := by
  refine k_met (cc := cX2_mayCrank) (nL := 3) (vs := [.ref (A 0), .int x, .int y]) (by decide +kernel) (Nat.le_of_ble_eq_true rfl) ?_
  intro p e s m below meth c hH hx hb hret hts hown hlk hml hin hK hS ls hl
  subst hH
  have hown : s.vm.findClass RX2 = some m.cls := hown
  have hl : lv_has ls 3 [(0, .ref (A 0)), (1, .int x), (2, .int y)] := hl
  obtain ⟨h0, h1, h2, h3, h4, n12, n13, n14, n23, n24, n34⟩ := id hM
  have hl20 := hok.1
  have hl6 := hok.2.1
  refine lv_iload_n hx hb dX2_mayCrank_0 rfl (lv_at hl 1 rfl) ?_
  refine lv_bipush (v := (-20)) hx hb dX2_mayCrank_1 (by decide) ?_
  refine lv_bipush (v := 20) hx hb dX2_mayCrank_3 (by decide) ?_
  refine k_calliS (va_runS (As := [.int x, .int (-20), .int 20]) (rest := []) ⟨hx, hb, hml, hown, hts⟩ (m_in l g x (-20) 20) (va_cwS 3 hts (lw_S q1444 q1445 q56 q1446) rfl rfl rfl hdS_X2_in ⟨Nat.le_of_ble_eq_true rfl, Nat.le_of_ble_eq_true rfl⟩) (preS hK hS) rfl rfl hl.1 rfl (lv_room (Nat.le_of_ble_eq_true rfl)) dX2_mayCrank_5 ⟨Nat.le_of_ble_eq_true rfl, Nat.le_of_ble_eq_true rfl⟩) hS (fun z1 locs hz1 hS => ?_)
  refine lv_if_eq (tgt := 24) hx hb dX2_mayCrank_8 (by decide) (fun c8 => ?_) (fun c8 => ?_)
  · have c8 := b2f hz1 c8
    refine lv_ldc (v := (-1000001)) hx hb hown (hts _ q1447) dX2_mayCrank_24 ?_
    refine lv_goto (tgt := 44) hx hb dX2_mayCrank_26 (by decide) ?_
    exact k_ireti (v := (-1000001)) hx hb hret (rfl) hlk hS (Nat.le_of_ble_eq_true rfl) (Nat.le_of_ble_eq_true rfl) (⟨rfl, by unfold mayC; rw [if_neg (fun h => c8 h.1)]⟩) dX2_mayCrank_44
  · have c8 := b2t hz1 c8
    refine lv_iload_n hx hb dX2_mayCrank_11 rfl (lv_at hl 1 rfl) ?_
    refine lv_if_eq (tgt := 24) hx hb dX2_mayCrank_12 (by decide) (fun c12 => ?_) (fun c12 => ?_)
    · refine lv_ldc (v := (-1000001)) hx hb hown (hts _ q1447) dX2_mayCrank_24 ?_
      refine lv_goto (tgt := 44) hx hb dX2_mayCrank_26 (by decide) ?_
      exact k_ireti (v := (-1000001)) hx hb hret (rfl) hlk hS (Nat.le_of_ble_eq_true rfl) (Nat.le_of_ble_eq_true rfl) (⟨rfl, by unfold mayC; rw [if_neg (fun h => h.2.1 c12)]⟩) dX2_mayCrank_44
    · refine lv_iload_n hx hb dX2_mayCrank_15 rfl (lv_at hl 2 rfl) ?_
      refine lv_iconst (v := 1) hx hb dX2_mayCrank_16 (by decide) ?_
      refine lv_iconst (v := 3) hx hb dX2_mayCrank_17 (by decide) ?_
      refine k_calliS (va_runS (As := [.int y, .int 1, .int 3]) (rest := []) ⟨hx, hb, hml, hown, hts⟩ (m_in l g y 1 3) (va_cwS 3 hts (lw_S q1444 q1445 q56 q1446) rfl rfl rfl hdS_X2_in ⟨Nat.le_of_ble_eq_true rfl, Nat.le_of_ble_eq_true rfl⟩) (preS hK hS) rfl rfl hl.1 rfl (lv_room (Nat.le_of_ble_eq_true rfl)) dX2_mayCrank_18 ⟨Nat.le_of_ble_eq_true rfl, Nat.le_of_ble_eq_true rfl⟩) hS (fun z2 locs hz2 hS => ?_)
      refine lv_if_ne (tgt := 29) hx hb dX2_mayCrank_21 (by decide) (fun c21 => ?_) (fun c21 => ?_)
      · have c21 := b2t hz2 c21
        refine lv_aload_n hx hb dX2_mayCrank_29 rfl (lv_at hl 0 rfl) ?_
        refine k_get (ci := 2) hx hb hts in_X2 hown hK h0 rfl 0 (by decide) q1400 (fun _ h9 => h9) rfl dX2_mayCrank_30 ?_
        refine lv_iconst (v := nI 0) hx hb dX2_mayCrank_33 (by decide) ?_
        refine k_ildN hx hb hK h1 (0) (rfl) (by omega) (by decide) dX2_mayCrank_34 ?_
        refine k_topi (nI b.1.length) (hs.rows) ?_
        refine lv_if_ne (tgt := 43) hx hb dX2_mayCrank_35 (by decide) (fun c35 => ?_) (fun c35 => ?_)
        · have c35 : ¬ b.1.length = 0 := fun z => c35 (by rw [z]; rfl)
          refine lv_iconst (v := 0) hx hb dX2_mayCrank_43 (by decide) ?_
          exact k_ireti (v := 0) hx hb hret (rfl) hlk hS (Nat.le_of_ble_eq_true rfl) (Nat.le_of_ble_eq_true rfl) (⟨rfl, by unfold mayC; rw [if_pos ⟨c8, c12, c21⟩, if_neg c35]⟩) dX2_mayCrank_44
        · have c35 : b.1.length = 0 := (nI_eq (a := b.1.length) (b := 0) (by omega) (by omega)).mp c35
          refine lv_ldc (v := (-1000002)) hx hb hown (hts _ q1491) dX2_mayCrank_38 ?_
          refine lv_goto (tgt := 44) hx hb dX2_mayCrank_40 (by decide) ?_
          exact k_ireti (v := (-1000002)) hx hb hret (rfl) hlk hS (Nat.le_of_ble_eq_true rfl) (Nat.le_of_ble_eq_true rfl) (⟨rfl, by unfold mayC; rw [if_pos ⟨c8, c12, c21⟩, if_pos c35]⟩) dX2_mayCrank_44
      · have c21 := b2f hz2 c21
        refine lv_ldc (v := (-1000001)) hx hb hown (hts _ q1447) dX2_mayCrank_24 ?_
        refine lv_goto (tgt := 44) hx hb dX2_mayCrank_26 (by decide) ?_
        exact k_ireti (v := (-1000001)) hx hb hret (rfl) hlk hS (Nat.le_of_ble_eq_true rfl) (Nat.le_of_ble_eq_true rfl) (⟨rfl, by unfold mayC; rw [if_neg (fun h => c21 h.2.2)]⟩) dX2_mayCrank_44
/-- crank(rows, speed) -/
theorem mp_crank (l : Launch) (g : GT) {H : Heap} {A : Nat → Nat} {a : AV} (x y : Int32) (hMR : MR g A a H) : Met l yX2_crank (ws_ yX2_crank cX2_crank 5 (some .int)) ({ frames := 4, cells := 0, slots := 0, locals := 90 } : Room) (va_Pc [.ref (A 0), .int x, .int y] (Pre g H)) (Qi g (fun z H1 => z = (ordA a (crankV a.1 x y)).2 ∧ MR g A (ordA a (crankV a.1 x y)).1 H1 ∧ Fx (MM A) H H1)) 0 0 (gA g) := by
  refine k_met (cc := cX2_crank) (nL := 5) (vs := [.ref (A 0), .int x, .int y]) (by decide +kernel) (Nat.le_of_ble_eq_true rfl) ?_
  intro p e s m below meth c hH hx hb hret hts hown hlk hml hin hK hS ls hl
  subst hH
  have hown : s.vm.findClass RX2 = some m.cls := hown
  have hl : lv_has ls 5 [(0, .ref (A 0)), (1, .int x), (2, .int y)] := hl
  obtain ⟨F, I, hM, hs, hok, hn3, hH, hn5, hT⟩ := hMR
  obtain ⟨h0, h1, h2, h3, h4, n12, n13, n14, n23, n24, n34⟩ := id hM
  have hF : Fx (MM A) s.heap s.heap := Fx.rf
  have hl20 := hok.1
  have hl6 := hok.2.1
  have hl4 := hH.1
  have hl60 := hT.1
  have hR : MRel F I a := ⟨hs, hok, hn3, hH, hn5, hT⟩
  refine lv_aload_n hx hb dX2_crank_0 rfl (lv_at hl 0 rfl) ?_
  refine lv_iload_n hx hb dX2_crank_1 rfl (lv_at hl 1 rfl) ?_
  refine lv_iload_n hx hb dX2_crank_2 rfl (lv_at hl 2 rfl) ?_
  refine k_calliS (va_runV (As := [.int x, .int y]) (rest := []) ⟨hx, hb, hml, hown, hts⟩ (m_mayCrank l g a.1 x y hM hs hok) (cwV 2 hts (lw_V q1531 q1533 qs34 q56 q1534) rfl rfl rfl hdV_X2_mayCrank ⟨Nat.le_of_ble_eq_true rfl, Nat.le_of_ble_eq_true rfl⟩) (preV hK hS h0 rfl) rfl rfl hl.1 rfl (lv_room (Nat.le_of_ble_eq_true rfl)) dX2_crank_3 ⟨Nat.le_of_ble_eq_true rfl, Nat.le_of_ble_eq_true rfl⟩) hS (fun t1 locs ht1 hS => ?_)
  refine lv_istore_n (lv' := [(3, .int t1), (0, .ref (A 0)), (1, .int x), (2, .int y)]) hx hb dX2_crank_6 rfl hl (by decide) rfl (fun ls hl => ?_)
  refine lv_iload_n hx hb dX2_crank_7 rfl (lv_at hl 0 rfl) ?_
  refine lv_if_ge (tgt := 13) hx hb dX2_crank_8 (by decide) (fun c8 => ?_) (fun c8 => ?_)
  · have hmc : mayC a.1 x y = 0 := mayC_ge (by rw [← ht1]; exact c8)
    obtain ⟨hne, hm, hxm⟩ := mayC_0 hmc
    refine lv_aload_n hx hb dX2_crank_13 rfl (lv_at hl 1 rfl) ?_
    refine k_callv (va_runV (As := []) (rest := []) ⟨hx, hb, hml, hown, hts⟩ (m_changes l g a.2.1.length hM hn3 hH.1) (cwV 0 hts (lw_V q1492 q1494 qs29 q56 q1495) rfl rfl rfl hdV_X2_changes ⟨Nat.le_of_ble_eq_true rfl, Nat.le_of_ble_eq_true rfl⟩) (preV hK hS h0 rfl) rfl rfl hl.1 rfl (lv_room (Nat.le_of_ble_eq_true rfl)) dX2_crank_14 ⟨Nat.le_of_ble_eq_true rfl, Nat.le_of_ble_eq_true rfl⟩) hS (fun H_2 locs hp1 hS => ?_)
    obtain ⟨hF2, hM1⟩ := hp1
    have hF := hF.trans hF2 (fun q _ h => h)
    have hM1 : MAt g A (va_up (va_up F 2 (chg (F 2) (F 1) a.2.1.length)) 1 (F 1)) (upd I 3 (nI (if a.2.1.length = 4 then 4 else a.2.1.length + 1))) H_2 := by rw [show va_up (va_up F 2 (chg (F 2) (F 1) a.2.1.length)) 1 (F 1) = (va_up F 2 (chg (F 2) (F 1) a.2.1.length)) from upF_id (va_up F 2 (chg (F 2) (F 1) a.2.1.length)) 1]; exact hM1
    obtain ⟨h_3, h_4, h_5, h_6, h_7, -, -, -, -, -, -⟩ := id hM1
    have h_3 : Ob g (A 0) 2 [.ref (A 1), .ref (A 2), .ref (A 3), .int (nI (if a.2.1.length = 4 then 4 else a.2.1.length + 1)), .ref (A 4), .int (I 5), .int (I 6), .int (I 7), .int (I 8), .int (I 9), .int (I 10), .int (I 11), .int (I 12)] H_2 := h_3
    have h_4 : Ar g (A 1) 0 (aI 369 (F 1)) H_2 := h_4
    have h_5 : Ar g (A 2) 0 (aI 1476 (chg (F 2) (F 1) a.2.1.length)) H_2 := h_5
    refine lv_aload_n hx hb dX2_crank_17 rfl (lv_at hl 1 rfl) ?_
    refine lv_iload_n hx hb dX2_crank_18 rfl (lv_at hl 2 rfl) ?_
    refine lv_iload_n hx hb dX2_crank_19 rfl (lv_at hl 3 rfl) ?_
    refine k_calli (va_runV (As := [.int x, .int y]) (rest := []) ⟨hx, hb, hml, hown, hts⟩ (m_cranks l g a.1 (absN x) (dirOf x) x y hM1 hs hok hne hm hxm) (cwV 2 hts (lw_V q1535 q1537 qs35 q56 q1538) rfl rfl rfl hdV_X2_cranks ⟨Nat.le_of_ble_eq_true rfl, Nat.le_of_ble_eq_true rfl⟩) (preV hK hS h_3 rfl) rfl rfl hl.1 rfl (lv_room (Nat.le_of_ble_eq_true rfl)) dX2_crank_20 ⟨Nat.le_of_ble_eq_true rfl, Nat.le_of_ble_eq_true rfl⟩) hS (fun z H_8 locs hz hS => ?_)
    obtain ⟨hF2, f, J, hsf, hokf, hM2, j3, j5, j11, j12, hz⟩ := hz
    have hF := hF.trans hF2 (fun q _ h => h)
    have hM2 : MAt g A (va_up (va_up F 2 (chg (F 2) (F 1) a.2.1.length)) 1 f) J H_8 := by rw [bx_uu] at hM2; exact hM2
    have j3 : J 3 = nI (if a.2.1.length = 4 then 4 else a.2.1.length + 1) := j3
    have j5 : J 5 = I 5 := j5
    obtain ⟨h_9, h_10, h_11, h_12, h_13, -, -, -, -, -, -⟩ := id hM2
    have h_9 : Ob g (A 0) 2 [.ref (A 1), .ref (A 2), .ref (A 3), .int (J 3), .ref (A 4), .int (J 5), .int (J 6), .int (J 7), .int (J 8), .int (J 9), .int (J 10), .int (J 11), .int (J 12)] H_8 := h_9
    have h_10 : Ar g (A 1) 0 (aI 369 f) H_8 := h_10
    have h_11 : Ar g (A 2) 0 (aI 1476 (chg (F 2) (F 1) a.2.1.length)) H_8 := h_11
    refine lv_istore (lv' := [(4, .int z), (3, .int t1), (0, .ref (A 0)), (1, .int x), (2, .int y)]) hx hb dX2_crank_23 hl (by decide) rfl (fun ls hl => ?_)
    refine lv_iload hx hb dX2_crank_25 (lv_at hl 0 rfl) ?_
    refine lv_if_ge (tgt := 35) hx hb dX2_crank_27 (by decide) (fun c27 => ?_) (fun c27 => ?_)
    · refine lv_aload_n hx hb dX2_crank_35 rfl (lv_at hl 2 rfl) ?_
      refine k_get (ci := 2) hx hb hts in_X2 hown hK h_9 rfl 0 (by decide) q1400 (fun _ h9 => h9) rfl dX2_crank_36 ?_
      refine lv_iconst (v := nI 1) hx hb dX2_crank_39 (by decide) ?_
      refine k_ildN hx hb hK h_10 (1) (rfl) (by omega) (by decide) dX2_crank_40 ?_
      refine k_topi ((crk (dirOf x) y (absN x) 0 a.1 0).1.2.2 3) (by rw [hsf.sh, if_neg (by show ¬ (crk (dirOf x) y (absN x) 0 a.1 0).1.1.length = 0; rw [crk_len]; omega)]; rfl) ?_
      exact k_ireti (v := (crk (dirOf x) y (absN x) 0 a.1 0).1.2.2 3) hx hb hret (rfl) hlk hS (Nat.le_of_ble_eq_true rfl) (Nat.le_of_ble_eq_true rfl) (⟨by unfold crankV; rw [if_pos hmc, ordA_some], by unfold crankV; rw [if_pos hmc, ordA_some]; exact ⟨_, J, hM2, hR.chg hsf hokf rfl rfl j3 j5⟩, hF⟩) dX2_crank_41
    · exact absurd (by rw [hz]; exact crkW_ge _ _ _) c27
  · have hmc : ¬ mayC a.1 x y = 0 := fun z => c8 (by rw [ht1, z]; decide)
    refine lv_iload_n hx hb dX2_crank_11 rfl (lv_at hl 0 rfl) ?_
    exact k_ireti (v := t1) hx hb hret (rfl) hlk hS (Nat.le_of_ble_eq_true rfl) (Nat.le_of_ble_eq_true rfl) (⟨by unfold crankV; rw [if_neg hmc]; exact ht1, by unfold crankV; rw [if_neg hmc]; exact ⟨F, I, hM, hR⟩, hF⟩) dX2_crank_12
/-- would(rows, speed, what) -/
theorem mp_would (l : Launch) (g : GT) {H : Heap} {A : Nat → Nat} {a : AV} (x y v : Int32) (hMR : MR g A a H) : Met l yX2_would (ws_ yX2_would cX2_would 7 (some .int)) ({ frames := 4, cells := 0, slots := 0, locals := 90 } : Room) (va_Pc [.ref (A 0), .int x, .int y, .int v] (Pre g H)) (Qi g (fun z H1 => z = wouldV a.1 x y v ∧ MR g A a H1 ∧ Fx (MM A) H H1)) 0 0 (gA g) := by
  refine k_met (cc := cX2_would) (nL := 7) (vs := [.ref (A 0), .int x, .int y, .int v]) (by decide +kernel) (Nat.le_of_ble_eq_true rfl) ?_
  intro p e s m below meth c hH hx hb hret hts hown hlk hml hin hK hS ls hl
  subst hH
  have hown : s.vm.findClass RX2 = some m.cls := hown
  have hl : lv_has ls 7 [(0, .ref (A 0)), (1, .int x), (2, .int y), (3, .int v)] := hl
  obtain ⟨F, I, hM, hs, hok, hn3, hH, hn5, hT⟩ := hMR
  obtain ⟨h0, h1, h2, h3, h4, n12, n13, n14, n23, n24, n34⟩ := id hM
  have hF : Fx (MM A) s.heap s.heap := Fx.rf
  have hl20 := hok.1
  have hl6 := hok.2.1
  have hl4 := hH.1
  have hl60 := hT.1
  have hR : MRel F I a := ⟨hs, hok, hn3, hH, hn5, hT⟩
  refine lv_iload_n hx hb dX2_would_0 rfl (lv_at hl 3 rfl) ?_
  refine lv_iconst (v := 0) hx hb dX2_would_1 (by decide) ?_
  refine lv_iconst (v := 3) hx hb dX2_would_2 (by decide) ?_
  refine k_calliS (va_runS (As := [.int v, .int 0, .int 3]) (rest := []) ⟨hx, hb, hml, hown, hts⟩ (m_in l g v 0 3) (va_cwS 3 hts (lw_S q1444 q1445 q56 q1446) rfl rfl rfl hdS_X2_in ⟨Nat.le_of_ble_eq_true rfl, Nat.le_of_ble_eq_true rfl⟩) (preS hK hS) rfl rfl hl.1 rfl (lv_room (Nat.le_of_ble_eq_true rfl)) dX2_would_3 ⟨Nat.le_of_ble_eq_true rfl, Nat.le_of_ble_eq_true rfl⟩) hS (fun z1 locs hz1 hS => ?_)
  refine lv_if_ne (tgt := 12) hx hb dX2_would_6 (by decide) (fun c6 => ?_) (fun c6 => ?_)
  · have c6 := b2t hz1 c6
    refine lv_aload_n hx hb dX2_would_12 rfl (lv_at hl 0 rfl) ?_
    refine lv_iload_n hx hb dX2_would_13 rfl (lv_at hl 1 rfl) ?_
    refine lv_iload_n hx hb dX2_would_14 rfl (lv_at hl 2 rfl) ?_
    refine k_calliS (va_runV (As := [.int x, .int y]) (rest := []) ⟨hx, hb, hml, hown, hts⟩ (m_mayCrank l g a.1 x y hM hs hok) (cwV 2 hts (lw_V q1531 q1533 qs34 q56 q1534) rfl rfl rfl hdV_X2_mayCrank ⟨Nat.le_of_ble_eq_true rfl, Nat.le_of_ble_eq_true rfl⟩) (preV hK hS h0 rfl) rfl rfl hl.1 rfl (lv_room (Nat.le_of_ble_eq_true rfl)) dX2_would_15 ⟨Nat.le_of_ble_eq_true rfl, Nat.le_of_ble_eq_true rfl⟩) hS (fun t1 locs ht1 hS => ?_)
    refine lv_istore (lv' := [(4, .int t1), (0, .ref (A 0)), (1, .int x), (2, .int y), (3, .int v)]) hx hb dX2_would_18 hl (by decide) rfl (fun ls hl => ?_)
    refine lv_iload hx hb dX2_would_20 (lv_at hl 0 rfl) ?_
    refine lv_if_ge (tgt := 28) hx hb dX2_would_22 (by decide) (fun c22 => ?_) (fun c22 => ?_)
    · have hmc : mayC a.1 x y = 0 := mayC_ge (by rw [← ht1]; exact c22)
      obtain ⟨hne, hm, hxm⟩ := mayC_0 hmc
      refine lv_aload_n hx hb dX2_would_28 rfl (lv_at hl 1 rfl) ?_
      refine k_get (ci := 2) hx hb hts in_X2 hown hK h0 rfl 0 (by decide) q1400 (fun _ h9 => h9) rfl dX2_would_29 ?_
      refine lv_aload_n hx hb dX2_would_32 rfl (lv_at hl 1 rfl) ?_
      refine k_get (ci := 2) hx hb hts in_X2 hown hK h0 rfl 2 (by decide) q1402 (fun _ h9 => h9) rfl dX2_would_33 ?_
      refine k_callv (va_runS (As := [.ref (A 1), .ref (A 3)]) (rest := []) ⟨hx, hb, hml, hown, hts⟩ (m_save l g hM) (va_cwS 2 hts (lw_S q1448 q1449 q56 q1450) rfl rfl rfl hdS_X2_copies ⟨Nat.le_of_ble_eq_true rfl, Nat.le_of_ble_eq_true rfl⟩) (preS hK hS) rfl rfl hl.1 rfl (lv_room (Nat.le_of_ble_eq_true rfl)) dX2_would_36 ⟨Nat.le_of_ble_eq_true rfl, Nat.le_of_ble_eq_true rfl⟩) hS (fun H_3 locs hp1 hS => ?_)
      obtain ⟨hM1, hF2⟩ := hp1
      have hF := hF.trans hF2 (fun q _ h => h)
      obtain ⟨h_4, h_5, h_6, h_7, h_8, -, -, -, -, -, -⟩ := id hM1
      have h_4 : Ob g (A 0) 2 [.ref (A 1), .ref (A 2), .ref (A 3), .int (I 3), .ref (A 4), .int (I 5), .int (I 6), .int (I 7), .int (I 8), .int (I 9), .int (I 10), .int (I 11), .int (I 12)] H_3 := h_4
      have h_7 : Ar g (A 3) 0 (aI 369 (F 1)) H_3 := h_7
      refine lv_aload_n hx hb dX2_would_39 rfl (lv_at hl 1 rfl) ?_
      refine lv_iload_n hx hb dX2_would_40 rfl (lv_at hl 2 rfl) ?_
      refine lv_iload_n hx hb dX2_would_41 rfl (lv_at hl 3 rfl) ?_
      refine k_calli (va_runV (As := [.int x, .int y]) (rest := []) ⟨hx, hb, hml, hown, hts⟩ (m_cranks l g a.1 (absN x) (dirOf x) x y hM1 hs hok hne hm hxm) (cwV 2 hts (lw_V q1535 q1537 qs35 q56 q1538) rfl rfl rfl hdV_X2_cranks ⟨Nat.le_of_ble_eq_true rfl, Nat.le_of_ble_eq_true rfl⟩) (preV hK hS h_4 rfl) rfl rfl hl.1 rfl (lv_room (Nat.le_of_ble_eq_true rfl)) dX2_would_42 ⟨Nat.le_of_ble_eq_true rfl, Nat.le_of_ble_eq_true rfl⟩) hS (fun z H_9 locs hz hS => ?_)
      obtain ⟨hF2, f, J, hsf, hokf, hM2, j3, j5, j11, j12, hz⟩ := hz
      have hF := hF.trans hF2 (fun q _ h => h)
      have j3 : J 3 = I 3 := j3
      have j5 : J 5 = I 5 := j5
      obtain ⟨h_10, h_11, h_12, h_13, h_14, -, -, -, -, -, -⟩ := id hM2
      have h_10 : Ob g (A 0) 2 [.ref (A 1), .ref (A 2), .ref (A 3), .int (J 3), .ref (A 4), .int (J 5), .int (J 6), .int (J 7), .int (J 8), .int (J 9), .int (J 10), .int (J 11), .int (J 12)] H_9 := h_10
      have h_11 : Ar g (A 1) 0 (aI 369 f) H_9 := h_11
      have h_13 : Ar g (A 3) 0 (aI 369 (F 1)) H_9 := h_13
      refine lv_istore (lv' := [(5, .int z), (4, .int t1), (0, .ref (A 0)), (1, .int x), (2, .int y), (3, .int v)]) hx hb dX2_would_45 hl (by decide) rfl (fun ls hl => ?_)
      refine lv_iload_n hx hb dX2_would_47 rfl (lv_at hl 5 rfl) ?_
      refine lv_if_ne (tgt := 60) hx hb dX2_would_48 (by decide) (fun c48 => ?_) (fun c48 => ?_)
      · refine lv_iload_n hx hb dX2_would_60 rfl (lv_at hl 5 rfl) ?_
        refine lv_iconst (v := 1) hx hb dX2_would_61 (by decide) ?_
        refine lv_icmp_ne (tgt := 72) hx hb dX2_would_62 (by decide) (fun c62 => ?_) (fun c62 => ?_)
        · refine lv_iload_n hx hb dX2_would_72 rfl (lv_at hl 5 rfl) ?_
          refine lv_iconst (v := 2) hx hb dX2_would_73 (by decide) ?_
          refine lv_icmp_ne (tgt := 84) hx hb dX2_would_74 (by decide) (fun c74 => ?_) (fun c74 => ?_)
          · refine lv_iload hx hb dX2_would_84 (lv_at hl 0 rfl) ?_
            refine lv_istore (lv' := [(6, .int z), (5, .int z), (4, .int t1), (0, .ref (A 0)), (1, .int x), (2, .int y), (3, .int v)]) hx hb dX2_would_86 hl (by decide) rfl (fun ls hl => ?_)
            refine lv_aload_n hx hb dX2_would_88 rfl (lv_at hl 3 rfl) ?_
            refine k_get (ci := 2) hx hb hts in_X2 hown hK h_10 rfl 2 (by decide) q1402 (fun _ h9 => h9) rfl dX2_would_89 ?_
            refine lv_aload_n hx hb dX2_would_92 rfl (lv_at hl 3 rfl) ?_
            refine k_get (ci := 2) hx hb hts in_X2 hown hK h_10 rfl 0 (by decide) q1400 (fun _ h9 => h9) rfl dX2_would_93 ?_
            refine k_callv (va_runS (As := [.ref (A 3), .ref (A 1)]) (rest := []) ⟨hx, hb, hml, hown, hts⟩ (m_rest l g hM2) (va_cwS 2 hts (lw_S q1448 q1449 q56 q1450) rfl rfl rfl hdS_X2_copies ⟨Nat.le_of_ble_eq_true rfl, Nat.le_of_ble_eq_true rfl⟩) (preS hK hS) rfl rfl hl.1 rfl (lv_room (Nat.le_of_ble_eq_true rfl)) dX2_would_96 ⟨Nat.le_of_ble_eq_true rfl, Nat.le_of_ble_eq_true rfl⟩) hS (fun H_15 locs hp3 hS => ?_)
            obtain ⟨hM3, hF2⟩ := hp3
            have hF := hF.trans hF2 (fun q _ h => h)
            have hM3 : MAt g A (va_up (va_up F 3 (F 1)) 1 (F 1)) J H_15 := by rw [bx_uu] at hM3; exact hM3
            have hR3 : MRel (va_up (va_up F 3 (F 1)) 1 (F 1)) J a := ⟨hs, hok, j3.trans hn3, hH, j5.trans hn5, hT⟩
            obtain ⟨h_16, h_17, h_18, h_19, h_20, -, -, -, -, -, -⟩ := id hM3
            have h_16 : Ob g (A 0) 2 [.ref (A 1), .ref (A 2), .ref (A 3), .int (J 3), .ref (A 4), .int (J 5), .int (J 6), .int (J 7), .int (J 8), .int (J 9), .int (J 10), .int (J 11), .int (J 12)] H_15 := h_16
            have h_17 : Ar g (A 1) 0 (aI 369 (F 1)) H_15 := h_17
            have h_19 : Ar g (A 3) 0 (aI 369 (F 1)) H_15 := h_19
            refine lv_iload hx hb dX2_would_99 (lv_at hl 0 rfl) ?_
            exact k_ireti (v := z) hx hb hret (rfl) hlk hS (Nat.le_of_ble_eq_true rfl) (Nat.le_of_ble_eq_true rfl) (⟨by unfold wouldV; rw [if_pos c6, if_pos hmc, if_neg c48, if_neg c62, if_neg c74, hz], ⟨_, J, hM3, hR3⟩, hF⟩) dX2_would_101
          · refine lv_aload_n hx hb dX2_would_77 rfl (lv_at hl 2 rfl) ?_
            refine k_get (ci := 2) hx hb hts in_X2 hown hK h_10 rfl 11 (by decide) q1411 (fun _ h9 => h9) rfl dX2_would_78 ?_
            refine k_topi (nI (crk (dirOf x) y (absN x) 0 a.1 0).2.1) (j11) ?_
            refine lv_goto (tgt := 86) hx hb dX2_would_81 (by decide) ?_
            refine lv_istore (lv' := [(6, .int (nI (crk (dirOf x) y (absN x) 0 a.1 0).2.1)), (5, .int z), (4, .int t1), (0, .ref (A 0)), (1, .int x), (2, .int y), (3, .int v)]) hx hb dX2_would_86 hl (by decide) rfl (fun ls hl => ?_)
            refine lv_aload_n hx hb dX2_would_88 rfl (lv_at hl 3 rfl) ?_
            refine k_get (ci := 2) hx hb hts in_X2 hown hK h_10 rfl 2 (by decide) q1402 (fun _ h9 => h9) rfl dX2_would_89 ?_
            refine lv_aload_n hx hb dX2_would_92 rfl (lv_at hl 3 rfl) ?_
            refine k_get (ci := 2) hx hb hts in_X2 hown hK h_10 rfl 0 (by decide) q1400 (fun _ h9 => h9) rfl dX2_would_93 ?_
            refine k_callv (va_runS (As := [.ref (A 3), .ref (A 1)]) (rest := []) ⟨hx, hb, hml, hown, hts⟩ (m_rest l g hM2) (va_cwS 2 hts (lw_S q1448 q1449 q56 q1450) rfl rfl rfl hdS_X2_copies ⟨Nat.le_of_ble_eq_true rfl, Nat.le_of_ble_eq_true rfl⟩) (preS hK hS) rfl rfl hl.1 rfl (lv_room (Nat.le_of_ble_eq_true rfl)) dX2_would_96 ⟨Nat.le_of_ble_eq_true rfl, Nat.le_of_ble_eq_true rfl⟩) hS (fun H_21 locs hp3 hS => ?_)
            obtain ⟨hM3, hF2⟩ := hp3
            have hF := hF.trans hF2 (fun q _ h => h)
            have hM3 : MAt g A (va_up (va_up F 3 (F 1)) 1 (F 1)) J H_21 := by rw [bx_uu] at hM3; exact hM3
            have hR3 : MRel (va_up (va_up F 3 (F 1)) 1 (F 1)) J a := ⟨hs, hok, j3.trans hn3, hH, j5.trans hn5, hT⟩
            obtain ⟨h_22, h_23, h_24, h_25, h_26, -, -, -, -, -, -⟩ := id hM3
            have h_22 : Ob g (A 0) 2 [.ref (A 1), .ref (A 2), .ref (A 3), .int (J 3), .ref (A 4), .int (J 5), .int (J 6), .int (J 7), .int (J 8), .int (J 9), .int (J 10), .int (J 11), .int (J 12)] H_21 := h_22
            have h_23 : Ar g (A 1) 0 (aI 369 (F 1)) H_21 := h_23
            have h_25 : Ar g (A 3) 0 (aI 369 (F 1)) H_21 := h_25
            refine lv_iload hx hb dX2_would_99 (lv_at hl 0 rfl) ?_
            exact k_ireti (v := nI (crk (dirOf x) y (absN x) 0 a.1 0).2.1) hx hb hret (rfl) hlk hS (Nat.le_of_ble_eq_true rfl) (Nat.le_of_ble_eq_true rfl) (⟨by unfold wouldV; rw [if_pos c6, if_pos hmc, if_neg c48, if_neg c62, if_pos c74], ⟨_, J, hM3, hR3⟩, hF⟩) dX2_would_101
        · refine lv_aload_n hx hb dX2_would_65 rfl (lv_at hl 2 rfl) ?_
          refine k_get (ci := 2) hx hb hts in_X2 hown hK h_10 rfl 12 (by decide) q1412 (fun _ h9 => h9) rfl dX2_would_66 ?_
          refine k_topi ((crk (dirOf x) y (absN x) 0 a.1 0).2.2) (j12) ?_
          refine lv_goto (tgt := 86) hx hb dX2_would_69 (by decide) ?_
          refine lv_istore (lv' := [(6, .int ((crk (dirOf x) y (absN x) 0 a.1 0).2.2)), (5, .int z), (4, .int t1), (0, .ref (A 0)), (1, .int x), (2, .int y), (3, .int v)]) hx hb dX2_would_86 hl (by decide) rfl (fun ls hl => ?_)
          refine lv_aload_n hx hb dX2_would_88 rfl (lv_at hl 3 rfl) ?_
          refine k_get (ci := 2) hx hb hts in_X2 hown hK h_10 rfl 2 (by decide) q1402 (fun _ h9 => h9) rfl dX2_would_89 ?_
          refine lv_aload_n hx hb dX2_would_92 rfl (lv_at hl 3 rfl) ?_
          refine k_get (ci := 2) hx hb hts in_X2 hown hK h_10 rfl 0 (by decide) q1400 (fun _ h9 => h9) rfl dX2_would_93 ?_
          refine k_callv (va_runS (As := [.ref (A 3), .ref (A 1)]) (rest := []) ⟨hx, hb, hml, hown, hts⟩ (m_rest l g hM2) (va_cwS 2 hts (lw_S q1448 q1449 q56 q1450) rfl rfl rfl hdS_X2_copies ⟨Nat.le_of_ble_eq_true rfl, Nat.le_of_ble_eq_true rfl⟩) (preS hK hS) rfl rfl hl.1 rfl (lv_room (Nat.le_of_ble_eq_true rfl)) dX2_would_96 ⟨Nat.le_of_ble_eq_true rfl, Nat.le_of_ble_eq_true rfl⟩) hS (fun H_27 locs hp3 hS => ?_)
          obtain ⟨hM3, hF2⟩ := hp3
          have hF := hF.trans hF2 (fun q _ h => h)
          have hM3 : MAt g A (va_up (va_up F 3 (F 1)) 1 (F 1)) J H_27 := by rw [bx_uu] at hM3; exact hM3
          have hR3 : MRel (va_up (va_up F 3 (F 1)) 1 (F 1)) J a := ⟨hs, hok, j3.trans hn3, hH, j5.trans hn5, hT⟩
          obtain ⟨h_28, h_29, h_30, h_31, h_32, -, -, -, -, -, -⟩ := id hM3
          have h_28 : Ob g (A 0) 2 [.ref (A 1), .ref (A 2), .ref (A 3), .int (J 3), .ref (A 4), .int (J 5), .int (J 6), .int (J 7), .int (J 8), .int (J 9), .int (J 10), .int (J 11), .int (J 12)] H_27 := h_28
          have h_29 : Ar g (A 1) 0 (aI 369 (F 1)) H_27 := h_29
          have h_31 : Ar g (A 3) 0 (aI 369 (F 1)) H_27 := h_31
          refine lv_iload hx hb dX2_would_99 (lv_at hl 0 rfl) ?_
          exact k_ireti (v := (crk (dirOf x) y (absN x) 0 a.1 0).2.2) hx hb hret (rfl) hlk hS (Nat.le_of_ble_eq_true rfl) (Nat.le_of_ble_eq_true rfl) (⟨by unfold wouldV; rw [if_pos c6, if_pos hmc, if_neg c48, if_pos c62], ⟨_, J, hM3, hR3⟩, hF⟩) dX2_would_101
      · refine lv_aload_n hx hb dX2_would_51 rfl (lv_at hl 2 rfl) ?_
        refine k_get (ci := 2) hx hb hts in_X2 hown hK h_10 rfl 0 (by decide) q1400 (fun _ h9 => h9) rfl dX2_would_52 ?_
        refine lv_iconst (v := nI 1) hx hb dX2_would_55 (by decide) ?_
        refine k_ildN hx hb hK h_11 (1) (rfl) (by omega) (by decide) dX2_would_56 ?_
        refine k_topi ((crk (dirOf x) y (absN x) 0 a.1 0).1.2.2 3) (by rw [hsf.sh, if_neg (by show ¬ (crk (dirOf x) y (absN x) 0 a.1 0).1.1.length = 0; rw [crk_len]; omega)]; rfl) ?_
        refine lv_goto (tgt := 86) hx hb dX2_would_57 (by decide) ?_
        refine lv_istore (lv' := [(6, .int ((crk (dirOf x) y (absN x) 0 a.1 0).1.2.2 3)), (5, .int z), (4, .int t1), (0, .ref (A 0)), (1, .int x), (2, .int y), (3, .int v)]) hx hb dX2_would_86 hl (by decide) rfl (fun ls hl => ?_)
        refine lv_aload_n hx hb dX2_would_88 rfl (lv_at hl 3 rfl) ?_
        refine k_get (ci := 2) hx hb hts in_X2 hown hK h_10 rfl 2 (by decide) q1402 (fun _ h9 => h9) rfl dX2_would_89 ?_
        refine lv_aload_n hx hb dX2_would_92 rfl (lv_at hl 3 rfl) ?_
        refine k_get (ci := 2) hx hb hts in_X2 hown hK h_10 rfl 0 (by decide) q1400 (fun _ h9 => h9) rfl dX2_would_93 ?_
        refine k_callv (va_runS (As := [.ref (A 3), .ref (A 1)]) (rest := []) ⟨hx, hb, hml, hown, hts⟩ (m_rest l g hM2) (va_cwS 2 hts (lw_S q1448 q1449 q56 q1450) rfl rfl rfl hdS_X2_copies ⟨Nat.le_of_ble_eq_true rfl, Nat.le_of_ble_eq_true rfl⟩) (preS hK hS) rfl rfl hl.1 rfl (lv_room (Nat.le_of_ble_eq_true rfl)) dX2_would_96 ⟨Nat.le_of_ble_eq_true rfl, Nat.le_of_ble_eq_true rfl⟩) hS (fun H_33 locs hp3 hS => ?_)
        obtain ⟨hM3, hF2⟩ := hp3
        have hF := hF.trans hF2 (fun q _ h => h)
        have hM3 : MAt g A (va_up (va_up F 3 (F 1)) 1 (F 1)) J H_33 := by rw [bx_uu] at hM3; exact hM3
        have hR3 : MRel (va_up (va_up F 3 (F 1)) 1 (F 1)) J a := ⟨hs, hok, j3.trans hn3, hH, j5.trans hn5, hT⟩
        obtain ⟨h_34, h_35, h_36, h_37, h_38, -, -, -, -, -, -⟩ := id hM3
        have h_34 : Ob g (A 0) 2 [.ref (A 1), .ref (A 2), .ref (A 3), .int (J 3), .ref (A 4), .int (J 5), .int (J 6), .int (J 7), .int (J 8), .int (J 9), .int (J 10), .int (J 11), .int (J 12)] H_33 := h_34
        have h_35 : Ar g (A 1) 0 (aI 369 (F 1)) H_33 := h_35
        have h_37 : Ar g (A 3) 0 (aI 369 (F 1)) H_33 := h_37
        refine lv_iload hx hb dX2_would_99 (lv_at hl 0 rfl) ?_
        exact k_ireti (v := (crk (dirOf x) y (absN x) 0 a.1 0).1.2.2 3) hx hb hret (rfl) hlk hS (Nat.le_of_ble_eq_true rfl) (Nat.le_of_ble_eq_true rfl) (⟨by unfold wouldV; rw [if_pos c6, if_pos hmc, if_pos c48], ⟨_, J, hM3, hR3⟩, hF⟩) dX2_would_101
    · have hmc : ¬ mayC a.1 x y = 0 := fun z => c22 (by rw [ht1, z]; decide)
      refine lv_iload hx hb dX2_would_25 (lv_at hl 0 rfl) ?_
      exact k_ireti (v := t1) hx hb hret (rfl) hlk hS (Nat.le_of_ble_eq_true rfl) (Nat.le_of_ble_eq_true rfl) (⟨by unfold wouldV; rw [if_pos c6, if_neg hmc, ht1], ⟨F, I, hM, hR⟩, hF⟩) dX2_would_27
  · have c6 := b2f hz1 c6
    refine lv_ldc (v := (-1000001)) hx hb hown (hts _ q1447) dX2_would_9 ?_
    exact k_ireti (v := (-1000001)) hx hb hret (rfl) hlk hS (Nat.le_of_ble_eq_true rfl) (Nat.le_of_ble_eq_true rfl) (⟨by unfold wouldV; rw [if_neg c6], ⟨F, I, hM, hR⟩, hF⟩) dX2_would_11
