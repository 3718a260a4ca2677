/-! ===== HandBlindsModel: type, clearText, undo (printed by tools/model12.py) ===== -/
set_option maxRecDepth 100000
def typeA (a : AV) (x : Int32) : AV × Int32 := if 32 ≤ x ∧ x ≤ 126 then if a.2.2.length = 60 then (a, -1000003) else ((a.1, a.2.1, a.2.2 ++ [x]), nI (a.2.2.length + 1)) else (a, -1000001)
def clearA (a : AV) : AV × Int32 := ((a.1, a.2.1, []), nI a.2.2.length)
def undoA (a : AV) : AV × Int32 := if a.2.1.length = 0 then (a, -1000002) else ((a.2.1.getD (a.2.1.length - 1) bD, a.2.1.dropLast, a.2.2), nI (a.2.1.length - 1))
theorem TRel.push {f : Nat → Int32} {t : List Int32} (h : TRel f t) (x : Int32) (hl : t.length < 60) : TRel (upd f t.length x) (t ++ [x]) := by
  refine ⟨by simp; omega, fun k hk => ?_⟩
  rw [List.length_append, List.length_singleton] at hk
  unfold upd
  by_cases e : k = t.length
  · subst e; rw [if_pos rfl]; simp [List.getD_eq_getElem?_getD]
  · rw [if_neg e, h.2 k (by omega), List.getD_eq_getElem?_getD, List.getD_eq_getElem?_getD, List.getElem?_append_left (by omega)]
theorem HRel.pop {p : Nat → Int32} {h : List BV} (hh : HRel p h) : HRel p h.dropLast := by
  have h4 := hh.1
  refine ⟨by rw [List.length_dropLast]; omega, fun i hi => ?_⟩
  rw [List.length_dropLast] at hi
  have e : h.dropLast.getD i bD = h.getD i bD := by
    rw [List.getD_eq_getElem?_getD, List.getD_eq_getElem?_getD, List.getElem?_dropLast, if_pos (by omega)]
  rw [e]
  exact hh.2 i (by omega)
theorem pre_s (f h : Nat → Int32) (k : Nat) : upd (fun q => if q < k then f q else h q) k (f k) = fun q => if q < k + 1 then f q else h q := by
  funext q
  exact cpy_step f h k q
theorem MAt.ext1 {g : GT} {A : Nat → Nat} {F : Nat → Nat → Int32} {I : Nat → Int32} {H : Heap} {f f' : Nat → Int32} (h : MAt g A (va_up F 1 f) I H) (e : ∀ j, j < 369 → f j = f' j) : MAt g A (va_up F 1 f') I H := by
  obtain ⟨h0, h1, h2, h3, h4, n⟩ := h
  exact ⟨h0, Ar.ext h1 e, h2, h3, h4, n⟩
theorem MAt.ext3 {g : GT} {A : Nat → Nat} {F : Nat → Nat → Int32} {I : Nat → Int32} {H : Heap} {f f' : Nat → Int32} (h : MAt g A (va_up F 3 f) I H) (e : ∀ j, j < 369 → f j = f' j) : MAt g A (va_up F 3 f') I H := by
  obtain ⟨h0, h1, h2, h3, h4, n⟩ := h
  exact ⟨h0, h1, h2, Ar.ext h3 e, h4, n⟩
/-- type(character) -/
theorem mp_type (l : Launch) (g : GT) {H : Heap} {A : Nat → Nat} {a : AV} (x : Int32) (hMR : MR g A a H) : Met l yX2_type (ws_ yX2_type cX2_type 2 (some .int)) ({ frames := 1, cells := 0, slots := 0, locals := 22 } : Room) (va_Pc [.ref (A 0), .int x] (Pre g H)) (Qi g (fun z H1 => z = (typeA a x).2 ∧ MR g A (typeA a x).1 H1 ∧ Fx (MM A) H H1)) 0 0 (gA g) := by
  refine k_met (cc := cX2_type) (nL := 2) (vs := [.ref (A 0), .int x]) (by decide +kernel) (Nat.le_of_ble_eq_true rfl) ?_
  intro p e s m below meth c hH hx hb hret hts hown hlk hml hin hK hS ls hl
  subst hH
  have hown : s.vm.findClass RX2 = some m.cls := hown
  have hl : lv_has ls 2 [(0, .ref (A 0)), (1, .int x)] := hl
  obtain ⟨F, I, hM, hs, hok, hn3, hH, hn5, hT⟩ := hMR
  obtain ⟨h0, h1, h2, h3, h4, n12, n13, n14, n23, n24, n34⟩ := id hM
  have hF : Fx (MM A) s.heap s.heap := Fx.rf
  have hl20 := hok.1
  have hl6 := hok.2.1
  have hl4 := hH.1
  have hl60 := hT.1
  have hR : MRel F I a := ⟨hs, hok, hn3, hH, hn5, hT⟩
  refine lv_iload_n hx hb dX2_type_0 rfl (lv_at hl 1 rfl) ?_
  refine lv_bipush (v := 32) hx hb dX2_type_1 (by decide) ?_
  refine lv_bipush (v := 126) hx hb dX2_type_3 (by decide) ?_
  refine k_calliS (va_runS (As := [.int x, .int 32, .int 126]) (rest := []) ⟨hx, hb, hml, hown, hts⟩ (m_in l g x 32 126) (va_cwS 3 hts (lw_S q1444 q1445 q56 q1446) rfl rfl rfl hdS_X2_in ⟨Nat.le_of_ble_eq_true rfl, Nat.le_of_ble_eq_true rfl⟩) (preS hK hS) rfl rfl hl.1 rfl (lv_room (Nat.le_of_ble_eq_true rfl)) dX2_type_5 ⟨Nat.le_of_ble_eq_true rfl, Nat.le_of_ble_eq_true rfl⟩) hS (fun z1 locs hz1 hS => ?_)
  refine lv_if_ne (tgt := 14) hx hb dX2_type_8 (by decide) (fun c8 => ?_) (fun c8 => ?_)
  · have c8 := b2t hz1 c8
    refine lv_aload_n hx hb dX2_type_14 rfl (lv_at hl 0 rfl) ?_
    refine k_get (ci := 2) hx hb hts in_X2 hown hK h0 rfl 5 (by decide) q1405 (fun _ h9 => h9) rfl dX2_type_15 ?_
    refine k_topi (nI a.2.2.length) (hn5) ?_
    refine lv_bipush (v := nI 60) hx hb dX2_type_18 (by decide) ?_
    refine lv_icmp_ne (tgt := 26) hx hb dX2_type_20 (by decide) (fun c20 => ?_) (fun c20 => ?_)
    · have c20 : ¬ a.2.2.length = 60 := fun z => c20 (by rw [z])
      refine lv_aload_n hx hb dX2_type_26 rfl (lv_at hl 0 rfl) ?_
      refine k_get (ci := 2) hx hb hts in_X2 hown hK h0 rfl 4 (by decide) q1404 (fun _ h9 => h9) rfl dX2_type_27 ?_
      refine lv_aload_n hx hb dX2_type_30 rfl (lv_at hl 0 rfl) ?_
      refine k_get (ci := 2) hx hb hts in_X2 hown hK h0 rfl 5 (by decide) q1405 (fun _ h9 => h9) rfl dX2_type_31 ?_
      refine k_topi (nI a.2.2.length) (hn5) ?_
      refine lv_iload_n hx hb dX2_type_34 rfl (lv_at hl 1 rfl) ?_
      refine k_istN hx hb hK hS h4 (a.2.2.length) (rfl) (by omega) (by decide) dX2_type_35 (fun H_2 locs h_3 u_4 hS => ?_)
      have h_3 : Ar g (A 4) 0 (aI 60 (upd (F 4) a.2.2.length x)) H_2 := h_3
      have h_5 := h0.upd u_4 (Ob.neA hK.gg h0 h4 (by decide) (by decide))
      have h_6 := h1.upd u_4 n14
      have h_7 := h2.upd u_4 n24
      have h_8 := h3.upd u_4 n34
      have hF_9 := hF.put u_4 (Or.inl (Or.inr (Or.inr (Or.inr (Or.inr rfl)))))
      refine lv_aload_n hx hb dX2_type_36 rfl (lv_at hl 0 rfl) ?_
      refine lv_dup hx hb dX2_type_37 rfl ?_
      refine k_get (ci := 2) hx hb hts in_X2 hown hK h_5 rfl 5 (by decide) q1405 (fun _ h9 => h9) rfl dX2_type_38 ?_
      refine k_topi (nI a.2.2.length) (hn5) ?_
      refine lv_iconst (v := 1) hx hb dX2_type_41 (by decide) ?_
      refine lv_iadd hx hb dX2_type_42 ?_
      refine k_topi (nI (a.2.2.length + 1)) (nI_1 _) ?_
      refine k_put (ci := 2) hx hb hts in_X2 tyX2 tyX2_ok nmX2 hown hK hS h_5 rfl 5 (by decide) q1405 (fun _ h9 => h9) rfl (rfl) (rfl) (Nat.le_of_ble_eq_true rfl) dX2_type_43 (fun H_10 locs h_11 u_12 hS => ?_)
      have h_11 : Ob g (A 0) 2 [.ref (A 1), .ref (A 2), .ref (A 3), .int (I 3), .ref (A 4), .int (nI (a.2.2.length + 1)), .int (I 6), .int (I 7), .int (I 8), .int (I 9), .int (I 10), .int (I 11), .int (I 12)] H_10 := h_11
      have h_13 := h_6.upd u_12 (Ne.symm (Ob.neA hK.gg h_5 h_6 (by decide) (by decide)))
      have h_14 := h_7.upd u_12 (Ne.symm (Ob.neA hK.gg h_5 h_7 (by decide) (by decide)))
      have h_15 := h_8.upd u_12 (Ne.symm (Ob.neA hK.gg h_5 h_8 (by decide) (by decide)))
      have h_16 := h_3.upd u_12 (Ne.symm (Ob.neA hK.gg h_5 h_3 (by decide) (by decide)))
      have hF_17 := hF_9.put u_12 (Or.inl (Or.inl rfl))
      refine lv_aload_n hx hb dX2_type_46 rfl (lv_at hl 0 rfl) ?_
      refine k_get (ci := 2) hx hb hts in_X2 hown hK h_11 rfl 5 (by decide) q1405 (fun _ h9 => h9) rfl dX2_type_47 ?_
      exact k_ireti (v := nI (a.2.2.length + 1)) hx hb hret (rfl) hlk hS (Nat.le_of_ble_eq_true rfl) (Nat.le_of_ble_eq_true rfl) (⟨by unfold typeA; rw [if_pos c8, if_neg c20], by unfold typeA; rw [if_pos c8, if_neg c20]; exact ⟨va_up F 4 (upd (F 4) a.2.2.length x), upd I 5 (nI (a.2.2.length + 1)), MAt.mk (F := va_up F 4 (upd (F 4) a.2.2.length x)) (I := upd I 5 (nI (a.2.2.length + 1))) h_11 h_13 h_14 h_15 h_16 n12 n13 n14 n23 n24 n34, hs, hok, hn3, hH, by simp [upd], hT.push x (by omega)⟩, hF_17⟩) dX2_type_50
    · have c20 : a.2.2.length = 60 := (nI_eq (a := a.2.2.length) (b := 60) (by omega) (by omega)).mp c20
      refine lv_ldc (v := (-1000003)) hx hb hown (hts _ q1547) dX2_type_23 ?_
      exact k_ireti (v := (-1000003)) hx hb hret (rfl) hlk hS (Nat.le_of_ble_eq_true rfl) (Nat.le_of_ble_eq_true rfl) (⟨by unfold typeA; rw [if_pos c8, if_pos c20], by unfold typeA; rw [if_pos c8, if_pos c20]; exact ⟨F, I, hM, hR⟩, hF⟩) dX2_type_25
  · have c8 := b2f hz1 c8
    refine lv_ldc (v := (-1000001)) hx hb hown (hts _ q1447) dX2_type_11 ?_
    exact k_ireti (v := (-1000001)) hx hb hret (rfl) hlk hS (Nat.le_of_ble_eq_true rfl) (Nat.le_of_ble_eq_true rfl) (⟨by unfold typeA; rw [if_neg c8], by unfold typeA; rw [if_neg c8]; exact ⟨F, I, hM, hR⟩, hF⟩) dX2_type_13
/-- clearText() -/
theorem mp_clear (l : Launch) (g : GT) {H : Heap} {A : Nat → Nat} {a : AV} (hMR : MR g A a H) : Met l yX2_clearText (ws_ yX2_clearText cX2_clearText 2 (some .int)) ({ frames := 0, cells := 0, slots := 0, locals := 0 } : Room) (va_Pc [.ref (A 0)] (Pre g H)) (Qi g (fun z H1 => z = (clearA a).2 ∧ MR g A (clearA a).1 H1 ∧ Fx (MM A) H H1)) 0 0 (gA g) := by
  refine k_met (cc := cX2_clearText) (nL := 2) (vs := [.ref (A 0)]) (by decide +kernel) (Nat.le_of_ble_eq_true rfl) ?_
  intro p e s m below meth c hH hx hb hret hts hown hlk hml hin hK hS ls hl
  subst hH
  have hown : s.vm.findClass RX2 = some m.cls := hown
  have hl : lv_has ls 2 [(0, .ref (A 0))] := hl
  obtain ⟨F, I, hM, hs, hok, hn3, hH, hn5, hT⟩ := hMR
  obtain ⟨h0, h1, h2, h3, h4, n12, n13, n14, n23, n24, n34⟩ := id hM
  have hF : Fx (MM A) s.heap s.heap := Fx.rf
  have hl20 := hok.1
  have hl6 := hok.2.1
  have hl4 := hH.1
  have hl60 := hT.1
  have hR : MRel F I a := ⟨hs, hok, hn3, hH, hn5, hT⟩
  refine lv_aload_n hx hb dX2_clearText_0 rfl (lv_at hl 0 rfl) ?_
  refine k_get (ci := 2) hx hb hts in_X2 hown hK h0 rfl 5 (by decide) q1405 (fun _ h9 => h9) rfl dX2_clearText_1 ?_
  refine k_topi (nI a.2.2.length) (hn5) ?_
  refine lv_istore_n (lv' := [(1, .int (nI a.2.2.length)), (0, .ref (A 0))]) hx hb dX2_clearText_4 rfl hl (by decide) rfl (fun ls hl => ?_)
  refine lv_aload_n hx hb dX2_clearText_5 rfl (lv_at hl 1 rfl) ?_
  refine lv_iconst (v := nI 0) hx hb dX2_clearText_6 (by decide) ?_
  refine k_put (ci := 2) hx hb hts in_X2 tyX2 tyX2_ok nmX2 hown hK hS h0 rfl 5 (by decide) q1405 (fun _ h9 => h9) rfl (rfl) (rfl) (Nat.le_of_ble_eq_true rfl) dX2_clearText_7 (fun H_1 locs h_2 u_3 hS => ?_)
  have h_2 : Ob g (A 0) 2 [.ref (A 1), .ref (A 2), .ref (A 3), .int (I 3), .ref (A 4), .int (nI 0), .int (I 6), .int (I 7), .int (I 8), .int (I 9), .int (I 10), .int (I 11), .int (I 12)] H_1 := h_2
  have h_4 := h1.upd u_3 (Ne.symm (Ob.neA hK.gg h0 h1 (by decide) (by decide)))
  have h_5 := h2.upd u_3 (Ne.symm (Ob.neA hK.gg h0 h2 (by decide) (by decide)))
  have h_6 := h3.upd u_3 (Ne.symm (Ob.neA hK.gg h0 h3 (by decide) (by decide)))
  have h_7 := h4.upd u_3 (Ne.symm (Ob.neA hK.gg h0 h4 (by decide) (by decide)))
  have hF_8 := hF.put u_3 (Or.inl (Or.inl rfl))
  refine lv_iload_n hx hb dX2_clearText_10 rfl (lv_at hl 0 rfl) ?_
  exact k_ireti (v := nI a.2.2.length) hx hb hret (rfl) hlk hS (Nat.le_of_ble_eq_true rfl) (Nat.le_of_ble_eq_true rfl) (⟨rfl, ⟨F, upd I 5 (nI 0), MAt.mk (F := F) (I := upd I 5 (nI 0)) h_2 h_4 h_5 h_6 h_7 n12 n13 n14 n23 n24 n34, hs, hok, hn3, hH, rfl, ⟨by simp [clearA], fun k hk => absurd hk (by simp [clearA])⟩⟩, hF_8⟩) dX2_clearText_11
/-- undo() -/
theorem mp_undo (l : Launch) (g : GT) {H : Heap} {A : Nat → Nat} {a : AV} (hMR : MR g A a H) : Met l yX2_undo (ws_ yX2_undo cX2_undo 2 (some .int)) ({ frames := 0, cells := 0, slots := 0, locals := 0 } : Room) (va_Pc [.ref (A 0)] (Pre g H)) (Qi g (fun z H1 => z = (undoA a).2 ∧ MR g A (undoA a).1 H1 ∧ Fx (MM A) H H1)) 0 0 (gA g) := by
  refine k_met (cc := cX2_undo) (nL := 2) (vs := [.ref (A 0)]) (by decide +kernel) (Nat.le_of_ble_eq_true rfl) ?_
  intro p e s m below meth c hH hx hb hret hts hown hlk hml hin hK hS ls hl
  subst hH
  have hown : s.vm.findClass RX2 = some m.cls := hown
  have hl : lv_has ls 2 [(0, .ref (A 0))] := hl
  obtain ⟨F, I, hM, hs, hok, hn3, hH, hn5, hT⟩ := hMR
  obtain ⟨h0, h1, h2, h3, h4, n12, n13, n14, n23, n24, n34⟩ := id hM
  have hF : Fx (MM A) s.heap s.heap := Fx.rf
  have hl20 := hok.1
  have hl6 := hok.2.1
  have hl4 := hH.1
  have hl60 := hT.1
  have hR : MRel F I a := ⟨hs, hok, hn3, hH, hn5, hT⟩
  refine lv_aload_n hx hb dX2_undo_0 rfl (lv_at hl 0 rfl) ?_
  refine k_get (ci := 2) hx hb hts in_X2 hown hK h0 rfl 3 (by decide) q1403 (fun _ h9 => h9) rfl dX2_undo_1 ?_
  refine k_topi (nI a.2.1.length) (hn3) ?_
  refine lv_if_ne (tgt := 10) hx hb dX2_undo_4 (by decide) (fun c4 => ?_) (fun c4 => ?_)
  · have c4 : ¬ a.2.1.length = 0 := fun z => c4 (by rw [z]; rfl)
    refine lv_aload_n hx hb dX2_undo_10 rfl (lv_at hl 0 rfl) ?_
    refine lv_dup hx hb dX2_undo_11 rfl ?_
    refine k_get (ci := 2) hx hb hts in_X2 hown hK h0 rfl 3 (by decide) q1403 (fun _ h9 => h9) rfl dX2_undo_12 ?_
    refine k_topi (nI a.2.1.length) (hn3) ?_
    refine lv_iconst (v := nI 1) hx hb dX2_undo_15 (by decide) ?_
    refine lv_isub hx hb dX2_undo_16 ?_
    refine k_topi (nI (a.2.1.length - 1)) (pk_sub (by omega)) ?_
    refine k_put (ci := 2) hx hb hts in_X2 tyX2 tyX2_ok nmX2 hown hK hS h0 rfl 3 (by decide) q1403 (fun _ h9 => h9) rfl (rfl) (rfl) (Nat.le_of_ble_eq_true rfl) dX2_undo_17 (fun H_1 locs h_2 u_3 hS => ?_)
    have h_2 : Ob g (A 0) 2 [.ref (A 1), .ref (A 2), .ref (A 3), .int (nI (a.2.1.length - 1)), .ref (A 4), .int (I 5), .int (I 6), .int (I 7), .int (I 8), .int (I 9), .int (I 10), .int (I 11), .int (I 12)] H_1 := h_2
    have h_4 := h1.upd u_3 (Ne.symm (Ob.neA hK.gg h0 h1 (by decide) (by decide)))
    have h_5 := h2.upd u_3 (Ne.symm (Ob.neA hK.gg h0 h2 (by decide) (by decide)))
    have h_6 := h3.upd u_3 (Ne.symm (Ob.neA hK.gg h0 h3 (by decide) (by decide)))
    have h_7 := h4.upd u_3 (Ne.symm (Ob.neA hK.gg h0 h4 (by decide) (by decide)))
    have hF_8 := hF.put u_3 (Or.inl (Or.inl rfl))
    refine lv_iconst (v := nI 0) hx hb dX2_undo_20 (by decide) ?_
    refine lv_istore_n (lv' := [(1, .int (nI 0)), (0, .ref (A 0))]) hx hb dX2_undo_21 rfl hl (by decide) rfl (fun ls hl => ?_)
    have hM2 := MAt.mk (F := F) (I := upd I 3 (nI (a.2.1.length - 1))) h_2 h_4 h_5 h_6 h_7 n12 n13 n14 n23 n24 n34
    refine w_loop (Inv := fun (k : Nat) H1 locs cells slots ls => k ≤ 369 ∧ MAt g A (va_up F 1 (fun q => if q < k then F 2 (369 * (a.2.1.length - 1) + q) else F 1 q)) (upd I 3 (nI (a.2.1.length - 1))) H1 ∧ Fx (MM A) s.heap H1 ∧ va_S (gA g) s.heap H1 locs ∧ cells = 0 ∧ slots = 0 ∧ lv_has ls 2 [(1, .int (nI k)), (0, .ref (A 0))]) (μ := fun k => 369 - k) ?_ 0 _ _ _ _ _ ⟨Nat.zero_le _, by rw [show (fun q => if q < 0 then F 2 (369 * (a.2.1.length - 1) + q) else F 1 q) = F 1 by funext q; simp, upF_id]; exact hM2, hF_8, hS, rfl, rfl, lv_sub hl [0, 1] rfl⟩
    intro k H1 locs cells slots ls hInv ih
    obtain ⟨hk, hM3, hF, hS, rfl, rfl, hl⟩ := hInv
    obtain ⟨h_9, h_10, h_11, h_12, h_13, -, -, -, -, -, -⟩ := id hM3
    have h_9 : Ob g (A 0) 2 [.ref (A 1), .ref (A 2), .ref (A 3), .int (nI (a.2.1.length - 1)), .ref (A 4), .int (I 5), .int (I 6), .int (I 7), .int (I 8), .int (I 9), .int (I 10), .int (I 11), .int (I 12)] H1 := h_9
    have h_10 : Ar g (A 1) 0 (aI 369 (fun q => if q < k then F 2 (369 * (a.2.1.length - 1) + q) else F 1 q)) H1 := h_10
    refine lv_iload_n hx hb dX2_undo_22 rfl (lv_at hl 0 rfl) ?_
    refine lv_sipush (v := nI 369) hx hb dX2_undo_23 (by decide) ?_
    refine lv_icmp_ge (tgt := 56) hx hb dX2_undo_26 (by decide) (fun c26 => ?_) (fun c26 => ?_)
    · have hk2 : 369 ≤ k := by rcases Nat.lt_or_ge (k) (369) with z | z; exact absurd c26 (nI_ge z (by omega)); exact z
      have hk2 : k = 369 := by omega
      refine lv_aload_n hx hb dX2_undo_56 rfl (lv_at hl 1 rfl) ?_
      refine k_get (ci := 2) hx hb hts in_X2 hown hK h_9 rfl 3 (by decide) q1403 (fun _ h9 => h9) rfl dX2_undo_57 ?_
      exact k_ireti (v := nI (a.2.1.length - 1)) hx hb hret (rfl) hlk hS (Nat.le_of_ble_eq_true rfl) (Nat.le_of_ble_eq_true rfl) (⟨by unfold undoA; rw [if_neg c4], by unfold undoA; rw [if_neg c4]; exact ⟨va_up F 1 (fun q => if q < k then F 2 (369 * (a.2.1.length - 1) + q) else F 1 q), upd I 3 (nI (a.2.1.length - 1)), hM3, (hH.2 (a.2.1.length - 1) (by omega)).1.congr (hH.2 (a.2.1.length - 1) (by omega)).2 (fun q hq => by show _ = (if q < k then _ else _); rw [if_pos (by omega)]), (hH.2 (a.2.1.length - 1) (by omega)).2, by show nI _ = nI _; rw [List.length_dropLast], hH.pop, hn5, hT⟩, hF⟩) dX2_undo_60
    · have hk2 : k < 369 := by rcases Nat.lt_or_ge (k) (369) with z | z; exact z; exact absurd (nI_le z (by omega)) c26
      refine lv_aload_n hx hb dX2_undo_29 rfl (lv_at hl 1 rfl) ?_
      refine k_get (ci := 2) hx hb hts in_X2 hown hK h_9 rfl 0 (by decide) q1400 (fun _ h9 => h9) rfl dX2_undo_30 ?_
      refine lv_iload_n hx hb dX2_undo_33 rfl (lv_at hl 0 rfl) ?_
      refine lv_aload_n hx hb dX2_undo_34 rfl (lv_at hl 1 rfl) ?_
      refine k_get (ci := 2) hx hb hts in_X2 hown hK h_9 rfl 1 (by decide) q1401 (fun _ h9 => h9) rfl dX2_undo_35 ?_
      refine lv_sipush (v := nI 369) hx hb dX2_undo_38 (by decide) ?_
      refine lv_aload_n hx hb dX2_undo_41 rfl (lv_at hl 1 rfl) ?_
      refine k_get (ci := 2) hx hb hts in_X2 hown hK h_9 rfl 3 (by decide) q1403 (fun _ h9 => h9) rfl dX2_undo_42 ?_
      refine lv_imul hx hb dX2_undo_45 ?_
      refine k_topi (nI (369 * (a.2.1.length - 1))) (pk_mul 369 _) ?_
      refine lv_iload_n hx hb dX2_undo_46 rfl (lv_at hl 0 rfl) ?_
      refine lv_iadd hx hb dX2_undo_47 ?_
      refine k_topi (nI (369 * (a.2.1.length - 1) + k)) (nI_add _ k) ?_
      refine k_ildN hx hb hK h_11 (369 * (a.2.1.length - 1) + k) (rfl) (by omega) (by decide) dX2_undo_48 ?_
      refine k_istN hx hb hK hS h_10 (k) (rfl) (by omega) (by decide) dX2_undo_49 (fun H_14 locs h_15 u_16 hS => ?_)
      have h_15 : Ar g (A 1) 0 (aI 369 (upd (fun q => if q < k then F 2 (369 * (a.2.1.length - 1) + q) else F 1 q) k ((F 2) (369 * (a.2.1.length - 1) + k)))) H_14 := h_15
      have h_17 := h_9.upd u_16 (Ob.neA hK.gg h_9 h_10 (by decide) (by decide))
      have h_18 := h_11.upd u_16 (Ne.symm n12)
      have h_19 := h_12.upd u_16 (Ne.symm n13)
      have h_20 := h_13.upd u_16 (Ne.symm n14)
      have hF_21 := hF.put u_16 (Or.inl (Or.inr (Or.inl rfl)))
      refine lv_iinc (v := nI (k + 1)) (lv' := [(1, .int (nI (k + 1))), (0, .ref (A 0))]) hx hb dX2_undo_50 hl (k := 0) rfl (nI_1 k) (by decide) rfl (fun ls hl => ?_)
      refine lv_goto (tgt := 22) hx hb dX2_undo_53 (by decide) ?_
      exact ih (k + 1) _ _ _ _ _ ⟨by omega, by have h9 := MAt.mk (F := va_up F 1 (upd (fun q => if q < k then F 2 (369 * (a.2.1.length - 1) + q) else F 1 q) k (F 2 (369 * (a.2.1.length - 1) + k)))) (I := upd I 3 (nI (a.2.1.length - 1))) h_17 h_15 h_18 h_19 h_20 n12 n13 n14 n23 n24 n34; rw [pre_s (fun q => F 2 (369 * (a.2.1.length - 1) + q)) (F 1) k] at h9; exact h9, hF_21, hS, rfl, rfl, lv_sub hl [0, 1] rfl⟩ (by omega)
  · have c4 : a.2.1.length = 0 := (nI_eq (a := a.2.1.length) (b := 0) (by omega) (by omega)).mp c4
    refine lv_ldc (v := (-1000002)) hx hb hown (hts _ q1491) dX2_undo_7 ?_
    exact k_ireti (v := (-1000002)) hx hb hret (rfl) hlk hS (Nat.le_of_ble_eq_true rfl) (Nat.le_of_ble_eq_true rfl) (⟨by unfold undoA; rw [if_pos c4], by unfold undoA; rw [if_pos c4]; exact ⟨F, I, hM, hR⟩, hF⟩) dX2_undo_9
/-- copies(s, tried) -/
theorem m_save (l : Launch) (g : GT) {H : Heap} {A : Nat → Nat} {F : Nat → Nat → Int32} {I : Nat → Int32} (hM : MAt g A F I H) : Met l yX2_copies (ws_ yX2_copies cX2_copies 3 none) ({ frames := 0, cells := 0, slots := 0, locals := 0 } : Room) (va_Pc [.ref (A 1), .ref (A 3)] (Pre g H)) (Qv g (fun H1 => MAt g A (va_up F 3 (F 1)) I H1 ∧ Fx (MM A) H H1)) 0 0 (gA g) := by
  refine k_met (cc := cX2_copies) (nL := 3) (vs := [.ref (A 1), .ref (A 3)]) (by decide +kernel) (Nat.le_of_ble_eq_true rfl) ?_
  intro p e s m below meth c hH hx hb hret hts hown hlk hml hin hK hS ls hl
  subst hH
  have hown : s.vm.findClass RX2 = some m.cls := hown
  have hl : lv_has ls 3 [(0, .ref (A 1)), (1, .ref (A 3))] := hl
  obtain ⟨h0, h1, h2, h3, h4, n12, n13, n14, n23, n24, n34⟩ := id hM
  have hF : Fx (MM A) s.heap s.heap := Fx.rf
  refine lv_iconst (v := nI 0) hx hb dX2_copies_0 (by decide) ?_
  refine lv_istore_n (lv' := [(2, .int (nI 0)), (0, .ref (A 1)), (1, .ref (A 3))]) hx hb dX2_copies_1 rfl hl (by decide) rfl (fun ls hl => ?_)
  refine w_loop (Inv := fun (k : Nat) H1 locs cells slots ls => k ≤ 369 ∧ MAt g A (va_up F 3 (fun q => if q < k then F 1 q else F 3 q)) I H1 ∧ Fx (MM A) s.heap H1 ∧ va_S (gA g) s.heap H1 locs ∧ cells = 0 ∧ slots = 0 ∧ lv_has ls 3 [(2, .int (nI k)), (0, .ref (A 1)), (1, .ref (A 3))]) (μ := fun k => 369 - k) ?_ 0 _ _ _ _ _ ⟨Nat.zero_le _, by rw [show (fun q => if q < 0 then F 1 q else F 3 q) = F 3 by funext q; simp, upF_id]; exact hM, hF, hS, rfl, rfl, lv_sub hl [0, 1, 2] rfl⟩
  intro k H1 locs cells slots ls hInv ih
  obtain ⟨hk, hM3, hF, hS, rfl, rfl, hl⟩ := hInv
  obtain ⟨h_1, h_2, h_3, h_4, h_5, -, -, -, -, -, -⟩ := id hM3
  have h_1 : Ob g (A 0) 2 [.ref (A 1), .ref (A 2), .ref (A 3), .int (I 3), .ref (A 4), .int (I 5), .int (I 6), .int (I 7), .int (I 8), .int (I 9), .int (I 10), .int (I 11), .int (I 12)] H1 := h_1
  have h_4 : Ar g (A 3) 0 (aI 369 (fun q => if q < k then F 1 q else F 3 q)) H1 := h_4
  refine lv_iload_n hx hb dX2_copies_2 rfl (lv_at hl 0 rfl) ?_
  refine lv_sipush (v := nI 369) hx hb dX2_copies_3 (by decide) ?_
  refine lv_icmp_ge (tgt := 21) hx hb dX2_copies_6 (by decide) (fun c6 => ?_) (fun c6 => ?_)
  · have hk2 : 369 ≤ k := by rcases Nat.lt_or_ge (k) (369) with z | z; exact absurd c6 (nI_ge z (by omega)); exact z
    have hk2 : k = 369 := by omega
    exact k_retv hx hb hret hlk hS (Nat.le_of_ble_eq_true rfl) (Nat.le_of_ble_eq_true rfl) (⟨MAt.ext3 hM3 (fun q hq => by show (if q < k then F 1 q else F 3 q) = _; rw [if_pos (by omega)]), hF⟩) dX2_copies_21
  · have hk2 : k < 369 := by rcases Nat.lt_or_ge (k) (369) with z | z; exact z; exact absurd (nI_le z (by omega)) c6
    refine lv_aload_n hx hb dX2_copies_9 rfl (lv_at hl 2 rfl) ?_
    refine lv_iload_n hx hb dX2_copies_10 rfl (lv_at hl 0 rfl) ?_
    refine lv_aload_n hx hb dX2_copies_11 rfl (lv_at hl 1 rfl) ?_
    refine lv_iload_n hx hb dX2_copies_12 rfl (lv_at hl 0 rfl) ?_
    refine k_ildN hx hb hK h_2 (k) (rfl) (by omega) (by decide) dX2_copies_13 ?_
    refine k_istN hx hb hK hS h_4 (k) (rfl) (by omega) (by decide) dX2_copies_14 (fun H_6 locs h_7 u_8 hS => ?_)
    have h_7 : Ar g (A 3) 0 (aI 369 (upd (fun q => if q < k then F 1 q else F 3 q) k ((F 1) k))) H_6 := h_7
    have h_9 := h_1.upd u_8 (Ob.neA hK.gg h_1 h_4 (by decide) (by decide))
    have h_10 := h_2.upd u_8 n13
    have h_11 := h_3.upd u_8 n23
    have h_12 := h_5.upd u_8 (Ne.symm n34)
    have hF_13 := hF.put u_8 (Or.inl (Or.inr (Or.inr (Or.inr (Or.inl rfl)))))
    refine lv_iinc (v := nI (k + 1)) (lv' := [(2, .int (nI (k + 1))), (0, .ref (A 1)), (1, .ref (A 3))]) hx hb dX2_copies_15 hl (k := 0) rfl (nI_1 k) (by decide) rfl (fun ls hl => ?_)
    refine lv_goto (tgt := 2) hx hb dX2_copies_18 (by decide) ?_
    exact ih (k + 1) _ _ _ _ _ ⟨by omega, by have h9 := MAt.mk (F := va_up F 3 (upd (fun q => if q < k then F 1 q else F 3 q) k (F 1 k))) (I := I) h_9 h_10 h_11 h_7 h_12 n12 n13 n14 n23 n24 n34; rw [pre_s (F 1) (F 3) k] at h9; exact h9, hF_13, hS, rfl, rfl, lv_sub hl [0, 1, 2] rfl⟩ (by omega)
/-- copies(tried, s) -/
theorem m_rest (l : Launch) (g : GT) {H : Heap} {A : Nat → Nat} {F : Nat → Nat → Int32} {I : Nat → Int32} (hM : MAt g A F I H) : Met l yX2_copies (ws_ yX2_copies cX2_copies 3 none) ({ frames := 0, cells := 0, slots := 0, locals := 0 } : Room) (va_Pc [.ref (A 3), .ref (A 1)] (Pre g H)) (Qv g (fun H1 => MAt g A (va_up F 1 (F 3)) I H1 ∧ Fx (MM A) H H1)) 0 0 (gA g) := by
  refine k_met (cc := cX2_copies) (nL := 3) (vs := [.ref (A 3), .ref (A 1)]) (by decide +kernel) (Nat.le_of_ble_eq_true rfl) ?_
  intro p e s m below meth c hH hx hb hret hts hown hlk hml hin hK hS ls hl
  subst hH
  have hown : s.vm.findClass RX2 = some m.cls := hown
  have hl : lv_has ls 3 [(0, .ref (A 3)), (1, .ref (A 1))] := hl
  obtain ⟨h0, h1, h2, h3, h4, n12, n13, n14, n23, n24, n34⟩ := id hM
  have hF : Fx (MM A) s.heap s.heap := Fx.rf
  refine lv_iconst (v := nI 0) hx hb dX2_copies_0 (by decide) ?_
  refine lv_istore_n (lv' := [(2, .int (nI 0)), (0, .ref (A 3)), (1, .ref (A 1))]) hx hb dX2_copies_1 rfl hl (by decide) rfl (fun ls hl => ?_)
  refine w_loop (Inv := fun (k : Nat) H1 locs cells slots ls => k ≤ 369 ∧ MAt g A (va_up F 1 (fun q => if q < k then F 3 q else F 1 q)) I H1 ∧ Fx (MM A) s.heap H1 ∧ va_S (gA g) s.heap H1 locs ∧ cells = 0 ∧ slots = 0 ∧ lv_has ls 3 [(2, .int (nI k)), (0, .ref (A 3)), (1, .ref (A 1))]) (μ := fun k => 369 - k) ?_ 0 _ _ _ _ _ ⟨Nat.zero_le _, by rw [show (fun q => if q < 0 then F 3 q else F 1 q) = F 1 by funext q; simp, upF_id]; exact hM, hF, hS, rfl, rfl, lv_sub hl [0, 1, 2] rfl⟩
  intro k H1 locs cells slots ls hInv ih
  obtain ⟨hk, hM3, hF, hS, rfl, rfl, hl⟩ := hInv
  obtain ⟨h_1, h_2, h_3, h_4, h_5, -, -, -, -, -, -⟩ := id hM3
  have h_1 : Ob g (A 0) 2 [.ref (A 1), .ref (A 2), .ref (A 3), .int (I 3), .ref (A 4), .int (I 5), .int (I 6), .int (I 7), .int (I 8), .int (I 9), .int (I 10), .int (I 11), .int (I 12)] H1 := h_1
  have h_2 : Ar g (A 1) 0 (aI 369 (fun q => if q < k then F 3 q else F 1 q)) H1 := h_2
  refine lv_iload_n hx hb dX2_copies_2 rfl (lv_at hl 0 rfl) ?_
  refine lv_sipush (v := nI 369) hx hb dX2_copies_3 (by decide) ?_
  refine lv_icmp_ge (tgt := 21) hx hb dX2_copies_6 (by decide) (fun c6 => ?_) (fun c6 => ?_)
  · have hk2 : 369 ≤ k := by rcases Nat.lt_or_ge (k) (369) with z | z; exact absurd c6 (nI_ge z (by omega)); exact z
    have hk2 : k = 369 := by omega
    exact k_retv hx hb hret hlk hS (Nat.le_of_ble_eq_true rfl) (Nat.le_of_ble_eq_true rfl) (⟨MAt.ext1 hM3 (fun q hq => by show (if q < k then F 3 q else F 1 q) = _; rw [if_pos (by omega)]), hF⟩) dX2_copies_21
  · have hk2 : k < 369 := by rcases Nat.lt_or_ge (k) (369) with z | z; exact z; exact absurd (nI_le z (by omega)) c6
    refine lv_aload_n hx hb dX2_copies_9 rfl (lv_at hl 2 rfl) ?_
    refine lv_iload_n hx hb dX2_copies_10 rfl (lv_at hl 0 rfl) ?_
    refine lv_aload_n hx hb dX2_copies_11 rfl (lv_at hl 1 rfl) ?_
    refine lv_iload_n hx hb dX2_copies_12 rfl (lv_at hl 0 rfl) ?_
    refine k_ildN hx hb hK h_4 (k) (rfl) (by omega) (by decide) dX2_copies_13 ?_
    refine k_istN hx hb hK hS h_2 (k) (rfl) (by omega) (by decide) dX2_copies_14 (fun H_6 locs h_7 u_8 hS => ?_)
    have h_7 : Ar g (A 1) 0 (aI 369 (upd (fun q => if q < k then F 3 q else F 1 q) k ((F 3) k))) H_6 := h_7
    have h_9 := h_1.upd u_8 (Ob.neA hK.gg h_1 h_2 (by decide) (by decide))
    have h_10 := h_3.upd u_8 (Ne.symm n12)
    have h_11 := h_4.upd u_8 (Ne.symm n13)
    have h_12 := h_5.upd u_8 (Ne.symm n14)
    have hF_13 := hF.put u_8 (Or.inl (Or.inr (Or.inl rfl)))
    refine lv_iinc (v := nI (k + 1)) (lv' := [(2, .int (nI (k + 1))), (0, .ref (A 3)), (1, .ref (A 1))]) hx hb dX2_copies_15 hl (k := 0) rfl (nI_1 k) (by decide) rfl (fun ls hl => ?_)
    refine lv_goto (tgt := 2) hx hb dX2_copies_18 (by decide) ?_
    exact ih (k + 1) _ _ _ _ _ ⟨by omega, by have h9 := MAt.mk (F := va_up F 1 (upd (fun q => if q < k then F 3 q else F 1 q) k (F 3 k))) (I := I) h_9 h_7 h_10 h_11 h_12 n12 n13 n14 n23 n24 n34; rw [pre_s (F 3) (F 1) k] at h9; exact h9, hF_13, hS, rfl, rfl, lv_sub hl [0, 1, 2] rfl⟩ (by omega)
