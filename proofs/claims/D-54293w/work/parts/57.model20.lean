/-! ===== HandBlindsModel: cut (printed by tools/model20.py) ===== -/
set_option maxRecDepth 100000
theorem updN (f : Nat → Int32) {k q : Nat} (x : Int32) (h : q ≠ k) : upd f k x q = f q := if_neg h
theorem upd0 (f : Nat → Int32) (k : Nat) (x : Int32) : upd f k x k = x := if_pos rfl
def cutbits (x i : Nat) : Nat := x % 2 ^ i + x / 2 ^ (i + 1) * 2 ^ i
def cutI (i : Nat) (x : Nat) : Nat := cutbits x i
theorem cutI_eq {x i : Nat} (hx : x < 2 ^ 20) (hi : i < 20) : (nI x &&& ((1 <<< (nI i &&& 31)) - 1)) ||| ((nI x >>> ((nI i + 1) &&& 31)) <<< (nI i &&& 31)) = nI (cutbits x i) := by
  have hp : 2 ^ i ≤ 2 ^ 19 := Nat.pow_le_pow_right (by omega) (by omega)
  have hp0 : 0 < 2 ^ i := Nat.two_pow_pos i
  have e1 : (1 : Int32) <<< (nI i &&& 31) - 1 = nI (2 ^ i - 1) := by rw [nI_shl1 (by omega)]; exact pk_sub (b := 1) (by omega)
  have e2 : nI i + 1 = nI (i + 1) := nI_1 i
  have e3 : nI x >>> (nI (i + 1) &&& 31) = nI (x / 2 ^ (i + 1)) := pk_shrN (by omega) _ (i + 1) (sl32 (i + 1) (by omega))
  have hb : x / 2 ^ (i + 1) * 2 ^ i ≤ x := by
    have h1 : x / 2 ^ (i + 1) * 2 ^ (i + 1) ≤ x := Nat.div_mul_le_self _ _
    have h2 : x / 2 ^ (i + 1) * 2 ^ i ≤ x / 2 ^ (i + 1) * 2 ^ (i + 1) := Nat.mul_le_mul_left _ (Nat.pow_le_pow_right (by omega) (by omega))
    omega
  have e4 : nI (x / 2 ^ (i + 1)) <<< (nI i &&& 31) = nI (x / 2 ^ (i + 1) * 2 ^ i) := pk_shlN _ i (sl32 i (by omega)) (by omega)
  rw [e1, e2, e3, e4, nI_and, nI_or, Nat.and_two_pow_sub_one_eq_mod]
  congr 1
  unfold cutbits
  have h5 := Nat.shiftLeft_add_eq_or_of_lt (i := i) (b := x % 2 ^ i) (Nat.mod_lt _ hp0) (x / 2 ^ (i + 1))
  rw [Nat.shiftLeft_eq] at h5
  rw [Nat.or_comm, ← h5, Nat.add_comm]
theorem cutbits_lt {x i : Nat} (hx : x < 2 ^ 20) (hi : i < 20) : cutbits x i < 2 ^ 20 := by
  unfold cutbits
  have h1 : x / 2 ^ (i + 1) * 2 ^ (i + 1) ≤ x := Nat.div_mul_le_self _ _
  have h3 : x % 2 ^ i ≤ x % 2 ^ (i + 1) := by
    have hd : 2 ^ i ∣ 2 ^ (i + 1) := Nat.pow_dvd_pow 2 (by omega)
    rw [← Nat.mod_mod_of_dvd x hd]
    exact Nat.mod_le _ _
  have h4 := Nat.mod_add_div x (2 ^ (i + 1))
  have h2 : x / 2 ^ (i + 1) * 2 ^ i ≤ x / 2 ^ (i + 1) * 2 ^ (i + 1) := Nat.mul_le_mul_left _ (Nat.pow_le_pow_right (by omega) (by omega))
  rw [Nat.mul_comm] at h4
  omega
/-- cells from lo on come from seventeen behind -/
def shF (f : Nat → Int32) (lo c : Nat) : Nat → Int32 := fun q => if lo ≤ q ∧ q < lo + c then f (q + 17) else f q
theorem shF_out (f : Nat → Int32) (lo c : Nat) {q : Nat} (h : ¬ (lo ≤ q ∧ q < lo + c)) : shF f lo c q = f q := if_neg h
theorem shF_in (f : Nat → Int32) (lo c : Nat) {q : Nat} (h : lo ≤ q ∧ q < lo + c) : shF f lo c q = f (q + 17) := if_pos h
theorem shF_0 (f : Nat → Int32) (lo : Nat) : shF f lo 0 = f := by funext q; unfold shF; rw [if_neg (by omega)]
theorem shF_lo (f : Nat → Int32) (i c : Nat) {q : Nat} (h : q < 11) : shF f (11 + 17 * i) c q = f q := by unfold shF; rw [if_neg (by omega)]
theorem shF_hi (f : Nat → Int32) (lo c : Nat) {q : Nat} (h : lo + c ≤ q) : shF f lo c q = f q := by unfold shF; rw [if_neg (by omega)]
theorem shF_s (f : Nat → Int32) (lo c : Nat) : upd (shF f lo c) (lo + c) (f (lo + c + 17)) = shF f lo (c + 1) := by
  funext q
  unfold upd shF
  by_cases h1 : q = lo + c
  · subst h1; rw [if_pos rfl, if_pos (by omega)]
  · rw [if_neg h1]
    by_cases h2 : lo ≤ q ∧ q < lo + c
    · rw [if_pos h2, if_pos (by omega)]
    · rw [if_neg h2, if_neg (by omega)]
def cutSh (b : BV) (i : Nat) : Int32 := if nI i < b.2.2 3 ∨ (b.2.2 3 = nI (b.1.length - 1) ∧ 0 < b.2.2 3) then b.2.2 3 - 1 else b.2.2 3
def cutR (b : BV) (i : Nat) : BV := (b.1.eraseIdx i, b.2.1, upd b.2.2 3 (cutSh b i))
def cutB (b : BV) (i : Nat) : BV := mapRt (cutR b i) (cutI i)
def cutV (b : BV) (x : Int32) : Option BV × Int32 := if 0 ≤ x ∧ x < nI b.1.length then (some (cutB b x.toNatClampNeg), if b.1.length = 1 then -1 else cutSh b x.toNatClampNeg) else (none, -1000001)
/-- the row shown, as the model tells it -/
def cutW (b : BV) (i : Nat) : Int32 := if nI i < b.2.2 3 ∨ b.2.2 3 = nI (b.1.length - 1) then b.2.2 3 - 1 else b.2.2 3
theorem cutW_eq {b : BV} {i : Nat} (hok : okB b) (hi : i < b.1.length) : cutW b i = if b.1.length = 1 then -1 else cutSh b i := by
  obtain ⟨sh, hsh, hsh2⟩ := hok.2.2.2.2.1
  have hl := hok.1
  have hsh2 : sh < b.1.length := by omega
  unfold cutW cutSh
  rw [hsh]
  by_cases h1 : b.1.length = 1
  · rw [if_pos h1, if_pos (Or.inr (by rw [h1]; congr 1; omega)), show sh = 0 by omega]; rfl
  · rw [if_neg h1]
    by_cases h2 : nI i < nI sh
    · rw [if_pos (Or.inl h2), if_pos (Or.inl h2)]
    · by_cases h3 : nI sh = nI (b.1.length - 1)
      · have h4 : sh = b.1.length - 1 := (nI_eq (by omega) (by omega)).mp h3
        rw [if_pos (Or.inr h3), if_pos (Or.inr ⟨h3, nI_lt (a := 0) (by omega) (by omega)⟩)]
      · rw [if_neg (fun h => h.elim h2 h3), if_neg (fun h => h.elim h2 (fun h => h3 h.1))]
theorem cutR_len {b : BV} {i : Nat} (hi : i < b.1.length) : (cutR b i).1.length = b.1.length - 1 := by
  unfold cutR; simp [List.length_eraseIdx, hi]
theorem rowV_cut {b : BV} {i : Nat} (r : Nat) : rowV (cutR b i) r = if r < i then rowV b r else rowV b (r + 1) := by
  unfold rowV cutR
  simp only [List.getD_eq_getElem?_getD, List.getElem?_eraseIdx]
  split <;> rfl
theorem cutSh_nat {b : BV} {i : Nat} (hok : okB b) (hi : i < b.1.length) : ∃ s, cutSh b i = nI s ∧ (s < b.1.length - 1 ∨ b.1.length - 1 = 0 ∧ s = 0) := by
  obtain ⟨sh, hsh, hsh2⟩ := hok.2.2.2.2.1
  have hl := hok.1
  have hsh2 : sh < b.1.length := by omega
  unfold cutSh
  rw [hsh]
  by_cases h : nI i < nI sh ∨ (nI sh = nI (b.1.length - 1) ∧ 0 < nI sh)
  · rw [if_pos h]
    have hp : 0 < sh := by
      rcases h with h | h
      · have := (nI_ltI (by omega) (by omega)).mp h; omega
      · exact (nI_ltI (a := 0) (by omega) (by omega)).mp h.2
    refine ⟨sh - 1, ?_, ?_⟩
    · exact pk_sub (b := 1) (by omega)
    · rcases h with h | h
      · have := (nI_ltI (by omega) (by omega)).mp h; omega
      · have := (nI_eq (by omega) (by omega)).mp h.1; omega
  · rw [if_neg h]
    refine ⟨sh, rfl, ?_⟩
    by_cases e : sh = b.1.length - 1
    · right
      refine ⟨?_, ?_⟩
      · rcases Nat.eq_zero_or_pos sh with z | z
        · omega
        · exact absurd (Or.inr ⟨by rw [e], nI_lt (a := 0) z (by omega)⟩) h
      · rcases Nat.eq_zero_or_pos sh with z | z
        · exact z
        · exact absurd (Or.inr ⟨by rw [e], nI_lt (a := 0) z (by omega)⟩) h
    · left; omega
theorem okB_cutR {b : BV} {i : Nat} (hok : okB b) (hi : i < b.1.length) : okB (cutR b i) := by
  have hn := cutSh_nat hok hi
  obtain ⟨h1, h2, h3, h4, h5, h6, h7⟩ := hok
  refine ⟨by rw [cutR_len hi]; omega, h2, fun r hr => ?_, h4, ?_, h6, h7⟩
  · rw [cutR_len hi] at hr
    rw [rowV_cut]
    split
    · exact h3 r (by omega)
    · exact h3 (r + 1) (by omega)
  · obtain ⟨s, a, z⟩ := hn
    exact ⟨s, a, by rw [cutR_len hi]; exact z⟩
theorem okB_cut {b : BV} {i : Nat} (hok : okB b) (hi : i < b.1.length) : okB (cutB b i) := by
  have := hok.1
  exact okB_map (okB_cutR hok hi) (fun x hx => cutbits_lt hx (by omega))
theorem rtF_upd (f : Nat → Int32) (p : Nat → Nat) (n : Nat) (x : Int32) : upd (rtF f p n) 1 x = rtF (upd f 1 x) p n := by
  funext q
  unfold rtF upd
  by_cases h : q = 1
  · subst h; rw [if_pos rfl, if_neg (by omega), if_pos rfl]
  · rw [if_neg h, if_neg h]
theorem SRel_cutR {f : Nat → Int32} {b : BV} {i : Nat} (h : SRel f b) (hok : okB b) (hi : i < b.1.length) : SRel (upd (shF (upd f 0 (nI (b.1.length - 1))) (11 + 17 * i) (17 * (b.1.length - 1 - i))) 1 (cutW b i)) (cutR b i) := by
  have n20 := hok.1
  have n6 := hok.2.1
  have lo : ∀ q, q ≠ 0 → q ≠ 1 → q < 11 + 17 * i ∨ 11 + 17 * (b.1.length - 1) ≤ q → upd (shF (upd f 0 (nI (b.1.length - 1))) (11 + 17 * i) (17 * (b.1.length - 1 - i))) 1 (cutW b i) q = f q := by
    intro q q0 q1 hq
    rw [updN _ _ q1, shF_out _ _ _ (by omega), updN _ _ q0]
  have mid : ∀ q, 11 + 17 * i ≤ q → q < 11 + 17 * (b.1.length - 1) → upd (shF (upd f 0 (nI (b.1.length - 1))) (11 + 17 * i) (17 * (b.1.length - 1 - i))) 1 (cutW b i) q = f (q + 17) := by
    intro q q0 q1
    rw [updN _ _ (by omega), shF_in _ _ _ (by omega), updN _ _ (by omega)]
  refine ⟨?_, ?_, (lo 2 (by omega) (by omega) (Or.inl (by omega))).trans h.rts, (lo 3 (by omega) (by omega) (Or.inl (by omega))).trans h.on, (lo 4 (by omega) (by omega) (Or.inl (by omega))).trans h.c4, (lo 5 (by omega) (by omega) (Or.inl (by omega))).trans h.c5, (lo 6 (by omega) (by omega) (Or.inl (by omega))).trans h.c6, (lo 7 (by omega) (by omega) (Or.inl (by omega))).trans h.c7, (lo 8 (by omega) (by omega) (Or.inl (by omega))).trans h.w, (lo 9 (by omega) (by omega) (Or.inl (by omega))).trans h.c9, (lo 10 (by omega) (by omega) (Or.inl (by omega))).trans h.c10, fun r hr => ?_, fun r hr => ?_⟩
  · rw [cutR_len hi]
    rw [updN _ _ (by omega), shF_out _ _ _ (by omega), upd0]
  · rw [cutR_len hi]
    show cutW b i = if b.1.length - 1 = 0 then -1 else cutSh b i
    rw [cutW_eq hok hi]
    by_cases e : b.1.length = 1
    · rw [if_pos e, if_pos (by omega)]
    · rw [if_neg e, if_neg (by omega)]
  · rw [cutR_len hi] at hr
    rw [rowV_cut]
    by_cases e : r < i
    · rw [if_pos e]
      exact (h.row (by omega)).congr (hok.name (by omega)).2 (fun q q1 q2 => lo q (by omega) (by omega) (Or.inl (by omega)))
    · rw [if_neg e]
      have h14 := (hok.name (r := r + 1) (by omega)).2
      obtain ⟨a, b1, c, d⟩ := h.row (r := r + 1) (by omega)
      refine ⟨?_, ?_, ?_, fun k hk => ?_⟩
      · rw [mid _ (by omega) (by omega), show 11 + 17 * r + 17 = 11 + 17 * (r + 1) by omega]; exact a
      · rw [mid _ (by omega) (by omega), show 12 + 17 * r + 17 = 12 + 17 * (r + 1) by omega]; exact b1
      · rw [mid _ (by omega) (by omega), show 13 + 17 * r + 17 = 13 + 17 * (r + 1) by omega]; exact c
      · rw [mid _ (by omega) (by omega), show 14 + 17 * r + k + 17 = 14 + 17 * (r + 1) + k by omega]; exact d k hk
  · have hr : r < b.2.1.length := hr
    exact (h.rt hr).congr (fun q q1 q2 => lo q (by omega) (by omega) (Or.inr (by omega)))
theorem SRel_cut {f : Nat → Int32} {b : BV} {i : Nat} (h : SRel f b) (hok : okB b) (hi : i < b.1.length) : SRel (upd (rtF (shF (upd f 0 (nI (b.1.length - 1))) (11 + 17 * i) (17 * (b.1.length - 1 - i))) (cutI i) b.2.1.length) 1 (cutW b i)) (cutB b i) := by
  rw [rtF_upd]
  exact SRel_map (cutI i) (SRel_cutR h hok hi) (okB_cutR hok hi)
/-- cut(row) -/
theorem mp_cut (l : Launch) (g : GT) {H : Heap} {A : Nat → Nat} {a : AV} (x : Int32) (hMR : MR g A a H) : Met l yX2_cut (ws_ yX2_cut cX2_cut 3 (some .int)) ({ frames := 1, cells := 0, slots := 0, locals := 22 } : Room) (va_Pc [.ref (A 0), .int x] (Pre g H)) (Qi g (fun z H1 => z = (ordA a (cutV a.1 x)).2 ∧ MR g A (ordA a (cutV a.1 x)).1 H1 ∧ Fx (MM A) H H1)) 0 0 (gA g) := by
  refine k_met (cc := cX2_cut) (nL := 3) (vs := [.ref (A 0), .int x]) (by decide +kernel) (Nat.le_of_ble_eq_true rfl) ?_
  intro p e s m below meth c hH hx hb hret hts hown hlk hml hin hK hS ls hl
  subst hH
  have hown : s.vm.findClass RX2 = some m.cls := hown
  have hl : lv_has ls 3 [(0, .ref (A 0)), (1, .int x)] := hl
  obtain ⟨F, I, hM, hs, hok, hn3, hH, hn5, hT⟩ := hMR
  obtain ⟨h0, h1, h2, h3, h4, n12, n13, n14, n23, n24, n34⟩ := id hM
  have hF : Fx (MM A) s.heap s.heap := Fx.rf
  have hl20 := hok.1
  have hl6 := hok.2.1
  have hl4 := hH.1
  have hl60 := hT.1
  have hR : MRel F I a := ⟨hs, hok, hn3, hH, hn5, hT⟩
  refine lv_aload_n hx hb dX2_cut_0 rfl (lv_at hl 0 rfl) ?_
  refine lv_iload_n hx hb dX2_cut_1 rfl (lv_at hl 1 rfl) ?_
  refine k_calliS (va_runV (As := [.int x]) (rest := []) ⟨hx, hb, hml, hown, hts⟩ (m_isRow l g x hM) (cwV 1 hts (lw_V q1500 q1502 qs30 q56 q1503) rfl rfl rfl hdV_X2_isRow ⟨Nat.le_of_ble_eq_true rfl, Nat.le_of_ble_eq_true rfl⟩) (preV hK hS h0 rfl) rfl rfl hl.1 rfl (lv_room (Nat.le_of_ble_eq_true rfl)) dX2_cut_2 ⟨Nat.le_of_ble_eq_true rfl, Nat.le_of_ble_eq_true rfl⟩) hS (fun z1 locs hz1 hS => ?_)
  refine lv_if_ne (tgt := 11) hx hb dX2_cut_5 (by decide) (fun c5 => ?_) (fun c5 => ?_)
  · have c5 := b2t hz1 c5
    rw [hs.rows] at c5
    have c5V := c5
    obtain ⟨i, hi, rfl⟩ := row_nat c5 (by omega)
    obtain ⟨sh, hsh, hsh2⟩ := hok.2.2.2.2.1
    have hsh2 : sh < a.1.1.length := by omega
    refine lv_aload_n hx hb dX2_cut_11 rfl (lv_at hl 0 rfl) ?_
    refine k_callv (va_runV (As := []) (rest := []) ⟨hx, hb, hml, hown, hts⟩ (m_changes l g a.2.1.length hM hn3 hH.1) (cwV 0 hts (lw_V q1492 q1494 qs29 q56 q1495) rfl rfl rfl hdV_X2_changes ⟨Nat.le_of_ble_eq_true rfl, Nat.le_of_ble_eq_true rfl⟩) (preV hK hS h0 rfl) rfl rfl hl.1 rfl (lv_room (Nat.le_of_ble_eq_true rfl)) dX2_cut_12 ⟨Nat.le_of_ble_eq_true rfl, Nat.le_of_ble_eq_true rfl⟩) hS (fun H_2 locs hp1 hS => ?_)
    obtain ⟨hF2, hM1⟩ := hp1
    have hF := hF.trans hF2 (fun q _ h => h)
    have hM1 : MAt g A (va_up (va_up F 2 (chg (F 2) (F 1) a.2.1.length)) 1 (F 1)) (upd I 3 (nI (if a.2.1.length = 4 then 4 else a.2.1.length + 1))) H_2 := by rw [show va_up (va_up F 2 (chg (F 2) (F 1) a.2.1.length)) 1 (F 1) = (va_up F 2 (chg (F 2) (F 1) a.2.1.length)) from upF_id (va_up F 2 (chg (F 2) (F 1) a.2.1.length)) 1]; exact hM1
    obtain ⟨h_3, h_4, h_5, h_6, h_7, -, -, -, -, -, -⟩ := id hM1
    have h_3 : Ob g (A 0) 2 [.ref (A 1), .ref (A 2), .ref (A 3), .int (nI (if a.2.1.length = 4 then 4 else a.2.1.length + 1)), .ref (A 4), .int (I 5), .int (I 6), .int (I 7), .int (I 8), .int (I 9), .int (I 10), .int (I 11), .int (I 12)] H_2 := h_3
    have h_4 : Ar g (A 1) 0 (aI 369 (F 1)) H_2 := h_4
    have h_5 : Ar g (A 2) 0 (aI 1476 (chg (F 2) (F 1) a.2.1.length)) H_2 := h_5
    refine lv_aload_n hx hb dX2_cut_15 rfl (lv_at hl 0 rfl) ?_
    refine k_get (ci := 2) hx hb hts in_X2 hown hK h_3 rfl 0 (by decide) q1400 (fun _ h9 => h9) rfl dX2_cut_16 ?_
    refine lv_iconst (v := nI 0) hx hb dX2_cut_19 (by decide) ?_
    refine lv_dup2_11 hx hb dX2_cut_20 rfl rfl ?_
    refine k_ildN hx hb hK h_4 (0) (rfl) (by omega) (by decide) dX2_cut_21 ?_
    refine k_topi (nI a.1.1.length) (hs.rows) ?_
    refine lv_iconst (v := nI 1) hx hb dX2_cut_22 (by decide) ?_
    refine lv_isub hx hb dX2_cut_23 ?_
    refine k_topi (nI (a.1.1.length - 1)) (pk_sub (by omega)) ?_
    refine k_istN hx hb hK hS h_4 (0) (rfl) (by omega) (by decide) dX2_cut_24 (fun H_8 locs h_9 u_10 hS => ?_)
    have h_9 : Ar g (A 1) 0 (aI 369 (upd (F 1) 0 (nI (a.1.1.length - 1)))) H_8 := h_9
    have h_11 := h_3.upd u_10 (Ob.neA hK.gg h_3 h_4 (by decide) (by decide))
    have h_12 := h_5.upd u_10 (Ne.symm n12)
    have h_13 := h_6.upd u_10 (Ne.symm n13)
    have h_14 := h_7.upd u_10 (Ne.symm n14)
    have hF_15 := hF.put u_10 (Or.inl (Or.inr (Or.inl rfl)))
    refine lv_bipush (v := nI 11) hx hb dX2_cut_25 (by decide) ?_
    refine lv_bipush (v := nI 17) hx hb dX2_cut_27 (by decide) ?_
    refine lv_iload_n hx hb dX2_cut_29 rfl (lv_at hl 1 rfl) ?_
    refine lv_imul hx hb dX2_cut_30 ?_
    refine k_topi (nI (17 * i)) (pk_mul 17 i) ?_
    refine lv_iadd hx hb dX2_cut_31 ?_
    refine k_topi (nI (11 + 17 * i)) (nI_add 11 _) ?_
    refine lv_istore_n (lv' := [(2, .int (nI (11 + 17 * i))), (0, .ref (A 0)), (1, .int (nI i))]) hx hb dX2_cut_32 rfl hl (by decide) rfl (fun ls hl => ?_)
    have hM2 := MAt.mk (F := va_up (va_up F 2 (chg (F 2) (F 1) a.2.1.length)) 1 ((upd (F 1) 0 (nI (a.1.1.length - 1))))) (I := upd I 3 (nI (if a.2.1.length = 4 then 4 else a.2.1.length + 1))) h_11 h_9 h_12 h_13 h_14 n12 n13 n14 n23 n24 n34
    refine w_loop (Inv := fun (c : Nat) H1 locs cells slots ls => 17 * i + c ≤ 17 * (a.1.1.length - 1) ∧ MAt g A (va_up (va_up F 2 (chg (F 2) (F 1) a.2.1.length)) 1 (shF (upd (F 1) 0 (nI (a.1.1.length - 1))) (11 + 17 * i) c)) (upd I 3 (nI (if a.2.1.length = 4 then 4 else a.2.1.length + 1))) H1 ∧ Fx (MM A) s.heap H1 ∧ va_S (gA g) s.heap H1 locs ∧ cells = 0 ∧ slots = 0 ∧ lv_has ls 3 [(2, .int (nI (11 + 17 * i + c))), (0, .ref (A 0)), (1, .int (nI i))]) (μ := fun c => 17 * (a.1.1.length - 1) - 17 * i - c) ?_ 0 _ _ _ _ _ ⟨by omega, by rw [shF_0]; exact hM2, hF_15, hS, rfl, rfl, lv_sub hl [0, 1, 2] rfl⟩
    intro c H1 locs cells slots ls hInv ih
    obtain ⟨hc, hM3, hF, hS, rfl, rfl, hl⟩ := hInv
    obtain ⟨h_16, h_17, h_18, h_19, h_20, -, -, -, -, -, -⟩ := id hM3
    have h_16 : Ob g (A 0) 2 [.ref (A 1), .ref (A 2), .ref (A 3), .int (nI (if a.2.1.length = 4 then 4 else a.2.1.length + 1)), .ref (A 4), .int (I 5), .int (I 6), .int (I 7), .int (I 8), .int (I 9), .int (I 10), .int (I 11), .int (I 12)] H1 := h_16
    have h_17 : Ar g (A 1) 0 (aI 369 (shF (upd (F 1) 0 (nI (a.1.1.length - 1))) (11 + 17 * i) c)) H1 := h_17
    have h_18 : Ar g (A 2) 0 (aI 1476 (chg (F 2) (F 1) a.2.1.length)) H1 := h_18
    refine lv_iload_n hx hb dX2_cut_33 rfl (lv_at hl 0 rfl) ?_
    refine lv_bipush (v := nI 11) hx hb dX2_cut_34 (by decide) ?_
    refine lv_bipush (v := nI 17) hx hb dX2_cut_36 (by decide) ?_
    refine lv_aload_n hx hb dX2_cut_38 rfl (lv_at hl 1 rfl) ?_
    refine k_get (ci := 2) hx hb hts in_X2 hown hK h_16 rfl 0 (by decide) q1400 (fun _ h9 => h9) rfl dX2_cut_39 ?_
    refine lv_iconst (v := nI 0) hx hb dX2_cut_42 (by decide) ?_
    refine k_ildN hx hb hK h_17 (0) (rfl) (by omega) (by decide) dX2_cut_43 ?_
    refine k_topi (nI (a.1.1.length - 1)) (by rw [shF_lo _ _ _ (by omega)]; rfl) ?_
    refine lv_imul hx hb dX2_cut_44 ?_
    refine k_topi (nI (17 * (a.1.1.length - 1))) (pk_mul 17 _) ?_
    refine lv_iadd hx hb dX2_cut_45 ?_
    refine k_topi (nI (11 + 17 * (a.1.1.length - 1))) (nI_add 11 _) ?_
    refine lv_icmp_ge (tgt := 70) hx hb dX2_cut_46 (by decide) (fun c46 => ?_) (fun c46 => ?_)
    · have hc2 : 11 + 17 * (a.1.1.length - 1) ≤ 11 + 17 * i + c := by rcases Nat.lt_or_ge (11 + 17 * i + c) (11 + 17 * (a.1.1.length - 1)) with z | z; exact absurd c46 (nI_ge z (by omega)); exact z
      have hc2 : c = 17 * (a.1.1.length - 1 - i) := by omega
      refine lv_iconst (v := nI 0) hx hb dX2_cut_70 (by decide) ?_
      refine lv_istore_n (lv' := [(2, .int (nI 0)), (0, .ref (A 0)), (1, .int (nI i))]) hx hb dX2_cut_71 rfl hl (by decide) rfl (fun ls hl => ?_)
      refine w_loop (Inv := fun (r : Nat) H1 locs cells slots ls => r ≤ a.1.2.1.length ∧ MAt g A (va_up (va_up F 2 (chg (F 2) (F 1) a.2.1.length)) 1 (rtF (shF (upd (F 1) 0 (nI (a.1.1.length - 1))) (11 + 17 * i) c) (cutI i) r)) (upd I 3 (nI (if a.2.1.length = 4 then 4 else a.2.1.length + 1))) H1 ∧ Fx (MM A) s.heap H1 ∧ va_S (gA g) s.heap H1 locs ∧ cells = 0 ∧ slots = 0 ∧ lv_has ls 3 [(2, .int (nI r)), (0, .ref (A 0)), (1, .int (nI i))]) (μ := fun r => a.1.2.1.length - r) ?_ 0 _ _ _ _ _ ⟨Nat.zero_le _, by rw [rtF_0]; exact hM3, hF, hS, rfl, rfl, lv_sub hl [0, 1, 2] rfl⟩
      intro r H1 locs cells slots ls hInv ih
      obtain ⟨hr, hM5, hF, hS, rfl, rfl, hl⟩ := hInv
      obtain ⟨h_21, h_22, h_23, h_24, h_25, -, -, -, -, -, -⟩ := id hM5
      have h_21 : Ob g (A 0) 2 [.ref (A 1), .ref (A 2), .ref (A 3), .int (nI (if a.2.1.length = 4 then 4 else a.2.1.length + 1)), .ref (A 4), .int (I 5), .int (I 6), .int (I 7), .int (I 8), .int (I 9), .int (I 10), .int (I 11), .int (I 12)] H1 := h_21
      have h_22 : Ar g (A 1) 0 (aI 369 (rtF (shF (upd (F 1) 0 (nI (a.1.1.length - 1))) (11 + 17 * i) c) (cutI i) r)) H1 := h_22
      have h_23 : Ar g (A 2) 0 (aI 1476 (chg (F 2) (F 1) a.2.1.length)) H1 := h_23
      refine lv_iload_n hx hb dX2_cut_72 rfl (lv_at hl 0 rfl) ?_
      refine lv_aload_n hx hb dX2_cut_73 rfl (lv_at hl 1 rfl) ?_
      refine k_get (ci := 2) hx hb hts in_X2 hown hK h_21 rfl 0 (by decide) q1400 (fun _ h9 => h9) rfl dX2_cut_74 ?_
      refine lv_iconst (v := nI 2) hx hb dX2_cut_77 (by decide) ?_
      refine k_ildN hx hb hK h_22 (2) (rfl) (by omega) (by decide) dX2_cut_78 ?_
      refine k_topi (nI a.1.2.1.length) (by rw [rtF_lo _ _ _ (by omega), shF_lo _ _ _ (by omega)]; exact hs.rts) ?_
      refine lv_icmp_ge (tgt := 112) hx hb dX2_cut_79 (by decide) (fun c79 => ?_) (fun c79 => ?_)
      · have hr2 : a.1.2.1.length ≤ r := by rcases Nat.lt_or_ge (r) (a.1.2.1.length) with z | z; exact absurd c79 (nI_ge z (by omega)); exact z
        have hr2 : r = a.1.2.1.length := by omega
        refine lv_aload_n hx hb dX2_cut_112 rfl (lv_at hl 1 rfl) ?_
        refine k_get (ci := 2) hx hb hts in_X2 hown hK h_21 rfl 0 (by decide) q1400 (fun _ h9 => h9) rfl dX2_cut_113 ?_
        refine lv_iconst (v := nI 1) hx hb dX2_cut_116 (by decide) ?_
        refine lv_dup2_11 hx hb dX2_cut_117 rfl rfl ?_
        refine k_ildN hx hb hK h_22 (1) (rfl) (by omega) (by decide) dX2_cut_118 ?_
        refine k_topi (nI sh) (by rw [rtF_lo _ _ _ (by omega), shF_lo _ _ _ (by omega)]; exact (hs.sh.trans (if_neg (by omega))).trans hsh) ?_
        refine lv_aload_n hx hb dX2_cut_119 rfl (lv_at hl 1 rfl) ?_
        refine k_get (ci := 2) hx hb hts in_X2 hown hK h_21 rfl 0 (by decide) q1400 (fun _ h9 => h9) rfl dX2_cut_120 ?_
        refine lv_iconst (v := nI 1) hx hb dX2_cut_123 (by decide) ?_
        refine k_ildN hx hb hK h_22 (1) (rfl) (by omega) (by decide) dX2_cut_124 ?_
        refine k_topi (nI sh) (by rw [rtF_lo _ _ _ (by omega), shF_lo _ _ _ (by omega)]; exact (hs.sh.trans (if_neg (by omega))).trans hsh) ?_
        refine lv_iload_n hx hb dX2_cut_125 rfl (lv_at hl 2 rfl) ?_
        refine lv_icmp_gt (tgt := 144) hx hb dX2_cut_126 (by decide) (fun c126 => ?_) (fun c126 => ?_)
        · refine lv_iconst (v := 1) hx hb dX2_cut_144 (by decide) ?_
          refine lv_goto (tgt := 149) hx hb dX2_cut_145 (by decide) ?_
          have hcd : (nI i < nI sh ∨ nI sh = nI (a.1.1.length - 1)) := Or.inl c126
          refine lv_isub hx hb dX2_cut_149 ?_
          refine k_istN hx hb hK hS h_22 (1) (rfl) (by omega) (by decide) dX2_cut_150 (fun H_26 locs h_27 u_28 hS => ?_)
          have h_27 : Ar g (A 1) 0 (aI 369 (upd (rtF (shF (upd (F 1) 0 (nI (a.1.1.length - 1))) (11 + 17 * i) c) (cutI i) r) 1 ((nI sh) - 1))) H_26 := h_27
          have h_29 := h_21.upd u_28 (Ob.neA hK.gg h_21 h_22 (by decide) (by decide))
          have h_30 := h_23.upd u_28 (Ne.symm n12)
          have h_31 := h_24.upd u_28 (Ne.symm n13)
          have h_32 := h_25.upd u_28 (Ne.symm n14)
          have hF_33 := hF.put u_28 (Or.inl (Or.inr (Or.inl rfl)))
          refine lv_aload_n hx hb dX2_cut_151 rfl (lv_at hl 1 rfl) ?_
          refine k_get (ci := 2) hx hb hts in_X2 hown hK h_29 rfl 0 (by decide) q1400 (fun _ h9 => h9) rfl dX2_cut_152 ?_
          refine lv_iconst (v := nI 1) hx hb dX2_cut_155 (by decide) ?_
          refine k_ildN hx hb hK h_27 (1) (rfl) (by omega) (by decide) dX2_cut_156 ?_
          have hcw : cutW a.1 i = nI sh - 1 := by unfold cutW; rw [hsh, if_pos hcd]
          exact k_ireti (v := (upd (rtF (shF (upd (F 1) 0 (nI (a.1.1.length - 1))) (11 + 17 * i) c) (cutI i) r) 1 ((nI sh) - 1)) 1) hx hb hret (rfl) hlk hS (Nat.le_of_ble_eq_true rfl) (Nat.le_of_ble_eq_true rfl) (⟨by unfold cutV; rw [if_pos c5V, ordA_some, nI_clamp (by omega)]; exact hcw.symm.trans (cutW_eq hok hi), by unfold cutV; rw [if_pos c5V, ordA_some, nI_clamp (by omega)]; exact ⟨_, _, MAt.mk (F := va_up (va_up F 2 (chg (F 2) (F 1) a.2.1.length)) 1 (upd (rtF (shF (upd (F 1) 0 (nI (a.1.1.length - 1))) (11 + 17 * i) c) (cutI i) r) 1 (nI sh - 1))) (I := upd I 3 (nI (if a.2.1.length = 4 then 4 else a.2.1.length + 1))) h_29 h_27 h_30 h_31 h_32 n12 n13 n14 n23 n24 n34, hR.chg (by show SRel (upd (rtF (shF (upd (F 1) 0 (nI (a.1.1.length - 1))) (11 + 17 * i) c) (cutI i) r) 1 (nI sh - 1)) _; rw [hr2, hc2, ← hcw]; exact SRel_cut hs hok hi) (okB_cut hok hi) rfl rfl rfl rfl⟩, hF_33⟩) dX2_cut_157
        · refine lv_aload_n hx hb dX2_cut_129 rfl (lv_at hl 1 rfl) ?_
          refine k_get (ci := 2) hx hb hts in_X2 hown hK h_21 rfl 0 (by decide) q1400 (fun _ h9 => h9) rfl dX2_cut_130 ?_
          refine lv_iconst (v := nI 1) hx hb dX2_cut_133 (by decide) ?_
          refine k_ildN hx hb hK h_22 (1) (rfl) (by omega) (by decide) dX2_cut_134 ?_
          refine k_topi (nI sh) (by rw [rtF_lo _ _ _ (by omega), shF_lo _ _ _ (by omega)]; exact (hs.sh.trans (if_neg (by omega))).trans hsh) ?_
          refine lv_aload_n hx hb dX2_cut_135 rfl (lv_at hl 1 rfl) ?_
          refine k_get (ci := 2) hx hb hts in_X2 hown hK h_21 rfl 0 (by decide) q1400 (fun _ h9 => h9) rfl dX2_cut_136 ?_
          refine lv_iconst (v := nI 0) hx hb dX2_cut_139 (by decide) ?_
          refine k_ildN hx hb hK h_22 (0) (rfl) (by omega) (by decide) dX2_cut_140 ?_
          refine k_topi (nI (a.1.1.length - 1)) (by rw [rtF_lo _ _ _ (by omega), shF_lo _ _ _ (by omega)]; rfl) ?_
          refine lv_icmp_ne (tgt := 148) hx hb dX2_cut_141 (by decide) (fun c141 => ?_) (fun c141 => ?_)
          · refine lv_iconst (v := 0) hx hb dX2_cut_148 (by decide) ?_
            have hcd : ¬ (nI i < nI sh ∨ nI sh = nI (a.1.1.length - 1)) := fun h => h.elim c126 c141
            refine lv_isub hx hb dX2_cut_149 ?_
            refine k_istN hx hb hK hS h_22 (1) (rfl) (by omega) (by decide) dX2_cut_150 (fun H_34 locs h_35 u_36 hS => ?_)
            have h_35 : Ar g (A 1) 0 (aI 369 (upd (rtF (shF (upd (F 1) 0 (nI (a.1.1.length - 1))) (11 + 17 * i) c) (cutI i) r) 1 ((nI sh) - 0))) H_34 := h_35
            have h_37 := h_21.upd u_36 (Ob.neA hK.gg h_21 h_22 (by decide) (by decide))
            have h_38 := h_23.upd u_36 (Ne.symm n12)
            have h_39 := h_24.upd u_36 (Ne.symm n13)
            have h_40 := h_25.upd u_36 (Ne.symm n14)
            have hF_41 := hF.put u_36 (Or.inl (Or.inr (Or.inl rfl)))
            refine lv_aload_n hx hb dX2_cut_151 rfl (lv_at hl 1 rfl) ?_
            refine k_get (ci := 2) hx hb hts in_X2 hown hK h_37 rfl 0 (by decide) q1400 (fun _ h9 => h9) rfl dX2_cut_152 ?_
            refine lv_iconst (v := nI 1) hx hb dX2_cut_155 (by decide) ?_
            refine k_ildN hx hb hK h_35 (1) (rfl) (by omega) (by decide) dX2_cut_156 ?_
            have hcw : cutW a.1 i = nI sh - 0 := by unfold cutW; rw [hsh, if_neg hcd]; exact (Int32.sub_zero _).symm
            exact k_ireti (v := (upd (rtF (shF (upd (F 1) 0 (nI (a.1.1.length - 1))) (11 + 17 * i) c) (cutI i) r) 1 ((nI sh) - 0)) 1) hx hb hret (rfl) hlk hS (Nat.le_of_ble_eq_true rfl) (Nat.le_of_ble_eq_true rfl) (⟨by unfold cutV; rw [if_pos c5V, ordA_some, nI_clamp (by omega)]; exact hcw.symm.trans (cutW_eq hok hi), by unfold cutV; rw [if_pos c5V, ordA_some, nI_clamp (by omega)]; exact ⟨_, _, MAt.mk (F := va_up (va_up F 2 (chg (F 2) (F 1) a.2.1.length)) 1 (upd (rtF (shF (upd (F 1) 0 (nI (a.1.1.length - 1))) (11 + 17 * i) c) (cutI i) r) 1 (nI sh - 0))) (I := upd I 3 (nI (if a.2.1.length = 4 then 4 else a.2.1.length + 1))) h_37 h_35 h_38 h_39 h_40 n12 n13 n14 n23 n24 n34, hR.chg (by show SRel (upd (rtF (shF (upd (F 1) 0 (nI (a.1.1.length - 1))) (11 + 17 * i) c) (cutI i) r) 1 (nI sh - 0)) _; rw [hr2, hc2, ← hcw]; exact SRel_cut hs hok hi) (okB_cut hok hi) rfl rfl rfl rfl⟩, hF_41⟩) dX2_cut_157
          · refine lv_iconst (v := 1) hx hb dX2_cut_144 (by decide) ?_
            refine lv_goto (tgt := 149) hx hb dX2_cut_145 (by decide) ?_
            have hcd : (nI i < nI sh ∨ nI sh = nI (a.1.1.length - 1)) := Or.inr c141
            refine lv_isub hx hb dX2_cut_149 ?_
            refine k_istN hx hb hK hS h_22 (1) (rfl) (by omega) (by decide) dX2_cut_150 (fun H_42 locs h_43 u_44 hS => ?_)
            have h_43 : Ar g (A 1) 0 (aI 369 (upd (rtF (shF (upd (F 1) 0 (nI (a.1.1.length - 1))) (11 + 17 * i) c) (cutI i) r) 1 ((nI sh) - 1))) H_42 := h_43
            have h_45 := h_21.upd u_44 (Ob.neA hK.gg h_21 h_22 (by decide) (by decide))
            have h_46 := h_23.upd u_44 (Ne.symm n12)
            have h_47 := h_24.upd u_44 (Ne.symm n13)
            have h_48 := h_25.upd u_44 (Ne.symm n14)
            have hF_49 := hF.put u_44 (Or.inl (Or.inr (Or.inl rfl)))
            refine lv_aload_n hx hb dX2_cut_151 rfl (lv_at hl 1 rfl) ?_
            refine k_get (ci := 2) hx hb hts in_X2 hown hK h_45 rfl 0 (by decide) q1400 (fun _ h9 => h9) rfl dX2_cut_152 ?_
            refine lv_iconst (v := nI 1) hx hb dX2_cut_155 (by decide) ?_
            refine k_ildN hx hb hK h_43 (1) (rfl) (by omega) (by decide) dX2_cut_156 ?_
            have hcw : cutW a.1 i = nI sh - 1 := by unfold cutW; rw [hsh, if_pos hcd]
            exact k_ireti (v := (upd (rtF (shF (upd (F 1) 0 (nI (a.1.1.length - 1))) (11 + 17 * i) c) (cutI i) r) 1 ((nI sh) - 1)) 1) hx hb hret (rfl) hlk hS (Nat.le_of_ble_eq_true rfl) (Nat.le_of_ble_eq_true rfl) (⟨by unfold cutV; rw [if_pos c5V, ordA_some, nI_clamp (by omega)]; exact hcw.symm.trans (cutW_eq hok hi), by unfold cutV; rw [if_pos c5V, ordA_some, nI_clamp (by omega)]; exact ⟨_, _, MAt.mk (F := va_up (va_up F 2 (chg (F 2) (F 1) a.2.1.length)) 1 (upd (rtF (shF (upd (F 1) 0 (nI (a.1.1.length - 1))) (11 + 17 * i) c) (cutI i) r) 1 (nI sh - 1))) (I := upd I 3 (nI (if a.2.1.length = 4 then 4 else a.2.1.length + 1))) h_45 h_43 h_46 h_47 h_48 n12 n13 n14 n23 n24 n34, hR.chg (by show SRel (upd (rtF (shF (upd (F 1) 0 (nI (a.1.1.length - 1))) (11 + 17 * i) c) (cutI i) r) 1 (nI sh - 1)) _; rw [hr2, hc2, ← hcw]; exact SRel_cut hs hok hi) (okB_cut hok hi) rfl rfl rfl rfl⟩, hF_49⟩) dX2_cut_157
      · have hr2 : r < a.1.2.1.length := by rcases Nat.lt_or_ge (r) (a.1.2.1.length) with z | z; exact z; exact absurd (nI_le z (by omega)) c79
        refine lv_aload_n hx hb dX2_cut_82 rfl (lv_at hl 1 rfl) ?_
        refine k_get (ci := 2) hx hb hts in_X2 hown hK h_21 rfl 0 (by decide) q1400 (fun _ h9 => h9) rfl dX2_cut_83 ?_
        refine lv_sipush (v := nI 351) hx hb dX2_cut_86 (by decide) ?_
        refine lv_iconst (v := nI 3) hx hb dX2_cut_89 (by decide) ?_
        refine lv_iload_n hx hb dX2_cut_90 rfl (lv_at hl 0 rfl) ?_
        refine lv_imul hx hb dX2_cut_91 ?_
        refine k_topi (nI (3 * r)) (pk_mul 3 _) ?_
        refine lv_iadd hx hb dX2_cut_92 ?_
        refine k_topi (nI (351 + 3 * r)) (nI_add 351 _) ?_
        refine lv_iconst (v := nI 0) hx hb dX2_cut_93 (by decide) ?_
        refine lv_iadd hx hb dX2_cut_94 ?_
        refine k_topi (nI (351 + 3 * r)) (nI_add _ 0) ?_
        refine lv_aload_n hx hb dX2_cut_95 rfl (lv_at hl 1 rfl) ?_
        refine lv_iload_n hx hb dX2_cut_96 rfl (lv_at hl 0 rfl) ?_
        refine lv_iconst (v := nI 0) hx hb dX2_cut_97 (by decide) ?_
        refine k_calliS (va_runV (As := [.int (nI r), .int (nI 0)]) (rest := [.int (nI (351 + 3 * r)), .ref (A 1)]) ⟨hx, hb, hml, hown, hts⟩ (m_ofRoute l g r 0 hM5 (by omega)) (cwV 2 hts (lw_V q1504 q1506 qs31 q56 q1507) rfl rfl rfl hdV_X2_ofRoute ⟨Nat.le_of_ble_eq_true rfl, Nat.le_of_ble_eq_true rfl⟩) (preV hK hS h_21 rfl) rfl rfl hl.1 rfl (lv_room (Nat.le_of_ble_eq_true rfl)) dX2_cut_98 ⟨Nat.le_of_ble_eq_true rfl, Nat.le_of_ble_eq_true rfl⟩) hS (fun t5 locs ht5 hS => ?_)
        have hst : (rtF (shF (upd (F 1) 0 (nI (a.1.1.length - 1))) (11 + 17 * i) c) (cutI i) r) (351 + 3 * r) = nI (rtV a.1 r).1 := by rw [rtF_at _ _ _ (by omega), shF_hi _ _ _ (by omega), updN _ _ (by omega)]; exact (hs.rt hr2).1
        have ht5 : t5 = nI (rtV a.1 r).1 := ht5.trans hst
        subst ht5
        have hst20 := hok.2.2.2.1 r hr2
        refine lv_iload_n hx hb dX2_cut_101 rfl (lv_at hl 2 rfl) ?_
        refine k_calliS (va_runS (As := [.int (nI (rtV a.1 r).1), .int (nI i)]) (rest := [.int (nI (351 + 3 * r)), .ref (A 1)]) ⟨hx, hb, hml, hown, hts⟩ (m_without l g (nI (rtV a.1 r).1) (nI i)) (va_cwS 2 hts (lw_S q1508 q1509 q56 q1510) rfl rfl rfl hdS_X2_without ⟨Nat.le_of_ble_eq_true rfl, Nat.le_of_ble_eq_true rfl⟩) (preS hK hS) rfl rfl hl.1 rfl (lv_room (Nat.le_of_ble_eq_true rfl)) dX2_cut_102 ⟨Nat.le_of_ble_eq_true rfl, Nat.le_of_ble_eq_true rfl⟩) hS (fun t6 locs ht6 hS => ?_)
        have ht6 : t6 = nI (cutbits (rtV a.1 r).1 i) := ht6.trans (cutI_eq hst20 (by omega))
        subst ht6
        refine k_istN hx hb hK hS h_22 (351 + 3 * r) (rfl) (by omega) (by decide) dX2_cut_105 (fun H_52 locs h_53 u_54 hS => ?_)
        have h_53 : Ar g (A 1) 0 (aI 369 (upd (rtF (shF (upd (F 1) 0 (nI (a.1.1.length - 1))) (11 + 17 * i) c) (cutI i) r) (351 + 3 * r) (nI (cutbits (rtV a.1 r).1 i)))) H_52 := h_53
        have h_55 := h_21.upd u_54 (Ob.neA hK.gg h_21 h_22 (by decide) (by decide))
        have h_56 := h_23.upd u_54 (Ne.symm n12)
        have h_57 := h_24.upd u_54 (Ne.symm n13)
        have h_58 := h_25.upd u_54 (Ne.symm n14)
        have hF_59 := hF.put u_54 (Or.inl (Or.inr (Or.inl rfl)))
        refine lv_iinc (v := nI (r + 1)) (lv' := [(2, .int (nI (r + 1))), (0, .ref (A 0)), (1, .int (nI i))]) hx hb dX2_cut_106 hl (k := 0) rfl (nI_1 r) (by decide) rfl (fun ls hl => ?_)
        refine lv_goto (tgt := 72) hx hb dX2_cut_109 (by decide) ?_
        exact ih (r + 1) _ _ _ _ _ ⟨by omega, by have h9 := MAt.mk (F := va_up (va_up F 2 (chg (F 2) (F 1) a.2.1.length)) 1 (upd (rtF (shF (upd (F 1) 0 (nI (a.1.1.length - 1))) (11 + 17 * i) c) (cutI i) r) (351 + 3 * r) (nI (cutbits (rtV a.1 r).1 i)))) (I := upd I 3 (nI (if a.2.1.length = 4 then 4 else a.2.1.length + 1))) h_55 h_53 h_56 h_57 h_58 n12 n13 n14 n23 n24 n34; rw [show cutbits (rtV a.1 r).1 i = cutI i (rtV a.1 r).1 from rfl, rtF_s _ _ _ _ (by omega) hst] at h9; exact h9, hF_59, hS, rfl, rfl, lv_sub hl [0, 1, 2] rfl⟩ (by omega)
    · have hc2 : 11 + 17 * i + c < 11 + 17 * (a.1.1.length - 1) := by rcases Nat.lt_or_ge (11 + 17 * i + c) (11 + 17 * (a.1.1.length - 1)) with z | z; exact z; exact absurd (nI_le z (by omega)) c46
      refine lv_aload_n hx hb dX2_cut_49 rfl (lv_at hl 1 rfl) ?_
      refine k_get (ci := 2) hx hb hts in_X2 hown hK h_16 rfl 0 (by decide) q1400 (fun _ h9 => h9) rfl dX2_cut_50 ?_
      refine lv_iload_n hx hb dX2_cut_53 rfl (lv_at hl 0 rfl) ?_
      refine lv_aload_n hx hb dX2_cut_54 rfl (lv_at hl 1 rfl) ?_
      refine k_get (ci := 2) hx hb hts in_X2 hown hK h_16 rfl 0 (by decide) q1400 (fun _ h9 => h9) rfl dX2_cut_55 ?_
      refine lv_iload_n hx hb dX2_cut_58 rfl (lv_at hl 0 rfl) ?_
      refine lv_bipush (v := nI 17) hx hb dX2_cut_59 (by decide) ?_
      refine lv_iadd hx hb dX2_cut_61 ?_
      refine k_topi (nI (11 + 17 * i + c + 17)) (nI_add _ 17) ?_
      refine k_ildN hx hb hK h_17 (11 + 17 * i + c + 17) (rfl) (by omega) (by decide) dX2_cut_62 ?_
      refine k_topi ((upd (F 1) 0 (nI (a.1.1.length - 1))) (11 + 17 * i + c + 17)) (by unfold shF; rw [if_neg (by omega)]) ?_
      refine k_istN hx hb hK hS h_17 (11 + 17 * i + c) (rfl) (by omega) (by decide) dX2_cut_63 (fun H_60 locs h_61 u_62 hS => ?_)
      have h_61 : Ar g (A 1) 0 (aI 369 (upd (shF (upd (F 1) 0 (nI (a.1.1.length - 1))) (11 + 17 * i) c) (11 + 17 * i + c) ((upd (F 1) 0 (nI (a.1.1.length - 1))) (11 + 17 * i + c + 17)))) H_60 := h_61
      have h_63 := h_16.upd u_62 (Ob.neA hK.gg h_16 h_17 (by decide) (by decide))
      have h_64 := h_18.upd u_62 (Ne.symm n12)
      have h_65 := h_19.upd u_62 (Ne.symm n13)
      have h_66 := h_20.upd u_62 (Ne.symm n14)
      have hF_67 := hF.put u_62 (Or.inl (Or.inr (Or.inl rfl)))
      refine lv_iinc (v := nI (11 + 17 * i + (c + 1))) (lv' := [(2, .int (nI (11 + 17 * i + (c + 1)))), (0, .ref (A 0)), (1, .int (nI i))]) hx hb dX2_cut_64 hl (k := 0) rfl (nI_1 _) (by decide) rfl (fun ls hl => ?_)
      refine lv_goto (tgt := 33) hx hb dX2_cut_67 (by decide) ?_
      exact ih (c + 1) _ _ _ _ _ ⟨by omega, by have h9 := MAt.mk (F := va_up (va_up F 2 (chg (F 2) (F 1) a.2.1.length)) 1 (upd (shF (upd (F 1) 0 (nI (a.1.1.length - 1))) (11 + 17 * i) c) (11 + 17 * i + c) ((upd (F 1) 0 (nI (a.1.1.length - 1))) (11 + 17 * i + c + 17)))) (I := upd I 3 (nI (if a.2.1.length = 4 then 4 else a.2.1.length + 1))) h_63 h_61 h_64 h_65 h_66 n12 n13 n14 n23 n24 n34; rw [shF_s] at h9; exact h9, hF_67, hS, rfl, rfl, lv_sub hl [0, 1, 2] rfl⟩ (by omega)
  · have c5 := b2f hz1 c5
    rw [hs.rows] at c5
    refine lv_ldc (v := (-1000001)) hx hb hown (hts _ q1447) dX2_cut_8 ?_
    exact k_ireti (v := (-1000001)) hx hb hret (rfl) hlk hS (Nat.le_of_ble_eq_true rfl) (Nat.le_of_ble_eq_true rfl) (⟨by unfold cutV; rw [if_neg c5]; rfl, by unfold cutV; rw [if_neg c5]; exact ⟨F, I, hM, hR⟩, hF⟩) dX2_cut_10
