/-! ===== HandBlindsModel: widest, read, find (printed by tools/model10.py) ===== -/
set_option maxRecDepth 100000
/-- the widest of the first rows: which, how wide -/
def wst (b : BV) : Nat → Int32 × Int32
  | 0 => (-1000004, 0)
  | k + 1 => if (wst b k).2 < wideV (rowV b k).1 then (nI k, wideV (rowV b k).1) else wst b k
/-- how many of the first letters are read from the distance d -/
def rdS (b : BV) (d : Int32) (ls : List Int32) : Nat → Int32
  | 0 => 0
  | k + 1 => rdS b d ls k + (if ls.getD k 0 = 32 ∨ d ≤ wd (ls.getD k 0) * b.2.2 2 * 100 / sqV b ls then 1 else 0)
def readV (b : BV) (d : Int32) : Int32 := if 1 ≤ d ∧ d ≤ 999 then if b.1.length = 0 then -1000004 else if (rowV b (b.2.2 3).toNatClampNeg).2.2 = 1 then 0 else rdS b d (rowV b (b.2.2 3).toNatClampNeg).1 (rowV b (b.2.2 3).toNatClampNeg).1.length else -1000001
def findV (b : BV) (tx : List Int32) : Int32 := match (List.range b.1.length).find? (fun r => decide ((rowV b r).1 = tx)) with
  | some r => nI r
  | none => -1000004
theorem wd_nat (c : Int32) : ∃ k, 1 ≤ k ∧ k ≤ 3 ∧ wd c = nI k := by
  unfold wd
  split
  · exact ⟨1, by omega, by omega, rfl⟩
  · split
    · exact ⟨3, by omega, by omega, rfl⟩
    · exact ⟨2, by omega, by omega, rfl⟩
theorem wsum_nat (c : Nat → Int32) : ∀ n, ∃ k, n ≤ k ∧ k ≤ 3 * n ∧ wsum c n = nI k
  | 0 => ⟨0, by omega, by omega, rfl⟩
  | n + 1 => by
    obtain ⟨k, h1, h2, h3⟩ := wsum_nat c n
    obtain ⟨j, g1, g2, g3⟩ := wd_nat (c n)
    exact ⟨k + j, by omega, by omega, by rw [wsum, h3, g3, nI_add]⟩
theorem wideV_nat {ls : List Int32} (h : ls.length ≤ 14) : ∃ k, ls.length ≤ k ∧ k ≤ 42 ∧ wideV ls = nI k := by
  obtain ⟨k, h1, h2, h3⟩ := wsum_nat (fun k => ls.getD k 0) ls.length
  exact ⟨k, h1, by omega, h3⟩
theorem nI_lit {x : Int32} {lo hi : Nat} (h1 : nI lo ≤ x) (h2 : x ≤ nI hi) (hl : lo < 2 ^ 31) (hh : hi < 2 ^ 31) : ∃ k, lo ≤ k ∧ k ≤ hi ∧ x = nI k := by
  obtain ⟨k, hk, rfl⟩ := nI_of (x := x) (Int32.not_lt.mpr (Int32.le_trans (nI_pos' hl) h1))
  exact ⟨k, (nI_leI hl hk).mp h1, (nI_leI hk hh).mp h2, rfl⟩
/-- a squeezed width is at least 100 -/
theorem sqz_nat {w d : Nat} (hw : w ≤ 42) (hd : 4 ≤ d) (hd2 : d ≤ 60) : ∃ k, 100 ≤ k ∧ k ≤ 4200 ∧ sqz (nI w) (nI d) = nI k := by
  unfold sqz
  by_cases h : d < w
  · rw [if_pos (nI_lt h (by omega))]
    have e : nI w * 100 / nI d = nI (w * 100 / d) := by
      rw [show (100 : Int32) = nI 100 from rfl, pk_mul, pk_div (by omega) (by omega) (by omega)]
    refine ⟨w * 100 / d, ?_, ?_, e⟩
    · have h1 : 100 * d ≤ w * 100 := by omega
      exact (Nat.le_div_iff_mul_le (by omega)).mpr h1
    · exact Nat.le_trans (Nat.div_le_self _ _) (by omega)
  · rw [if_neg (nI_nlt (by omega) (by omega))]
    exact ⟨100, by omega, by omega, rfl⟩
theorem sqV_nat {b : BV} {ls : List Int32} (hok : okB b) (h : ls.length ≤ 14) : ∃ k, 100 ≤ k ∧ k ≤ 4200 ∧ sqV b ls = nI k := by
  obtain ⟨w, h1, h2, h3⟩ := wideV_nat h
  obtain ⟨d, g1, g2, g3⟩ := nI_lit (lo := 4) (hi := 60) hok.2.2.2.2.2.2.1.1 hok.2.2.2.2.2.2.1.2 (by omega) (by omega)
  unfold sqV
  rw [h3, g3]
  exact sqz_nat h2 g1 g2
theorem sqV_ne {b : BV} {ls : List Int32} (hok : okB b) (h : 0 < ls.length ∧ ls.length ≤ 14) : ¬ sqV b ls = 0 := by
  obtain ⟨k, h1, h2, h3⟩ := sqV_nat hok h.2
  rw [h3]
  exact nI_ne0 (by omega) (by omega)
/-- widest() -/
theorem m_widest (l : Launch) (g : GT) {H : Heap} {A : Nat → Nat} {F : Nat → Nat → Int32} {I : Nat → Int32} (b : BV) (hM : MAt g A F I H) (hs : SRel (F 1) b) (hok : okB b) : Met l yX2_widest (ws_ yX2_widest cX2_widest 4 (some .int)) ({ frames := 2, cells := 0, slots := 0, locals := 45 } : Room) (va_Pc [.ref (A 0)] (Pre g H)) (Qi g (fun z H1 => H1 = H ∧ z = (wst b b.1.length).1)) 0 0 (gA g) := by
  refine k_met (cc := cX2_widest) (nL := 4) (vs := [.ref (A 0)]) (by decide +kernel) (Nat.le_of_ble_eq_true rfl) ?_
  intro p e s m below meth c hH hx hb hret hts hown hlk hml hin hK hS ls hl
  subst hH
  have hown : s.vm.findClass RX2 = some m.cls := hown
  have hl : lv_has ls 4 [(0, .ref (A 0))] := hl
  obtain ⟨h0, h1, h2, h3, h4, n12, n13, n14, n23, n24, n34⟩ := id hM
  have hl20 := hok.1
  have hl6 := hok.2.1
  refine lv_ldc (v := (-1000004)) hx hb hown (hts _ q1486) dX2_widest_0 ?_
  refine lv_istore_n (lv' := [(1, .int (-1000004)), (0, .ref (A 0))]) hx hb dX2_widest_2 rfl hl (by decide) rfl (fun ls hl => ?_)
  refine lv_iconst (v := 0) hx hb dX2_widest_3 (by decide) ?_
  refine lv_istore_n (lv' := [(2, .int 0), (1, .int (-1000004)), (0, .ref (A 0))]) hx hb dX2_widest_4 rfl hl (by decide) rfl (fun ls hl => ?_)
  refine lv_iconst (v := nI 0) hx hb dX2_widest_5 (by decide) ?_
  refine lv_istore_n (lv' := [(3, .int (nI 0)), (2, .int 0), (1, .int (-1000004)), (0, .ref (A 0))]) hx hb dX2_widest_6 rfl hl (by decide) rfl (fun ls hl => ?_)
  refine w_loop (Inv := fun (j : Nat) Hh locs cells slots ls => j ≤ b.1.length ∧ s.heap = Hh ∧ va_S (gA g) s.heap Hh locs ∧ cells = 0 ∧ slots = 0 ∧ lv_has ls 4 [(3, .int (nI j)), (1, .int ((wst b j).1)), (2, .int ((wst b j).2)), (0, .ref (A 0))]) (μ := fun j => b.1.length - j) ?_ 0 _ _ _ _ _ ⟨Nat.zero_le _, rfl, hS, rfl, rfl, lv_sub hl [0, 2, 1, 3] rfl⟩
  intro j Hh locs cells slots ls hInv ih
  obtain ⟨hj, rfl, hS, rfl, rfl, hl⟩ := hInv
  refine lv_iload_n hx hb dX2_widest_7 rfl (lv_at hl 0 rfl) ?_
  refine lv_aload_n hx hb dX2_widest_8 rfl (lv_at hl 3 rfl) ?_
  refine k_get (ci := 2) hx hb hts in_X2 hown hK h0 rfl 0 (by decide) q1400 (fun _ h9 => h9) rfl dX2_widest_9 ?_
  refine lv_iconst (v := nI 0) hx hb dX2_widest_12 (by decide) ?_
  refine k_ildN hx hb hK h1 (0) (rfl) (by omega) (by decide) dX2_widest_13 ?_
  refine k_topi (nI b.1.length) (hs.rows) ?_
  refine lv_icmp_ge (tgt := 57) hx hb dX2_widest_14 (by decide) (fun c14 => ?_) (fun c14 => ?_)
  · have hj2 : b.1.length ≤ j := by rcases Nat.lt_or_ge (j) (b.1.length) with z | z; exact absurd c14 (nI_ge z (by omega)); exact z
    have hj2 : j = b.1.length := by omega
    refine lv_iload_n hx hb dX2_widest_57 rfl (lv_at hl 1 rfl) ?_
    exact k_ireti (v := (wst b j).1) hx hb hret (rfl) hlk hS (Nat.le_of_ble_eq_true rfl) (Nat.le_of_ble_eq_true rfl) (⟨rfl, by rw [hj2]⟩) dX2_widest_58
  · have hj2 : j < b.1.length := by rcases Nat.lt_or_ge (j) (b.1.length) with z | z; exact z; exact absurd (nI_le z (by omega)) c14
    have hrr := hs.row hj2
    have h14 := hok.name hj2
    refine lv_aload_n hx hb dX2_widest_17 rfl (lv_at hl 3 rfl) ?_
    refine lv_iload_n hx hb dX2_widest_18 rfl (lv_at hl 0 rfl) ?_
    refine k_calliS (va_runV (As := [.int (nI j)]) (rest := []) ⟨hx, hb, hml, hown, hts⟩ (m_width l g j (rowV b j).1.length hM (by omega) hrr.1 h14.2) (cwV 1 hts (lw_V q1576 q1578 qs41 q56 q1579) rfl rfl rfl hdV_X2_width ⟨Nat.le_of_ble_eq_true rfl, Nat.le_of_ble_eq_true rfl⟩) (preV hK hS h0 rfl) rfl rfl hl.1 rfl (lv_room (Nat.le_of_ble_eq_true rfl)) dX2_widest_19 ⟨Nat.le_of_ble_eq_true rfl, Nat.le_of_ble_eq_true rfl⟩) hS (fun t1 locs ht1 hS => ?_)
    rw [hrr.wsum] at ht1
    refine lv_iload_n hx hb dX2_widest_22 rfl (lv_at hl 2 rfl) ?_
    refine lv_icmp_le (tgt := 30) hx hb dX2_widest_23 (by decide) (fun c23 => ?_) (fun c23 => ?_)
    · rw [ht1] at c23
      refine lv_iload_n hx hb dX2_widest_30 rfl (lv_at hl 1 rfl) ?_
      refine lv_istore_n (lv' := [(1, .int ((wst b j).1)), (3, .int (nI j)), (2, .int ((wst b j).2)), (0, .ref (A 0))]) hx hb dX2_widest_31 rfl hl (by decide) rfl (fun ls hl => ?_)
      refine lv_aload_n hx hb dX2_widest_32 rfl (lv_at hl 3 rfl) ?_
      refine lv_iload_n hx hb dX2_widest_33 rfl (lv_at hl 1 rfl) ?_
      refine k_calliS (va_runV (As := [.int (nI j)]) (rest := []) ⟨hx, hb, hml, hown, hts⟩ (m_width l g j (rowV b j).1.length hM (by omega) hrr.1 h14.2) (cwV 1 hts (lw_V q1576 q1578 qs41 q56 q1579) rfl rfl rfl hdV_X2_width ⟨Nat.le_of_ble_eq_true rfl, Nat.le_of_ble_eq_true rfl⟩) (preV hK hS h0 rfl) rfl rfl hl.1 rfl (lv_room (Nat.le_of_ble_eq_true rfl)) dX2_widest_34 ⟨Nat.le_of_ble_eq_true rfl, Nat.le_of_ble_eq_true rfl⟩) hS (fun t2 locs ht2 hS => ?_)
      rw [hrr.wsum] at ht2
      refine lv_iload_n hx hb dX2_widest_37 rfl (lv_at hl 2 rfl) ?_
      refine lv_icmp_le (tgt := 49) hx hb dX2_widest_38 (by decide) (fun c38 => ?_) (fun c38 => ?_)
      · rw [ht2] at c38
        refine lv_iload_n hx hb dX2_widest_49 rfl (lv_at hl 2 rfl) ?_
        refine lv_istore_n (lv' := [(2, .int ((wst b j).2)), (1, .int ((wst b j).1)), (3, .int (nI j)), (0, .ref (A 0))]) hx hb dX2_widest_50 rfl hl (by decide) rfl (fun ls hl => ?_)
        refine lv_iinc (v := nI (j + 1)) (lv' := [(3, .int (nI (j + 1))), (2, .int ((wst b j).2)), (1, .int ((wst b j).1)), (0, .ref (A 0))]) hx hb dX2_widest_51 hl (k := 2) rfl (nI_1 j) (by decide) rfl (fun ls hl => ?_)
        refine lv_goto (tgt := 7) hx hb dX2_widest_54 (by decide) ?_
        exact ih (j + 1) _ _ _ _ _ ⟨by omega, rfl, hS, rfl, rfl, by rw [show wst b (j + 1) = wst b j from if_neg (Int32.not_lt.mpr c23)]; exact lv_sub hl [0, 2, 1, 3] rfl⟩ (by omega)
      · rw [ht2] at c38
        exact absurd c23 c38
    · rw [ht1] at c23
      refine lv_iload_n hx hb dX2_widest_26 rfl (lv_at hl 0 rfl) ?_
      refine lv_goto (tgt := 31) hx hb dX2_widest_27 (by decide) ?_
      refine lv_istore_n (lv' := [(1, .int (nI j)), (3, .int (nI j)), (2, .int ((wst b j).2)), (0, .ref (A 0))]) hx hb dX2_widest_31 rfl hl (by decide) rfl (fun ls hl => ?_)
      refine lv_aload_n hx hb dX2_widest_32 rfl (lv_at hl 3 rfl) ?_
      refine lv_iload_n hx hb dX2_widest_33 rfl (lv_at hl 1 rfl) ?_
      refine k_calliS (va_runV (As := [.int (nI j)]) (rest := []) ⟨hx, hb, hml, hown, hts⟩ (m_width l g j (rowV b j).1.length hM (by omega) hrr.1 h14.2) (cwV 1 hts (lw_V q1576 q1578 qs41 q56 q1579) rfl rfl rfl hdV_X2_width ⟨Nat.le_of_ble_eq_true rfl, Nat.le_of_ble_eq_true rfl⟩) (preV hK hS h0 rfl) rfl rfl hl.1 rfl (lv_room (Nat.le_of_ble_eq_true rfl)) dX2_widest_34 ⟨Nat.le_of_ble_eq_true rfl, Nat.le_of_ble_eq_true rfl⟩) hS (fun t2 locs ht2 hS => ?_)
      rw [hrr.wsum] at ht2
      refine lv_iload_n hx hb dX2_widest_37 rfl (lv_at hl 2 rfl) ?_
      refine lv_icmp_le (tgt := 49) hx hb dX2_widest_38 (by decide) (fun c38 => ?_) (fun c38 => ?_)
      · rw [ht2] at c38
        exact absurd c38 c23
      · rw [ht2] at c38
        refine lv_aload_n hx hb dX2_widest_41 rfl (lv_at hl 3 rfl) ?_
        refine lv_iload_n hx hb dX2_widest_42 rfl (lv_at hl 1 rfl) ?_
        refine k_calliS (va_runV (As := [.int (nI j)]) (rest := []) ⟨hx, hb, hml, hown, hts⟩ (m_width l g j (rowV b j).1.length hM (by omega) hrr.1 h14.2) (cwV 1 hts (lw_V q1576 q1578 qs41 q56 q1579) rfl rfl rfl hdV_X2_width ⟨Nat.le_of_ble_eq_true rfl, Nat.le_of_ble_eq_true rfl⟩) (preV hK hS h0 rfl) rfl rfl hl.1 rfl (lv_room (Nat.le_of_ble_eq_true rfl)) dX2_widest_43 ⟨Nat.le_of_ble_eq_true rfl, Nat.le_of_ble_eq_true rfl⟩) hS (fun t3 locs ht3 hS => ?_)
        rw [hrr.wsum] at ht3
        refine lv_goto (tgt := 50) hx hb dX2_widest_46 (by decide) ?_
        refine lv_istore_n (lv' := [(2, .int t3), (1, .int (nI j)), (3, .int (nI j)), (0, .ref (A 0))]) hx hb dX2_widest_50 rfl hl (by decide) rfl (fun ls hl => ?_)
        refine lv_iinc (v := nI (j + 1)) (lv' := [(3, .int (nI (j + 1))), (2, .int t3), (1, .int (nI j)), (0, .ref (A 0))]) hx hb dX2_widest_51 hl (k := 2) rfl (nI_1 j) (by decide) rfl (fun ls hl => ?_)
        refine lv_goto (tgt := 7) hx hb dX2_widest_54 (by decide) ?_
        exact ih (j + 1) _ _ _ _ _ ⟨by omega, rfl, hS, rfl, rfl, by rw [show wst b (j + 1) = (nI j, t3) from (if_pos (i_nle c23)).trans (by rw [ht3])]; exact lv_sub hl [0, 2, 1, 3] rfl⟩ (by omega)
/-- read(distance) -/
theorem mp_read (l : Launch) (g : GT) {H : Heap} {A : Nat → Nat} {F : Nat → Nat → Int32} {I : Nat → Int32} (b : BV) (x : Int32) (hM : MAt g A F I H) (hs : SRel (F 1) b) (hok : okB b) : Met l yX2_read (ws_ yX2_read cX2_read 7 (some .int)) ({ frames := 2, cells := 0, slots := 0, locals := 45 } : Room) (va_Pc [.ref (A 0), .int x] (Pre g H)) (Qi g (fun z H1 => H1 = H ∧ z = readV b x)) 0 0 (gA g) := by
  refine k_met (cc := cX2_read) (nL := 7) (vs := [.ref (A 0), .int x]) (by decide +kernel) (Nat.le_of_ble_eq_true rfl) ?_
  intro p e s m below meth c hH hx hb hret hts hown hlk hml hin hK hS ls hl
  subst hH
  have hown : s.vm.findClass RX2 = some m.cls := hown
  have hl : lv_has ls 7 [(0, .ref (A 0)), (1, .int x)] := hl
  obtain ⟨h0, h1, h2, h3, h4, n12, n13, n14, n23, n24, n34⟩ := id hM
  have hl20 := hok.1
  have hl6 := hok.2.1
  refine lv_iload_n hx hb dX2_read_0 rfl (lv_at hl 1 rfl) ?_
  refine lv_iconst (v := 1) hx hb dX2_read_1 (by decide) ?_
  refine lv_sipush (v := 999) hx hb dX2_read_2 (by decide) ?_
  refine k_calliS (va_runS (As := [.int x, .int 1, .int 999]) (rest := []) ⟨hx, hb, hml, hown, hts⟩ (m_in l g x 1 999) (va_cwS 3 hts (lw_S q1444 q1445 q56 q1446) rfl rfl rfl hdS_X2_in ⟨Nat.le_of_ble_eq_true rfl, Nat.le_of_ble_eq_true rfl⟩) (preS hK hS) rfl rfl hl.1 rfl (lv_room (Nat.le_of_ble_eq_true rfl)) dX2_read_5 ⟨Nat.le_of_ble_eq_true rfl, Nat.le_of_ble_eq_true rfl⟩) hS (fun z1 locs hz1 hS => ?_)
  refine lv_if_ne (tgt := 14) hx hb dX2_read_8 (by decide) (fun c8 => ?_) (fun c8 => ?_)
  · have c8 := b2t hz1 c8
    refine lv_aload_n hx hb dX2_read_14 rfl (lv_at hl 0 rfl) ?_
    refine k_get (ci := 2) hx hb hts in_X2 hown hK h0 rfl 0 (by decide) q1400 (fun _ h9 => h9) rfl dX2_read_15 ?_
    refine lv_iconst (v := nI 0) hx hb dX2_read_18 (by decide) ?_
    refine k_ildN hx hb hK h1 (0) (rfl) (by omega) (by decide) dX2_read_19 ?_
    refine k_topi (nI b.1.length) (hs.rows) ?_
    refine lv_if_ne (tgt := 26) hx hb dX2_read_20 (by decide) (fun c20 => ?_) (fun c20 => ?_)
    · have c20 : b.1.length ≠ 0 := fun z => c20 (by rw [z]; rfl)
      obtain ⟨sh, hsh, hsh2⟩ := hok.2.2.2.2.1
      have hsh2 : sh < b.1.length := by omega
      have hrr := hs.row hsh2
      have h14 := hok.name hsh2
      refine lv_aload_n hx hb dX2_read_26 rfl (lv_at hl 0 rfl) ?_
      refine k_get (ci := 2) hx hb hts in_X2 hown hK h0 rfl 0 (by decide) q1400 (fun _ h9 => h9) rfl dX2_read_27 ?_
      refine lv_iconst (v := nI 1) hx hb dX2_read_30 (by decide) ?_
      refine k_ildN hx hb hK h1 (1) (rfl) (by omega) (by decide) dX2_read_31 ?_
      refine k_topi (nI sh) ((hs.sh.trans (if_neg c20)).trans hsh) ?_
      refine lv_istore_n (lv' := [(2, .int (nI sh)), (0, .ref (A 0)), (1, .int x)]) hx hb dX2_read_32 rfl hl (by decide) rfl (fun ls hl => ?_)
      refine lv_iconst (v := 0) hx hb dX2_read_33 (by decide) ?_
      refine lv_istore_n (lv' := [(3, .int 0), (2, .int (nI sh)), (0, .ref (A 0)), (1, .int x)]) hx hb dX2_read_34 rfl hl (by decide) rfl (fun ls hl => ?_)
      refine lv_iconst (v := nI 0) hx hb dX2_read_35 (by decide) ?_
      refine lv_istore (lv' := [(4, .int (nI 0)), (3, .int 0), (2, .int (nI sh)), (0, .ref (A 0)), (1, .int x)]) hx hb dX2_read_36 hl (by decide) rfl (fun ls hl => ?_)
      refine w_loop (Inv := fun (j : Nat) Hh locs cells slots ls => j ≤ (rowV b sh).1.length ∧ (0 < j → ¬ (rowV b sh).2.2 = 1) ∧ s.heap = Hh ∧ va_S (gA g) s.heap Hh locs ∧ cells = 0 ∧ slots = 0 ∧ lv_has ls 7 [(4, .int (nI j)), (3, .int (rdS b x (rowV b sh).1 j)), (2, .int (nI sh)), (1, .int x), (0, .ref (A 0))]) (μ := fun j => (rowV b sh).1.length - j) ?_ 0 _ _ _ _ _ ⟨Nat.zero_le _, fun h => absurd h (by omega), rfl, hS, rfl, rfl, lv_sub hl [0, 1, 2, 4, 3] rfl⟩
      intro j Hh locs cells slots ls hInv ih
      obtain ⟨hj, hj0, rfl, hS, rfl, rfl, hl⟩ := hInv
      refine lv_iload hx hb dX2_read_38 (lv_at hl 0 rfl) ?_
      refine lv_aload_n hx hb dX2_read_40 rfl (lv_at hl 4 rfl) ?_
      refine lv_iload_n hx hb dX2_read_41 rfl (lv_at hl 2 rfl) ?_
      refine lv_iconst (v := nI 0) hx hb dX2_read_42 (by decide) ?_
      refine k_calliS (va_runV (As := [.int (nI sh), .int (nI 0)]) (rest := [.int (nI j)]) ⟨hx, hb, hml, hown, hts⟩ (m_of l g sh 0 hM (by omega)) (cwV 2 hts (lw_V q1515 q1517 qs32 q56 q1518) rfl rfl rfl hdV_X2_of ⟨Nat.le_of_ble_eq_true rfl, Nat.le_of_ble_eq_true rfl⟩) (preV hK hS h0 rfl) rfl rfl hl.1 rfl (lv_room (Nat.le_of_ble_eq_true rfl)) dX2_read_43 ⟨Nat.le_of_ble_eq_true rfl, Nat.le_of_ble_eq_true rfl⟩) hS (fun t1 locs ht1 hS => ?_)
      refine lv_icmp_ge (tgt := 131) hx hb dX2_read_46 (by decide) (fun c46 => ?_) (fun c46 => ?_)
      · rw [show t1 = nI (rowV b sh).1.length from ht1.trans hrr.1] at c46
        have c46 : (rowV b sh).1.length ≤ j := by rcases Nat.lt_or_ge (j) ((rowV b sh).1.length) with z | z; exact absurd c46 (nI_ge z (by omega)); exact z
        have c46 : j = (rowV b sh).1.length := by omega
        refine lv_iload_n hx hb dX2_read_131 rfl (lv_at hl 1 rfl) ?_
        exact k_ireti (v := rdS b x (rowV b sh).1 j) hx hb hret (rfl) hlk hS (Nat.le_of_ble_eq_true rfl) (Nat.le_of_ble_eq_true rfl) (⟨rfl, by unfold readV; rw [if_pos c8, if_neg c20, hsh, nI_clamp (by omega), if_neg (hj0 (by omega)), c46]⟩) dX2_read_132
      · rw [show t1 = nI (rowV b sh).1.length from ht1.trans hrr.1] at c46
        have c46 : j < (rowV b sh).1.length := by rcases Nat.lt_or_ge (j) ((rowV b sh).1.length) with z | z; exact z; exact absurd (nI_le z (by omega)) c46
        refine lv_aload_n hx hb dX2_read_49 rfl (lv_at hl 4 rfl) ?_
        refine lv_iload_n hx hb dX2_read_50 rfl (lv_at hl 2 rfl) ?_
        refine k_calliS (va_runV (As := [.int (nI sh)]) (rest := []) ⟨hx, hb, hml, hown, hts⟩ (m_isTorn l g sh hM (by omega)) (cwV 1 hts (lw_V q1523 q1525 qs33 q56 q1526) rfl rfl rfl hdV_X2_isTorn ⟨Nat.le_of_ble_eq_true rfl, Nat.le_of_ble_eq_true rfl⟩) (preV hK hS h0 rfl) rfl rfl hl.1 rfl (lv_room (Nat.le_of_ble_eq_true rfl)) dX2_read_51 ⟨Nat.le_of_ble_eq_true rfl, Nat.le_of_ble_eq_true rfl⟩) hS (fun z2 locs hz2 hS => ?_)
        refine lv_if_ne (tgt := 131) hx hb dX2_read_54 (by decide) (fun c54 => ?_) (fun c54 => ?_)
        · have c54 := b2t hz2 c54
          rw [hrr.2.2.1] at c54
          refine lv_iload_n hx hb dX2_read_131 rfl (lv_at hl 1 rfl) ?_
          exact k_ireti (v := rdS b x (rowV b sh).1 j) hx hb hret (rfl) hlk hS (Nat.le_of_ble_eq_true rfl) (Nat.le_of_ble_eq_true rfl) (⟨rfl, by unfold readV; rw [if_pos c8, if_neg c20, hsh, nI_clamp (by omega), if_pos c54, show j = 0 by rcases Nat.eq_zero_or_pos j with z | z; exact z; exact absurd c54 (hj0 z)]; rfl⟩) dX2_read_132
        · have c54 := b2f hz2 c54
          rw [hrr.2.2.1] at c54
          refine lv_aload_n hx hb dX2_read_57 rfl (lv_at hl 4 rfl) ?_
          refine lv_iload_n hx hb dX2_read_58 rfl (lv_at hl 2 rfl) ?_
          refine lv_iconst (v := nI 3) hx hb dX2_read_59 (by decide) ?_
          refine lv_iload hx hb dX2_read_60 (lv_at hl 0 rfl) ?_
          refine lv_iadd hx hb dX2_read_62 ?_
          refine k_topi (nI (3 + j)) (nI_add 3 j) ?_
          refine k_calliS (va_runV (As := [.int (nI sh), .int (nI (3 + j))]) (rest := []) ⟨hx, hb, hml, hown, hts⟩ (m_of l g sh (3 + j) hM (by omega)) (cwV 2 hts (lw_V q1515 q1517 qs32 q56 q1518) rfl rfl rfl hdV_X2_of ⟨Nat.le_of_ble_eq_true rfl, Nat.le_of_ble_eq_true rfl⟩) (preV hK hS h0 rfl) rfl rfl hl.1 rfl (lv_room (Nat.le_of_ble_eq_true rfl)) dX2_read_63 ⟨Nat.le_of_ble_eq_true rfl, Nat.le_of_ble_eq_true rfl⟩) hS (fun cj locs hcj hS => ?_)
          have hcj : cj = (rowV b sh).1.getD j 0 := by rw [hcj, show 11 + 17 * sh + (3 + j) = 14 + 17 * sh + j by omega]; exact hrr.2.2.2 j c46
          refine lv_istore (lv' := [(5, .int cj), (4, .int (nI j)), (3, .int (rdS b x (rowV b sh).1 j)), (2, .int (nI sh)), (1, .int x), (0, .ref (A 0))]) hx hb dX2_read_66 hl (by decide) rfl (fun ls hl => ?_)
          refine lv_iload hx hb dX2_read_68 (lv_at hl 0 rfl) ?_
          refine lv_bipush (v := 32) hx hb dX2_read_70 (by decide) ?_
          refine lv_icmp_eq (tgt := 105) hx hb dX2_read_72 (by decide) (fun c72 => ?_) (fun c72 => ?_)
          · rw [hcj] at c72
            refine lv_iconst (v := 1) hx hb dX2_read_105 (by decide) ?_
            refine lv_goto (tgt := 110) hx hb dX2_read_106 (by decide) ?_
            refine lv_istore (lv' := [(6, .int 1), (5, .int cj), (4, .int (nI j)), (3, .int (rdS b x (rowV b sh).1 j)), (2, .int (nI sh)), (1, .int x), (0, .ref (A 0))]) hx hb dX2_read_110 hl (by decide) rfl (fun ls hl => ?_)
            refine lv_iload_n hx hb dX2_read_112 rfl (lv_at hl 3 rfl) ?_
            refine lv_iload hx hb dX2_read_113 (lv_at hl 0 rfl) ?_
            refine lv_if_eq (tgt := 122) hx hb dX2_read_115 (by decide) (fun c115 => absurd c115 (by decide)) (fun c115 => ?_)
            refine lv_iconst (v := 1) hx hb dX2_read_118 (by decide) ?_
            refine lv_goto (tgt := 123) hx hb dX2_read_119 (by decide) ?_
            refine lv_iadd hx hb dX2_read_123 ?_
            refine k_topi (rdS b x (rowV b sh).1 (j + 1)) (congrArg _ (if_pos (Or.inl c72)).symm) ?_
            refine lv_istore_n (lv' := [(3, .int (rdS b x (rowV b sh).1 (j + 1))), (6, .int 1), (5, .int cj), (4, .int (nI j)), (2, .int (nI sh)), (1, .int x), (0, .ref (A 0))]) hx hb dX2_read_124 rfl hl (by decide) rfl (fun ls hl => ?_)
            refine lv_iinc (v := nI (j + 1)) (lv' := [(4, .int (nI (j + 1))), (3, .int (rdS b x (rowV b sh).1 (j + 1))), (6, .int 1), (5, .int cj), (2, .int (nI sh)), (1, .int x), (0, .ref (A 0))]) hx hb dX2_read_125 hl (k := 3) rfl (nI_1 j) (by decide) rfl (fun ls hl => ?_)
            refine lv_goto (tgt := 38) hx hb dX2_read_128 (by decide) ?_
            exact ih (j + 1) _ _ _ _ _ ⟨by omega, fun _ => c54, rfl, hS, rfl, rfl, lv_sub hl [0, 1, 4, 5, 6] rfl⟩ (by omega)
          · rw [hcj] at c72
            refine lv_iload hx hb dX2_read_75 (lv_at hl 0 rfl) ?_
            refine k_calliS (va_runS (As := [.int cj]) (rest := []) ⟨hx, hb, hml, hown, hts⟩ (m_wide l g cj) (va_cwS 1 hts (lw_S q1475 q1476 q56 q1477) rfl rfl rfl hdS_X2_wide ⟨Nat.le_of_ble_eq_true rfl, Nat.le_of_ble_eq_true rfl⟩) (preS hK hS) rfl rfl hl.1 rfl (lv_room (Nat.le_of_ble_eq_true rfl)) dX2_read_77 ⟨Nat.le_of_ble_eq_true rfl, Nat.le_of_ble_eq_true rfl⟩) hS (fun wj locs hwj hS => ?_)
            refine lv_aload_n hx hb dX2_read_80 rfl (lv_at hl 5 rfl) ?_
            refine k_get (ci := 2) hx hb hts in_X2 hown hK h0 rfl 0 (by decide) q1400 (fun _ h9 => h9) rfl dX2_read_81 ?_
            refine lv_bipush (v := nI 10) hx hb dX2_read_84 (by decide) ?_
            refine k_ildN hx hb hK h1 (10) (rfl) (by omega) (by decide) dX2_read_86 ?_
            refine k_topi (b.2.2 2) (hs.2.2.2.2.2.2.2.2.2.2.1) ?_
            refine lv_imul hx hb dX2_read_87 ?_
            refine lv_bipush (v := 100) hx hb dX2_read_88 (by decide) ?_
            refine lv_imul hx hb dX2_read_90 ?_
            refine lv_aload_n hx hb dX2_read_91 rfl (lv_at hl 5 rfl) ?_
            refine lv_aload_n hx hb dX2_read_92 rfl (lv_at hl 5 rfl) ?_
            refine lv_iload_n hx hb dX2_read_93 rfl (lv_at hl 3 rfl) ?_
            refine k_calliS (va_runV (As := [.int (nI sh)]) (rest := [.ref (A 0), .int ((wj * (b.2.2 2)) * 100)]) ⟨hx, hb, hml, hown, hts⟩ (m_width l g sh (rowV b sh).1.length hM (by omega) hrr.1 h14.2) (cwV 1 hts (lw_V q1576 q1578 qs41 q56 q1579) rfl rfl rfl hdV_X2_width ⟨Nat.le_of_ble_eq_true rfl, Nat.le_of_ble_eq_true rfl⟩) (preV hK hS h0 rfl) rfl rfl hl.1 rfl (lv_room (Nat.le_of_ble_eq_true rfl)) dX2_read_94 ⟨Nat.le_of_ble_eq_true rfl, Nat.le_of_ble_eq_true rfl⟩) hS (fun wd1 locs hwd1 hS => ?_)
            refine k_calliS (va_runV (As := [.int wd1]) (rest := [.int ((wj * (b.2.2 2)) * 100)]) ⟨hx, hb, hml, hown, hts⟩ (m_squeezed l g wd1 hM (by rw [hs.w]; exact hok.wide0)) (cwV 1 hts (lw_V q1478 q1480 qs27 q56 q1481) rfl rfl rfl hdV_X2_squeezed ⟨Nat.le_of_ble_eq_true rfl, Nat.le_of_ble_eq_true rfl⟩) (preV hK hS h0 rfl) rfl rfl hl.1 rfl (lv_room (Nat.le_of_ble_eq_true rfl)) dX2_read_97 ⟨Nat.le_of_ble_eq_true rfl, Nat.le_of_ble_eq_true rfl⟩) hS (fun sq1 locs hsq1 hS => ?_)
            have hsq1 : sq1 = sqV b (rowV b sh).1 := by rw [hsq1, hwd1]; unfold sqV; rw [hrr.wsum, hs.w]
            refine lv_idiv hx hb dX2_read_100 (by rw [hsq1]; exact sqV_ne hok h14) ?_
            refine lv_iload_n hx hb dX2_read_101 rfl (lv_at hl 4 rfl) ?_
            refine lv_icmp_lt (tgt := 109) hx hb dX2_read_102 (by decide) (fun c102 => ?_) (fun c102 => ?_)
            · rw [hwj, hsq1, hcj] at c102
              refine lv_iconst (v := 0) hx hb dX2_read_109 (by decide) ?_
              refine lv_istore (lv' := [(6, .int 0), (5, .int cj), (4, .int (nI j)), (3, .int (rdS b x (rowV b sh).1 j)), (2, .int (nI sh)), (1, .int x), (0, .ref (A 0))]) hx hb dX2_read_110 hl (by decide) rfl (fun ls hl => ?_)
              refine lv_iload_n hx hb dX2_read_112 rfl (lv_at hl 3 rfl) ?_
              refine lv_iload hx hb dX2_read_113 (lv_at hl 0 rfl) ?_
              refine lv_if_eq (tgt := 122) hx hb dX2_read_115 (by decide) (fun c115 => ?_) (fun c115 => absurd (by decide) c115)
              refine lv_iconst (v := 0) hx hb dX2_read_122 (by decide) ?_
              refine lv_iadd hx hb dX2_read_123 ?_
              refine k_topi (rdS b x (rowV b sh).1 (j + 1)) (congrArg _ (if_neg (fun h => h.elim c72 (Int32.not_le.mpr c102))).symm) ?_
              refine lv_istore_n (lv' := [(3, .int (rdS b x (rowV b sh).1 (j + 1))), (6, .int 0), (5, .int cj), (4, .int (nI j)), (2, .int (nI sh)), (1, .int x), (0, .ref (A 0))]) hx hb dX2_read_124 rfl hl (by decide) rfl (fun ls hl => ?_)
              refine lv_iinc (v := nI (j + 1)) (lv' := [(4, .int (nI (j + 1))), (3, .int (rdS b x (rowV b sh).1 (j + 1))), (6, .int 0), (5, .int cj), (2, .int (nI sh)), (1, .int x), (0, .ref (A 0))]) hx hb dX2_read_125 hl (k := 3) rfl (nI_1 j) (by decide) rfl (fun ls hl => ?_)
              refine lv_goto (tgt := 38) hx hb dX2_read_128 (by decide) ?_
              exact ih (j + 1) _ _ _ _ _ ⟨by omega, fun _ => c54, rfl, hS, rfl, rfl, lv_sub hl [0, 1, 4, 5, 6] rfl⟩ (by omega)
            · rw [hwj, hsq1, hcj] at c102
              refine lv_iconst (v := 1) hx hb dX2_read_105 (by decide) ?_
              refine lv_goto (tgt := 110) hx hb dX2_read_106 (by decide) ?_
              refine lv_istore (lv' := [(6, .int 1), (5, .int cj), (4, .int (nI j)), (3, .int (rdS b x (rowV b sh).1 j)), (2, .int (nI sh)), (1, .int x), (0, .ref (A 0))]) hx hb dX2_read_110 hl (by decide) rfl (fun ls hl => ?_)
              refine lv_iload_n hx hb dX2_read_112 rfl (lv_at hl 3 rfl) ?_
              refine lv_iload hx hb dX2_read_113 (lv_at hl 0 rfl) ?_
              refine lv_if_eq (tgt := 122) hx hb dX2_read_115 (by decide) (fun c115 => absurd c115 (by decide)) (fun c115 => ?_)
              refine lv_iconst (v := 1) hx hb dX2_read_118 (by decide) ?_
              refine lv_goto (tgt := 123) hx hb dX2_read_119 (by decide) ?_
              refine lv_iadd hx hb dX2_read_123 ?_
              refine k_topi (rdS b x (rowV b sh).1 (j + 1)) (congrArg _ (if_pos (Or.inr (i_nlt c102))).symm) ?_
              refine lv_istore_n (lv' := [(3, .int (rdS b x (rowV b sh).1 (j + 1))), (6, .int 1), (5, .int cj), (4, .int (nI j)), (2, .int (nI sh)), (1, .int x), (0, .ref (A 0))]) hx hb dX2_read_124 rfl hl (by decide) rfl (fun ls hl => ?_)
              refine lv_iinc (v := nI (j + 1)) (lv' := [(4, .int (nI (j + 1))), (3, .int (rdS b x (rowV b sh).1 (j + 1))), (6, .int 1), (5, .int cj), (2, .int (nI sh)), (1, .int x), (0, .ref (A 0))]) hx hb dX2_read_125 hl (k := 3) rfl (nI_1 j) (by decide) rfl (fun ls hl => ?_)
              refine lv_goto (tgt := 38) hx hb dX2_read_128 (by decide) ?_
              exact ih (j + 1) _ _ _ _ _ ⟨by omega, fun _ => c54, rfl, hS, rfl, rfl, lv_sub hl [0, 1, 4, 5, 6] rfl⟩ (by omega)
    · have c20 : b.1.length = 0 := (nI_eq (a := b.1.length) (b := 0) (by omega) (by omega)).mp c20
      refine lv_ldc (v := (-1000004)) hx hb hown (hts _ q1486) dX2_read_23 ?_
      exact k_ireti (v := (-1000004)) hx hb hret (rfl) hlk hS (Nat.le_of_ble_eq_true rfl) (Nat.le_of_ble_eq_true rfl) (⟨rfl, by unfold readV; rw [if_pos c8, if_pos c20]⟩) dX2_read_25
  · have c8 := b2f hz1 c8
    refine lv_ldc (v := (-1000001)) hx hb hown (hts _ q1447) dX2_read_11 ?_
    exact k_ireti (v := (-1000001)) hx hb hret (rfl) hlk hS (Nat.le_of_ble_eq_true rfl) (Nat.le_of_ble_eq_true rfl) (⟨rfl, by unfold readV; rw [if_neg c8]⟩) dX2_read_13
/-- find() -/
theorem mp_find (l : Launch) (g : GT) {H : Heap} {A : Nat → Nat} {F : Nat → Nat → Int32} {I : Nat → Int32} (b : BV) (tx : List Int32) (hM : MAt g A F I H) (hs : SRel (F 1) b) (hok : okB b) (ht : I 5 = nI tx.length) (hT : TRel (F 4) tx) : Met l yX2_find (ws_ yX2_find cX2_find 4 (some .int)) ({ frames := 1, cells := 0, slots := 0, locals := 22 } : Room) (va_Pc [.ref (A 0)] (Pre g H)) (Qi g (fun z H1 => H1 = H ∧ z = findV b tx)) 0 0 (gA g) := by
  refine k_met (cc := cX2_find) (nL := 4) (vs := [.ref (A 0)]) (by decide +kernel) (Nat.le_of_ble_eq_true rfl) ?_
  intro p e s m below meth c hH hx hb hret hts hown hlk hml hin hK hS ls hl
  subst hH
  have hown : s.vm.findClass RX2 = some m.cls := hown
  have hl : lv_has ls 4 [(0, .ref (A 0))] := hl
  obtain ⟨h0, h1, h2, h3, h4, n12, n13, n14, n23, n24, n34⟩ := id hM
  have hl20 := hok.1
  have hl6 := hok.2.1
  have ht60 := hT.1
  refine lv_iconst (v := nI 0) hx hb dX2_find_0 (by decide) ?_
  refine lv_istore_n (lv' := [(1, .int (nI 0)), (0, .ref (A 0))]) hx hb dX2_find_1 rfl hl (by decide) rfl (fun ls hl => ?_)
  refine w_loop (Inv := fun (r : Nat) Hh locs cells slots ls => r ≤ b.1.length ∧ (∀ q, q < r → (rowV b q).1 ≠ tx) ∧ s.heap = Hh ∧ va_S (gA g) s.heap Hh locs ∧ cells = 0 ∧ slots = 0 ∧ lv_has ls 4 [(1, .int (nI r)), (0, .ref (A 0))]) (μ := fun r => b.1.length - r) ?_ 0 _ _ _ _ _ ⟨Nat.zero_le _, fun q h => absurd h (by omega), rfl, hS, rfl, rfl, lv_sub hl [0, 1] rfl⟩
  intro r Hh locs cells slots ls hInv ih
  obtain ⟨hr0, hno, rfl, hS, rfl, rfl, hl⟩ := hInv
  refine lv_iload_n hx hb dX2_find_2 rfl (lv_at hl 0 rfl) ?_
  refine lv_aload_n hx hb dX2_find_3 rfl (lv_at hl 1 rfl) ?_
  refine k_get (ci := 2) hx hb hts in_X2 hown hK h0 rfl 0 (by decide) q1400 (fun _ h9 => h9) rfl dX2_find_4 ?_
  refine lv_iconst (v := nI 0) hx hb dX2_find_7 (by decide) ?_
  refine k_ildN hx hb hK h1 (0) (rfl) (by omega) (by decide) dX2_find_8 ?_
  refine k_topi (nI b.1.length) (hs.rows) ?_
  refine lv_icmp_ge (tgt := 86) hx hb dX2_find_9 (by decide) (fun c9 => ?_) (fun c9 => ?_)
  · have hr : b.1.length ≤ r := by rcases Nat.lt_or_ge (r) (b.1.length) with z | z; exact absurd c9 (nI_ge z (by omega)); exact z
    have hr : r = b.1.length := by omega
    refine lv_ldc (v := (-1000004)) hx hb hown (hts _ q1486) dX2_find_86 ?_
    exact k_ireti (v := (-1000004)) hx hb hret (rfl) hlk hS (Nat.le_of_ble_eq_true rfl) (Nat.le_of_ble_eq_true rfl) (⟨rfl, by unfold findV; rw [range_find_none (fun q hq => by simp only [decide_eq_false_iff_not]; exact hno q (by omega))]⟩) dX2_find_88
  · have hr : r < b.1.length := by rcases Nat.lt_or_ge (r) (b.1.length) with z | z; exact z; exact absurd (nI_le z (by omega)) c9
    have hrr := hs.row hr
    have h14 := hok.name hr
    refine lv_aload_n hx hb dX2_find_12 rfl (lv_at hl 1 rfl) ?_
    refine lv_iload_n hx hb dX2_find_13 rfl (lv_at hl 0 rfl) ?_
    refine lv_iconst (v := nI 0) hx hb dX2_find_14 (by decide) ?_
    refine k_calliS (va_runV (As := [.int (nI r), .int (nI 0)]) (rest := []) ⟨hx, hb, hml, hown, hts⟩ (m_of l g r 0 hM (by omega)) (cwV 2 hts (lw_V q1515 q1517 qs32 q56 q1518) rfl rfl rfl hdV_X2_of ⟨Nat.le_of_ble_eq_true rfl, Nat.le_of_ble_eq_true rfl⟩) (preV hK hS h0 rfl) rfl rfl hl.1 rfl (lv_room (Nat.le_of_ble_eq_true rfl)) dX2_find_15 ⟨Nat.le_of_ble_eq_true rfl, Nat.le_of_ble_eq_true rfl⟩) hS (fun t1 locs ht1 hS => ?_)
    refine lv_aload_n hx hb dX2_find_18 rfl (lv_at hl 1 rfl) ?_
    refine k_get (ci := 2) hx hb hts in_X2 hown hK h0 rfl 5 (by decide) q1405 (fun _ h9 => h9) rfl dX2_find_19 ?_
    refine k_topi (nI tx.length) (ht) ?_
    refine lv_icmp_ne (tgt := 29) hx hb dX2_find_22 (by decide) (fun c22 => ?_) (fun c22 => ?_)
    · rw [show t1 = nI (rowV b r).1.length from ht1.trans hrr.1] at c22
      have c22 : (rowV b r).1.length ≠ tx.length := fun z => c22 (by rw [z])
      refine lv_iconst (v := 0) hx hb dX2_find_29 (by decide) ?_
      refine lv_istore_n (lv' := [(2, .int 0), (1, .int (nI r)), (0, .ref (A 0))]) hx hb dX2_find_30 rfl hl (by decide) rfl (fun ls hl => ?_)
      refine lv_iconst (v := nI 0) hx hb dX2_find_31 (by decide) ?_
      refine lv_istore_n (lv' := [(3, .int (nI 0)), (2, .int 0), (1, .int (nI r)), (0, .ref (A 0))]) hx hb dX2_find_32 rfl hl (by decide) rfl (fun ls hl => ?_)
      have ih0 := ih
      refine w_loop2 (Inv := fun (k : Nat) (z : Int32) Hh locs cells slots ls => k ≤ tx.length ∧ ((z = 1 ∧ (rowV b r).1.length = tx.length ∧ ∀ q, q < k → (rowV b r).1.getD q 0 = tx.getD q 0) ∨ (z = 0 ∧ (rowV b r).1 ≠ tx)) ∧ s.heap = Hh ∧ va_S (gA g) s.heap Hh locs ∧ cells = 0 ∧ slots = 0 ∧ lv_has ls 4 [(3, .int (nI k)), (2, .int z), (1, .int (nI r)), (0, .ref (A 0))]) (μ := fun k _ => tx.length - k) ?_ 0 0 _ _ _ _ _ ⟨Nat.zero_le _, Or.inr ⟨rfl, fun e => c22 (by rw [e])⟩, rfl, hS, rfl, rfl, lv_sub hl [0, 1, 2, 3] rfl⟩
      intro k z Hh locs cells slots ls hInv ih
      obtain ⟨hk, hz, rfl, hS, rfl, rfl, hl⟩ := hInv
      refine lv_iload_n hx hb dX2_find_33 rfl (lv_at hl 0 rfl) ?_
      refine lv_aload_n hx hb dX2_find_34 rfl (lv_at hl 3 rfl) ?_
      refine k_get (ci := 2) hx hb hts in_X2 hown hK h0 rfl 5 (by decide) q1405 (fun _ h9 => h9) rfl dX2_find_35 ?_
      refine k_topi (nI tx.length) (ht) ?_
      refine lv_icmp_ge (tgt := 74) hx hb dX2_find_38 (by decide) (fun c38 => ?_) (fun c38 => ?_)
      · have c38 : tx.length ≤ k := by rcases Nat.lt_or_ge (k) (tx.length) with z | z; exact absurd c38 (nI_ge z (by omega)); exact z
        have c38 : k = tx.length := by omega
        refine lv_iload_n hx hb dX2_find_74 rfl (lv_at hl 1 rfl) ?_
        refine lv_if_eq (tgt := 80) hx hb dX2_find_75 (by decide) (fun c75 => ?_) (fun c75 => ?_)
        · have hne := (hz.resolve_left (fun h => absurd (h.1.symm.trans c75) (by decide))).2
          have ih := ih0
          refine lv_iinc (v := nI (r + 1)) (lv' := [(1, .int (nI (r + 1))), (3, .int (nI k)), (2, .int z), (0, .ref (A 0))]) hx hb dX2_find_80 hl (k := 2) rfl (nI_1 r) (by decide) rfl (fun ls hl => ?_)
          refine lv_goto (tgt := 2) hx hb dX2_find_83 (by decide) ?_
          exact ih (r + 1) _ _ _ _ _ ⟨by omega, fun q hq => by rcases Nat.lt_or_ge q r with z | z; exact hno q z; rw [show q = r by omega]; exact hne, rfl, hS, rfl, rfl, lv_sub hl [0, 3] rfl⟩ (by omega)
        · have hzz := hz.resolve_right (fun h => c75 h.1)
          have heq : (rowV b r).1 = tx := list_eq hzz.2.1 (fun q hq => hzz.2.2 q (by omega))
          refine lv_iload_n hx hb dX2_find_78 rfl (lv_at hl 2 rfl) ?_
          exact k_ireti (v := nI r) hx hb hret (rfl) hlk hS (Nat.le_of_ble_eq_true rfl) (Nat.le_of_ble_eq_true rfl) (⟨rfl, by unfold findV; rw [range_find hr (by simp only [decide_eq_true_eq]; exact heq) (fun q hq => by simp only [decide_eq_false_iff_not]; exact hno q hq)]⟩) dX2_find_79
      · have c38 : k < tx.length := by rcases Nat.lt_or_ge (k) (tx.length) with z | z; exact z; exact absurd (nI_le z (by omega)) c38
        refine lv_iload_n hx hb dX2_find_41 rfl (lv_at hl 1 rfl) ?_
        refine lv_if_eq (tgt := 74) hx hb dX2_find_42 (by decide) (fun c42 => ?_) (fun c42 => ?_)
        · refine lv_iload_n hx hb dX2_find_74 rfl (lv_at hl 1 rfl) ?_
          refine lv_if_eq (tgt := 80) hx hb dX2_find_75 (by decide) (fun c75 => ?_) (fun c75 => ?_)
          · have hne := (hz.resolve_left (fun h => absurd (h.1.symm.trans c75) (by decide))).2
            have ih := ih0
            refine lv_iinc (v := nI (r + 1)) (lv' := [(1, .int (nI (r + 1))), (3, .int (nI k)), (2, .int z), (0, .ref (A 0))]) hx hb dX2_find_80 hl (k := 2) rfl (nI_1 r) (by decide) rfl (fun ls hl => ?_)
            refine lv_goto (tgt := 2) hx hb dX2_find_83 (by decide) ?_
            exact ih (r + 1) _ _ _ _ _ ⟨by omega, fun q hq => by rcases Nat.lt_or_ge q r with z | z; exact hno q z; rw [show q = r by omega]; exact hne, rfl, hS, rfl, rfl, lv_sub hl [0, 3] rfl⟩ (by omega)
          · have hzz := hz.resolve_right (fun h => c75 h.1)
            exact absurd c42 (fun h => c75 h)
        · have hzz := hz.resolve_right (fun h => c42 h.1)
          refine lv_aload_n hx hb dX2_find_45 rfl (lv_at hl 3 rfl) ?_
          refine lv_iload_n hx hb dX2_find_46 rfl (lv_at hl 2 rfl) ?_
          refine lv_iconst (v := nI 3) hx hb dX2_find_47 (by decide) ?_
          refine lv_iload_n hx hb dX2_find_48 rfl (lv_at hl 0 rfl) ?_
          refine lv_iadd hx hb dX2_find_49 ?_
          refine k_topi (nI (3 + k)) (nI_add 3 k) ?_
          refine k_calliS (va_runV (As := [.int (nI r), .int (nI (3 + k))]) (rest := []) ⟨hx, hb, hml, hown, hts⟩ (m_of l g r (3 + k) hM (by omega)) (cwV 2 hts (lw_V q1515 q1517 qs32 q56 q1518) rfl rfl rfl hdV_X2_of ⟨Nat.le_of_ble_eq_true rfl, Nat.le_of_ble_eq_true rfl⟩) (preV hK hS h0 rfl) rfl rfl hl.1 rfl (lv_room (Nat.le_of_ble_eq_true rfl)) dX2_find_50 ⟨Nat.le_of_ble_eq_true rfl, Nat.le_of_ble_eq_true rfl⟩) hS (fun t2 locs ht2 hS => ?_)
          refine lv_aload_n hx hb dX2_find_53 rfl (lv_at hl 3 rfl) ?_
          refine k_get (ci := 2) hx hb hts in_X2 hown hK h0 rfl 4 (by decide) q1404 (fun _ h9 => h9) rfl dX2_find_54 ?_
          refine lv_iload_n hx hb dX2_find_57 rfl (lv_at hl 0 rfl) ?_
          refine k_ildN hx hb hK h4 (k) (rfl) (by omega) (by decide) dX2_find_58 ?_
          refine k_topi (tx.getD k 0) (hT.2 k c38) ?_
          refine lv_icmp_ne (tgt := 66) hx hb dX2_find_59 (by decide) (fun c59 => ?_) (fun c59 => ?_)
          · rw [show t2 = (rowV b r).1.getD k 0 by rw [ht2, show 11 + 17 * r + (3 + k) = 14 + 17 * r + k by omega]; exact hrr.2.2.2 k (by omega)] at c59
            refine lv_iconst (v := 0) hx hb dX2_find_66 (by decide) ?_
            refine lv_istore_n (lv' := [(2, .int 0), (3, .int (nI k)), (1, .int (nI r)), (0, .ref (A 0))]) hx hb dX2_find_67 rfl hl (by decide) rfl (fun ls hl => ?_)
            refine lv_iinc (v := nI (k + 1)) (lv' := [(3, .int (nI (k + 1))), (2, .int 0), (1, .int (nI r)), (0, .ref (A 0))]) hx hb dX2_find_68 hl (k := 1) rfl (nI_1 k) (by decide) rfl (fun ls hl => ?_)
            refine lv_goto (tgt := 33) hx hb dX2_find_71 (by decide) ?_
            exact ih (k + 1) (0) _ _ _ _ _ ⟨by omega, Or.inr ⟨rfl, fun e => c59 (by rw [e])⟩, rfl, hS, rfl, rfl, lv_sub hl [0, 1, 2, 3] rfl⟩ (by omega)
          · rw [show t2 = (rowV b r).1.getD k 0 by rw [ht2, show 11 + 17 * r + (3 + k) = 14 + 17 * r + k by omega]; exact hrr.2.2.2 k (by omega)] at c59
            refine lv_iconst (v := 1) hx hb dX2_find_62 (by decide) ?_
            refine lv_goto (tgt := 67) hx hb dX2_find_63 (by decide) ?_
            refine lv_istore_n (lv' := [(2, .int 1), (3, .int (nI k)), (1, .int (nI r)), (0, .ref (A 0))]) hx hb dX2_find_67 rfl hl (by decide) rfl (fun ls hl => ?_)
            refine lv_iinc (v := nI (k + 1)) (lv' := [(3, .int (nI (k + 1))), (2, .int 1), (1, .int (nI r)), (0, .ref (A 0))]) hx hb dX2_find_68 hl (k := 1) rfl (nI_1 k) (by decide) rfl (fun ls hl => ?_)
            refine lv_goto (tgt := 33) hx hb dX2_find_71 (by decide) ?_
            exact ih (k + 1) (1) _ _ _ _ _ ⟨by omega, Or.inl ⟨rfl, hzz.2.1, fun q hq => by rcases Nat.lt_or_ge q k with y | y; exact hzz.2.2 q y; rw [show q = k by omega]; exact c59⟩, rfl, hS, rfl, rfl, lv_sub hl [0, 1, 2, 3] rfl⟩ (by omega)
    · rw [show t1 = nI (rowV b r).1.length from ht1.trans hrr.1] at c22
      have c22 : (rowV b r).1.length = tx.length := (nI_eq (by omega) (by omega)).mp c22
      refine lv_iconst (v := 1) hx hb dX2_find_25 (by decide) ?_
      refine lv_goto (tgt := 30) hx hb dX2_find_26 (by decide) ?_
      refine lv_istore_n (lv' := [(2, .int 1), (1, .int (nI r)), (0, .ref (A 0))]) hx hb dX2_find_30 rfl hl (by decide) rfl (fun ls hl => ?_)
      refine lv_iconst (v := nI 0) hx hb dX2_find_31 (by decide) ?_
      refine lv_istore_n (lv' := [(3, .int (nI 0)), (2, .int 1), (1, .int (nI r)), (0, .ref (A 0))]) hx hb dX2_find_32 rfl hl (by decide) rfl (fun ls hl => ?_)
      have ih0 := ih
      refine w_loop2 (Inv := fun (k : Nat) (z : Int32) Hh locs cells slots ls => k ≤ tx.length ∧ ((z = 1 ∧ (rowV b r).1.length = tx.length ∧ ∀ q, q < k → (rowV b r).1.getD q 0 = tx.getD q 0) ∨ (z = 0 ∧ (rowV b r).1 ≠ tx)) ∧ s.heap = Hh ∧ va_S (gA g) s.heap Hh locs ∧ cells = 0 ∧ slots = 0 ∧ lv_has ls 4 [(3, .int (nI k)), (2, .int z), (1, .int (nI r)), (0, .ref (A 0))]) (μ := fun k _ => tx.length - k) ?_ 0 1 _ _ _ _ _ ⟨Nat.zero_le _, Or.inl ⟨rfl, c22, fun q h => absurd h (by omega)⟩, rfl, hS, rfl, rfl, lv_sub hl [0, 1, 2, 3] rfl⟩
      intro k z Hh locs cells slots ls hInv ih
      obtain ⟨hk, hz, rfl, hS, rfl, rfl, hl⟩ := hInv
      refine lv_iload_n hx hb dX2_find_33 rfl (lv_at hl 0 rfl) ?_
      refine lv_aload_n hx hb dX2_find_34 rfl (lv_at hl 3 rfl) ?_
      refine k_get (ci := 2) hx hb hts in_X2 hown hK h0 rfl 5 (by decide) q1405 (fun _ h9 => h9) rfl dX2_find_35 ?_
      refine k_topi (nI tx.length) (ht) ?_
      refine lv_icmp_ge (tgt := 74) hx hb dX2_find_38 (by decide) (fun c38 => ?_) (fun c38 => ?_)
      · have c38 : tx.length ≤ k := by rcases Nat.lt_or_ge (k) (tx.length) with z | z; exact absurd c38 (nI_ge z (by omega)); exact z
        have c38 : k = tx.length := by omega
        refine lv_iload_n hx hb dX2_find_74 rfl (lv_at hl 1 rfl) ?_
        refine lv_if_eq (tgt := 80) hx hb dX2_find_75 (by decide) (fun c75 => ?_) (fun c75 => ?_)
        · have hne := (hz.resolve_left (fun h => absurd (h.1.symm.trans c75) (by decide))).2
          have ih := ih0
          refine lv_iinc (v := nI (r + 1)) (lv' := [(1, .int (nI (r + 1))), (3, .int (nI k)), (2, .int z), (0, .ref (A 0))]) hx hb dX2_find_80 hl (k := 2) rfl (nI_1 r) (by decide) rfl (fun ls hl => ?_)
          refine lv_goto (tgt := 2) hx hb dX2_find_83 (by decide) ?_
          exact ih (r + 1) _ _ _ _ _ ⟨by omega, fun q hq => by rcases Nat.lt_or_ge q r with z | z; exact hno q z; rw [show q = r by omega]; exact hne, rfl, hS, rfl, rfl, lv_sub hl [0, 3] rfl⟩ (by omega)
        · have hzz := hz.resolve_right (fun h => c75 h.1)
          have heq : (rowV b r).1 = tx := list_eq hzz.2.1 (fun q hq => hzz.2.2 q (by omega))
          refine lv_iload_n hx hb dX2_find_78 rfl (lv_at hl 2 rfl) ?_
          exact k_ireti (v := nI r) hx hb hret (rfl) hlk hS (Nat.le_of_ble_eq_true rfl) (Nat.le_of_ble_eq_true rfl) (⟨rfl, by unfold findV; rw [range_find hr (by simp only [decide_eq_true_eq]; exact heq) (fun q hq => by simp only [decide_eq_false_iff_not]; exact hno q hq)]⟩) dX2_find_79
      · have c38 : k < tx.length := by rcases Nat.lt_or_ge (k) (tx.length) with z | z; exact z; exact absurd (nI_le z (by omega)) c38
        refine lv_iload_n hx hb dX2_find_41 rfl (lv_at hl 1 rfl) ?_
        refine lv_if_eq (tgt := 74) hx hb dX2_find_42 (by decide) (fun c42 => ?_) (fun c42 => ?_)
        · refine lv_iload_n hx hb dX2_find_74 rfl (lv_at hl 1 rfl) ?_
          refine lv_if_eq (tgt := 80) hx hb dX2_find_75 (by decide) (fun c75 => ?_) (fun c75 => ?_)
          · have hne := (hz.resolve_left (fun h => absurd (h.1.symm.trans c75) (by decide))).2
            have ih := ih0
            refine lv_iinc (v := nI (r + 1)) (lv' := [(1, .int (nI (r + 1))), (3, .int (nI k)), (2, .int z), (0, .ref (A 0))]) hx hb dX2_find_80 hl (k := 2) rfl (nI_1 r) (by decide) rfl (fun ls hl => ?_)
            refine lv_goto (tgt := 2) hx hb dX2_find_83 (by decide) ?_
            exact ih (r + 1) _ _ _ _ _ ⟨by omega, fun q hq => by rcases Nat.lt_or_ge q r with z | z; exact hno q z; rw [show q = r by omega]; exact hne, rfl, hS, rfl, rfl, lv_sub hl [0, 3] rfl⟩ (by omega)
          · have hzz := hz.resolve_right (fun h => c75 h.1)
            exact absurd c42 (fun h => c75 h)
        · have hzz := hz.resolve_right (fun h => c42 h.1)
          refine lv_aload_n hx hb dX2_find_45 rfl (lv_at hl 3 rfl) ?_
          refine lv_iload_n hx hb dX2_find_46 rfl (lv_at hl 2 rfl) ?_
          refine lv_iconst (v := nI 3) hx hb dX2_find_47 (by decide) ?_
          refine lv_iload_n hx hb dX2_find_48 rfl (lv_at hl 0 rfl) ?_
          refine lv_iadd hx hb dX2_find_49 ?_
          refine k_topi (nI (3 + k)) (nI_add 3 k) ?_
          refine k_calliS (va_runV (As := [.int (nI r), .int (nI (3 + k))]) (rest := []) ⟨hx, hb, hml, hown, hts⟩ (m_of l g r (3 + k) hM (by omega)) (cwV 2 hts (lw_V q1515 q1517 qs32 q56 q1518) rfl rfl rfl hdV_X2_of ⟨Nat.le_of_ble_eq_true rfl, Nat.le_of_ble_eq_true rfl⟩) (preV hK hS h0 rfl) rfl rfl hl.1 rfl (lv_room (Nat.le_of_ble_eq_true rfl)) dX2_find_50 ⟨Nat.le_of_ble_eq_true rfl, Nat.le_of_ble_eq_true rfl⟩) hS (fun t2 locs ht2 hS => ?_)
          refine lv_aload_n hx hb dX2_find_53 rfl (lv_at hl 3 rfl) ?_
          refine k_get (ci := 2) hx hb hts in_X2 hown hK h0 rfl 4 (by decide) q1404 (fun _ h9 => h9) rfl dX2_find_54 ?_
          refine lv_iload_n hx hb dX2_find_57 rfl (lv_at hl 0 rfl) ?_
          refine k_ildN hx hb hK h4 (k) (rfl) (by omega) (by decide) dX2_find_58 ?_
          refine k_topi (tx.getD k 0) (hT.2 k c38) ?_
          refine lv_icmp_ne (tgt := 66) hx hb dX2_find_59 (by decide) (fun c59 => ?_) (fun c59 => ?_)
          · rw [show t2 = (rowV b r).1.getD k 0 by rw [ht2, show 11 + 17 * r + (3 + k) = 14 + 17 * r + k by omega]; exact hrr.2.2.2 k (by omega)] at c59
            refine lv_iconst (v := 0) hx hb dX2_find_66 (by decide) ?_
            refine lv_istore_n (lv' := [(2, .int 0), (3, .int (nI k)), (1, .int (nI r)), (0, .ref (A 0))]) hx hb dX2_find_67 rfl hl (by decide) rfl (fun ls hl => ?_)
            refine lv_iinc (v := nI (k + 1)) (lv' := [(3, .int (nI (k + 1))), (2, .int 0), (1, .int (nI r)), (0, .ref (A 0))]) hx hb dX2_find_68 hl (k := 1) rfl (nI_1 k) (by decide) rfl (fun ls hl => ?_)
            refine lv_goto (tgt := 33) hx hb dX2_find_71 (by decide) ?_
            exact ih (k + 1) (0) _ _ _ _ _ ⟨by omega, Or.inr ⟨rfl, fun e => c59 (by rw [e])⟩, rfl, hS, rfl, rfl, lv_sub hl [0, 1, 2, 3] rfl⟩ (by omega)
          · rw [show t2 = (rowV b r).1.getD k 0 by rw [ht2, show 11 + 17 * r + (3 + k) = 14 + 17 * r + k by omega]; exact hrr.2.2.2 k (by omega)] at c59
            refine lv_iconst (v := 1) hx hb dX2_find_62 (by decide) ?_
            refine lv_goto (tgt := 67) hx hb dX2_find_63 (by decide) ?_
            refine lv_istore_n (lv' := [(2, .int 1), (3, .int (nI k)), (1, .int (nI r)), (0, .ref (A 0))]) hx hb dX2_find_67 rfl hl (by decide) rfl (fun ls hl => ?_)
            refine lv_iinc (v := nI (k + 1)) (lv' := [(3, .int (nI (k + 1))), (2, .int 1), (1, .int (nI r)), (0, .ref (A 0))]) hx hb dX2_find_68 hl (k := 1) rfl (nI_1 k) (by decide) rfl (fun ls hl => ?_)
            refine lv_goto (tgt := 33) hx hb dX2_find_71 (by decide) ?_
            exact ih (k + 1) (1) _ _ _ _ _ ⟨by omega, Or.inl ⟨rfl, hzz.2.1, fun q hq => by rcases Nat.lt_or_ge q k with y | y; exact hzz.2.2 q y; rw [show q = k by omega]; exact c59⟩, rfl, hS, rfl, rfl, lv_sub hl [0, 1, 2, 3] rfl⟩ (by omega)
