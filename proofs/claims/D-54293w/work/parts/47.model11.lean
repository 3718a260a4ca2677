/-! ===== Float's bits; HandBlindsModel: mean, count (printed by tools/model11.py) ===== -/
set_option maxRecDepth 100000
/-- the widths of the first rows -/
def msum (b : BV) : Nat → Int32
  | 0 => 0
  | k + 1 => msum b k + wideV (rowV b k).1
def meanV (b : BV) : Int32 := if b.1.length = 0 then -1000004 else (FP.fdiv (FP.i2f (msum b b.1.length)) (FP.i2f (nI b.1.length))).toInt32
theorem msum_nat {b : BV} (hok : okB b) : ∀ n, n ≤ b.1.length → ∃ s, s ≤ 42 * n ∧ msum b n = nI s
  | 0, _ => ⟨0, by omega, rfl⟩
  | n + 1, h => by
    obtain ⟨s, h1, h2⟩ := msum_nat hok n (by omega)
    obtain ⟨k, g1, g2, g3⟩ := wideV_nat (hok.name (r := n) (by omega)).2
    exact ⟨s + k, by omega, by rw [msum, h2, g3, nI_add]⟩
theorem fq_all : (List.range 841).all (fun s => (List.range 21).all (fun n => n == 0 || (decide (FP.fdiv (FP.i2f (nI s)) (FP.i2f (nI n)) &&& 0x7fffffff ≤ 0x7f800000) && decide (Op.cmpValue (FP.fcmp (FP.fdiv (FP.i2f (nI s)) (FP.i2f (nI n))) (FP.fdiv (FP.i2f (nI s)) (FP.i2f (nI n)))) .l = 0)))) = true := by decide +kernel
theorem fq_ok (s : Nat) (hs : s < 841) (n : Nat) (hn : n < 21) (h0 : 0 < n) : vf_n32 (FP.fdiv (FP.i2f (nI s)) (FP.i2f (nI n))) ∧ Op.cmpValue (FP.fcmp (FP.fdiv (FP.i2f (nI s)) (FP.i2f (nI n))) (FP.fdiv (FP.i2f (nI s)) (FP.i2f (nI n)))) .l = 0 := by
  have h := List.all_eq_true.mp (List.all_eq_true.mp fq_all s (List.mem_range.mpr hs)) n (List.mem_range.mpr hn)
  have e : (n == 0) = false := by simp; omega
  rw [e, Bool.false_or, Bool.and_eq_true, decide_eq_true_eq, decide_eq_true_eq] at h
  exact h
theorem sw_out {x : Int32} {lo hi : Nat} (h : ¬ (nI lo ≤ x ∧ x ≤ nI hi)) (hl : lo < 2 ^ 31 := by omega) (hh : hi < 2 ^ 31 := by omega) : x.toInt < (lo : Int) ∨ (hi : Int) < x.toInt := by
  by_cases h1 : nI lo ≤ x
  · right
    have h2 : ¬ x ≤ nI hi := fun z => h ⟨h1, z⟩
    rw [Int32.le_iff_toInt_le, nI_toInt hh] at h2
    omega
  · left
    rw [Int32.le_iff_toInt_le, nI_toInt hl] at h1
    omega
/-- what count(what) answers; nh saved ones, nt letters typed -/
def countV (b : BV) (nh nt : Nat) (x : Int32) : Int32 :=
  if x = 0 then nI b.1.length else if x = 1 then (if b.1.length = 0 then -1000004 else b.2.2 3) else if x = 2 then nI b.2.1.length else if x = 3 then (if b.2.2 4 = -1 then -1000004 else b.2.2 4) else if x = 4 then tornV b else if x = 5 then b.2.2 5 else if x = 6 then b.2.2 6 else if x = 7 then b.2.2 7 else if x = 8 then b.2.2 8 else if x = 9 then wrongV b (b.2.2 3) else if x = 10 then (wst b b.1.length).1 else if x = 11 then nI nh else if x = 12 then nI nt else if 20 ≤ x ∧ x ≤ 22 then b.2.2 (x.toNatClampNeg - 20) else -1000001
theorem told_sh {b : BV} (hok : okB b) : (if (if b.1.length = 0 then (-1 : Int32) else b.2.2 3) < 0 then (-1000004 : Int32) else (if b.1.length = 0 then -1 else b.2.2 3)) = if b.1.length = 0 then -1000004 else b.2.2 3 := by
  by_cases h : b.1.length = 0
  · rw [if_pos h, if_pos h, if_pos (by decide)]
  · obtain ⟨sh, hsh, hsh2⟩ := hok.2.2.2.2.1
    have := hok.1
    rw [if_neg h, if_neg h, hsh, if_neg (nI_pos (by omega))]
theorem told_on {b : BV} (hok : okB b) : (if b.2.2 4 < 0 then (-1000004 : Int32) else b.2.2 4) = if b.2.2 4 = -1 then -1000004 else b.2.2 4 := by
  rcases hok.2.2.2.2.2.1 with h | ⟨k, hk, h⟩
  · rw [h, if_pos (by decide), if_pos rfl]
  · have := hok.2.1
    rw [h, if_neg (nI_pos (by omega)), if_neg (nI_nem1 k (by omega))]
/-- Float.isNaN of a number -/
theorem j_isNaN (l : Launch) (g : GT) {H : Heap} (x : UInt32) (hx0 : Op.cmpValue (FP.fcmp x x) .l = 0) : Met l yJ20_isNaN (ws_ yJ20_isNaN cJ20_isNaN 1 (some .boolean)) ({ frames := 0, cells := 0, slots := 0, locals := 0 } : Room) (va_Pc [.float x] (Pre g H)) (Qi g (fun z H1 => H1 = H ∧ z = 0)) 0 0 (gA g) := by
  refine k_metF (cc := cJ20_isNaN) (nL := 1) (vs := [.float x]) (by decide +kernel) (Nat.le_of_ble_eq_true rfl) ?_
  intro p e s m below meth c hH hx hb hret hts hown hlk hml hin hK hS ls hl
  subst hH
  have hown : s.vm.findClass RJ20 = some m.cls := hown
  have hl : lv_has ls 1 [(0, .float x)] := hl
  refine lv_fload_n hx hb dJ20_isNaN_0 rfl (lv_at hl 0 rfl) ?_
  refine lv_fload_n hx hb dJ20_isNaN_1 rfl (lv_at hl 0 rfl) ?_
  refine lv_fcmp hx hb dJ20_isNaN_2 ?_
  refine k_topi (0) (hx0) ?_
  refine lv_if_eq (tgt := 10) hx hb dJ20_isNaN_3 (by decide) (fun c3 => ?_) (fun c3 => absurd (by decide) c3)
  refine lv_iconst (v := 0) hx hb dJ20_isNaN_10 (by decide) ?_
  exact k_ireti (v := 0) hx hb hret (rfl) hlk hS (Nat.le_of_ble_eq_true rfl) (Nat.le_of_ble_eq_true rfl) (⟨rfl, rfl⟩) dJ20_isNaN_11
/-- Float.floatToIntBits of a number -/
theorem j_f2i (l : Launch) (g : GT) {H : Heap} (x : UInt32) (hx0 : Op.cmpValue (FP.fcmp x x) .l = 0) : Met l yJ20_floatToIntBits (ws_ yJ20_floatToIntBits cJ20_floatToIntBits 1 (some .int)) ({ frames := 1, cells := 0, slots := 0, locals := 20 } : Room) (va_Pc [.float x] (Pre g H)) (Qi g (fun z H1 => H1 = H ∧ z = x.toInt32)) 0 0 (gA g) := by
  refine k_metF (cc := cJ20_floatToIntBits) (nL := 1) (vs := [.float x]) (by decide +kernel) (Nat.le_of_ble_eq_true rfl) ?_
  intro p e s m below meth c hH hx hb hret hts hown hlk hml hin hK hS ls hl
  subst hH
  have hown : s.vm.findClass RJ20 = some m.cls := hown
  have hl : lv_has ls 1 [(0, .float x)] := hl
  refine lv_fload_n hx hb dJ20_floatToIntBits_0 rfl (lv_at hl 0 rfl) ?_
  refine k_calliS (va_runS (As := [.float x]) (rest := []) ⟨hx, hb, hml, hown, hts⟩ (j_isNaN l g x hx0) (va_cwS 1 hts (lw_S q1273 q1274 q79 q1275) rfl rfl rfl hdS_J20_isNaN ⟨Nat.le_of_ble_eq_true rfl, Nat.le_of_ble_eq_true rfl⟩) (preS hK hS) rfl rfl hl.1 rfl (lv_room (Nat.le_of_ble_eq_true rfl)) dJ20_floatToIntBits_1 ⟨Nat.le_of_ble_eq_true rfl, Nat.le_of_ble_eq_true rfl⟩) hS (fun z locs hz hS => ?_)
  subst hz
  refine lv_if_ne (tgt := 12) hx hb dJ20_floatToIntBits_4 (by decide) (fun c4 => absurd c4 (by decide)) (fun c4 => ?_)
  refine lv_fload_n hx hb dJ20_floatToIntBits_7 rfl (lv_at hl 0 rfl) ?_
  refine vn_f2i hx hb (hml.trans hl.1.symm) hown (hts _ q1276) (hts _ q1278) (hts _ q1277) (hts _ q79) (Nat.le_of_ble_eq_true rfl) (Nat.le_of_ble_eq_true rfl) dJ20_floatToIntBits_8 ?_
  exact k_ireti (v := x.toInt32) hx hb hret (rfl) hlk hS (Nat.le_of_ble_eq_true rfl) (Nat.le_of_ble_eq_true rfl) (⟨rfl, rfl⟩) dJ20_floatToIntBits_11
/-- mean() -/
theorem mp_mean (l : Launch) (g : GT) {H : Heap} {A : Nat → Nat} {F : Nat → Nat → Int32} {I : Nat → Int32} (b : BV) (hM : MAt g A F I H) (hs : SRel (F 1) b) (hok : okB b) : Met l yX2_mean (ws_ yX2_mean cX2_mean 3 (some .int)) ({ frames := 2, cells := 0, slots := 0, locals := 45 } : Room) (va_Pc [.ref (A 0)] (Pre g H)) (Qi g (fun z H1 => H1 = H ∧ z = meanV b)) 0 0 (gA g) := by
  refine k_met (cc := cX2_mean) (nL := 3) (vs := [.ref (A 0)]) (by decide +kernel) (Nat.le_of_ble_eq_true rfl) ?_
  intro p e s m below meth c hH hx hb hret hts hown hlk hml hin hK hS ls hl
  subst hH
  have hown : s.vm.findClass RX2 = some m.cls := hown
  have hl : lv_has ls 3 [(0, .ref (A 0))] := hl
  obtain ⟨h0, h1, h2, h3, h4, n12, n13, n14, n23, n24, n34⟩ := id hM
  have hl20 := hok.1
  have hl6 := hok.2.1
  refine lv_iconst (v := 0) hx hb dX2_mean_0 (by decide) ?_
  refine lv_istore_n (lv' := [(1, .int 0), (0, .ref (A 0))]) hx hb dX2_mean_1 rfl hl (by decide) rfl (fun ls hl => ?_)
  refine lv_iconst (v := nI 0) hx hb dX2_mean_2 (by decide) ?_
  refine lv_istore_n (lv' := [(2, .int (nI 0)), (1, .int 0), (0, .ref (A 0))]) hx hb dX2_mean_3 rfl hl (by decide) rfl (fun ls hl => ?_)
  refine w_loop (Inv := fun (j : Nat) Hh locs cells slots ls => j ≤ b.1.length ∧ s.heap = Hh ∧ va_S (gA g) s.heap Hh locs ∧ cells = 0 ∧ slots = 0 ∧ lv_has ls 3 [(2, .int (nI j)), (1, .int (msum b j)), (0, .ref (A 0))]) (μ := fun j => b.1.length - j) ?_ 0 _ _ _ _ _ ⟨Nat.zero_le _, rfl, hS, rfl, rfl, lv_sub hl [0, 1, 2] rfl⟩
  intro j Hh locs cells slots ls hInv ih
  obtain ⟨hj, rfl, hS, rfl, rfl, hl⟩ := hInv
  refine lv_iload_n hx hb dX2_mean_4 rfl (lv_at hl 0 rfl) ?_
  refine lv_aload_n hx hb dX2_mean_5 rfl (lv_at hl 2 rfl) ?_
  refine k_get (ci := 2) hx hb hts in_X2 hown hK h0 rfl 0 (by decide) q1400 (fun _ h9 => h9) rfl dX2_mean_6 ?_
  refine lv_iconst (v := nI 0) hx hb dX2_mean_9 (by decide) ?_
  refine k_ildN hx hb hK h1 (0) (rfl) (by omega) (by decide) dX2_mean_10 ?_
  refine k_topi (nI b.1.length) (hs.rows) ?_
  refine lv_icmp_ge (tgt := 28) hx hb dX2_mean_11 (by decide) (fun c11 => ?_) (fun c11 => ?_)
  · have hj2 : b.1.length ≤ j := by rcases Nat.lt_or_ge (j) (b.1.length) with z | z; exact absurd c11 (nI_ge z (by omega)); exact z
    have hj2 : j = b.1.length := by omega
    obtain ⟨sm, hsm1, hsm2⟩ := msum_nat hok j hj
    refine lv_iload_n hx hb dX2_mean_28 rfl (lv_at hl 1 rfl) ?_
    refine lv_i2f hx hb dX2_mean_29 ?_
    refine lv_aload_n hx hb dX2_mean_30 rfl (lv_at hl 2 rfl) ?_
    refine k_get (ci := 2) hx hb hts in_X2 hown hK h0 rfl 0 (by decide) q1400 (fun _ h9 => h9) rfl dX2_mean_31 ?_
    refine lv_iconst (v := nI 0) hx hb dX2_mean_34 (by decide) ?_
    refine k_ildN hx hb hK h1 (0) (rfl) (by omega) (by decide) dX2_mean_35 ?_
    refine k_topi (nI b.1.length) (hs.rows) ?_
    refine lv_if_ne (tgt := 43) hx hb dX2_mean_36 (by decide) (fun c36 => ?_) (fun c36 => ?_)
    · have c36 : b.1.length ≠ 0 := fun z => c36 (by rw [z]; rfl)
      refine lv_aload_n hx hb dX2_mean_43 rfl (lv_at hl 2 rfl) ?_
      refine k_get (ci := 2) hx hb hts in_X2 hown hK h0 rfl 0 (by decide) q1400 (fun _ h9 => h9) rfl dX2_mean_44 ?_
      refine lv_iconst (v := nI 0) hx hb dX2_mean_47 (by decide) ?_
      refine k_ildN hx hb hK h1 (0) (rfl) (by omega) (by decide) dX2_mean_48 ?_
      refine k_topi (nI b.1.length) (hs.rows) ?_
      refine lv_i2f hx hb dX2_mean_49 ?_
      refine lv_fdiv hx hb dX2_mean_50 (by rw [hsm2]; exact (fq_ok sm (by omega) b.1.length (by omega) (by omega)).1) ?_
      refine lv_fstore_n (lv' := [(2, .float (FP.fdiv (FP.i2f (msum b j)) (FP.i2f (nI b.1.length)))), (1, .int (msum b j)), (0, .ref (A 0))]) hx hb dX2_mean_51 rfl hl (by decide) rfl (fun ls hl => ?_)
      refine lv_aload_n hx hb dX2_mean_52 rfl (lv_at hl 2 rfl) ?_
      refine k_get (ci := 2) hx hb hts in_X2 hown hK h0 rfl 0 (by decide) q1400 (fun _ h9 => h9) rfl dX2_mean_53 ?_
      refine lv_iconst (v := nI 0) hx hb dX2_mean_56 (by decide) ?_
      refine k_ildN hx hb hK h1 (0) (rfl) (by omega) (by decide) dX2_mean_57 ?_
      refine k_topi (nI b.1.length) (hs.rows) ?_
      refine lv_if_ne (tgt := 66) hx hb dX2_mean_58 (by decide) (fun c58 => ?_) (fun c58 => ?_)
      · refine lv_fload_n hx hb dX2_mean_66 rfl (lv_at hl 0 rfl) ?_
        refine k_calliS (va_runS (As := [.float (FP.fdiv (FP.i2f (msum b j)) (FP.i2f (nI b.1.length)))]) (rest := []) ⟨hx, hb, hml, hown, hts⟩ (j_f2i l g (FP.fdiv (FP.i2f (msum b j)) (FP.i2f (nI b.1.length))) (by rw [hsm2]; exact (fq_ok sm (by omega) b.1.length (by omega) (by omega)).2)) (va_cwS 1 hts (lw_S q1634 q1271 q79 q1272) rfl rfl rfl hdS_J20_floatToIntBits ⟨Nat.le_of_ble_eq_true rfl, Nat.le_of_ble_eq_true rfl⟩) (preS hK hS) rfl rfl hl.1 rfl (lv_room (Nat.le_of_ble_eq_true rfl)) dX2_mean_67 ⟨Nat.le_of_ble_eq_true rfl, Nat.le_of_ble_eq_true rfl⟩) hS (fun t2 locs ht2 hS => ?_)
        exact k_ireti (v := t2) hx hb hret (rfl) hlk hS (Nat.le_of_ble_eq_true rfl) (Nat.le_of_ble_eq_true rfl) (⟨rfl, by unfold meanV; rw [if_neg c36, ht2, hj2]⟩) dX2_mean_70
      · exact absurd ((nI_eq (a := b.1.length) (b := 0) (by omega) (by omega)).mp c58) c36
    · have c36 : b.1.length = 0 := (nI_eq (a := b.1.length) (b := 0) (by omega) (by omega)).mp c36
      refine lv_iconst (v := nI 1) hx hb dX2_mean_39 (by decide) ?_
      refine lv_goto (tgt := 49) hx hb dX2_mean_40 (by decide) ?_
      refine lv_i2f hx hb dX2_mean_49 ?_
      refine lv_fdiv hx hb dX2_mean_50 (by rw [hsm2]; exact (fq_ok sm (by omega) 1 (by omega) (by omega)).1) ?_
      refine lv_fstore_n (lv' := [(2, .float (FP.fdiv (FP.i2f (msum b j)) (FP.i2f (nI 1)))), (1, .int (msum b j)), (0, .ref (A 0))]) hx hb dX2_mean_51 rfl hl (by decide) rfl (fun ls hl => ?_)
      refine lv_aload_n hx hb dX2_mean_52 rfl (lv_at hl 2 rfl) ?_
      refine k_get (ci := 2) hx hb hts in_X2 hown hK h0 rfl 0 (by decide) q1400 (fun _ h9 => h9) rfl dX2_mean_53 ?_
      refine lv_iconst (v := nI 0) hx hb dX2_mean_56 (by decide) ?_
      refine k_ildN hx hb hK h1 (0) (rfl) (by omega) (by decide) dX2_mean_57 ?_
      refine k_topi (nI b.1.length) (hs.rows) ?_
      refine lv_if_ne (tgt := 66) hx hb dX2_mean_58 (by decide) (fun c58 => ?_) (fun c58 => ?_)
      · exact absurd (by rw [c36]; rfl) c58
      · refine lv_ldc (v := (-1000004)) hx hb hown (hts _ q1486) dX2_mean_61 ?_
        refine lv_goto (tgt := 70) hx hb dX2_mean_63 (by decide) ?_
        exact k_ireti (v := (-1000004)) hx hb hret (rfl) hlk hS (Nat.le_of_ble_eq_true rfl) (Nat.le_of_ble_eq_true rfl) (⟨rfl, by unfold meanV; rw [if_pos c36]⟩) dX2_mean_70
  · have hj2 : j < b.1.length := by rcases Nat.lt_or_ge (j) (b.1.length) with z | z; exact z; exact absurd (nI_le z (by omega)) c11
    have hrr := hs.row hj2
    have h14 := hok.name hj2
    refine lv_iload_n hx hb dX2_mean_14 rfl (lv_at hl 1 rfl) ?_
    refine lv_aload_n hx hb dX2_mean_15 rfl (lv_at hl 2 rfl) ?_
    refine lv_iload_n hx hb dX2_mean_16 rfl (lv_at hl 0 rfl) ?_
    refine k_calliS (va_runV (As := [.int (nI j)]) (rest := [.int (msum b j)]) ⟨hx, hb, hml, hown, hts⟩ (m_width l g j (rowV b j).1.length hM (by omega) hrr.1 h14.2) (cwV 1 hts (lw_V q1576 q1578 qs41 q56 q1579) rfl rfl rfl hdV_X2_width ⟨Nat.le_of_ble_eq_true rfl, Nat.le_of_ble_eq_true rfl⟩) (preV hK hS h0 rfl) rfl rfl hl.1 rfl (lv_room (Nat.le_of_ble_eq_true rfl)) dX2_mean_17 ⟨Nat.le_of_ble_eq_true rfl, Nat.le_of_ble_eq_true rfl⟩) hS (fun t1 locs ht1 hS => ?_)
    refine lv_iadd hx hb dX2_mean_20 ?_
    refine k_topi (msum b (j + 1)) (by rw [ht1, hrr.wsum]; rfl) ?_
    refine lv_istore_n (lv' := [(1, .int (msum b (j + 1))), (2, .int (nI j)), (0, .ref (A 0))]) hx hb dX2_mean_21 rfl hl (by decide) rfl (fun ls hl => ?_)
    refine lv_iinc (v := nI (j + 1)) (lv' := [(2, .int (nI (j + 1))), (1, .int (msum b (j + 1))), (0, .ref (A 0))]) hx hb dX2_mean_22 hl (k := 1) rfl (nI_1 j) (by decide) rfl (fun ls hl => ?_)
    refine lv_goto (tgt := 4) hx hb dX2_mean_25 (by decide) ?_
    exact ih (j + 1) _ _ _ _ _ ⟨by omega, rfl, hS, rfl, rfl, lv_sub hl [0, 1, 2] rfl⟩ (by omega)
/-- count(what) -/
theorem mp_count (l : Launch) (g : GT) {H : Heap} {A : Nat → Nat} {F : Nat → Nat → Int32} {I : Nat → Int32} (b : BV) (nh nt : Nat) (x : Int32) (hM : MAt g A F I H) (hs : SRel (F 1) b) (hok : okB b) (hn3 : I 3 = nI nh) (hn5 : I 5 = nI nt) : Met l yX2_count (ws_ yX2_count cX2_count 2 (some .int)) ({ frames := 4, cells := 0, slots := 0, locals := 90 } : Room) (va_Pc [.ref (A 0), .int x] (Pre g H)) (Qi g (fun z H1 => H1 = H ∧ z = countV b nh nt x)) 0 0 (gA g) := by
  refine k_met (cc := cX2_count) (nL := 2) (vs := [.ref (A 0), .int x]) (by decide +kernel) (Nat.le_of_ble_eq_true rfl) ?_
  intro p e s m below meth c hH hx hb hret hts hown hlk hml hin hK hS ls hl
  subst hH
  have hown : s.vm.findClass RX2 = some m.cls := hown
  have hl : lv_has ls 2 [(0, .ref (A 0)), (1, .int x)] := hl
  obtain ⟨h0, h1, h2, h3, h4, n12, n13, n14, n23, n24, n34⟩ := id hM
  have hl20 := hok.1
  have hl6 := hok.2.1
  refine lv_iload_n hx hb dX2_count_0 rfl (lv_at hl 1 rfl) ?_
  by_cases hc : 0 ≤ x ∧ x ≤ 12
  · obtain ⟨k, hk, rfl⟩ := nI_of (Int32.not_lt.mpr hc.1)
    have hk13 : k < 13 := by have := (nI_leI (b := 12) hk (by omega)).mp hc.2; omega
    rcases (show k = 0 ∨ k = 1 ∨ k = 2 ∨ k = 3 ∨ k = 4 ∨ k = 5 ∨ k = 6 ∨ k = 7 ∨ k = 8 ∨ k = 9 ∨ k = 10 ∨ k = 11 ∨ k = 12 from by omega) with rfl | rfl | rfl | rfl | rfl | rfl | rfl | rfl | rfl | rfl | rfl | rfl | rfl
    · refine lv_tableIn (off := 67) (tgt := 68) hx hb dX2_count_1 (by decide) (by decide) rfl (by decide) ?_
      refine lv_aload_n hx hb dX2_count_68 rfl (lv_at hl 0 rfl) ?_
      refine k_get (ci := 2) hx hb hts in_X2 hown hK h0 rfl 0 (by decide) q1400 (fun _ h9 => h9) rfl dX2_count_69 ?_
      refine lv_iload_n hx hb dX2_count_72 rfl (lv_at hl 1 rfl) ?_
      refine k_ildN hx hb hK h1 (0) (rfl) (by omega) (by decide) dX2_count_73 ?_
      exact k_ireti (v := (F 1) 0) hx hb hret (rfl) hlk hS (Nat.le_of_ble_eq_true rfl) (Nat.le_of_ble_eq_true rfl) (⟨rfl, by unfold countV; rw [if_pos (by decide)]; exact hs.rows⟩) dX2_count_74
    · refine lv_tableIn (off := 74) (tgt := 75) hx hb dX2_count_1 (by decide) (by decide) rfl (by decide) ?_
      refine lv_aload_n hx hb dX2_count_75 rfl (lv_at hl 0 rfl) ?_
      refine k_get (ci := 2) hx hb hts in_X2 hown hK h0 rfl 0 (by decide) q1400 (fun _ h9 => h9) rfl dX2_count_76 ?_
      refine lv_iload_n hx hb dX2_count_79 rfl (lv_at hl 1 rfl) ?_
      refine k_ildN hx hb hK h1 (1) (rfl) (by omega) (by decide) dX2_count_80 ?_
      refine k_calliS (va_runS (As := [.int ((F 1) 1)]) (rest := []) ⟨hx, hb, hml, hown, hts⟩ (m_told l g (F 1 1)) (va_cwS 1 hts (lw_S q1639 q1640 q56 q1641) rfl rfl rfl hdS_X2_told ⟨Nat.le_of_ble_eq_true rfl, Nat.le_of_ble_eq_true rfl⟩) (preS hK hS) rfl rfl hl.1 rfl (lv_room (Nat.le_of_ble_eq_true rfl)) dX2_count_81 ⟨Nat.le_of_ble_eq_true rfl, Nat.le_of_ble_eq_true rfl⟩) hS (fun t1 locs ht1 hS => ?_)
      exact k_ireti (v := t1) hx hb hret (rfl) hlk hS (Nat.le_of_ble_eq_true rfl) (Nat.le_of_ble_eq_true rfl) (⟨rfl, by unfold countV; rw [if_neg (by decide), if_pos (by decide)]; rw [ht1, hs.sh]; exact told_sh hok⟩) dX2_count_84
    · refine lv_tableIn (off := 67) (tgt := 68) hx hb dX2_count_1 (by decide) (by decide) rfl (by decide) ?_
      refine lv_aload_n hx hb dX2_count_68 rfl (lv_at hl 0 rfl) ?_
      refine k_get (ci := 2) hx hb hts in_X2 hown hK h0 rfl 0 (by decide) q1400 (fun _ h9 => h9) rfl dX2_count_69 ?_
      refine lv_iload_n hx hb dX2_count_72 rfl (lv_at hl 1 rfl) ?_
      refine k_ildN hx hb hK h1 (2) (rfl) (by omega) (by decide) dX2_count_73 ?_
      exact k_ireti (v := (F 1) 2) hx hb hret (rfl) hlk hS (Nat.le_of_ble_eq_true rfl) (Nat.le_of_ble_eq_true rfl) (⟨rfl, by unfold countV; rw [if_neg (by decide), if_neg (by decide), if_pos (by decide)]; exact hs.rts⟩) dX2_count_74
    · refine lv_tableIn (off := 74) (tgt := 75) hx hb dX2_count_1 (by decide) (by decide) rfl (by decide) ?_
      refine lv_aload_n hx hb dX2_count_75 rfl (lv_at hl 0 rfl) ?_
      refine k_get (ci := 2) hx hb hts in_X2 hown hK h0 rfl 0 (by decide) q1400 (fun _ h9 => h9) rfl dX2_count_76 ?_
      refine lv_iload_n hx hb dX2_count_79 rfl (lv_at hl 1 rfl) ?_
      refine k_ildN hx hb hK h1 (3) (rfl) (by omega) (by decide) dX2_count_80 ?_
      refine k_calliS (va_runS (As := [.int ((F 1) 3)]) (rest := []) ⟨hx, hb, hml, hown, hts⟩ (m_told l g (F 1 3)) (va_cwS 1 hts (lw_S q1639 q1640 q56 q1641) rfl rfl rfl hdS_X2_told ⟨Nat.le_of_ble_eq_true rfl, Nat.le_of_ble_eq_true rfl⟩) (preS hK hS) rfl rfl hl.1 rfl (lv_room (Nat.le_of_ble_eq_true rfl)) dX2_count_81 ⟨Nat.le_of_ble_eq_true rfl, Nat.le_of_ble_eq_true rfl⟩) hS (fun t1 locs ht1 hS => ?_)
      exact k_ireti (v := t1) hx hb hret (rfl) hlk hS (Nat.le_of_ble_eq_true rfl) (Nat.le_of_ble_eq_true rfl) (⟨rfl, by unfold countV; rw [if_neg (by decide), if_neg (by decide), if_neg (by decide), if_pos (by decide)]; rw [ht1, hs.on]; exact told_on hok⟩) dX2_count_84
    · refine lv_tableIn (off := 84) (tgt := 85) hx hb dX2_count_1 (by decide) (by decide) rfl (by decide) ?_
      refine lv_aload_n hx hb dX2_count_85 rfl (lv_at hl 0 rfl) ?_
      refine k_calliS (va_runV (As := []) (rest := []) ⟨hx, hb, hml, hown, hts⟩ (m_tornOnes l g b hM hs hok) (cwV 0 hts (lw_V q1606 q1608 qs43 q56 q1609) rfl rfl rfl hdV_X2_tornOnes ⟨Nat.le_of_ble_eq_true rfl, Nat.le_of_ble_eq_true rfl⟩) (preV hK hS h0 rfl) rfl rfl hl.1 rfl (lv_room (Nat.le_of_ble_eq_true rfl)) dX2_count_86 ⟨Nat.le_of_ble_eq_true rfl, Nat.le_of_ble_eq_true rfl⟩) hS (fun t1 locs ht1 hS => ?_)
      exact k_ireti (v := t1) hx hb hret (rfl) hlk hS (Nat.le_of_ble_eq_true rfl) (Nat.le_of_ble_eq_true rfl) (⟨rfl, by unfold countV; rw [if_neg (by decide), if_neg (by decide), if_neg (by decide), if_neg (by decide), if_pos (by decide)]; exact ht1⟩) dX2_count_89
    · refine lv_tableIn (off := 89) (tgt := 90) hx hb dX2_count_1 (by decide) (by decide) rfl (by decide) ?_
      refine lv_aload_n hx hb dX2_count_90 rfl (lv_at hl 0 rfl) ?_
      refine k_get (ci := 2) hx hb hts in_X2 hown hK h0 rfl 0 (by decide) q1400 (fun _ h9 => h9) rfl dX2_count_91 ?_
      refine lv_iload_n hx hb dX2_count_94 rfl (lv_at hl 1 rfl) ?_
      refine lv_iconst (v := nI 1) hx hb dX2_count_95 (by decide) ?_
      refine lv_isub hx hb dX2_count_96 ?_
      refine k_topi (nI 4) (pk_sub (by omega)) ?_
      refine k_ildN hx hb hK h1 (4) (rfl) (by omega) (by decide) dX2_count_97 ?_
      exact k_ireti (v := (F 1) 4) hx hb hret (rfl) hlk hS (Nat.le_of_ble_eq_true rfl) (Nat.le_of_ble_eq_true rfl) (⟨rfl, by unfold countV; rw [if_neg (by decide), if_neg (by decide), if_neg (by decide), if_neg (by decide), if_neg (by decide), if_pos (by decide)]; exact hs.2.2.2.2.1⟩) dX2_count_98
    · refine lv_tableIn (off := 89) (tgt := 90) hx hb dX2_count_1 (by decide) (by decide) rfl (by decide) ?_
      refine lv_aload_n hx hb dX2_count_90 rfl (lv_at hl 0 rfl) ?_
      refine k_get (ci := 2) hx hb hts in_X2 hown hK h0 rfl 0 (by decide) q1400 (fun _ h9 => h9) rfl dX2_count_91 ?_
      refine lv_iload_n hx hb dX2_count_94 rfl (lv_at hl 1 rfl) ?_
      refine lv_iconst (v := nI 1) hx hb dX2_count_95 (by decide) ?_
      refine lv_isub hx hb dX2_count_96 ?_
      refine k_topi (nI 5) (pk_sub (by omega)) ?_
      refine k_ildN hx hb hK h1 (5) (rfl) (by omega) (by decide) dX2_count_97 ?_
      exact k_ireti (v := (F 1) 5) hx hb hret (rfl) hlk hS (Nat.le_of_ble_eq_true rfl) (Nat.le_of_ble_eq_true rfl) (⟨rfl, by unfold countV; rw [if_neg (by decide), if_neg (by decide), if_neg (by decide), if_neg (by decide), if_neg (by decide), if_neg (by decide), if_pos (by decide)]; exact hs.2.2.2.2.2.1⟩) dX2_count_98
    · refine lv_tableIn (off := 89) (tgt := 90) hx hb dX2_count_1 (by decide) (by decide) rfl (by decide) ?_
      refine lv_aload_n hx hb dX2_count_90 rfl (lv_at hl 0 rfl) ?_
      refine k_get (ci := 2) hx hb hts in_X2 hown hK h0 rfl 0 (by decide) q1400 (fun _ h9 => h9) rfl dX2_count_91 ?_
      refine lv_iload_n hx hb dX2_count_94 rfl (lv_at hl 1 rfl) ?_
      refine lv_iconst (v := nI 1) hx hb dX2_count_95 (by decide) ?_
      refine lv_isub hx hb dX2_count_96 ?_
      refine k_topi (nI 6) (pk_sub (by omega)) ?_
      refine k_ildN hx hb hK h1 (6) (rfl) (by omega) (by decide) dX2_count_97 ?_
      exact k_ireti (v := (F 1) 6) hx hb hret (rfl) hlk hS (Nat.le_of_ble_eq_true rfl) (Nat.le_of_ble_eq_true rfl) (⟨rfl, by unfold countV; rw [if_neg (by decide), if_neg (by decide), if_neg (by decide), if_neg (by decide), if_neg (by decide), if_neg (by decide), if_neg (by decide), if_pos (by decide)]; exact hs.2.2.2.2.2.2.1⟩) dX2_count_98
    · refine lv_tableIn (off := 89) (tgt := 90) hx hb dX2_count_1 (by decide) (by decide) rfl (by decide) ?_
      refine lv_aload_n hx hb dX2_count_90 rfl (lv_at hl 0 rfl) ?_
      refine k_get (ci := 2) hx hb hts in_X2 hown hK h0 rfl 0 (by decide) q1400 (fun _ h9 => h9) rfl dX2_count_91 ?_
      refine lv_iload_n hx hb dX2_count_94 rfl (lv_at hl 1 rfl) ?_
      refine lv_iconst (v := nI 1) hx hb dX2_count_95 (by decide) ?_
      refine lv_isub hx hb dX2_count_96 ?_
      refine k_topi (nI 7) (pk_sub (by omega)) ?_
      refine k_ildN hx hb hK h1 (7) (rfl) (by omega) (by decide) dX2_count_97 ?_
      exact k_ireti (v := (F 1) 7) hx hb hret (rfl) hlk hS (Nat.le_of_ble_eq_true rfl) (Nat.le_of_ble_eq_true rfl) (⟨rfl, by unfold countV; rw [if_neg (by decide), if_neg (by decide), if_neg (by decide), if_neg (by decide), if_neg (by decide), if_neg (by decide), if_neg (by decide), if_neg (by decide), if_pos (by decide)]; exact hs.2.2.2.2.2.2.2.1⟩) dX2_count_98
    · refine lv_tableIn (off := 98) (tgt := 99) hx hb dX2_count_1 (by decide) (by decide) rfl (by decide) ?_
      by_cases he : b.1.length = 0
      · refine lv_aload_n hx hb dX2_count_99 rfl (lv_at hl 0 rfl) ?_
        refine lv_aload_n hx hb dX2_count_100 rfl (lv_at hl 0 rfl) ?_
        refine k_get (ci := 2) hx hb hts in_X2 hown hK h0 rfl 0 (by decide) q1400 (fun _ h9 => h9) rfl dX2_count_101 ?_
        refine lv_iconst (v := nI 1) hx hb dX2_count_104 (by decide) ?_
        refine k_ildN hx hb hK h1 (1) (rfl) (by omega) (by decide) dX2_count_105 ?_
        refine k_topi ((-1)) (hs.sh.trans (if_pos he)) ?_
        refine k_calliS (va_runV (As := [.int (-1)]) (rest := []) ⟨hx, hb, hml, hown, hts⟩ (m_wrongByN l g b hM hs hok) (cwV 1 hts (lw_V q1560 q1562 qs38 q56 q1563) rfl rfl rfl hdV_X2_wrongBy ⟨Nat.le_of_ble_eq_true rfl, Nat.le_of_ble_eq_true rfl⟩) (preV hK hS h0 rfl) rfl rfl hl.1 rfl (lv_room (Nat.le_of_ble_eq_true rfl)) dX2_count_106 ⟨Nat.le_of_ble_eq_true rfl, Nat.le_of_ble_eq_true rfl⟩) hS (fun t1 locs ht1 hS => ?_)
        exact k_ireti (v := t1) hx hb hret (rfl) hlk hS (Nat.le_of_ble_eq_true rfl) (Nat.le_of_ble_eq_true rfl) (⟨rfl, by unfold countV; rw [if_neg (by decide), if_neg (by decide), if_neg (by decide), if_neg (by decide), if_neg (by decide), if_neg (by decide), if_neg (by decide), if_neg (by decide), if_neg (by decide), if_pos (by decide)]; rw [ht1]; unfold wrongV; rw [if_neg (fun h => absurd h (by rw [he]; rintro ⟨a, b1⟩; exact absurd a (Int32.not_le.mpr b1)))]⟩) dX2_count_109
      · obtain ⟨sh, hsh, hsh2⟩ := hok.2.2.2.2.1
        have hsh2 : sh < b.1.length := by omega
        refine lv_aload_n hx hb dX2_count_99 rfl (lv_at hl 0 rfl) ?_
        refine lv_aload_n hx hb dX2_count_100 rfl (lv_at hl 0 rfl) ?_
        refine k_get (ci := 2) hx hb hts in_X2 hown hK h0 rfl 0 (by decide) q1400 (fun _ h9 => h9) rfl dX2_count_101 ?_
        refine lv_iconst (v := nI 1) hx hb dX2_count_104 (by decide) ?_
        refine k_ildN hx hb hK h1 (1) (rfl) (by omega) (by decide) dX2_count_105 ?_
        refine k_topi (nI sh) ((hs.sh.trans (if_neg he)).trans hsh) ?_
        refine k_calliS (va_runV (As := [.int (nI sh)]) (rest := []) ⟨hx, hb, hml, hown, hts⟩ (m_wrongBy l g b sh hM hs hok hsh2) (cwV 1 hts (lw_V q1560 q1562 qs38 q56 q1563) rfl rfl rfl hdV_X2_wrongBy ⟨Nat.le_of_ble_eq_true rfl, Nat.le_of_ble_eq_true rfl⟩) (preV hK hS h0 rfl) rfl rfl hl.1 rfl (lv_room (Nat.le_of_ble_eq_true rfl)) dX2_count_106 ⟨Nat.le_of_ble_eq_true rfl, Nat.le_of_ble_eq_true rfl⟩) hS (fun t1 locs ht1 hS => ?_)
        exact k_ireti (v := t1) hx hb hret (rfl) hlk hS (Nat.le_of_ble_eq_true rfl) (Nat.le_of_ble_eq_true rfl) (⟨rfl, by unfold countV; rw [if_neg (by decide), if_neg (by decide), if_neg (by decide), if_neg (by decide), if_neg (by decide), if_neg (by decide), if_neg (by decide), if_neg (by decide), if_neg (by decide), if_pos (by decide)]; rw [ht1]; unfold wrongV; rw [hsh, if_pos ⟨nI_pos' (by omega), nI_lt hsh2 (by omega)⟩, nI_clamp (by omega)]⟩) dX2_count_109
    · refine lv_tableIn (off := 109) (tgt := 110) hx hb dX2_count_1 (by decide) (by decide) rfl (by decide) ?_
      refine lv_aload_n hx hb dX2_count_110 rfl (lv_at hl 0 rfl) ?_
      refine k_calliS (va_runV (As := []) (rest := []) ⟨hx, hb, hml, hown, hts⟩ (m_widest l g b hM hs hok) (cwV 0 hts (lw_V q1642 q1644 qs44 q56 q1645) rfl rfl rfl hdV_X2_widest ⟨Nat.le_of_ble_eq_true rfl, Nat.le_of_ble_eq_true rfl⟩) (preV hK hS h0 rfl) rfl rfl hl.1 rfl (lv_room (Nat.le_of_ble_eq_true rfl)) dX2_count_111 ⟨Nat.le_of_ble_eq_true rfl, Nat.le_of_ble_eq_true rfl⟩) hS (fun t1 locs ht1 hS => ?_)
      exact k_ireti (v := t1) hx hb hret (rfl) hlk hS (Nat.le_of_ble_eq_true rfl) (Nat.le_of_ble_eq_true rfl) (⟨rfl, by unfold countV; rw [if_neg (by decide), if_neg (by decide), if_neg (by decide), if_neg (by decide), if_neg (by decide), if_neg (by decide), if_neg (by decide), if_neg (by decide), if_neg (by decide), if_neg (by decide), if_pos (by decide)]; exact ht1⟩) dX2_count_114
    · refine lv_tableIn (off := 114) (tgt := 115) hx hb dX2_count_1 (by decide) (by decide) rfl (by decide) ?_
      refine lv_aload_n hx hb dX2_count_115 rfl (lv_at hl 0 rfl) ?_
      refine k_get (ci := 2) hx hb hts in_X2 hown hK h0 rfl 3 (by decide) q1403 (fun _ h9 => h9) rfl dX2_count_116 ?_
      exact k_ireti (v := I 3) hx hb hret (rfl) hlk hS (Nat.le_of_ble_eq_true rfl) (Nat.le_of_ble_eq_true rfl) (⟨rfl, by unfold countV; rw [if_neg (by decide), if_neg (by decide), if_neg (by decide), if_neg (by decide), if_neg (by decide), if_neg (by decide), if_neg (by decide), if_neg (by decide), if_neg (by decide), if_neg (by decide), if_neg (by decide), if_pos (by decide)]; exact hn3⟩) dX2_count_119
    · refine lv_tableIn (off := 119) (tgt := 120) hx hb dX2_count_1 (by decide) (by decide) rfl (by decide) ?_
      refine lv_aload_n hx hb dX2_count_120 rfl (lv_at hl 0 rfl) ?_
      refine k_get (ci := 2) hx hb hts in_X2 hown hK h0 rfl 5 (by decide) q1405 (fun _ h9 => h9) rfl dX2_count_121 ?_
      exact k_ireti (v := I 5) hx hb hret (rfl) hlk hS (Nat.le_of_ble_eq_true rfl) (Nat.le_of_ble_eq_true rfl) (⟨rfl, by unfold countV; rw [if_neg (by decide), if_neg (by decide), if_neg (by decide), if_neg (by decide), if_neg (by decide), if_neg (by decide), if_neg (by decide), if_neg (by decide), if_neg (by decide), if_neg (by decide), if_neg (by decide), if_neg (by decide), if_pos (by decide)]; exact hn5⟩) dX2_count_124
  · refine lv_tableOut (tgt := 125) hx hb dX2_count_1 (sw_out (lo := 0) (hi := 12) hc) (by decide) ?_
    refine lv_iload_n hx hb dX2_count_125 rfl (lv_at hl 1 rfl) ?_
    refine lv_bipush (v := 20) hx hb dX2_count_126 (by decide) ?_
    refine lv_bipush (v := 22) hx hb dX2_count_128 (by decide) ?_
    refine k_calliS (va_runS (As := [.int x, .int 20, .int 22]) (rest := []) ⟨hx, hb, hml, hown, hts⟩ (m_in l g x 20 22) (va_cwS 3 hts (lw_S q1444 q1445 q56 q1446) rfl rfl rfl hdS_X2_in ⟨Nat.le_of_ble_eq_true rfl, Nat.le_of_ble_eq_true rfl⟩) (preS hK hS) rfl rfl hl.1 rfl (lv_room (Nat.le_of_ble_eq_true rfl)) dX2_count_130 ⟨Nat.le_of_ble_eq_true rfl, Nat.le_of_ble_eq_true rfl⟩) hS (fun z1 locs hz1 hS => ?_)
    refine lv_if_eq (tgt := 151) hx hb dX2_count_133 (by decide) (fun c133 => ?_) (fun c133 => ?_)
    · have c133 := b2f hz1 c133
      refine lv_ldc (v := (-1000001)) hx hb hown (hts _ q1447) dX2_count_151 ?_
      exact k_ireti (v := (-1000001)) hx hb hret (rfl) hlk hS (Nat.le_of_ble_eq_true rfl) (Nat.le_of_ble_eq_true rfl) (⟨rfl, by unfold countV; rw [if_neg (fun z => hc (by rw [z]; decide)), if_neg (fun z => hc (by rw [z]; decide)), if_neg (fun z => hc (by rw [z]; decide)), if_neg (fun z => hc (by rw [z]; decide)), if_neg (fun z => hc (by rw [z]; decide)), if_neg (fun z => hc (by rw [z]; decide)), if_neg (fun z => hc (by rw [z]; decide)), if_neg (fun z => hc (by rw [z]; decide)), if_neg (fun z => hc (by rw [z]; decide)), if_neg (fun z => hc (by rw [z]; decide)), if_neg (fun z => hc (by rw [z]; decide)), if_neg (fun z => hc (by rw [z]; decide)), if_neg (fun z => hc (by rw [z]; decide)), if_neg c133]⟩) dX2_count_153
    · have c133 := b2t hz1 c133
      obtain ⟨k, hk1, hk2, rfl⟩ := nI_lit (lo := 20) (hi := 22) c133.1 c133.2 (by omega) (by omega)
      refine lv_aload_n hx hb dX2_count_136 rfl (lv_at hl 0 rfl) ?_
      refine k_get (ci := 2) hx hb hts in_X2 hown hK h0 rfl 0 (by decide) q1400 (fun _ h9 => h9) rfl dX2_count_137 ?_
      refine lv_bipush (v := nI 8) hx hb dX2_count_140 (by decide) ?_
      refine lv_iload_n hx hb dX2_count_142 rfl (lv_at hl 1 rfl) ?_
      refine lv_iadd hx hb dX2_count_143 ?_
      refine k_topi (nI (8 + k)) (nI_add 8 k) ?_
      refine lv_bipush (v := nI 20) hx hb dX2_count_144 (by decide) ?_
      refine lv_isub hx hb dX2_count_146 ?_
      refine k_topi (nI (8 + k - 20)) (pk_sub (by omega)) ?_
      refine k_ildN hx hb hK h1 (8 + k - 20) (rfl) (by omega) (by decide) dX2_count_147 ?_
      refine lv_goto (tgt := 153) hx hb dX2_count_148 (by decide) ?_
      exact k_ireti (v := (F 1) (8 + k - 20)) hx hb hret (rfl) hlk hS (Nat.le_of_ble_eq_true rfl) (Nat.le_of_ble_eq_true rfl) (⟨rfl, by unfold countV; rw [if_neg (fun z => hc (by rw [z]; decide)), if_neg (fun z => hc (by rw [z]; decide)), if_neg (fun z => hc (by rw [z]; decide)), if_neg (fun z => hc (by rw [z]; decide)), if_neg (fun z => hc (by rw [z]; decide)), if_neg (fun z => hc (by rw [z]; decide)), if_neg (fun z => hc (by rw [z]; decide)), if_neg (fun z => hc (by rw [z]; decide)), if_neg (fun z => hc (by rw [z]; decide)), if_neg (fun z => hc (by rw [z]; decide)), if_neg (fun z => hc (by rw [z]; decide)), if_neg (fun z => hc (by rw [z]; decide)), if_neg (fun z => hc (by rw [z]; decide)), if_pos c133]; rcases (show k = 20 ∨ k = 21 ∨ k = 22 by omega) with rfl | rfl | rfl; exact hs.w; exact hs.2.2.2.2.2.2.2.2.2.1; exact hs.2.2.2.2.2.2.2.2.2.2.1⟩) dX2_count_153
