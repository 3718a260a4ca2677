/-! ===== HandBlindsModel: nearest (printed by tools/model21.py) ===== -/
set_option maxRecDepth 100000
def nrD (q sh : Nat) : Nat := (q - sh) + (sh - q)
/-- rows n - 1 down to n - k tried -/
def nrC (b : BV) (sh : Nat) : Nat → Option Nat
  | 0 => none
  | k + 1 => match nrC b sh k with
    | none => if wrongR b (b.1.length - 1 - k) = 0 then some (b.1.length - 1 - k) else none
    | some r => if nrD (b.1.length - 1 - k) sh < nrD r sh ∧ wrongR b (b.1.length - 1 - k) = 0 then some (b.1.length - 1 - k) else some r
def nearV (b : BV) (x : Int32) : Int32 := if 0 ≤ x ∧ x ≤ 1 then (match nrC b (b.2.2 3).toNatClampNeg b.1.length with | none => -1000004 | some r => if x = 0 then nI r else nI r - b.2.2 3) else -1000001
def nrAt (b : BV) (sh r : Nat) : Prop := r < b.1.length ∧ wrongR b r = 0 ∧ ∀ q, q < b.1.length → wrongR b q = 0 → nrD r sh < nrD q sh ∨ (nrD r sh = nrD q sh ∧ q ≤ r)
theorem nrC_spec (b : BV) (sh : Nat) : ∀ k, k ≤ b.1.length → (nrC b sh k = none ∧ ∀ q, b.1.length - k ≤ q → q < b.1.length → wrongR b q ≠ 0) ∨ (∃ r, nrC b sh k = some r ∧ b.1.length - k ≤ r ∧ r < b.1.length ∧ wrongR b r = 0 ∧ ∀ q, b.1.length - k ≤ q → q < b.1.length → wrongR b q = 0 → nrD r sh < nrD q sh ∨ (nrD r sh = nrD q sh ∧ q ≤ r)) := by
  intro k
  induction k with
  | zero => intro _; exact Or.inl ⟨rfl, fun q h1 h2 => absurd h1 (by omega)⟩
  | succ k ih =>
    intro hk
    have hq : ∀ q, b.1.length - (k + 1) ≤ q → q = b.1.length - 1 - k ∨ b.1.length - k ≤ q := fun q h => by omega
    rcases ih (by omega) with ⟨e, h⟩ | ⟨r, e, h0, h1, h2, h3⟩
    · by_cases w : wrongR b (b.1.length - 1 - k) = 0
      · refine Or.inr ⟨b.1.length - 1 - k, ?_, by omega, by omega, w, fun q q1 q2 q3 => ?_⟩
        · unfold nrC; rw [e]; exact if_pos w
        · rcases hq q q1 with z | z
          · rw [z]; exact Or.inr ⟨rfl, Nat.le_refl _⟩
          · exact absurd q3 (h q z q2)
      · refine Or.inl ⟨?_, fun q q1 q2 => ?_⟩
        · unfold nrC; rw [e]; exact if_neg w
        · rcases hq q q1 with z | z
          · rw [z]; exact w
          · exact h q z q2
    · by_cases w : nrD (b.1.length - 1 - k) sh < nrD r sh ∧ wrongR b (b.1.length - 1 - k) = 0
      · refine Or.inr ⟨b.1.length - 1 - k, ?_, by omega, by omega, w.2, fun q q1 q2 q3 => ?_⟩
        · unfold nrC; rw [e]; exact if_pos w
        · rcases hq q q1 with z | z
          · rw [z]; exact Or.inr ⟨rfl, Nat.le_refl _⟩
          · have := h3 q z q2 q3; have := w.1; omega
      · refine Or.inr ⟨r, ?_, by omega, h1, h2, fun q q1 q2 q3 => ?_⟩
        · unfold nrC; rw [e]; exact if_neg w
        · rcases hq q q1 with z | z
          · have : ¬ nrD (b.1.length - 1 - k) sh < nrD r sh := fun y => w ⟨y, by rw [← z]; exact q3⟩
            rw [z]; omega
          · exact h3 q z q2 q3
theorem nrC_none {b : BV} {sh : Nat} (h : ∀ q, q < b.1.length → wrongR b q = 0 → False) : nrC b sh b.1.length = none := by
  rcases nrC_spec b sh b.1.length (Nat.le_refl _) with ⟨e, _⟩ | ⟨r, e, _, h1, h2, _⟩
  · exact e
  · exact absurd h2 (fun z => h r h1 z)
theorem nrC_some {b : BV} {sh r : Nat} (h : nrAt b sh r) : nrC b sh b.1.length = some r := by
  rcases nrC_spec b sh b.1.length (Nat.le_refl _) with ⟨_, h1⟩ | ⟨r1, e, _, h1, h2, h3⟩
  · exact absurd h.2.1 (h1 r (by omega) h.1)
  · have a := h3 r (by omega) h.1 h.2.1
    have c := h.2.2 r1 h1 h2
    rw [e, show r1 = r by omega]
theorem nI_subN {a b : Nat} (h : a < b) (hb : b < 2 ^ 31) : ¬ 0 ≤ nI a - nI b := by
  intro h0
  have e : nI a - nI b = -(nI (b - a)) := by rw [← pk_sub (a := b) (b := a) (by omega), Int32.neg_sub]
  rw [e] at h0
  have h1 : (0 : Int32) < nI (b - a) := nI_lt (a := 0) (by omega) (by omega)
  rw [Int32.le_iff_toInt_le] at h0
  rw [Int32.lt_iff_toInt_lt] at h1
  rw [Int32.toInt_neg] at h0
  have h2 := Int32.toInt_lt (nI (b - a))
  have h3 : (0 : Int32).toInt = 0 := rfl
  rw [h3] at h0 h1
  rw [Int.bmod_eq_of_le (by omega) (by omega)] at h0
  omega
theorem near_u0 {sh k : Nat} : nI sh + 1 * nI k = nI (sh + k) := by rw [Int32.one_mul]; exact nI_add sh k
theorem near_u1 {sh k : Nat} : 1 * nI k = nI (sh + k) - nI sh := by rw [← nI_add, Int32.one_mul, Int32.add_comm, Int32.add_sub_cancel]
theorem near_d0 {sh k : Nat} (h : k ≤ sh) : nI sh + (-1) * nI k = nI (sh - k) := by rw [← pk_sub h, Int32.neg_mul, Int32.one_mul, Int32.sub_eq_add_neg]
theorem near_d1 {sh k : Nat} (h : k ≤ sh) : (-1) * nI k = nI (sh - k) - nI sh := by
  rw [← near_d0 h, Int32.add_comm, Int32.add_sub_cancel]
/-- nearest(what) -/
theorem mp_nearest (l : Launch) (g : GT) {H : Heap} {A : Nat → Nat} {F : Nat → Nat → Int32} {I : Nat → Int32} (b : BV) (x : Int32) (hM : MAt g A F I H) (hs : SRel (F 1) b) (hok : okB b) : Met l yX2_nearest (ws_ yX2_nearest cX2_nearest 4 (some .int)) ({ frames := 4, cells := 0, slots := 0, locals := 90 } : Room) (va_Pc [.ref (A 0), .int x] (Pre g H)) (Qi g (fun z H1 => H1 = H ∧ z = nearV b x)) 0 0 (gA g) := by
  refine k_met (cc := cX2_nearest) (nL := 4) (vs := [.ref (A 0), .int x]) (by decide +kernel) (Nat.le_of_ble_eq_true rfl) ?_
  intro p e s m below meth c hH hx hb hret hts hown hlk hml hin hK hS ls hl
  subst hH
  have hown : s.vm.findClass RX2 = some m.cls := hown
  have hl : lv_has ls 4 [(0, .ref (A 0)), (1, .int x)] := hl
  obtain ⟨h0, h1, h2, h3, h4, n12, n13, n14, n23, n24, n34⟩ := id hM
  have hl20 := hok.1
  have hl6 := hok.2.1
  refine lv_iload_n hx hb dX2_nearest_0 rfl (lv_at hl 1 rfl) ?_
  refine lv_iconst (v := 0) hx hb dX2_nearest_1 (by decide) ?_
  refine lv_iconst (v := 1) hx hb dX2_nearest_2 (by decide) ?_
  refine k_calliS (va_runS (As := [.int x, .int 0, .int 1]) (rest := []) ⟨hx, hb, hml, hown, hts⟩ (m_in l g x 0 1) (va_cwS 3 hts (lw_S q1444 q1445 q56 q1446) rfl rfl rfl hdS_X2_in ⟨Nat.le_of_ble_eq_true rfl, Nat.le_of_ble_eq_true rfl⟩) (preS hK hS) rfl rfl hl.1 rfl (lv_room (Nat.le_of_ble_eq_true rfl)) dX2_nearest_3 ⟨Nat.le_of_ble_eq_true rfl, Nat.le_of_ble_eq_true rfl⟩) hS (fun z1 locs hz1 hS => ?_)
  refine lv_if_ne (tgt := 12) hx hb dX2_nearest_6 (by decide) (fun c6 => ?_) (fun c6 => ?_)
  · have c6 := b2t hz1 c6
    refine lv_iconst (v := nI 0) hx hb dX2_nearest_12 (by decide) ?_
    refine lv_istore_n (lv' := [(2, .int (nI 0)), (0, .ref (A 0)), (1, .int x)]) hx hb dX2_nearest_13 rfl hl (by decide) rfl (fun ls hl => ?_)
    refine w_loop (Inv := fun (k : Nat) Hh locs cells slots ls => k ≤ b.1.length ∧ (∀ q, q < b.1.length → wrongR b q = 0 → k ≤ nrD q (b.2.2 3).toNatClampNeg) ∧ s.heap = Hh ∧ va_S (gA g) s.heap Hh locs ∧ cells = 0 ∧ slots = 0 ∧ lv_has ls 4 [(2, .int (nI k)), (1, .int x), (0, .ref (A 0))]) (μ := fun k => b.1.length - k) ?_ 0 _ _ _ _ _ ⟨Nat.zero_le _, fun q _ _ => Nat.zero_le _, rfl, hS, rfl, rfl, lv_sub hl [0, 2, 1] rfl⟩
    intro k Hh locs cells slots ls hInv ih
    obtain ⟨hk0, hno, rfl, hS, rfl, rfl, hl⟩ := hInv
    refine lv_iload_n hx hb dX2_nearest_14 rfl (lv_at hl 0 rfl) ?_
    refine lv_aload_n hx hb dX2_nearest_15 rfl (lv_at hl 2 rfl) ?_
    refine k_get (ci := 2) hx hb hts in_X2 hown hK h0 rfl 0 (by decide) q1400 (fun _ h9 => h9) rfl dX2_nearest_16 ?_
    refine lv_iconst (v := nI 0) hx hb dX2_nearest_19 (by decide) ?_
    refine k_ildN hx hb hK h1 (0) (rfl) (by omega) (by decide) dX2_nearest_20 ?_
    refine k_topi (nI b.1.length) (hs.rows) ?_
    refine lv_icmp_ge (tgt := 125) hx hb dX2_nearest_21 (by decide) (fun c21 => ?_) (fun c21 => ?_)
    · have hk : b.1.length ≤ k := by rcases Nat.lt_or_ge (k) (b.1.length) with z | z; exact absurd c21 (nI_ge z (by omega)); exact z
      have hk : k = b.1.length := by omega
      refine lv_ldc (v := (-1000004)) hx hb hown (hts _ q1486) dX2_nearest_125 ?_
      exact k_ireti (v := (-1000004)) hx hb hret (rfl) hlk hS (Nat.le_of_ble_eq_true rfl) (Nat.le_of_ble_eq_true rfl) (⟨rfl, by unfold nearV; rw [if_pos c6,  nrC_none (fun q hq hw => by have h5 := hno q hq hw; unfold nrD at h5; obtain ⟨sh, hsh, hsh2⟩ := hok.2.2.2.2.1; rw [hsh, nI_clamp (by omega)] at h5; omega)]⟩) dX2_nearest_127
    · have hk : k < b.1.length := by rcases Nat.lt_or_ge (k) (b.1.length) with z | z; exact z; exact absurd (nI_le z (by omega)) c21
      obtain ⟨sh, hsh, hsh2⟩ := hok.2.2.2.2.1
      have hsh2 : sh < b.1.length := by omega
      refine lv_aload_n hx hb dX2_nearest_24 rfl (lv_at hl 2 rfl) ?_
      refine lv_aload_n hx hb dX2_nearest_25 rfl (lv_at hl 2 rfl) ?_
      refine k_get (ci := 2) hx hb hts in_X2 hown hK h0 rfl 0 (by decide) q1400 (fun _ h9 => h9) rfl dX2_nearest_26 ?_
      refine lv_iconst (v := nI 1) hx hb dX2_nearest_29 (by decide) ?_
      refine k_ildN hx hb hK h1 (1) (rfl) (by omega) (by decide) dX2_nearest_30 ?_
      refine k_topi (nI sh) ((hs.sh.trans (if_neg (by omega))).trans hsh) ?_
      refine lv_iload_n hx hb dX2_nearest_31 rfl (lv_at hl 0 rfl) ?_
      refine lv_iadd hx hb dX2_nearest_32 ?_
      refine k_topi (nI (sh + k)) (nI_add sh k) ?_
      refine k_calliS (va_runV (As := [.int (nI (sh + k))]) (rest := []) ⟨hx, hb, hml, hown, hts⟩ (m_isRow l g (nI (sh + k)) hM) (cwV 1 hts (lw_V q1500 q1502 qs30 q56 q1503) rfl rfl rfl hdV_X2_isRow ⟨Nat.le_of_ble_eq_true rfl, Nat.le_of_ble_eq_true rfl⟩) (preV hK hS h0 rfl) rfl rfl hl.1 rfl (lv_room (Nat.le_of_ble_eq_true rfl)) dX2_nearest_33 ⟨Nat.le_of_ble_eq_true rfl, Nat.le_of_ble_eq_true rfl⟩) hS (fun z2 locs hz2 hS => ?_)
      refine lv_if_eq (tgt := 58) hx hb dX2_nearest_36 (by decide) (fun c36 => ?_) (fun c36 => ?_)
      · have c36 := b2f hz2 c36
        rw [hs.rows] at c36
        have hup : ∀ q, q < b.1.length → wrongR b q = 0 → q ≠ sh + k := fun q hq hw e => c36 ⟨nI_pos' (by omega), nI_lt (by omega) (by omega)⟩
        rcases Nat.lt_or_ge sh k with hsk | hsk
        · refine lv_aload_n hx hb dX2_nearest_58 rfl (lv_at hl 2 rfl) ?_
          refine lv_aload_n hx hb dX2_nearest_59 rfl (lv_at hl 2 rfl) ?_
          refine k_get (ci := 2) hx hb hts in_X2 hown hK h0 rfl 0 (by decide) q1400 (fun _ h9 => h9) rfl dX2_nearest_60 ?_
          refine lv_iconst (v := nI 1) hx hb dX2_nearest_63 (by decide) ?_
          refine k_ildN hx hb hK h1 (1) (rfl) (by omega) (by decide) dX2_nearest_64 ?_
          refine k_topi (nI sh) ((hs.sh.trans (if_neg (by omega))).trans hsh) ?_
          refine lv_iload_n hx hb dX2_nearest_65 rfl (lv_at hl 0 rfl) ?_
          refine lv_isub hx hb dX2_nearest_66 ?_
          refine k_calliS (va_runV (As := [.int ((nI sh) - (nI k))]) (rest := []) ⟨hx, hb, hml, hown, hts⟩ (m_isRow l g (nI sh - nI k) hM) (cwV 1 hts (lw_V q1500 q1502 qs30 q56 q1503) rfl rfl rfl hdV_X2_isRow ⟨Nat.le_of_ble_eq_true rfl, Nat.le_of_ble_eq_true rfl⟩) (preV hK hS h0 rfl) rfl rfl hl.1 rfl (lv_room (Nat.le_of_ble_eq_true rfl)) dX2_nearest_67 ⟨Nat.le_of_ble_eq_true rfl, Nat.le_of_ble_eq_true rfl⟩) hS (fun z3 locs hz3 hS => ?_)
          refine lv_if_eq (tgt := 92) hx hb dX2_nearest_70 (by decide) (fun c70 => ?_) (fun c70 => ?_)
          · have c70 := b2f hz3 c70
            have hdn : ∀ q, q < b.1.length → wrongR b q = 0 → ¬ (k ≤ sh ∧ q = sh - k) := fun q hq hw e => absurd e.1 (by omega)
            refine lv_iconst (v := 0) hx hb dX2_nearest_92 (by decide) ?_
            refine lv_istore_n (lv' := [(3, .int 0), (2, .int (nI k)), (1, .int x), (0, .ref (A 0))]) hx hb dX2_nearest_93 rfl hl (by decide) rfl (fun ls hl => ?_)
            refine lv_iload_n hx hb dX2_nearest_94 rfl (lv_at hl 0 rfl) ?_
            refine lv_if_eq (tgt := 119) hx hb dX2_nearest_95 (by decide) (fun c95 => ?_) (fun c95 => by first | exact absurd c95 (by decide) | exact absurd (by decide) c95)
            refine lv_iinc (v := nI (k + 1)) (lv' := [(2, .int (nI (k + 1))), (3, .int 0), (1, .int x), (0, .ref (A 0))]) hx hb dX2_nearest_119 hl (k := 1) rfl (nI_1 k) (by decide) rfl (fun ls hl => ?_)
            refine lv_goto (tgt := 14) hx hb dX2_nearest_122 (by decide) ?_
            exact ih (k + 1) _ _ _ _ _ ⟨by omega, fun q hq hw => by have h5 := hno q hq hw; rw [hsh, nI_clamp (by omega)] at h5 ⊢; have h6 := hup q hq hw; have h7 := hdn q hq hw; unfold nrD at h5 ⊢; omega, rfl, hS, rfl, rfl, lv_sub hl [0, 2, 3] rfl⟩ (by omega)
          · have c70 := b2t hz3 c70
            exact absurd c70.1 (nI_subN hsk (by omega))
        · refine lv_aload_n hx hb dX2_nearest_58 rfl (lv_at hl 2 rfl) ?_
          refine lv_aload_n hx hb dX2_nearest_59 rfl (lv_at hl 2 rfl) ?_
          refine k_get (ci := 2) hx hb hts in_X2 hown hK h0 rfl 0 (by decide) q1400 (fun _ h9 => h9) rfl dX2_nearest_60 ?_
          refine lv_iconst (v := nI 1) hx hb dX2_nearest_63 (by decide) ?_
          refine k_ildN hx hb hK h1 (1) (rfl) (by omega) (by decide) dX2_nearest_64 ?_
          refine k_topi (nI sh) ((hs.sh.trans (if_neg (by omega))).trans hsh) ?_
          refine lv_iload_n hx hb dX2_nearest_65 rfl (lv_at hl 0 rfl) ?_
          refine lv_isub hx hb dX2_nearest_66 ?_
          refine k_topi (nI (sh - k)) (pk_sub hsk) ?_
          refine k_calliS (va_runV (As := [.int (nI (sh - k))]) (rest := []) ⟨hx, hb, hml, hown, hts⟩ (m_isRow l g (nI (sh - k)) hM) (cwV 1 hts (lw_V q1500 q1502 qs30 q56 q1503) rfl rfl rfl hdV_X2_isRow ⟨Nat.le_of_ble_eq_true rfl, Nat.le_of_ble_eq_true rfl⟩) (preV hK hS h0 rfl) rfl rfl hl.1 rfl (lv_room (Nat.le_of_ble_eq_true rfl)) dX2_nearest_67 ⟨Nat.le_of_ble_eq_true rfl, Nat.le_of_ble_eq_true rfl⟩) hS (fun z3 locs hz3 hS => ?_)
          refine lv_if_eq (tgt := 92) hx hb dX2_nearest_70 (by decide) (fun c70 => ?_) (fun c70 => ?_)
          · have c70 := b2f hz3 c70
            rw [hs.rows] at c70
            have hdn : ∀ q, q < b.1.length → wrongR b q = 0 → ¬ (k ≤ sh ∧ q = sh - k) := fun q hq hw e => c70 ⟨nI_pos' (by omega), nI_lt (by omega) (by omega)⟩
            refine lv_iconst (v := 0) hx hb dX2_nearest_92 (by decide) ?_
            refine lv_istore_n (lv' := [(3, .int 0), (2, .int (nI k)), (1, .int x), (0, .ref (A 0))]) hx hb dX2_nearest_93 rfl hl (by decide) rfl (fun ls hl => ?_)
            refine lv_iload_n hx hb dX2_nearest_94 rfl (lv_at hl 0 rfl) ?_
            refine lv_if_eq (tgt := 119) hx hb dX2_nearest_95 (by decide) (fun c95 => ?_) (fun c95 => by first | exact absurd c95 (by decide) | exact absurd (by decide) c95)
            refine lv_iinc (v := nI (k + 1)) (lv' := [(2, .int (nI (k + 1))), (3, .int 0), (1, .int x), (0, .ref (A 0))]) hx hb dX2_nearest_119 hl (k := 1) rfl (nI_1 k) (by decide) rfl (fun ls hl => ?_)
            refine lv_goto (tgt := 14) hx hb dX2_nearest_122 (by decide) ?_
            exact ih (k + 1) _ _ _ _ _ ⟨by omega, fun q hq hw => by have h5 := hno q hq hw; rw [hsh, nI_clamp (by omega)] at h5 ⊢; have h6 := hup q hq hw; have h7 := hdn q hq hw; unfold nrD at h5 ⊢; omega, rfl, hS, rfl, rfl, lv_sub hl [0, 2, 3] rfl⟩ (by omega)
          · have c70 := b2t hz3 c70
            rw [hs.rows] at c70
            have c70 : sh - k < b.1.length := by omega
            refine lv_aload_n hx hb dX2_nearest_73 rfl (lv_at hl 2 rfl) ?_
            refine lv_aload_n hx hb dX2_nearest_74 rfl (lv_at hl 2 rfl) ?_
            refine k_get (ci := 2) hx hb hts in_X2 hown hK h0 rfl 0 (by decide) q1400 (fun _ h9 => h9) rfl dX2_nearest_75 ?_
            refine lv_iconst (v := nI 1) hx hb dX2_nearest_78 (by decide) ?_
            refine k_ildN hx hb hK h1 (1) (rfl) (by omega) (by decide) dX2_nearest_79 ?_
            refine k_topi (nI sh) ((hs.sh.trans (if_neg (by omega))).trans hsh) ?_
            refine lv_iload_n hx hb dX2_nearest_80 rfl (lv_at hl 0 rfl) ?_
            refine lv_isub hx hb dX2_nearest_81 ?_
            refine k_topi (nI (sh - k)) (pk_sub hsk) ?_
            refine k_calliS (va_runV (As := [.int (nI (sh - k))]) (rest := []) ⟨hx, hb, hml, hown, hts⟩ (m_wrongBy l g b (sh - k) hM hs hok c70) (cwV 1 hts (lw_V q1560 q1562 qs38 q56 q1563) rfl rfl rfl hdV_X2_wrongBy ⟨Nat.le_of_ble_eq_true rfl, Nat.le_of_ble_eq_true rfl⟩) (preV hK hS h0 rfl) rfl rfl hl.1 rfl (lv_room (Nat.le_of_ble_eq_true rfl)) dX2_nearest_82 ⟨Nat.le_of_ble_eq_true rfl, Nat.le_of_ble_eq_true rfl⟩) hS (fun t2 locs ht2 hS => ?_)
            refine lv_if_ne (tgt := 92) hx hb dX2_nearest_85 (by decide) (fun c85 => ?_) (fun c85 => ?_)
            · rw [ht2] at c85
              have hdn : ∀ q, q < b.1.length → wrongR b q = 0 → ¬ (k ≤ sh ∧ q = sh - k) := fun q hq hw e => c85 (by rw [← e.2]; exact hw)
              refine lv_iconst (v := 0) hx hb dX2_nearest_92 (by decide) ?_
              refine lv_istore_n (lv' := [(3, .int 0), (2, .int (nI k)), (1, .int x), (0, .ref (A 0))]) hx hb dX2_nearest_93 rfl hl (by decide) rfl (fun ls hl => ?_)
              refine lv_iload_n hx hb dX2_nearest_94 rfl (lv_at hl 0 rfl) ?_
              refine lv_if_eq (tgt := 119) hx hb dX2_nearest_95 (by decide) (fun c95 => ?_) (fun c95 => by first | exact absurd c95 (by decide) | exact absurd (by decide) c95)
              refine lv_iinc (v := nI (k + 1)) (lv' := [(2, .int (nI (k + 1))), (3, .int 0), (1, .int x), (0, .ref (A 0))]) hx hb dX2_nearest_119 hl (k := 1) rfl (nI_1 k) (by decide) rfl (fun ls hl => ?_)
              refine lv_goto (tgt := 14) hx hb dX2_nearest_122 (by decide) ?_
              exact ih (k + 1) _ _ _ _ _ ⟨by omega, fun q hq hw => by have h5 := hno q hq hw; rw [hsh, nI_clamp (by omega)] at h5 ⊢; have h6 := hup q hq hw; have h7 := hdn q hq hw; unfold nrD at h5 ⊢; omega, rfl, hS, rfl, rfl, lv_sub hl [0, 2, 3] rfl⟩ (by omega)
            · rw [ht2] at c85
              refine lv_iconst (v := (-1)) hx hb dX2_nearest_88 (by decide) ?_
              refine lv_goto (tgt := 93) hx hb dX2_nearest_89 (by decide) ?_
              refine lv_istore_n (lv' := [(3, .int (-1)), (2, .int (nI k)), (1, .int x), (0, .ref (A 0))]) hx hb dX2_nearest_93 rfl hl (by decide) rfl (fun ls hl => ?_)
              refine lv_iload_n hx hb dX2_nearest_94 rfl (lv_at hl 0 rfl) ?_
              refine lv_if_eq (tgt := 119) hx hb dX2_nearest_95 (by decide) (fun c95 => by first | exact absurd c95 (by decide) | exact absurd (by decide) c95) (fun c95 => ?_)
              refine lv_iload_n hx hb dX2_nearest_98 rfl (lv_at hl 2 rfl) ?_
              refine lv_if_ne (tgt := 115) hx hb dX2_nearest_99 (by decide) (fun c99 => ?_) (fun c99 => ?_)
              · refine lv_iload_n hx hb dX2_nearest_115 rfl (lv_at hl 0 rfl) ?_
                refine lv_iload_n hx hb dX2_nearest_116 rfl (lv_at hl 1 rfl) ?_
                refine lv_imul hx hb dX2_nearest_117 ?_
                exact k_ireti (v := (-1) * (nI k)) hx hb hret (rfl) hlk hS (Nat.le_of_ble_eq_true rfl) (Nat.le_of_ble_eq_true rfl) (⟨rfl, by unfold nearV; rw [if_pos c6,  hsh, nI_clamp (by omega), nrC_some (r := sh - k) ⟨by omega, c85, fun q hq hw => by have h5 := hno q hq hw; rw [hsh, nI_clamp (by omega)] at h5; have h6 := hup q hq hw; unfold nrD at h5 ⊢; omega⟩]; show _ = if x = 0 then nI (sh - k) else nI (sh - k) - nI sh; rw [if_neg c99]; exact near_d1 hsk⟩) dX2_nearest_118
              · refine lv_aload_n hx hb dX2_nearest_102 rfl (lv_at hl 3 rfl) ?_
                refine k_get (ci := 2) hx hb hts in_X2 hown hK h0 rfl 0 (by decide) q1400 (fun _ h9 => h9) rfl dX2_nearest_103 ?_
                refine lv_iconst (v := nI 1) hx hb dX2_nearest_106 (by decide) ?_
                refine k_ildN hx hb hK h1 (1) (rfl) (by omega) (by decide) dX2_nearest_107 ?_
                refine k_topi (nI sh) ((hs.sh.trans (if_neg (by omega))).trans hsh) ?_
                refine lv_iload_n hx hb dX2_nearest_108 rfl (lv_at hl 0 rfl) ?_
                refine lv_iload_n hx hb dX2_nearest_109 rfl (lv_at hl 1 rfl) ?_
                refine lv_imul hx hb dX2_nearest_110 ?_
                refine lv_iadd hx hb dX2_nearest_111 ?_
                refine lv_goto (tgt := 118) hx hb dX2_nearest_112 (by decide) ?_
                exact k_ireti (v := (nI sh) + ((-1) * (nI k))) hx hb hret (rfl) hlk hS (Nat.le_of_ble_eq_true rfl) (Nat.le_of_ble_eq_true rfl) (⟨rfl, by unfold nearV; rw [if_pos c6,  hsh, nI_clamp (by omega), nrC_some (r := sh - k) ⟨by omega, c85, fun q hq hw => by have h5 := hno q hq hw; rw [hsh, nI_clamp (by omega)] at h5; have h6 := hup q hq hw; unfold nrD at h5 ⊢; omega⟩]; show _ = if x = 0 then nI (sh - k) else nI (sh - k) - nI sh; rw [if_pos c99]; exact near_d0 hsk⟩) dX2_nearest_118
      · have c36 := b2t hz2 c36
        rw [hs.rows] at c36
        have c36 : sh + k < b.1.length := (nI_ltI (by omega) (by omega)).mp c36.2
        refine lv_aload_n hx hb dX2_nearest_39 rfl (lv_at hl 2 rfl) ?_
        refine lv_aload_n hx hb dX2_nearest_40 rfl (lv_at hl 2 rfl) ?_
        refine k_get (ci := 2) hx hb hts in_X2 hown hK h0 rfl 0 (by decide) q1400 (fun _ h9 => h9) rfl dX2_nearest_41 ?_
        refine lv_iconst (v := nI 1) hx hb dX2_nearest_44 (by decide) ?_
        refine k_ildN hx hb hK h1 (1) (rfl) (by omega) (by decide) dX2_nearest_45 ?_
        refine k_topi (nI sh) ((hs.sh.trans (if_neg (by omega))).trans hsh) ?_
        refine lv_iload_n hx hb dX2_nearest_46 rfl (lv_at hl 0 rfl) ?_
        refine lv_iadd hx hb dX2_nearest_47 ?_
        refine k_topi (nI (sh + k)) (nI_add sh k) ?_
        refine k_calliS (va_runV (As := [.int (nI (sh + k))]) (rest := []) ⟨hx, hb, hml, hown, hts⟩ (m_wrongBy l g b (sh + k) hM hs hok c36) (cwV 1 hts (lw_V q1560 q1562 qs38 q56 q1563) rfl rfl rfl hdV_X2_wrongBy ⟨Nat.le_of_ble_eq_true rfl, Nat.le_of_ble_eq_true rfl⟩) (preV hK hS h0 rfl) rfl rfl hl.1 rfl (lv_room (Nat.le_of_ble_eq_true rfl)) dX2_nearest_48 ⟨Nat.le_of_ble_eq_true rfl, Nat.le_of_ble_eq_true rfl⟩) hS (fun t1 locs ht1 hS => ?_)
        refine lv_if_ne (tgt := 58) hx hb dX2_nearest_51 (by decide) (fun c51 => ?_) (fun c51 => ?_)
        · rw [ht1] at c51
          have hup : ∀ q, q < b.1.length → wrongR b q = 0 → q ≠ sh + k := fun q hq hw e => c51 (by rw [← e]; exact hw)
          rcases Nat.lt_or_ge sh k with hsk | hsk
          · refine lv_aload_n hx hb dX2_nearest_58 rfl (lv_at hl 2 rfl) ?_
            refine lv_aload_n hx hb dX2_nearest_59 rfl (lv_at hl 2 rfl) ?_
            refine k_get (ci := 2) hx hb hts in_X2 hown hK h0 rfl 0 (by decide) q1400 (fun _ h9 => h9) rfl dX2_nearest_60 ?_
            refine lv_iconst (v := nI 1) hx hb dX2_nearest_63 (by decide) ?_
            refine k_ildN hx hb hK h1 (1) (rfl) (by omega) (by decide) dX2_nearest_64 ?_
            refine k_topi (nI sh) ((hs.sh.trans (if_neg (by omega))).trans hsh) ?_
            refine lv_iload_n hx hb dX2_nearest_65 rfl (lv_at hl 0 rfl) ?_
            refine lv_isub hx hb dX2_nearest_66 ?_
            refine k_calliS (va_runV (As := [.int ((nI sh) - (nI k))]) (rest := []) ⟨hx, hb, hml, hown, hts⟩ (m_isRow l g (nI sh - nI k) hM) (cwV 1 hts (lw_V q1500 q1502 qs30 q56 q1503) rfl rfl rfl hdV_X2_isRow ⟨Nat.le_of_ble_eq_true rfl, Nat.le_of_ble_eq_true rfl⟩) (preV hK hS h0 rfl) rfl rfl hl.1 rfl (lv_room (Nat.le_of_ble_eq_true rfl)) dX2_nearest_67 ⟨Nat.le_of_ble_eq_true rfl, Nat.le_of_ble_eq_true rfl⟩) hS (fun z3 locs hz3 hS => ?_)
            refine lv_if_eq (tgt := 92) hx hb dX2_nearest_70 (by decide) (fun c70 => ?_) (fun c70 => ?_)
            · have c70 := b2f hz3 c70
              have hdn : ∀ q, q < b.1.length → wrongR b q = 0 → ¬ (k ≤ sh ∧ q = sh - k) := fun q hq hw e => absurd e.1 (by omega)
              refine lv_iconst (v := 0) hx hb dX2_nearest_92 (by decide) ?_
              refine lv_istore_n (lv' := [(3, .int 0), (2, .int (nI k)), (1, .int x), (0, .ref (A 0))]) hx hb dX2_nearest_93 rfl hl (by decide) rfl (fun ls hl => ?_)
              refine lv_iload_n hx hb dX2_nearest_94 rfl (lv_at hl 0 rfl) ?_
              refine lv_if_eq (tgt := 119) hx hb dX2_nearest_95 (by decide) (fun c95 => ?_) (fun c95 => by first | exact absurd c95 (by decide) | exact absurd (by decide) c95)
              refine lv_iinc (v := nI (k + 1)) (lv' := [(2, .int (nI (k + 1))), (3, .int 0), (1, .int x), (0, .ref (A 0))]) hx hb dX2_nearest_119 hl (k := 1) rfl (nI_1 k) (by decide) rfl (fun ls hl => ?_)
              refine lv_goto (tgt := 14) hx hb dX2_nearest_122 (by decide) ?_
              exact ih (k + 1) _ _ _ _ _ ⟨by omega, fun q hq hw => by have h5 := hno q hq hw; rw [hsh, nI_clamp (by omega)] at h5 ⊢; have h6 := hup q hq hw; have h7 := hdn q hq hw; unfold nrD at h5 ⊢; omega, rfl, hS, rfl, rfl, lv_sub hl [0, 2, 3] rfl⟩ (by omega)
            · have c70 := b2t hz3 c70
              exact absurd c70.1 (nI_subN hsk (by omega))
          · refine lv_aload_n hx hb dX2_nearest_58 rfl (lv_at hl 2 rfl) ?_
            refine lv_aload_n hx hb dX2_nearest_59 rfl (lv_at hl 2 rfl) ?_
            refine k_get (ci := 2) hx hb hts in_X2 hown hK h0 rfl 0 (by decide) q1400 (fun _ h9 => h9) rfl dX2_nearest_60 ?_
            refine lv_iconst (v := nI 1) hx hb dX2_nearest_63 (by decide) ?_
            refine k_ildN hx hb hK h1 (1) (rfl) (by omega) (by decide) dX2_nearest_64 ?_
            refine k_topi (nI sh) ((hs.sh.trans (if_neg (by omega))).trans hsh) ?_
            refine lv_iload_n hx hb dX2_nearest_65 rfl (lv_at hl 0 rfl) ?_
            refine lv_isub hx hb dX2_nearest_66 ?_
            refine k_topi (nI (sh - k)) (pk_sub hsk) ?_
            refine k_calliS (va_runV (As := [.int (nI (sh - k))]) (rest := []) ⟨hx, hb, hml, hown, hts⟩ (m_isRow l g (nI (sh - k)) hM) (cwV 1 hts (lw_V q1500 q1502 qs30 q56 q1503) rfl rfl rfl hdV_X2_isRow ⟨Nat.le_of_ble_eq_true rfl, Nat.le_of_ble_eq_true rfl⟩) (preV hK hS h0 rfl) rfl rfl hl.1 rfl (lv_room (Nat.le_of_ble_eq_true rfl)) dX2_nearest_67 ⟨Nat.le_of_ble_eq_true rfl, Nat.le_of_ble_eq_true rfl⟩) hS (fun z3 locs hz3 hS => ?_)
            refine lv_if_eq (tgt := 92) hx hb dX2_nearest_70 (by decide) (fun c70 => ?_) (fun c70 => ?_)
            · have c70 := b2f hz3 c70
              rw [hs.rows] at c70
              have hdn : ∀ q, q < b.1.length → wrongR b q = 0 → ¬ (k ≤ sh ∧ q = sh - k) := fun q hq hw e => c70 ⟨nI_pos' (by omega), nI_lt (by omega) (by omega)⟩
              refine lv_iconst (v := 0) hx hb dX2_nearest_92 (by decide) ?_
              refine lv_istore_n (lv' := [(3, .int 0), (2, .int (nI k)), (1, .int x), (0, .ref (A 0))]) hx hb dX2_nearest_93 rfl hl (by decide) rfl (fun ls hl => ?_)
              refine lv_iload_n hx hb dX2_nearest_94 rfl (lv_at hl 0 rfl) ?_
              refine lv_if_eq (tgt := 119) hx hb dX2_nearest_95 (by decide) (fun c95 => ?_) (fun c95 => by first | exact absurd c95 (by decide) | exact absurd (by decide) c95)
              refine lv_iinc (v := nI (k + 1)) (lv' := [(2, .int (nI (k + 1))), (3, .int 0), (1, .int x), (0, .ref (A 0))]) hx hb dX2_nearest_119 hl (k := 1) rfl (nI_1 k) (by decide) rfl (fun ls hl => ?_)
              refine lv_goto (tgt := 14) hx hb dX2_nearest_122 (by decide) ?_
              exact ih (k + 1) _ _ _ _ _ ⟨by omega, fun q hq hw => by have h5 := hno q hq hw; rw [hsh, nI_clamp (by omega)] at h5 ⊢; have h6 := hup q hq hw; have h7 := hdn q hq hw; unfold nrD at h5 ⊢; omega, rfl, hS, rfl, rfl, lv_sub hl [0, 2, 3] rfl⟩ (by omega)
            · have c70 := b2t hz3 c70
              rw [hs.rows] at c70
              have c70 : sh - k < b.1.length := by omega
              refine lv_aload_n hx hb dX2_nearest_73 rfl (lv_at hl 2 rfl) ?_
              refine lv_aload_n hx hb dX2_nearest_74 rfl (lv_at hl 2 rfl) ?_
              refine k_get (ci := 2) hx hb hts in_X2 hown hK h0 rfl 0 (by decide) q1400 (fun _ h9 => h9) rfl dX2_nearest_75 ?_
              refine lv_iconst (v := nI 1) hx hb dX2_nearest_78 (by decide) ?_
              refine k_ildN hx hb hK h1 (1) (rfl) (by omega) (by decide) dX2_nearest_79 ?_
              refine k_topi (nI sh) ((hs.sh.trans (if_neg (by omega))).trans hsh) ?_
              refine lv_iload_n hx hb dX2_nearest_80 rfl (lv_at hl 0 rfl) ?_
              refine lv_isub hx hb dX2_nearest_81 ?_
              refine k_topi (nI (sh - k)) (pk_sub hsk) ?_
              refine k_calliS (va_runV (As := [.int (nI (sh - k))]) (rest := []) ⟨hx, hb, hml, hown, hts⟩ (m_wrongBy l g b (sh - k) hM hs hok c70) (cwV 1 hts (lw_V q1560 q1562 qs38 q56 q1563) rfl rfl rfl hdV_X2_wrongBy ⟨Nat.le_of_ble_eq_true rfl, Nat.le_of_ble_eq_true rfl⟩) (preV hK hS h0 rfl) rfl rfl hl.1 rfl (lv_room (Nat.le_of_ble_eq_true rfl)) dX2_nearest_82 ⟨Nat.le_of_ble_eq_true rfl, Nat.le_of_ble_eq_true rfl⟩) hS (fun t2 locs ht2 hS => ?_)
              refine lv_if_ne (tgt := 92) hx hb dX2_nearest_85 (by decide) (fun c85 => ?_) (fun c85 => ?_)
              · rw [ht2] at c85
                have hdn : ∀ q, q < b.1.length → wrongR b q = 0 → ¬ (k ≤ sh ∧ q = sh - k) := fun q hq hw e => c85 (by rw [← e.2]; exact hw)
                refine lv_iconst (v := 0) hx hb dX2_nearest_92 (by decide) ?_
                refine lv_istore_n (lv' := [(3, .int 0), (2, .int (nI k)), (1, .int x), (0, .ref (A 0))]) hx hb dX2_nearest_93 rfl hl (by decide) rfl (fun ls hl => ?_)
                refine lv_iload_n hx hb dX2_nearest_94 rfl (lv_at hl 0 rfl) ?_
                refine lv_if_eq (tgt := 119) hx hb dX2_nearest_95 (by decide) (fun c95 => ?_) (fun c95 => by first | exact absurd c95 (by decide) | exact absurd (by decide) c95)
                refine lv_iinc (v := nI (k + 1)) (lv' := [(2, .int (nI (k + 1))), (3, .int 0), (1, .int x), (0, .ref (A 0))]) hx hb dX2_nearest_119 hl (k := 1) rfl (nI_1 k) (by decide) rfl (fun ls hl => ?_)
                refine lv_goto (tgt := 14) hx hb dX2_nearest_122 (by decide) ?_
                exact ih (k + 1) _ _ _ _ _ ⟨by omega, fun q hq hw => by have h5 := hno q hq hw; rw [hsh, nI_clamp (by omega)] at h5 ⊢; have h6 := hup q hq hw; have h7 := hdn q hq hw; unfold nrD at h5 ⊢; omega, rfl, hS, rfl, rfl, lv_sub hl [0, 2, 3] rfl⟩ (by omega)
              · rw [ht2] at c85
                refine lv_iconst (v := (-1)) hx hb dX2_nearest_88 (by decide) ?_
                refine lv_goto (tgt := 93) hx hb dX2_nearest_89 (by decide) ?_
                refine lv_istore_n (lv' := [(3, .int (-1)), (2, .int (nI k)), (1, .int x), (0, .ref (A 0))]) hx hb dX2_nearest_93 rfl hl (by decide) rfl (fun ls hl => ?_)
                refine lv_iload_n hx hb dX2_nearest_94 rfl (lv_at hl 0 rfl) ?_
                refine lv_if_eq (tgt := 119) hx hb dX2_nearest_95 (by decide) (fun c95 => by first | exact absurd c95 (by decide) | exact absurd (by decide) c95) (fun c95 => ?_)
                refine lv_iload_n hx hb dX2_nearest_98 rfl (lv_at hl 2 rfl) ?_
                refine lv_if_ne (tgt := 115) hx hb dX2_nearest_99 (by decide) (fun c99 => ?_) (fun c99 => ?_)
                · refine lv_iload_n hx hb dX2_nearest_115 rfl (lv_at hl 0 rfl) ?_
                  refine lv_iload_n hx hb dX2_nearest_116 rfl (lv_at hl 1 rfl) ?_
                  refine lv_imul hx hb dX2_nearest_117 ?_
                  exact k_ireti (v := (-1) * (nI k)) hx hb hret (rfl) hlk hS (Nat.le_of_ble_eq_true rfl) (Nat.le_of_ble_eq_true rfl) (⟨rfl, by unfold nearV; rw [if_pos c6,  hsh, nI_clamp (by omega), nrC_some (r := sh - k) ⟨by omega, c85, fun q hq hw => by have h5 := hno q hq hw; rw [hsh, nI_clamp (by omega)] at h5; have h6 := hup q hq hw; unfold nrD at h5 ⊢; omega⟩]; show _ = if x = 0 then nI (sh - k) else nI (sh - k) - nI sh; rw [if_neg c99]; exact near_d1 hsk⟩) dX2_nearest_118
                · refine lv_aload_n hx hb dX2_nearest_102 rfl (lv_at hl 3 rfl) ?_
                  refine k_get (ci := 2) hx hb hts in_X2 hown hK h0 rfl 0 (by decide) q1400 (fun _ h9 => h9) rfl dX2_nearest_103 ?_
                  refine lv_iconst (v := nI 1) hx hb dX2_nearest_106 (by decide) ?_
                  refine k_ildN hx hb hK h1 (1) (rfl) (by omega) (by decide) dX2_nearest_107 ?_
                  refine k_topi (nI sh) ((hs.sh.trans (if_neg (by omega))).trans hsh) ?_
                  refine lv_iload_n hx hb dX2_nearest_108 rfl (lv_at hl 0 rfl) ?_
                  refine lv_iload_n hx hb dX2_nearest_109 rfl (lv_at hl 1 rfl) ?_
                  refine lv_imul hx hb dX2_nearest_110 ?_
                  refine lv_iadd hx hb dX2_nearest_111 ?_
                  refine lv_goto (tgt := 118) hx hb dX2_nearest_112 (by decide) ?_
                  exact k_ireti (v := (nI sh) + ((-1) * (nI k))) hx hb hret (rfl) hlk hS (Nat.le_of_ble_eq_true rfl) (Nat.le_of_ble_eq_true rfl) (⟨rfl, by unfold nearV; rw [if_pos c6,  hsh, nI_clamp (by omega), nrC_some (r := sh - k) ⟨by omega, c85, fun q hq hw => by have h5 := hno q hq hw; rw [hsh, nI_clamp (by omega)] at h5; have h6 := hup q hq hw; unfold nrD at h5 ⊢; omega⟩]; show _ = if x = 0 then nI (sh - k) else nI (sh - k) - nI sh; rw [if_pos c99]; exact near_d0 hsk⟩) dX2_nearest_118
        · rw [ht1] at c51
          refine lv_iconst (v := 1) hx hb dX2_nearest_54 (by decide) ?_
          refine lv_goto (tgt := 93) hx hb dX2_nearest_55 (by decide) ?_
          refine lv_istore_n (lv' := [(3, .int 1), (2, .int (nI k)), (1, .int x), (0, .ref (A 0))]) hx hb dX2_nearest_93 rfl hl (by decide) rfl (fun ls hl => ?_)
          refine lv_iload_n hx hb dX2_nearest_94 rfl (lv_at hl 0 rfl) ?_
          refine lv_if_eq (tgt := 119) hx hb dX2_nearest_95 (by decide) (fun c95 => by first | exact absurd c95 (by decide) | exact absurd (by decide) c95) (fun c95 => ?_)
          refine lv_iload_n hx hb dX2_nearest_98 rfl (lv_at hl 2 rfl) ?_
          refine lv_if_ne (tgt := 115) hx hb dX2_nearest_99 (by decide) (fun c99 => ?_) (fun c99 => ?_)
          · refine lv_iload_n hx hb dX2_nearest_115 rfl (lv_at hl 0 rfl) ?_
            refine lv_iload_n hx hb dX2_nearest_116 rfl (lv_at hl 1 rfl) ?_
            refine lv_imul hx hb dX2_nearest_117 ?_
            exact k_ireti (v := 1 * (nI k)) hx hb hret (rfl) hlk hS (Nat.le_of_ble_eq_true rfl) (Nat.le_of_ble_eq_true rfl) (⟨rfl, by unfold nearV; rw [if_pos c6,  hsh, nI_clamp (by omega), nrC_some (r := sh + k) ⟨by omega, c51, fun q hq hw => by have h5 := hno q hq hw; rw [hsh, nI_clamp (by omega)] at h5; unfold nrD at h5 ⊢; omega⟩]; show _ = if x = 0 then nI (sh + k) else nI (sh + k) - nI sh; rw [if_neg c99]; exact near_u1⟩) dX2_nearest_118
          · refine lv_aload_n hx hb dX2_nearest_102 rfl (lv_at hl 3 rfl) ?_
            refine k_get (ci := 2) hx hb hts in_X2 hown hK h0 rfl 0 (by decide) q1400 (fun _ h9 => h9) rfl dX2_nearest_103 ?_
            refine lv_iconst (v := nI 1) hx hb dX2_nearest_106 (by decide) ?_
            refine k_ildN hx hb hK h1 (1) (rfl) (by omega) (by decide) dX2_nearest_107 ?_
            refine k_topi (nI sh) ((hs.sh.trans (if_neg (by omega))).trans hsh) ?_
            refine lv_iload_n hx hb dX2_nearest_108 rfl (lv_at hl 0 rfl) ?_
            refine lv_iload_n hx hb dX2_nearest_109 rfl (lv_at hl 1 rfl) ?_
            refine lv_imul hx hb dX2_nearest_110 ?_
            refine lv_iadd hx hb dX2_nearest_111 ?_
            refine lv_goto (tgt := 118) hx hb dX2_nearest_112 (by decide) ?_
            exact k_ireti (v := (nI sh) + (1 * (nI k))) hx hb hret (rfl) hlk hS (Nat.le_of_ble_eq_true rfl) (Nat.le_of_ble_eq_true rfl) (⟨rfl, by unfold nearV; rw [if_pos c6,  hsh, nI_clamp (by omega), nrC_some (r := sh + k) ⟨by omega, c51, fun q hq hw => by have h5 := hno q hq hw; rw [hsh, nI_clamp (by omega)] at h5; unfold nrD at h5 ⊢; omega⟩]; show _ = if x = 0 then nI (sh + k) else nI (sh + k) - nI sh; rw [if_pos c99]; exact near_u0⟩) dX2_nearest_118
  · have c6 := b2f hz1 c6
    refine lv_ldc (v := (-1000001)) hx hb hown (hts _ q1447) dX2_nearest_9 ?_
    exact k_ireti (v := (-1000001)) hx hb hret (rfl) hlk hS (Nat.le_of_ble_eq_true rfl) (Nat.le_of_ble_eq_true rfl) (⟨rfl, by unfold nearV; rw [if_neg c6]⟩) dX2_nearest_11
