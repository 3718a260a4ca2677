/-! ===== HandBlindsModel: swap (printed by tools/model19.py) ===== -/
set_option maxRecDepth 100000
theorem b2i_inj {p q : Prop} [Decidable p] [Decidable q] (h : b2i p = b2i q) : (p ↔ q) := by
  by_cases hp : p
  · rw [b2i_t hp] at h
    exact ⟨fun _ => b2i_1.mp h.symm, fun _ => hp⟩
  · rw [b2i_f hp] at h
    exact ⟨fun z => absurd z hp, fun z => absurd z (b2i_0.mp h.symm)⟩
def swapbits (x i j : Nat) : Nat := if x.testBit i = true ↔ x.testBit j = true then x else x ^^^ (2 ^ i ||| 2 ^ j)
def swI (i j : Nat) (x : Nat) : Nat := swapbits x i j
theorem swI_ne {x i j : Nat} (hx : x < 2 ^ 20) (hi : i < 20) (hj : j < 20) (h : ¬ b2i (x.testBit i = true) = b2i (x.testBit j = true)) : nI x ^^^ ((1 <<< (nI i &&& 31)) ||| (1 <<< (nI j &&& 31))) = nI (swapbits x i j) := by
  unfold swapbits
  rw [if_neg (fun z => h (by unfold b2i; simp only [z])), nI_shl1 (by omega), nI_shl1 (by omega), nI_or, nI_xor]
/-- two rows changed for their first n cells -/
def swF (f : Nat → Int32) (i j n : Nat) : Nat → Int32 := fun q => if 11 + 17 * i ≤ q ∧ q < 11 + 17 * i + n then f (11 + 17 * j + (q - (11 + 17 * i))) else if 11 + 17 * j ≤ q ∧ q < 11 + 17 * j + n then f (11 + 17 * i + (q - (11 + 17 * j))) else f q
theorem swF_0 (f : Nat → Int32) (i j : Nat) : swF f i j 0 = f := by
  funext q; unfold swF; rw [if_neg (by omega), if_neg (by omega)]
theorem swF_lo (f : Nat → Int32) (i j n : Nat) {q : Nat} (h : q < 11) : swF f i j n q = f q := by
  unfold swF; rw [if_neg (by omega), if_neg (by omega)]
theorem swF_hi (f : Nat → Int32) (i j n : Nat) {q : Nat} (hn : n ≤ 17 ∧ i < 20 ∧ j < 20) (h : 351 ≤ q) : swF f i j n q = f q := by
  unfold swF; rw [if_neg (by omega), if_neg (by omega)]
theorem swF_1 (f : Nat → Int32) {i j k : Nat} (hij : i ≠ j) (hk : k < 17) : swF f i j k (11 + 17 * i + k) = f (11 + 17 * i + k) := by
  unfold swF; rw [if_neg (by omega), if_neg (by omega)]
theorem swF_2 (f : Nat → Int32) {i j k : Nat} (hij : i ≠ j) (hk : k < 17) : swF f i j k (11 + 17 * j + k) = f (11 + 17 * j + k) := by
  unfold swF; rw [if_neg (by omega), if_neg (by omega)]
theorem swF_s (f : Nat → Int32) {i j k : Nat} (hij : i ≠ j) (hk : k < 17) : upd (upd (swF f i j k) (11 + 17 * i + k) (f (11 + 17 * j + k))) (11 + 17 * j + k) (f (11 + 17 * i + k)) = swF f i j (k + 1) := by
  funext q
  unfold upd swF
  try dsimp only
  by_cases h1 : q = 11 + 17 * j + k
  · subst h1
    rw [if_pos rfl, if_neg (by omega), if_pos (by omega)]; congr 1; omega
  · rw [if_neg h1]
    by_cases h2 : q = 11 + 17 * i + k
    · subst h2
      rw [if_pos rfl, if_pos (by omega)]; congr 1; omega
    · rw [if_neg h2]
      by_cases h3 : 11 + 17 * i ≤ q ∧ q < 11 + 17 * i + k
      · rw [if_pos h3, if_pos (by omega)]
      · rw [if_neg h3, if_neg (show ¬ (11 + 17 * i ≤ q ∧ q < 11 + 17 * i + (k + 1)) by omega)]
        by_cases h4 : 11 + 17 * j ≤ q ∧ q < 11 + 17 * j + k
        · rw [if_pos h4, if_pos (by omega)]
        · rw [if_neg h4, if_neg (by omega)]
/-- the first n routes' sets changed -/
def rtF (f : Nat → Int32) (p : Nat → Nat) (n : Nat) : Nat → Int32 := fun q => if 351 ≤ q ∧ (q - 351) % 3 = 0 ∧ (q - 351) / 3 < n then nI (p (f q).toNatClampNeg) else f q
theorem rtF_0 (f : Nat → Int32) (p : Nat → Nat) : rtF f p 0 = f := by
  funext q; unfold rtF; rw [if_neg (by omega)]
theorem rtF_lo (f : Nat → Int32) (p : Nat → Nat) (n : Nat) {q : Nat} (h : q < 351) : rtF f p n q = f q := by
  unfold rtF; rw [if_neg (by omega)]
theorem rtF_at (f : Nat → Int32) (p : Nat → Nat) (n : Nat) {r : Nat} (h : n ≤ r) : rtF f p n (351 + 3 * r) = f (351 + 3 * r) := by
  unfold rtF; rw [if_neg (by omega)]
theorem rtF_s (f : Nat → Int32) (p : Nat → Nat) (n x : Nat) (hx : x < 2 ^ 31) (h : rtF f p n (351 + 3 * n) = nI x) : upd (rtF f p n) (351 + 3 * n) (nI (p x)) = rtF f p (n + 1) := by
  rw [rtF_at f p n (Nat.le_refl _)] at h
  funext q
  unfold upd rtF
  try dsimp only
  by_cases h1 : q = 351 + 3 * n
  · subst h1
    rw [if_pos rfl, if_pos (by omega), h, nI_clamp hx]
  · rw [if_neg h1]
    by_cases h2 : 351 ≤ q ∧ (q - 351) % 3 = 0 ∧ (q - 351) / 3 < n
    · rw [if_pos h2, if_pos (by omega)]
    · rw [if_neg h2, if_neg (by omega)]
def mapRt (b : BV) (p : Nat → Nat) : BV := (b.1, b.2.1.map (fun t => (p t.1, t.2)), b.2.2)
theorem rtV_map {b : BV} {p : Nat → Nat} {r : Nat} (h : r < b.2.1.length) : rtV (mapRt b p) r = (p (rtV b r).1, (rtV b r).2) := by
  unfold rtV mapRt
  simp [List.getD_eq_getElem?_getD, List.getElem?_map, List.getElem?_eq_getElem h]
theorem SRel_map {f : Nat → Int32} {b : BV} (p : Nat → Nat) (h : SRel f b) (hok : okB b) : SRel (rtF f p b.2.1.length) (mapRt b p) := by
  have n20 := hok.1
  have lo : ∀ q, q < 351 → rtF f p b.2.1.length q = f q := fun q hq => rtF_lo f p _ hq
  refine ⟨(lo 0 (by omega)).trans h.rows, (lo 1 (by omega)).trans h.sh, ?_, (lo 3 (by omega)).trans h.on, (lo 4 (by omega)).trans h.c4, (lo 5 (by omega)).trans h.c5, (lo 6 (by omega)).trans h.c6, (lo 7 (by omega)).trans h.c7, (lo 8 (by omega)).trans h.w, (lo 9 (by omega)).trans h.c9, (lo 10 (by omega)).trans h.c10, fun r hr => ?_, fun r hr => ?_⟩
  · rw [lo 2 (by omega), h.rts]; simp [mapRt]
  · have hr : r < b.1.length := hr
    exact (h.row hr).congr (hok.name hr).2 (fun q q1 q2 => lo q (by omega))
  · have hr : r < b.2.1.length := by have : r < (b.2.1.map (fun t => (p t.1, t.2))).length := hr; rw [List.length_map] at this; exact this
    rw [rtV_map hr]
    obtain ⟨a, b1, c⟩ := h.rt hr
    have h20 := hok.2.2.2.1 r hr
    refine ⟨?_, ?_, ?_⟩
    · unfold rtF; rw [if_pos (by omega), a, nI_clamp (by omega)]
    · unfold rtF; rw [if_neg (by omega)]; exact b1
    · unfold rtF; rw [if_neg (by omega)]; exact c
theorem okB_map {b : BV} {p : Nat → Nat} (hok : okB b) (hp : ∀ x, x < 2 ^ 20 → p x < 2 ^ 20) : okB (mapRt b p) := by
  obtain ⟨h1, h2, h3, h4, h5, h6, h7⟩ := hok
  have hl : (mapRt b p).2.1.length = b.2.1.length := by simp [mapRt]
  refine ⟨h1, by rw [hl]; exact h2, h3, fun r hr => ?_, h5, by rw [hl]; exact h6, h7⟩
  rw [hl] at hr
  rw [rtV_map hr]
  exact hp _ (h4 r hr)
def swapR (b : BV) (i j : Nat) : BV := ((b.1.set i (rowV b j)).set j (rowV b i), b.2.1, b.2.2)
def swapB (b : BV) (i j : Nat) : BV := mapRt (swapR b i j) (swI i j)
def swapV (b : BV) (x y : Int32) : Option BV × Int32 := if (0 ≤ x ∧ x < nI b.1.length) ∧ (0 ≤ y ∧ y < nI b.1.length) ∧ x ≠ y then (some (swapB b x.toNatClampNeg y.toNatClampNeg), b.2.2 3) else (none, -1000001)
theorem swapR_len (b : BV) (i j : Nat) : (swapR b i j).1.length = b.1.length := by simp [swapR]
theorem rowV_swap {b : BV} {i j : Nat} (hi : i < b.1.length) (hj : j < b.1.length) (hij : i ≠ j) (r : Nat) : rowV (swapR b i j) r = if r = i then rowV b j else if r = j then rowV b i else rowV b r := by
  unfold rowV swapR
  simp only [List.getD_eq_getElem?_getD]
  by_cases h1 : r = i
  · subst h1
    rw [if_pos rfl, List.getElem?_set_ne (Ne.symm hij), List.getElem?_set_self hi]
    simp [rowV, List.getD_eq_getElem?_getD]
  · rw [if_neg h1]
    by_cases h2 : r = j
    · subst h2
      rw [if_pos rfl, List.getElem?_set_self (by simp; exact hj)]
      simp [rowV, List.getD_eq_getElem?_getD]
    · rw [if_neg h2, List.getElem?_set_ne (Ne.symm h2), List.getElem?_set_ne (Ne.symm h1)]
theorem okB_swapR {b : BV} {i j : Nat} (hok : okB b) (hi : i < b.1.length) (hj : j < b.1.length) (hij : i ≠ j) : okB (swapR b i j) := by
  obtain ⟨h1, h2, h3, h4, h5, h6, h7⟩ := hok
  refine ⟨by rw [swapR_len]; exact h1, h2, fun r hr => ?_, h4, ?_, h6, h7⟩
  · rw [swapR_len] at hr
    rw [rowV_swap hi hj hij]
    split
    · exact h3 j hj
    · split
      · exact h3 i hi
      · exact h3 r hr
  · obtain ⟨sh, a, z⟩ := h5
    exact ⟨sh, a, by rw [swapR_len]; exact z⟩
theorem SRel_swapR {f : Nat → Int32} {b : BV} {i j : Nat} (h : SRel f b) (hok : okB b) (hi : i < b.1.length) (hj : j < b.1.length) (hij : i ≠ j) : SRel (swF f i j 17) (swapR b i j) := by
  have n20 := hok.1
  have n6 := hok.2.1
  have lo : ∀ q, q < 11 → swF f i j 17 q = f q := fun q hq => swF_lo f i j 17 hq
  have blk : ∀ (r s : Nat) (v : RowV), RowRel f s v → v.1.length ≤ 14 → (∀ o, o < 17 → swF f i j 17 (11 + 17 * r + o) = f (11 + 17 * s + o)) → RowRel (swF f i j 17) r v := by
    intro r s v hv h14 e
    obtain ⟨a, b1, c, d⟩ := hv
    refine ⟨?_, ?_, ?_, fun k hk => ?_⟩
    · have := e 0 (by omega); rw [Nat.add_zero, Nat.add_zero] at this; rw [this]; exact a
    · have := e 1 (by omega); rw [show 12 + 17 * r = 11 + 17 * r + 1 by omega, this, show 11 + 17 * s + 1 = 12 + 17 * s by omega]; exact b1
    · have := e 2 (by omega); rw [show 13 + 17 * r = 11 + 17 * r + 2 by omega, this, show 11 + 17 * s + 2 = 13 + 17 * s by omega]; exact c
    · have := e (3 + k) (by omega); rw [show 14 + 17 * r + k = 11 + 17 * r + (3 + k) by omega, this, show 11 + 17 * s + (3 + k) = 14 + 17 * s + k by omega]; exact d k hk
  refine ⟨by rw [swapR_len]; exact (lo 0 (by omega)).trans h.rows, by rw [swapR_len]; exact (lo 1 (by omega)).trans h.sh, (lo 2 (by omega)).trans h.rts, (lo 3 (by omega)).trans h.on, (lo 4 (by omega)).trans h.c4, (lo 5 (by omega)).trans h.c5, (lo 6 (by omega)).trans h.c6, (lo 7 (by omega)).trans h.c7, (lo 8 (by omega)).trans h.w, (lo 9 (by omega)).trans h.c9, (lo 10 (by omega)).trans h.c10, fun r hr => ?_, fun r hr => ?_⟩
  · rw [swapR_len] at hr
    rw [rowV_swap hi hj hij]
    by_cases h1 : r = i
    · rw [if_pos h1]; subst h1
      exact blk r j _ (h.row hj) (hok.name hj).2 (fun o ho => by unfold swF; rw [if_pos (by omega)]; congr 1; omega)
    · rw [if_neg h1]
      by_cases h2 : r = j
      · rw [if_pos h2]; subst h2
        exact blk r i _ (h.row hi) (hok.name hi).2 (fun o ho => by unfold swF; rw [if_neg (by omega), if_pos (by omega)]; congr 1; omega)
      · rw [if_neg h2]
        exact blk r r _ (h.row hr) (hok.name hr).2 (fun o ho => by unfold swF; rw [if_neg (by omega), if_neg (by omega)])
  · have hr : r < b.2.1.length := hr
    exact (h.rt hr).congr (fun q q1 q2 => swF_hi f i j 17 ⟨by omega, by omega, by omega⟩ (by omega))
theorem swapbits_lt {x i j : Nat} (hi : i < 20) (hj : j < 20) (hx : x < 2 ^ 20) : swapbits x i j < 2 ^ 20 := by
  unfold swapbits
  split
  · exact hx
  · have h1 : 2 ^ i < 2 ^ 20 := Nat.pow_lt_pow_right (by omega) hi
    have h2 : 2 ^ j < 2 ^ 20 := Nat.pow_lt_pow_right (by omega) hj
    exact Nat.xor_lt_two_pow hx (Nat.or_lt_two_pow h1 h2)
theorem SRel_swap {f : Nat → Int32} {b : BV} {i j : Nat} (h : SRel f b) (hok : okB b) (hi : i < b.1.length) (hj : j < b.1.length) (hij : i ≠ j) : SRel (rtF (swF f i j 17) (swI i j) b.2.1.length) (swapB b i j) :=
  SRel_map (swI i j) (SRel_swapR h hok hi hj hij) (okB_swapR hok hi hj hij)
theorem okB_swap {b : BV} {i j : Nat} (hok : okB b) (hi : i < b.1.length) (hj : j < b.1.length) (hij : i ≠ j) : okB (swapB b i j) := by
  have := hok.1
  exact okB_map (okB_swapR hok hi hj hij) (fun x hx => swapbits_lt (by omega) (by omega) hx)
/-- swap(one, other) -/
theorem mp_swap (l : Launch) (g : GT) {H : Heap} {A : Nat → Nat} {a : AV} (x y : Int32) (hMR : MR g A a H) : Met l yX2_swap (ws_ yX2_swap cX2_swap 6 (some .int)) ({ frames := 1, cells := 0, slots := 0, locals := 23 } : Room) (va_Pc [.ref (A 0), .int x, .int y] (Pre g H)) (Qi g (fun z H1 => z = (ordA a (swapV a.1 x y)).2 ∧ MR g A (ordA a (swapV a.1 x y)).1 H1 ∧ Fx (MM A) H H1)) 0 0 (gA g) := by
  refine k_met (cc := cX2_swap) (nL := 6) (vs := [.ref (A 0), .int x, .int y]) (by decide +kernel) (Nat.le_of_ble_eq_true rfl) ?_
  intro p e s m below meth c hH hx hb hret hts hown hlk hml hin hK hS ls hl
  subst hH
  have hown : s.vm.findClass RX2 = some m.cls := hown
  have hl : lv_has ls 6 [(0, .ref (A 0)), (1, .int x), (2, .int y)] := hl
  obtain ⟨F, I, hM, hs, hok, hn3, hH, hn5, hT⟩ := hMR
  obtain ⟨h0, h1, h2, h3, h4, n12, n13, n14, n23, n24, n34⟩ := id hM
  have hF : Fx (MM A) s.heap s.heap := Fx.rf
  have hl20 := hok.1
  have hl6 := hok.2.1
  have hl4 := hH.1
  have hl60 := hT.1
  have hR : MRel F I a := ⟨hs, hok, hn3, hH, hn5, hT⟩
  refine lv_aload_n hx hb dX2_swap_0 rfl (lv_at hl 0 rfl) ?_
  refine lv_iload_n hx hb dX2_swap_1 rfl (lv_at hl 1 rfl) ?_
  refine k_calliS (va_runV (As := [.int x]) (rest := []) ⟨hx, hb, hml, hown, hts⟩ (m_isRow l g x hM) (cwV 1 hts (lw_V q1500 q1502 qs30 q56 q1503) rfl rfl rfl hdV_X2_isRow ⟨Nat.le_of_ble_eq_true rfl, Nat.le_of_ble_eq_true rfl⟩) (preV hK hS h0 rfl) rfl rfl hl.1 rfl (lv_room (Nat.le_of_ble_eq_true rfl)) dX2_swap_2 ⟨Nat.le_of_ble_eq_true rfl, Nat.le_of_ble_eq_true rfl⟩) hS (fun z1 locs hz1 hS => ?_)
  refine lv_if_eq (tgt := 21) hx hb dX2_swap_5 (by decide) (fun c5 => ?_) (fun c5 => ?_)
  · have c5 := b2f hz1 c5
    rw [hs.rows] at c5
    have hcd : ¬ ((0 ≤ x ∧ x < nI a.1.1.length) ∧ (0 ≤ y ∧ y < nI a.1.1.length) ∧ x ≠ y) := fun h => c5 h.1
    refine lv_ldc (v := (-1000001)) hx hb hown (hts _ q1447) dX2_swap_21 ?_
    exact k_ireti (v := (-1000001)) hx hb hret (rfl) hlk hS (Nat.le_of_ble_eq_true rfl) (Nat.le_of_ble_eq_true rfl) (⟨by unfold swapV; rw [if_neg hcd]; rfl, by unfold swapV; rw [if_neg hcd]; exact ⟨F, I, hM, hR⟩, hF⟩) dX2_swap_23
  · have c5 := b2t hz1 c5
    rw [hs.rows] at c5
    refine lv_aload_n hx hb dX2_swap_8 rfl (lv_at hl 0 rfl) ?_
    refine lv_iload_n hx hb dX2_swap_9 rfl (lv_at hl 2 rfl) ?_
    refine k_calliS (va_runV (As := [.int y]) (rest := []) ⟨hx, hb, hml, hown, hts⟩ (m_isRow l g y hM) (cwV 1 hts (lw_V q1500 q1502 qs30 q56 q1503) rfl rfl rfl hdV_X2_isRow ⟨Nat.le_of_ble_eq_true rfl, Nat.le_of_ble_eq_true rfl⟩) (preV hK hS h0 rfl) rfl rfl hl.1 rfl (lv_room (Nat.le_of_ble_eq_true rfl)) dX2_swap_10 ⟨Nat.le_of_ble_eq_true rfl, Nat.le_of_ble_eq_true rfl⟩) hS (fun z2 locs hz2 hS => ?_)
    refine lv_if_eq (tgt := 21) hx hb dX2_swap_13 (by decide) (fun c13 => ?_) (fun c13 => ?_)
    · have c13 := b2f hz2 c13
      rw [hs.rows] at c13
      have hcd : ¬ ((0 ≤ x ∧ x < nI a.1.1.length) ∧ (0 ≤ y ∧ y < nI a.1.1.length) ∧ x ≠ y) := fun h => c13 h.2.1
      refine lv_ldc (v := (-1000001)) hx hb hown (hts _ q1447) dX2_swap_21 ?_
      exact k_ireti (v := (-1000001)) hx hb hret (rfl) hlk hS (Nat.le_of_ble_eq_true rfl) (Nat.le_of_ble_eq_true rfl) (⟨by unfold swapV; rw [if_neg hcd]; rfl, by unfold swapV; rw [if_neg hcd]; exact ⟨F, I, hM, hR⟩, hF⟩) dX2_swap_23
    · have c13 := b2t hz2 c13
      rw [hs.rows] at c13
      refine lv_iload_n hx hb dX2_swap_16 rfl (lv_at hl 1 rfl) ?_
      refine lv_iload_n hx hb dX2_swap_17 rfl (lv_at hl 2 rfl) ?_
      refine lv_icmp_ne (tgt := 24) hx hb dX2_swap_18 (by decide) (fun c18 => ?_) (fun c18 => ?_)
      · have hcd : (0 ≤ x ∧ x < nI a.1.1.length) ∧ (0 ≤ y ∧ y < nI a.1.1.length) ∧ x ≠ y := ⟨c5, c13, c18⟩
        obtain ⟨i, hi, rfl⟩ := row_nat c5 (by omega)
        obtain ⟨j, hj, rfl⟩ := row_nat c13 (by omega)
        have hij : i ≠ j := fun z => c18 (by rw [z])
        refine lv_aload_n hx hb dX2_swap_24 rfl (lv_at hl 0 rfl) ?_
        refine k_callv (va_runV (As := []) (rest := []) ⟨hx, hb, hml, hown, hts⟩ (m_changes l g a.2.1.length hM hn3 hH.1) (cwV 0 hts (lw_V q1492 q1494 qs29 q56 q1495) rfl rfl rfl hdV_X2_changes ⟨Nat.le_of_ble_eq_true rfl, Nat.le_of_ble_eq_true rfl⟩) (preV hK hS h0 rfl) rfl rfl hl.1 rfl (lv_room (Nat.le_of_ble_eq_true rfl)) dX2_swap_25 ⟨Nat.le_of_ble_eq_true rfl, Nat.le_of_ble_eq_true rfl⟩) hS (fun H_3 locs hp1 hS => ?_)
        obtain ⟨hF2, hM1⟩ := hp1
        have hF := hF.trans hF2 (fun q _ h => h)
        have hM1 : MAt g A (va_up (va_up F 2 (chg (F 2) (F 1) a.2.1.length)) 1 (F 1)) (upd I 3 (nI (if a.2.1.length = 4 then 4 else a.2.1.length + 1))) H_3 := by rw [show va_up (va_up F 2 (chg (F 2) (F 1) a.2.1.length)) 1 (F 1) = (va_up F 2 (chg (F 2) (F 1) a.2.1.length)) from upF_id (va_up F 2 (chg (F 2) (F 1) a.2.1.length)) 1]; exact hM1
        obtain ⟨h_4, h_5, h_6, h_7, h_8, -, -, -, -, -, -⟩ := id hM1
        have h_4 : Ob g (A 0) 2 [.ref (A 1), .ref (A 2), .ref (A 3), .int (nI (if a.2.1.length = 4 then 4 else a.2.1.length + 1)), .ref (A 4), .int (I 5), .int (I 6), .int (I 7), .int (I 8), .int (I 9), .int (I 10), .int (I 11), .int (I 12)] H_3 := h_4
        have h_5 : Ar g (A 1) 0 (aI 369 (F 1)) H_3 := h_5
        have h_6 : Ar g (A 2) 0 (aI 1476 (chg (F 2) (F 1) a.2.1.length)) H_3 := h_6
        refine lv_iconst (v := nI 0) hx hb dX2_swap_28 (by decide) ?_
        refine lv_istore_n (lv' := [(3, .int (nI 0)), (0, .ref (A 0)), (1, .int (nI i)), (2, .int (nI j))]) hx hb dX2_swap_29 rfl hl (by decide) rfl (fun ls hl => ?_)
        refine w_loop (Inv := fun (k : Nat) H1 locs cells slots ls => k ≤ 17 ∧ MAt g A (va_up (va_up F 2 (chg (F 2) (F 1) a.2.1.length)) 1 (swF (F 1) i j k)) (upd I 3 (nI (if a.2.1.length = 4 then 4 else a.2.1.length + 1))) H1 ∧ Fx (MM A) s.heap H1 ∧ va_S (gA g) s.heap H1 locs ∧ cells = 0 ∧ slots = 0 ∧ lv_has ls 6 [(3, .int (nI k)), (0, .ref (A 0)), (1, .int (nI i)), (2, .int (nI j))]) (μ := fun k => 17 - k) ?_ 0 _ _ _ _ _ ⟨Nat.zero_le _, by rw [swF_0]; exact hM1, hF, hS, rfl, rfl, lv_sub hl [0, 1, 2, 3] rfl⟩
        intro k H1 locs cells slots ls hInv ih
        obtain ⟨hk, hM2, hF, hS, rfl, rfl, hl⟩ := hInv
        obtain ⟨h_9, h_10, h_11, h_12, h_13, -, -, -, -, -, -⟩ := id hM2
        have h_9 : Ob g (A 0) 2 [.ref (A 1), .ref (A 2), .ref (A 3), .int (nI (if a.2.1.length = 4 then 4 else a.2.1.length + 1)), .ref (A 4), .int (I 5), .int (I 6), .int (I 7), .int (I 8), .int (I 9), .int (I 10), .int (I 11), .int (I 12)] H1 := h_9
        have h_10 : Ar g (A 1) 0 (aI 369 (swF (F 1) i j k)) H1 := h_10
        have h_11 : Ar g (A 2) 0 (aI 1476 (chg (F 2) (F 1) a.2.1.length)) H1 := h_11
        refine lv_iload_n hx hb dX2_swap_30 rfl (lv_at hl 0 rfl) ?_
        refine lv_bipush (v := nI 17) hx hb dX2_swap_31 (by decide) ?_
        refine lv_icmp_ge (tgt := 70) hx hb dX2_swap_33 (by decide) (fun c33 => ?_) (fun c33 => ?_)
        · have hk2 : 17 ≤ k := by rcases Nat.lt_or_ge (k) (17) with z | z; exact absurd c33 (nI_ge z (by omega)); exact z
          have hk2 : k = 17 := by omega
          refine lv_iconst (v := nI 0) hx hb dX2_swap_70 (by decide) ?_
          refine lv_istore_n (lv' := [(3, .int (nI 0)), (0, .ref (A 0)), (1, .int (nI i)), (2, .int (nI j))]) hx hb dX2_swap_71 rfl hl (by decide) rfl (fun ls hl => ?_)
          refine w_loop (Inv := fun (r : Nat) H1 locs cells slots ls => r ≤ a.1.2.1.length ∧ MAt g A (va_up (va_up F 2 (chg (F 2) (F 1) a.2.1.length)) 1 (rtF (swF (F 1) i j k) (swI i j) r)) (upd I 3 (nI (if a.2.1.length = 4 then 4 else a.2.1.length + 1))) H1 ∧ Fx (MM A) s.heap H1 ∧ va_S (gA g) s.heap H1 locs ∧ cells = 0 ∧ slots = 0 ∧ lv_has ls 6 [(3, .int (nI r)), (0, .ref (A 0)), (1, .int (nI i)), (2, .int (nI j))]) (μ := fun r => a.1.2.1.length - r) ?_ 0 _ _ _ _ _ ⟨Nat.zero_le _, by rw [rtF_0]; exact hM2, hF, hS, rfl, rfl, lv_sub hl [0, 1, 2, 3] rfl⟩
          intro r H1 locs cells slots ls hInv ih
          obtain ⟨hr, hM5, hF, hS, rfl, rfl, hl⟩ := hInv
          obtain ⟨h_14, h_15, h_16, h_17, h_18, -, -, -, -, -, -⟩ := id hM5
          have h_14 : Ob g (A 0) 2 [.ref (A 1), .ref (A 2), .ref (A 3), .int (nI (if a.2.1.length = 4 then 4 else a.2.1.length + 1)), .ref (A 4), .int (I 5), .int (I 6), .int (I 7), .int (I 8), .int (I 9), .int (I 10), .int (I 11), .int (I 12)] H1 := h_14
          have h_15 : Ar g (A 1) 0 (aI 369 (rtF (swF (F 1) i j k) (swI i j) r)) H1 := h_15
          have h_16 : Ar g (A 2) 0 (aI 1476 (chg (F 2) (F 1) a.2.1.length)) H1 := h_16
          refine lv_iload_n hx hb dX2_swap_72 rfl (lv_at hl 0 rfl) ?_
          refine lv_aload_n hx hb dX2_swap_73 rfl (lv_at hl 1 rfl) ?_
          refine k_get (ci := 2) hx hb hts in_X2 hown hK h_14 rfl 0 (by decide) q1400 (fun _ h9 => h9) rfl dX2_swap_74 ?_
          refine lv_iconst (v := nI 2) hx hb dX2_swap_77 (by decide) ?_
          refine k_ildN hx hb hK h_15 (2) (rfl) (by omega) (by decide) dX2_swap_78 ?_
          refine k_topi (nI a.1.2.1.length) (by rw [rtF_lo _ _ _ (by omega), swF_lo _ _ _ _ (by omega)]; exact hs.rts) ?_
          refine lv_icmp_ge (tgt := 152) hx hb dX2_swap_79 (by decide) (fun c79 => ?_) (fun c79 => ?_)
          · have hr2 : a.1.2.1.length ≤ r := by rcases Nat.lt_or_ge (r) (a.1.2.1.length) with z | z; exact absurd c79 (nI_ge z (by omega)); exact z
            have hr2 : r = a.1.2.1.length := by omega
            refine lv_aload_n hx hb dX2_swap_152 rfl (lv_at hl 1 rfl) ?_
            refine k_get (ci := 2) hx hb hts in_X2 hown hK h_14 rfl 0 (by decide) q1400 (fun _ h9 => h9) rfl dX2_swap_153 ?_
            refine lv_iconst (v := nI 1) hx hb dX2_swap_156 (by decide) ?_
            refine k_ildN hx hb hK h_15 (1) (rfl) (by omega) (by decide) dX2_swap_157 ?_
            refine k_topi (a.1.2.2 3) (by rw [rtF_lo _ _ _ (by omega), swF_lo _ _ _ _ (by omega)]; exact hs.sh.trans (if_neg (by omega))) ?_
            exact k_ireti (v := a.1.2.2 3) hx hb hret (rfl) hlk hS (Nat.le_of_ble_eq_true rfl) (Nat.le_of_ble_eq_true rfl) (⟨by unfold swapV; rw [if_pos hcd, ordA_some], by unfold swapV; rw [if_pos hcd, nI_clamp (by omega), nI_clamp (by omega), ordA_some]; exact ⟨_, _, hM5, hR.chg (by rw [hr2, hk2]; exact SRel_swap hs hok hi hj hij) (okB_swap hok hi hj hij) rfl rfl rfl rfl⟩, hF⟩) dX2_swap_158
          · have hr2 : r < a.1.2.1.length := by rcases Nat.lt_or_ge (r) (a.1.2.1.length) with z | z; exact z; exact absurd (nI_le z (by omega)) c79
            refine lv_aload_n hx hb dX2_swap_82 rfl (lv_at hl 1 rfl) ?_
            refine lv_iload_n hx hb dX2_swap_83 rfl (lv_at hl 0 rfl) ?_
            refine lv_iconst (v := nI 0) hx hb dX2_swap_84 (by decide) ?_
            refine k_calliS (va_runV (As := [.int (nI r), .int (nI 0)]) (rest := []) ⟨hx, hb, hml, hown, hts⟩ (m_ofRoute l g r 0 hM5 (by omega)) (cwV 2 hts (lw_V q1504 q1506 qs31 q56 q1507) rfl rfl rfl hdV_X2_ofRoute ⟨Nat.le_of_ble_eq_true rfl, Nat.le_of_ble_eq_true rfl⟩) (preV hK hS h_14 rfl) rfl rfl hl.1 rfl (lv_room (Nat.le_of_ble_eq_true rfl)) dX2_swap_85 ⟨Nat.le_of_ble_eq_true rfl, Nat.le_of_ble_eq_true rfl⟩) hS (fun t5 locs ht5 hS => ?_)
            have hst : rtF (swF (F 1) i j k) (swI i j) r (351 + 3 * r) = nI (rtV a.1 r).1 := by rw [rtF_at _ _ _ (by omega), swF_hi _ _ _ _ (by omega) (by omega)]; exact (hs.rt hr2).1
            have ht5 : t5 = nI (rtV a.1 r).1 := ht5.trans hst
            subst ht5
            have hst20 := hok.2.2.2.1 r hr2
            refine lv_istore (lv' := [(4, .int (nI (rtV a.1 r).1)), (3, .int (nI r)), (0, .ref (A 0)), (1, .int (nI i)), (2, .int (nI j))]) hx hb dX2_swap_88 hl (by decide) rfl (fun ls hl => ?_)
            refine lv_iload hx hb dX2_swap_90 (lv_at hl 0 rfl) ?_
            refine lv_iload_n hx hb dX2_swap_92 rfl (lv_at hl 3 rfl) ?_
            refine lv_ishr hx hb dX2_swap_93 ?_
            refine lv_iconst (v := 1) hx hb dX2_swap_94 (by decide) ?_
            refine lv_iand hx hb dX2_swap_95 ?_
            refine k_topi (b2i ((rtV a.1 r).1.testBit i = true)) (bit_and _ i hst20 (by omega)) ?_
            refine lv_iload hx hb dX2_swap_96 (lv_at hl 0 rfl) ?_
            refine lv_iload_n hx hb dX2_swap_98 rfl (lv_at hl 4 rfl) ?_
            refine lv_ishr hx hb dX2_swap_99 ?_
            refine lv_iconst (v := 1) hx hb dX2_swap_100 (by decide) ?_
            refine lv_iand hx hb dX2_swap_101 ?_
            refine k_topi (b2i ((rtV a.1 r).1.testBit j = true)) (bit_and _ j hst20 (by omega)) ?_
            refine lv_icmp_eq (tgt := 109) hx hb dX2_swap_102 (by decide) (fun c102 => ?_) (fun c102 => ?_)
            · refine lv_iconst (v := 0) hx hb dX2_swap_109 (by decide) ?_
              refine lv_istore (lv' := [(5, .int 0), (4, .int (nI (rtV a.1 r).1)), (3, .int (nI r)), (0, .ref (A 0)), (1, .int (nI i)), (2, .int (nI j))]) hx hb dX2_swap_110 hl (by decide) rfl (fun ls hl => ?_)
              refine lv_aload_n hx hb dX2_swap_112 rfl (lv_at hl 3 rfl) ?_
              refine k_get (ci := 2) hx hb hts in_X2 hown hK h_14 rfl 0 (by decide) q1400 (fun _ h9 => h9) rfl dX2_swap_113 ?_
              refine lv_sipush (v := nI 351) hx hb dX2_swap_116 (by decide) ?_
              refine lv_iconst (v := nI 3) hx hb dX2_swap_119 (by decide) ?_
              refine lv_iload_n hx hb dX2_swap_120 rfl (lv_at hl 2 rfl) ?_
              refine lv_imul hx hb dX2_swap_121 ?_
              refine k_topi (nI (3 * r)) (pk_mul 3 _) ?_
              refine lv_iadd hx hb dX2_swap_122 ?_
              refine k_topi (nI (351 + 3 * r)) (nI_add 351 _) ?_
              refine lv_iconst (v := nI 0) hx hb dX2_swap_123 (by decide) ?_
              refine lv_iadd hx hb dX2_swap_124 ?_
              refine k_topi (nI (351 + 3 * r)) (nI_add _ 0) ?_
              refine lv_iload hx hb dX2_swap_125 (lv_at hl 0 rfl) ?_
              refine lv_if_eq (tgt := 143) hx hb dX2_swap_127 (by decide) (fun c127 => ?_) (fun c127 => by first | exact absurd c127 (by decide) | exact absurd (by decide) c127)
              refine lv_iload hx hb dX2_swap_143 (lv_at hl 1 rfl) ?_
              refine k_topi (nI (swapbits (rtV a.1 r).1 i j)) (by unfold swapbits; rw [if_pos (b2i_inj c102)]) ?_
              refine k_istN hx hb hK hS h_15 (351 + 3 * r) (rfl) (by omega) (by decide) dX2_swap_145 (fun H_20 locs h_21 u_22 hS => ?_)
              have h_21 : Ar g (A 1) 0 (aI 369 (upd (rtF (swF (F 1) i j k) (swI i j) r) (351 + 3 * r) (nI (swapbits (rtV a.1 r).1 i j)))) H_20 := h_21
              have h_23 := h_14.upd u_22 (Ob.neA hK.gg h_14 h_15 (by decide) (by decide))
              have h_24 := h_16.upd u_22 (Ne.symm n12)
              have h_25 := h_17.upd u_22 (Ne.symm n13)
              have h_26 := h_18.upd u_22 (Ne.symm n14)
              have hF_27 := hF.put u_22 (Or.inl (Or.inr (Or.inl rfl)))
              refine lv_iinc (v := nI (r + 1)) (lv' := [(3, .int (nI (r + 1))), (5, .int 0), (4, .int (nI (rtV a.1 r).1)), (0, .ref (A 0)), (1, .int (nI i)), (2, .int (nI j))]) hx hb dX2_swap_146 hl (k := 2) rfl (nI_1 r) (by decide) rfl (fun ls hl => ?_)
              refine lv_goto (tgt := 72) hx hb dX2_swap_149 (by decide) ?_
              exact ih (r + 1) _ _ _ _ _ ⟨by omega, by have h9 := MAt.mk (F := va_up (va_up F 2 (chg (F 2) (F 1) a.2.1.length)) 1 (upd (rtF (swF (F 1) i j k) (swI i j) r) (351 + 3 * r) (nI (swapbits (rtV a.1 r).1 i j)))) (I := upd I 3 (nI (if a.2.1.length = 4 then 4 else a.2.1.length + 1))) h_23 h_21 h_24 h_25 h_26 n12 n13 n14 n23 n24 n34; rw [show swapbits (rtV a.1 r).1 i j = swI i j (rtV a.1 r).1 from rfl, rtF_s _ _ _ _ (by omega) hst] at h9; exact h9, hF_27, hS, rfl, rfl, lv_sub hl [0, 3, 4, 5] rfl⟩ (by omega)
            · refine lv_iconst (v := 1) hx hb dX2_swap_105 (by decide) ?_
              refine lv_goto (tgt := 110) hx hb dX2_swap_106 (by decide) ?_
              refine lv_istore (lv' := [(5, .int 1), (4, .int (nI (rtV a.1 r).1)), (3, .int (nI r)), (0, .ref (A 0)), (1, .int (nI i)), (2, .int (nI j))]) hx hb dX2_swap_110 hl (by decide) rfl (fun ls hl => ?_)
              refine lv_aload_n hx hb dX2_swap_112 rfl (lv_at hl 3 rfl) ?_
              refine k_get (ci := 2) hx hb hts in_X2 hown hK h_14 rfl 0 (by decide) q1400 (fun _ h9 => h9) rfl dX2_swap_113 ?_
              refine lv_sipush (v := nI 351) hx hb dX2_swap_116 (by decide) ?_
              refine lv_iconst (v := nI 3) hx hb dX2_swap_119 (by decide) ?_
              refine lv_iload_n hx hb dX2_swap_120 rfl (lv_at hl 2 rfl) ?_
              refine lv_imul hx hb dX2_swap_121 ?_
              refine k_topi (nI (3 * r)) (pk_mul 3 _) ?_
              refine lv_iadd hx hb dX2_swap_122 ?_
              refine k_topi (nI (351 + 3 * r)) (nI_add 351 _) ?_
              refine lv_iconst (v := nI 0) hx hb dX2_swap_123 (by decide) ?_
              refine lv_iadd hx hb dX2_swap_124 ?_
              refine k_topi (nI (351 + 3 * r)) (nI_add _ 0) ?_
              refine lv_iload hx hb dX2_swap_125 (lv_at hl 0 rfl) ?_
              refine lv_if_eq (tgt := 143) hx hb dX2_swap_127 (by decide) (fun c127 => by first | exact absurd c127 (by decide) | exact absurd (by decide) c127) (fun c127 => ?_)
              refine lv_iload hx hb dX2_swap_130 (lv_at hl 1 rfl) ?_
              refine lv_iconst (v := 1) hx hb dX2_swap_132 (by decide) ?_
              refine lv_iload_n hx hb dX2_swap_133 rfl (lv_at hl 4 rfl) ?_
              refine lv_ishl hx hb dX2_swap_134 ?_
              refine lv_iconst (v := 1) hx hb dX2_swap_135 (by decide) ?_
              refine lv_iload_n hx hb dX2_swap_136 rfl (lv_at hl 5 rfl) ?_
              refine lv_ishl hx hb dX2_swap_137 ?_
              refine lv_ior hx hb dX2_swap_138 ?_
              refine lv_ixor hx hb dX2_swap_139 ?_
              refine k_topi (nI (swapbits (rtV a.1 r).1 i j)) (swI_ne hst20 (by omega) (by omega) c102) ?_
              refine lv_goto (tgt := 145) hx hb dX2_swap_140 (by decide) ?_
              refine k_istN hx hb hK hS h_15 (351 + 3 * r) (rfl) (by omega) (by decide) dX2_swap_145 (fun H_28 locs h_29 u_30 hS => ?_)
              have h_29 : Ar g (A 1) 0 (aI 369 (upd (rtF (swF (F 1) i j k) (swI i j) r) (351 + 3 * r) (nI (swapbits (rtV a.1 r).1 i j)))) H_28 := h_29
              have h_31 := h_14.upd u_30 (Ob.neA hK.gg h_14 h_15 (by decide) (by decide))
              have h_32 := h_16.upd u_30 (Ne.symm n12)
              have h_33 := h_17.upd u_30 (Ne.symm n13)
              have h_34 := h_18.upd u_30 (Ne.symm n14)
              have hF_35 := hF.put u_30 (Or.inl (Or.inr (Or.inl rfl)))
              refine lv_iinc (v := nI (r + 1)) (lv' := [(3, .int (nI (r + 1))), (5, .int 1), (4, .int (nI (rtV a.1 r).1)), (0, .ref (A 0)), (1, .int (nI i)), (2, .int (nI j))]) hx hb dX2_swap_146 hl (k := 2) rfl (nI_1 r) (by decide) rfl (fun ls hl => ?_)
              refine lv_goto (tgt := 72) hx hb dX2_swap_149 (by decide) ?_
              exact ih (r + 1) _ _ _ _ _ ⟨by omega, by have h9 := MAt.mk (F := va_up (va_up F 2 (chg (F 2) (F 1) a.2.1.length)) 1 (upd (rtF (swF (F 1) i j k) (swI i j) r) (351 + 3 * r) (nI (swapbits (rtV a.1 r).1 i j)))) (I := upd I 3 (nI (if a.2.1.length = 4 then 4 else a.2.1.length + 1))) h_31 h_29 h_32 h_33 h_34 n12 n13 n14 n23 n24 n34; rw [show swapbits (rtV a.1 r).1 i j = swI i j (rtV a.1 r).1 from rfl, rtF_s _ _ _ _ (by omega) hst] at h9; exact h9, hF_35, hS, rfl, rfl, lv_sub hl [0, 3, 4, 5] rfl⟩ (by omega)
        · have hk2 : k < 17 := by rcases Nat.lt_or_ge (k) (17) with z | z; exact z; exact absurd (nI_le z (by omega)) c33
          refine lv_aload_n hx hb dX2_swap_36 rfl (lv_at hl 1 rfl) ?_
          refine lv_iload_n hx hb dX2_swap_37 rfl (lv_at hl 2 rfl) ?_
          refine lv_iload_n hx hb dX2_swap_38 rfl (lv_at hl 0 rfl) ?_
          refine k_calliS (va_runV (As := [.int (nI i), .int (nI k)]) (rest := []) ⟨hx, hb, hml, hown, hts⟩ (m_of l g i k hM2 (by omega)) (cwV 2 hts (lw_V q1515 q1517 qs32 q56 q1518) rfl rfl rfl hdV_X2_of ⟨Nat.le_of_ble_eq_true rfl, Nat.le_of_ble_eq_true rfl⟩) (preV hK hS h_9 rfl) rfl rfl hl.1 rfl (lv_room (Nat.le_of_ble_eq_true rfl)) dX2_swap_39 ⟨Nat.le_of_ble_eq_true rfl, Nat.le_of_ble_eq_true rfl⟩) hS (fun v1 locs hv1 hS => ?_)
          have hv1 : v1 = F 1 (11 + 17 * i + k) := hv1.trans (swF_1 (F 1) hij hk2)
          subst hv1
          refine lv_istore (lv' := [(4, .int (F 1 (11 + 17 * i + k))), (3, .int (nI k)), (0, .ref (A 0)), (1, .int (nI i)), (2, .int (nI j))]) hx hb dX2_swap_42 hl (by decide) rfl (fun ls hl => ?_)
          refine lv_aload_n hx hb dX2_swap_44 rfl (lv_at hl 2 rfl) ?_
          refine lv_iload_n hx hb dX2_swap_45 rfl (lv_at hl 3 rfl) ?_
          refine lv_iload_n hx hb dX2_swap_46 rfl (lv_at hl 1 rfl) ?_
          refine lv_aload_n hx hb dX2_swap_47 rfl (lv_at hl 2 rfl) ?_
          refine lv_iload_n hx hb dX2_swap_48 rfl (lv_at hl 4 rfl) ?_
          refine lv_iload_n hx hb dX2_swap_49 rfl (lv_at hl 1 rfl) ?_
          refine k_calliS (va_runV (As := [.int (nI j), .int (nI k)]) (rest := [.int (nI k), .int (nI i), .ref (A 0)]) ⟨hx, hb, hml, hown, hts⟩ (m_of l g j k hM2 (by omega)) (cwV 2 hts (lw_V q1515 q1517 qs32 q56 q1518) rfl rfl rfl hdV_X2_of ⟨Nat.le_of_ble_eq_true rfl, Nat.le_of_ble_eq_true rfl⟩) (preV hK hS h_9 rfl) rfl rfl hl.1 rfl (lv_room (Nat.le_of_ble_eq_true rfl)) dX2_swap_50 ⟨Nat.le_of_ble_eq_true rfl, Nat.le_of_ble_eq_true rfl⟩) hS (fun v2 locs hv2 hS => ?_)
          have hv2 : v2 = F 1 (11 + 17 * j + k) := hv2.trans (swF_2 (F 1) hij hk2)
          subst hv2
          refine k_callv (va_runV (As := [.int (nI i), .int (nI k), .int (F 1 (11 + 17 * j + k))]) (rest := []) ⟨hx, hb, hml, hown, hts⟩ (m_sets2 l g i k (F 1 (11 + 17 * j + k)) (f := swF (F 1) i j k) hM2 (by omega)) (cwV 3 hts (lw_V q1482 q1484 qs28 q56 q1485) rfl rfl rfl hdV_X2_sets ⟨Nat.le_of_ble_eq_true rfl, Nat.le_of_ble_eq_true rfl⟩) (preV hK hS h_9 rfl) rfl rfl hl.1 rfl (lv_room (Nat.le_of_ble_eq_true rfl)) dX2_swap_53 ⟨Nat.le_of_ble_eq_true rfl, Nat.le_of_ble_eq_true rfl⟩) hS (fun H_38 locs hp3 hS => ?_)
          obtain ⟨hM3, hF2⟩ := hp3
          have hF := hF.trans hF2 (fun q _ h => h)
          obtain ⟨h_39, h_40, h_41, h_42, h_43, -, -, -, -, -, -⟩ := id hM3
          have h_39 : Ob g (A 0) 2 [.ref (A 1), .ref (A 2), .ref (A 3), .int (nI (if a.2.1.length = 4 then 4 else a.2.1.length + 1)), .ref (A 4), .int (I 5), .int (I 6), .int (I 7), .int (I 8), .int (I 9), .int (I 10), .int (I 11), .int (I 12)] H_38 := h_39
          have h_40 : Ar g (A 1) 0 (aI 369 (upd (swF (F 1) i j k) (11 + 17 * i + k) (F 1 (11 + 17 * j + k)))) H_38 := h_40
          have h_41 : Ar g (A 2) 0 (aI 1476 (chg (F 2) (F 1) a.2.1.length)) H_38 := h_41
          refine lv_aload_n hx hb dX2_swap_56 rfl (lv_at hl 2 rfl) ?_
          refine lv_iload_n hx hb dX2_swap_57 rfl (lv_at hl 4 rfl) ?_
          refine lv_iload_n hx hb dX2_swap_58 rfl (lv_at hl 1 rfl) ?_
          refine lv_iload hx hb dX2_swap_59 (lv_at hl 0 rfl) ?_
          refine k_callv (va_runV (As := [.int (nI j), .int (nI k), .int (F 1 (11 + 17 * i + k))]) (rest := []) ⟨hx, hb, hml, hown, hts⟩ (m_sets2 l g j k (F 1 (11 + 17 * i + k)) (f := upd (swF (F 1) i j k) (11 + 17 * i + k) (F 1 (11 + 17 * j + k))) hM3 (by omega)) (cwV 3 hts (lw_V q1482 q1484 qs28 q56 q1485) rfl rfl rfl hdV_X2_sets ⟨Nat.le_of_ble_eq_true rfl, Nat.le_of_ble_eq_true rfl⟩) (preV hK hS h_39 rfl) rfl rfl hl.1 rfl (lv_room (Nat.le_of_ble_eq_true rfl)) dX2_swap_61 ⟨Nat.le_of_ble_eq_true rfl, Nat.le_of_ble_eq_true rfl⟩) hS (fun H_44 locs hp4 hS => ?_)
          obtain ⟨hM4, hF2⟩ := hp4
          have hF := hF.trans hF2 (fun q _ h => h)
          rw [swF_s (F 1) hij hk2] at hM4
          obtain ⟨h_45, h_46, h_47, h_48, h_49, -, -, -, -, -, -⟩ := id hM4
          have h_45 : Ob g (A 0) 2 [.ref (A 1), .ref (A 2), .ref (A 3), .int (nI (if a.2.1.length = 4 then 4 else a.2.1.length + 1)), .ref (A 4), .int (I 5), .int (I 6), .int (I 7), .int (I 8), .int (I 9), .int (I 10), .int (I 11), .int (I 12)] H_44 := h_45
          have h_46 : Ar g (A 1) 0 (aI 369 (swF (F 1) i j (k + 1))) H_44 := h_46
          have h_47 : Ar g (A 2) 0 (aI 1476 (chg (F 2) (F 1) a.2.1.length)) H_44 := h_47
          refine lv_iinc (v := nI (k + 1)) (lv' := [(3, .int (nI (k + 1))), (4, .int (F 1 (11 + 17 * i + k))), (0, .ref (A 0)), (1, .int (nI i)), (2, .int (nI j))]) hx hb dX2_swap_64 hl (k := 1) rfl (nI_1 k) (by decide) rfl (fun ls hl => ?_)
          refine lv_goto (tgt := 30) hx hb dX2_swap_67 (by decide) ?_
          exact ih (k + 1) _ _ _ _ _ ⟨by omega, hM4, hF, hS, rfl, rfl, lv_sub hl [0, 2, 3, 4] rfl⟩ (by omega)
      · have hcd : ¬ ((0 ≤ x ∧ x < nI a.1.1.length) ∧ (0 ≤ y ∧ y < nI a.1.1.length) ∧ x ≠ y) := fun h => h.2.2 c18
        refine lv_ldc (v := (-1000001)) hx hb hown (hts _ q1447) dX2_swap_21 ?_
        exact k_ireti (v := (-1000001)) hx hb hret (rfl) hlk hS (Nat.le_of_ble_eq_true rfl) (Nat.le_of_ble_eq_true rfl) (⟨by unfold swapV; rw [if_neg hcd]; rfl, by unfold swapV; rw [if_neg hcd]; exact ⟨F, I, hM, hR⟩, hF⟩) dX2_swap_23
