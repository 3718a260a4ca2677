/-! ===== ROWS 3: arraycopy, clone, casts, statics, constants, a nest mate's put ===== -/
set_option maxRecDepth 100000
section KS
variable {p : Program} {l : Launch} {e : Env} {R : Room} {s : State} {m : MethodId} {args : Array Value} {below : List Frame} {meth : Method} {c : Code} {H : Heap} {locs : List Loc} {cells slots : Nat} {Q : State → Prop}
variable {cc : ByteArray} {pc : Nat} {ls : Array Slot} {rest : List Value} {g : GT} {a : Nat}
theorem nI_int {k : Nat} (h : k < 2 ^ 31) : (nI k).toInt = (k : Int) := by
  have h0 : ¬ nI k < 0 := nI_pos h
  have hz0 : (0 : Int) ≤ (nI k).toInt := by
    have := Int32.not_lt.mp h0
    simpa using Int32.le_iff_toInt_le.mp this
  have h1 : (nI k).toNatClampNeg = k := nI_clamp h
  have h2 : (nI k).toNatClampNeg = (nI k).toInt.toNat := rfl
  omega
theorem k_copyB (hx : p.tables.exec = Jvm.exec) (hb : c.code = cc) (hml : c.maxLocals = ls.size) {own : String} {index : Nat} (hts : ∀ w ∈ lw_all, w.before args s = true) (hown : s.vm.findClass own = some m.cls) (hlink : Cond.methodLink own index arraycopyName ∈ lw_all) (hnat : Cond.native arraycopyName ∈ lw_all) (hstat : Cond.static arraycopyName ∈ lw_all) (hini : Cond.initialized "java/lang/System" ∈ lw_all)
    (hK : PP g s s.heap) (hS : va_S (gA g) s.heap H locs) {a0 n0 n1 : Nat} {f f1 : Nat → Int32} (h0 : Ar g a0 1 (aI n0 f) H) (h1 : Ar g a 1 (aI n1 f1) H)
    {x y z : Int32} (sp dp n : Nat) (hsp : x = nI sp) (hdp : y = nI dp) (hn : z = nI n) (h4 : sp + n ≤ n0) (h5 : dp + n ≤ n1) (hm0 : n0 < 2 ^ 31) (hm1 : n1 < 2 ^ 31) (hfit : ∀ i, i < n → fits .byte (.int (f (sp + i))) = true)
    (hframes : 1 ≤ R.frames) (hlocals : (rest.map fun v => v.category).sum + (nativeFrameWords "java/lang/System" "arraycopy" 5 + 11) ≤ R.locals) (hdg : decode cc pc = .ok (.invokestatic index, 3))
    (kk : ∀ (H1 : Heap) (locs1 : List Loc), Ar g a 1 (aI n1 (va_cpy f f1 sp dp n)) H1 → Upd a H H1 → va_S (gA g) s.heap H1 locs1 → W p l e R s m args below meth c H1 locs1 cells slots Q (F0 m (pc + 3) ls rest)) : W p l e R s m args below meth c H locs cells slots Q (F0 m pc ls (.int z :: .int y :: .ref a :: .int x :: .ref a0 :: rest)) := by
  subst hsp hdp hn
  intro T hT X
  have hc0 : H[a0]? = some (vp_cell (g.2.1 1) (aI n0 f)) := h0.1
  have hc1 : H[a]? = some (vp_cell (g.2.1 1) (aI n1 f1)) := h1.1
  obtain ⟨-, k0, hk0, cm0, hkk0⟩ := (hK.K.2 1 _ rfl).1 n0 (fun j => .int (f j))
  obtain ⟨-, k1, hk1, cm1, hkk1⟩ := (hK.K.2 1 _ rfl).1 n1 (fun j => .int (f1 j))
  have c1 := nI_clamp (n := sp) (by omega)
  have c2 := nI_clamp (n := dp) (by omega)
  have c3 := nI_clamp (n := n) (by omega)
  obtain ⟨vm', X', step⟩ := X.arraycopy hx hown (hts _ hlink) (hts _ hnat) (hts _ hstat) (hts _ hini) (src := a0) (dst := a) (cs := vp_cell (g.2.1 1) (aI n0 f)) (cd := vp_cell (g.2.1 1) (aI n1 f1)) (srcPos := nI sp) (destPos := nI dp) (n := nI n) (by rw [hT]; exact hc0) (by rw [hT]; exact hc1)
    (fun _ h => by cases h) (fun _ h => by cases h) (fun h => by cases h) (fun h => by cases h) hk0 hk1 hkk0 hkk1 (by rfl) (nI_pos (by omega)) (nI_pos (by omega)) (nI_pos (by omega))
    (by rw [nI_int (by omega), nI_int (by omega)]; show ¬ _ > ((arrV (g.2.1 1) n0 (fun j => .int (f j))).slots.size : Int); rw [arrV_size]; omega)
    (by rw [nI_int (by omega), nI_int (by omega)]; show ¬ _ > ((arrV (g.2.1 1) n1 (fun j => .int (f1 j))).slots.size : Int); rw [arrV_size]; omega)
    (fun vm₁ hal i hi => by
      rw [c3] at hi
      rw [c1]
      have e : (vp_cell (g.2.1 1) (aI n0 f)).slots.getD (sp + i) .null = .int (f (sp + i)) := by
        show (arrV (g.2.1 1) n0 (fun j => .int (f j))).slots.getD _ _ = _
        rw [Array.getD_eq_getD_getElem?, arrV_read _ _ (by omega)]
        rfl
      rw [e]
      exact ⟨hfit i hi, trivial⟩)
    (g := F0 m pc ls (.int (nI n) :: .int (nI dp) :: .ref a :: .int (nI sp) :: .ref a0 :: rest)) rfl (by rw [hml]) (rest := rest) rfl (by rw [hb]; exact hdg) hframes (by show 2 * 0 + _ + _ ≤ _; omega)
  have e1 : copied (vp_cell (g.2.1 1) (aI n0 f)) (vp_cell (g.2.1 1) (aI n1 f1)) (nI sp) (nI dp) (nI n) = vp_cell (g.2.1 1) (aI n1 (va_cpy f f1 sp dp n)) := by
    have h9 : copied (vp_cell (g.2.1 1) (aI n0 f)) (vp_cell (g.2.1 1) (aI n1 f1)) (nI sp) (nI dp) (nI n) = vp_cell (g.2.1 1) (aI n1 (va_cpy f f1 (nI sp).toNatClampNeg (nI dp).toNatClampNeg (nI n).toNatClampNeg)) := by
      rw [vp_cell_i, vp_cell_i, vp_cell_i]
      exact va_copied (fun z => .int z) _ _ f f1 (by rw [c1, c3]; exact h4)
    rw [h9, c1, c2, c3]
  rw [e1] at X' step
  have hl : a < H.size := (Array.getElem?_eq_some_iff.mp hc1).1
  have hheap : ((T.setVm vm').setCell a (vp_cell (g.2.1 1) (aI n1 (va_cpy f f1 sp dp n)))).heap = H.setIfInBounds a (vp_cell (g.2.1 1) (aI n1 (va_cpy f f1 sp dp n))) := by rw [← hT]; rfl
  have oq : ∀ q : Nat, q ≠ a → (H.setIfInBounds a (vp_cell (g.2.1 1) (aI n1 (va_cpy f f1 sp dp n))))[q]? = H[q]? := fun q hq => by simp [Array.getElem?_setIfInBounds, Ne.symm hq]
  obtain ⟨t, a1, b1⟩ := kk _ _ ⟨show (H.setIfInBounds a _)[a]? = some _ by simp [Array.getElem?_setIfInBounds, hl], h1.2⟩ ⟨by simp, oq⟩ ⟨by simp; exact hS.1, fun q g1 g2 => by
      rw [oq q (fun e => g2 (by rw [e]; exact h1.2))]
      exact hS.2.1 q g1 g2, fun q hq => by
      rcases List.mem_append.mp hq with h | h
      · exact hS.2.2 q h
      · obtain ⟨z, -, hz⟩ := List.mem_map.mp h
        rw [← hz]
        exact h1.2⟩ _ hheap X'
  exact ⟨t, step t a1, b1⟩
theorem k_copyQ (hx : p.tables.exec = Jvm.exec) (hb : c.code = cc) (hml : c.maxLocals = ls.size) {own : String} {index : Nat} (hts : ∀ w ∈ lw_all, w.before args s = true) (hown : s.vm.findClass own = some m.cls) (hlink : Cond.methodLink own index arraycopyName ∈ lw_all) (hnat : Cond.native arraycopyName ∈ lw_all) (hstat : Cond.static arraycopyName ∈ lw_all) (hini : Cond.initialized "java/lang/System" ∈ lw_all)
    (hK : PP g s s.heap) (hS : va_S (gA g) s.heap H locs) {a0 n0 n1 : Nat} {f f1 : Nat → Option Nat} (h0 : Ar g a0 3 (aQ n0 f) H) (h1 : Ar g a 3 (aQ n1 f1) H)
    {x y z : Int32} (sp dp n : Nat) (hsp : x = nI sp) (hdp : y = nI dp) (hn : z = nI n) (h4 : sp + n ≤ n0) (h5 : dp + n ≤ n1) (hm0 : n0 < 2 ^ 31) (hm1 : n1 < 2 ^ 31) (hel : ∀ i, i < n → ∀ y, f (sp + i) = some y → ∃ (ci : Nat) (fs : List Value) (r : vw_C), Ob g y ci fs H ∧ kcl[ci]? = some r ∧ va_Nw (.castable r.1 "java/lang/Object") s)
    (hframes : 1 ≤ R.frames) (hlocals : (rest.map fun v => v.category).sum + (nativeFrameWords "java/lang/System" "arraycopy" 5 + 11) ≤ R.locals) (hdg : decode cc pc = .ok (.invokestatic index, 3))
    (kk : ∀ (H1 : Heap) (locs1 : List Loc), Ar g a 3 (aQ n1 (va_cpy f f1 sp dp n)) H1 → Upd a H H1 → va_S (gA g) s.heap H1 locs1 → W p l e R s m args below meth c H1 locs1 cells slots Q (F0 m (pc + 3) ls rest)) : W p l e R s m args below meth c H locs cells slots Q (F0 m pc ls (.int z :: .int y :: .ref a :: .int x :: .ref a0 :: rest)) := by
  subst hsp hdp hn
  intro T hT X
  have hc0 : H[a0]? = some (vp_cell (g.2.1 3) (aQ n0 f)) := h0.1
  have hc1 : H[a]? = some (vp_cell (g.2.1 3) (aQ n1 f1)) := h1.1
  obtain ⟨-, k0, hk0, cm0, hkk0⟩ := (hK.K.2 3 _ rfl).1 n0 (fun j => va_rf (f j))
  obtain ⟨-, k1, hk1, cm1, hkk1⟩ := (hK.K.2 3 _ rfl).1 n1 (fun j => va_rf (f1 j))
  have c1 := nI_clamp (n := sp) (by omega)
  have c2 := nI_clamp (n := dp) (by omega)
  have c3 := nI_clamp (n := n) (by omega)
  obtain ⟨vm', X', step⟩ := X.arraycopy hx hown (hts _ hlink) (hts _ hnat) (hts _ hstat) (hts _ hini) (src := a0) (dst := a) (cs := vp_cell (g.2.1 3) (aQ n0 f)) (cd := vp_cell (g.2.1 3) (aQ n1 f1)) (srcPos := nI sp) (destPos := nI dp) (n := nI n) (by rw [hT]; exact hc0) (by rw [hT]; exact hc1)
    (fun _ h => by cases h) (fun _ h => by cases h) (fun h => by cases h) (fun h => by cases h) hk0 hk1 hkk0 hkk1 rfl (nI_pos (by omega)) (nI_pos (by omega)) (nI_pos (by omega))
    (by rw [nI_int (by omega), nI_int (by omega)]; show ¬ _ > ((arrV (g.2.1 3) n0 (fun j => va_rf (f j))).slots.size : Int); rw [arrV_size]; omega)
    (by rw [nI_int (by omega), nI_int (by omega)]; show ¬ _ > ((arrV (g.2.1 3) n1 (fun j => va_rf (f1 j))).slots.size : Int); rw [arrV_size]; omega)
    (fun vm₁ hal i hi => by
      rw [c3] at hi
      rw [c1]
      have e : (vp_cell (g.2.1 3) (aQ n0 f)).slots.getD (sp + i) .null = va_rf (f (sp + i)) := by
        show (arrV (g.2.1 3) n0 (fun j => va_rf (f j))).slots.getD _ _ = _
        rw [Array.getD_eq_getD_getElem?, arrV_read _ _ (by omega)]
        rfl
      rw [e]
      cases hy : f (sp + i) with
      | none => exact ⟨rfl, trivial⟩
      | some y =>
        obtain ⟨ci, fs, r, hO, hc, hca⟩ := hel i hi y hy
        obtain ⟨cellV, g1, g2, g3⟩ := hO.cls
        have hcls := (hK.K.1 ci r hc).2
        obtain ⟨kA, comp, r1, r2, r3, -⟩ := (hK.K.2 3 _ rfl).2
        cases hk1.symm.trans r1
        cases hkk1.symm.trans r2
        obtain ⟨c0, t1, z1, z2, z3⟩ := Cond.castable_spec (va_Nw.use (A := args) rfl hca)
        cases hcls.1.symm.trans z1
        cases r3.symm.trans z2
        obtain ⟨kC, hkC, -⟩ := Vm.findClass_spec z1
        obtain ⟨kE, hkE, -⟩ := Vm.findClass_spec r3
        obtain ⟨kC', hkC', -⟩ := hal.2.2 _ _ hkC
        obtain ⟨kE', hkE', -⟩ := hal.2.2 _ _ hkE
        refine ⟨rfl, cellV, (show T.heap[y]? = some cellV by rw [hT]; exact g1), (fun q h => by rw [h] at g3; cases g3), ⟨kC', by rw [g2]; exact hkC'⟩, ?_, ?_⟩
        · exact ⟨kE', hkE'⟩
        · show vm₁.assignable _ _ = true
          rw [hal.assignable, g2]
          exact z3)
    (g := F0 m pc ls (.int (nI n) :: .int (nI dp) :: .ref a :: .int (nI sp) :: .ref a0 :: rest)) rfl (by rw [hml]) (rest := rest) rfl (by rw [hb]; exact hdg) hframes (by show 2 * 0 + _ + _ ≤ _; omega)
  have e1 : copied (vp_cell (g.2.1 3) (aQ n0 f)) (vp_cell (g.2.1 3) (aQ n1 f1)) (nI sp) (nI dp) (nI n) = vp_cell (g.2.1 3) (aQ n1 (va_cpy f f1 sp dp n)) := by
    have h9 : copied (vp_cell (g.2.1 3) (aQ n0 f)) (vp_cell (g.2.1 3) (aQ n1 f1)) (nI sp) (nI dp) (nI n) = vp_cell (g.2.1 3) (aQ n1 (va_cpy f f1 (nI sp).toNatClampNeg (nI dp).toNatClampNeg (nI n).toNatClampNeg)) := by
      rw [vp_cell_q, vp_cell_q, vp_cell_q]
      exact va_copied (fun z => va_rf z) _ _ f f1 (by rw [c1, c3]; exact h4)
    rw [h9, c1, c2, c3]
  rw [e1] at X' step
  have hl : a < H.size := (Array.getElem?_eq_some_iff.mp hc1).1
  have hheap : ((T.setVm vm').setCell a (vp_cell (g.2.1 3) (aQ n1 (va_cpy f f1 sp dp n)))).heap = H.setIfInBounds a (vp_cell (g.2.1 3) (aQ n1 (va_cpy f f1 sp dp n))) := by rw [← hT]; rfl
  have oq : ∀ q : Nat, q ≠ a → (H.setIfInBounds a (vp_cell (g.2.1 3) (aQ n1 (va_cpy f f1 sp dp n))))[q]? = H[q]? := fun q hq => by simp [Array.getElem?_setIfInBounds, Ne.symm hq]
  obtain ⟨t, a1, b1⟩ := kk _ _ ⟨show (H.setIfInBounds a _)[a]? = some _ by simp [Array.getElem?_setIfInBounds, hl], h1.2⟩ ⟨by simp, oq⟩ ⟨by simp; exact hS.1, fun q g1 g2 => by
      rw [oq q (fun e => g2 (by rw [e]; exact h1.2))]
      exact hS.2.1 q g1 g2, fun q hq => by
      rcases List.mem_append.mp hq with h | h
      · exact hS.2.2 q h
      · obtain ⟨z, -, hz⟩ := List.mem_map.mp h
        rw [← hz]
        exact h1.2⟩ _ hheap X'
  exact ⟨t, step t a1, b1⟩
theorem k_clone (hx : p.tables.exec = Jvm.exec) (hb : c.code = cc) (hml : c.maxLocals = ls.size) {own ad : String} {index : Nat} (hts : ∀ w ∈ lw_all, w.before args s = true) (hown : s.vm.findClass own = some m.cls)
    (hlink : Cond.methodLink own index ⟨ad, "clone", "()Ljava/lang/Object;"⟩ ∈ lw_all) (hsame : Cond.sameMethod ad "java/lang/Object" "clone" "()Ljava/lang/Object;" ∈ lw_all)
    (hnat : Cond.native ⟨"java/lang/Object", "clone", "()Ljava/lang/Object;"⟩ ∈ lw_all) (hinst : Cond.instanceMethod ⟨"java/lang/Object", "clone", "()Ljava/lang/Object;"⟩ ∈ lw_all)
    (hsel : Cond.selects ad ⟨ad, "clone", "()Ljava/lang/Object;"⟩ ⟨"java/lang/Object", "clone", "()Ljava/lang/Object;"⟩ ∈ lw_all) (hcl : va_Nw (.castable ad "java/lang/Cloneable") s)
    (hK : PP g s s.heap) (hS : va_S (gA g) s.heap H locs) {k : Nat} {x : vp_A} {ty : FieldType} (h : Ar g a k x H) (ht : (gty g)[k]? = some (g.2.1 k, ty))
    (hnm : s.vm.findClass ad = some (g.2.1 k)) (hfit : ∀ (i : Nat) (v : Value), (vp_cell (g.2.1 k) x).slots[i]? = some v → fits ty v = true)
    (hframes : 1 ≤ R.frames) (hlocals : (rest.map fun v => v.category).sum + 14 ≤ R.locals) (hcells : cells + 1 ≤ R.cells) (hslots : slots + x.1 ≤ R.slots) (hdg : decode cc pc = .ok (.invokevirtual index, 3))
    (kk : ∀ (q : Nat) (H1 : Heap), Ar g q k x H1 → Neu q H H1 → va_S (gA g) s.heap H1 locs →
      W p l e R s m args below meth c H1 locs (cells + 1) (slots + x.1) Q (F0 m (pc + 3) ls (.ref q :: rest))) : W p l e R s m args below meth c H locs cells slots Q (F0 m pc ls (.ref a :: rest)) := by
  have hsz : (vp_cell (g.2.1 k) x).slots.size = x.1 := by
    obtain ⟨n, f | f | f | f | f⟩ := x <;> exact arrV_size _ _ _
  have hvm0 : (vp_cell (g.2.1 k) x).vm = .none := by
    obtain ⟨n, f | f | f | f | f⟩ := x <;> rfl
  have hcl0 : (vp_cell (g.2.1 k) x).cls = g.2.1 k := vp_cell_cls _ _
  have hcellE : ({ cls := (vp_cell (g.2.1 k) x).cls, slots := (vp_cell (g.2.1 k) x).slots } : Cell) = vp_cell (g.2.1 k) x := by
    obtain ⟨n, f | f | f | f | f⟩ := x <;> rfl
  obtain ⟨c0, t0', f1, f2, f3⟩ := Cond.castable_spec (va_Nw.use (A := args) rfl hcl)
  cases hnm.symm.trans f1
  intro T hT X
  have hcellT : T.heap[a]? = some (vp_cell (g.2.1 k) x) := by rw [hT]; exact h.1
  obtain ⟨-, kA, hkA, comp, hkind⟩ := State.isArrayOf_alike X.warmed.alike ((hK.K.2 k _ ht).1 0 (fun _ => .null))
  obtain ⟨-, kS, hkS, compS, hkindS⟩ := (hK.K.2 k _ ht).1 0 (fun _ => .null)
  obtain ⟨vm', X', st⟩ := X.cloneArray hx hown (hts _ hlink) (hts _ hsame) (hts _ hnat) (hts _ hinst) (hts _ hsel) (a := a) (cell := vp_cell (g.2.1 k) x) hcellT (fun k h => by rw [hvm0] at h; cases h) (by rw [hvm0]; exact fun h => by cases h) (by rw [hcl0]; exact hnm) f2 (by rw [hcl0]; exact f3)
    (fun i v hv => by
      rw [hcl0]
      have hk' : T.vm.classes[g.2.1 k]? = some kA := hkA
      simpa [State.fitsSlot, State.slotType?, hk', hkind] using hfit i v hv)
    (g := F0 m pc ls (.ref a :: rest)) rfl (by rw [hml]) rfl (by rw [hb]; exact hdg) hframes (by show 2 * 0 + _ + 14 ≤ _; omega) hcells (by rw [hsz]; exact hslots) (hloader := by rw [hcl0]; exact Vm.clonesLoader_of_array hkS hkindS)
  rw [hcellE, hsz] at X'
  generalize hH1 : H.push (vp_cell (g.2.1 k) x) = H1
  have z1 : H1.size = H.size + 1 := by rw [← hH1, Array.size_push]
  have e1 : H1[H.size]? = some (vp_cell (g.2.1 k) x) := by rw [← hH1, Array.getElem?_push_size]
  have o1 : ∀ q : Nat, q < H.size → H1[q]? = H[q]? := fun q hq => by rw [← hH1, Array.getElem?_push, if_neg (Nat.ne_of_lt hq)]
  obtain ⟨t, b1, b2⟩ := kk H.size H1 ⟨e1, Nat.le_trans hK.sz hS.1⟩ ⟨rfl, z1, o1⟩ ⟨Nat.le_trans hS.1 (by omega), fun y h1 h2 => (o1 y (Nat.lt_of_lt_of_le h1 hS.1)).trans (hS.2.1 y h1 h2), hS.2.2⟩
    ((T.setVm vm').pushCell (vp_cell (g.2.1 k) x)) (by rw [← hH1, ← hT]; rfl) X'
  refine ⟨t, st t ?_, b2⟩
  rw [hcellE, hT]
  exact b1
/-- a cast of an object of our classes, to its own class -/
theorem k_cast (hx : p.tables.exec = Jvm.exec) (hb : c.code = cc) {own nm : String} {index ci N : Nat} {T : u_T} {fs : List Value} (hts : ∀ w ∈ lw_all, w.before args s = true) (hown : s.vm.findClass own = some m.cls) (hlink : Cond.classLink own index nm ∈ lw_all) (hK : PP g s s.heap) (h : Ob g a ci fs H) (hc : kcl[ci]? = some (nm, T, N)) (hdg : decode cc pc = .ok (.checkcast index, 3))
    (k : W p l e R s m args below meth c H locs cells slots Q (F0 m (pc + 3) ls (.ref a :: rest))) : W p l e R s m args below meth c H locs cells slots Q (F0 m pc ls (.ref a :: rest)) :=
  va_castS hx hb hown (hts _ hlink) (hK.K.1 ci _ hc).2 (recvO hK h hc) hdg k
theorem k_inst (hx : p.tables.exec = Jvm.exec) (hb : c.code = cc) {own nm : String} {index ci N : Nat} {T : u_T} {fs : List Value} (hts : ∀ w ∈ lw_all, w.before args s = true) (hown : s.vm.findClass own = some m.cls) (hlink : Cond.classLink own index nm ∈ lw_all) (hK : PP g s s.heap) (h : Ob g a ci fs H) (hc : kcl[ci]? = some (nm, T, N)) (hdg : decode cc pc = .ok (.instanceof index, 3))
    (k : W p l e R s m args below meth c H locs cells slots Q (F0 m (pc + 3) ls (.int 1 :: rest))) : W p l e R s m args below meth c H locs cells slots Q (F0 m pc ls (.ref a :: rest)) :=
  va_instS hx hb hown (hts _ hlink) (hK.K.1 ci _ hc).2 (recvO hK h hc) hdg k
/-- a cast of an array of ours -/
theorem k_castA (hx : p.tables.exec = Jvm.exec) (hb : c.code = cc) {own nm : String} {index k : Nat} {x : vp_A} (hts : ∀ w ∈ lw_all, w.before args s = true) (hown : s.vm.findClass own = some m.cls) (hlink : Cond.classLink own index nm ∈ lw_all) (h : Ar g a k x H) (hnm : s.vm.findClass nm = some (g.2.1 k)) (hdg : decode cc pc = .ok (.checkcast index, 3))
    (kk : W p l e R s m args below meth c H locs cells slots Q (F0 m (pc + 3) ls (.ref a :: rest))) : W p l e R s m args below meth c H locs cells slots Q (F0 m pc ls (.ref a :: rest)) :=
  va_castA hx hb hown (hts _ hlink) (one_P h.1) 0 rfl hnm hdg kk
/-- a String constant -/
theorem k_ldcS (hx : p.tables.exec = Jvm.exec) (hb : c.code = cc) (hK : PP g s s.heap) (i : Nat) (hi : i < 6) {own : String} {index : Nat} (hown : s.vm.findClass own = some m.cls) (he : (kstr i).1 = own ∧ (kstr i).2.1 = index) (hdg : decode cc pc = .ok (.ldc index, 2))
    (k : W p l e R s m args below meth c H locs cells slots Q (F0 m (pc + 2) ls (.ref (g.2.2 (10 + i)) :: rest))) : W p l e R s m args below meth c H locs cells slots Q (F0 m pc ls rest) := by
  obtain ⟨rfl, rfl⟩ := he
  exact va_ldcS hx hb hown (hK.sr i hi) hdg k
end KS
