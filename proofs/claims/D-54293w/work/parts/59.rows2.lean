/-! ===== ROWS 2: byte, long and reference arrays, new arrays, arraycopy, clone, casts, statics, constants, a nest mate's put ===== -/
set_option maxRecDepth 100000
section KR
variable {p : Program} {l : Launch} {e : Env} {R : Room} {s : State} {m : MethodId} {args : Array Value} {below : List Frame} {meth : Method} {c : Code} {H : Heap} {locs : List Loc} {cells slots : Nat} {Q : State → Prop}
variable {cc : ByteArray} {pc : Nat} {ls : Array Slot} {rest : List Value} {g : GT} {a : Nat}
theorem k_bld (hx : p.tables.exec = Jvm.exec) (hb : c.code = cc) (hK : PP g s s.heap) {n : Nat} {f : Nat → Int32} (h : Ar g a 1 (aI n f) H) {i : Int32} (k : Nat) (hi : i = nI k) (hk : k < n) (hn : n < 2 ^ 31) (hdg : decode cc pc = .ok (.baload, 1))
    (kk : W p l e R s m args below meth c H locs cells slots Q (F0 m (pc + 1) ls (.int (f k) :: rest))) : W p l e R s m args below meth c H locs cells slots Q (F0 m pc ls (.int i :: .ref a :: rest)) := by
  subst hi
  refine va_bald hx hb hK.K (one_P h.1) 0 1 rfl rfl (vp_in_nI hk hn) hdg ?_
  rw [nI_clamp (by omega)]
  exact kk
theorem k_lld (hx : p.tables.exec = Jvm.exec) (hb : c.code = cc) (hK : PP g s s.heap) {n : Nat} {f : Nat → Int64} (h : Ar g a 2 (aJ n f) H) {i : Int32} (k : Nat) (hi : i = nI k) (hk : k < n) (hn : n < 2 ^ 31) (hdg : decode cc pc = .ok (.laload, 1))
    (kk : W p l e R s m args below meth c H locs cells slots Q (F0 m (pc + 1) ls (.long (f k) :: rest))) : W p l e R s m args below meth c H locs cells slots Q (F0 m pc ls (.int i :: .ref a :: rest)) := by
  subst hi
  refine va_lald hx hb hK.K (one_P h.1) 0 2 rfl rfl (vp_in_nI hk hn) hdg ?_
  rw [nI_clamp (by omega)]
  exact kk
theorem k_qld (hx : p.tables.exec = Jvm.exec) (hb : c.code = cc) (hK : PP g s s.heap) {n : Nat} {f : Nat → Option Nat} (h : Ar g a 3 (aQ n f) H) {i : Int32} (k : Nat) (hi : i = nI k) (hk : k < n) (hn : n < 2 ^ 31) (hdg : decode cc pc = .ok (.aaload, 1))
    (kk : W p l e R s m args below meth c H locs cells slots Q (F0 m (pc + 1) ls (va_rf (f k) :: rest))) : W p l e R s m args below meth c H locs cells slots Q (F0 m pc ls (.int i :: .ref a :: rest)) := by
  subst hi
  refine va_aldq (C := "java/lang/Object") hx hb hK.K (one_P h.1) 0 3 rfl rfl (vp_in_nI hk hn) hdg ?_
  rw [nI_clamp (by omega)]
  exact kk
theorem k_bst (hx : p.tables.exec = Jvm.exec) (hb : c.code = cc) (hK : PP g s s.heap) (hS : va_S (gA g) s.heap H locs) {n : Nat} {f : Nat → Int32} (h : Ar g a 1 (aI n f) H) {i : Int32} {x : Int32} (k : Nat) (hi : i = nI k) (hk : k < n) (hn : n < 2 ^ 31) (hdg : decode cc pc = .ok (.bastore, 1))
    (kk : ∀ (H1 : Heap) (locs1 : List Loc), Ar g a 1 (aI n (upd f k (vp_nar .byte x))) H1 → Upd a H H1 → va_S (gA g) s.heap H1 locs1 → W p l e R s m args below meth c H1 locs1 cells slots Q (F0 m (pc + 1) ls rest)) : W p l e R s m args below meth c H locs cells slots Q (F0 m pc ls (.int x :: .int i :: .ref a :: rest)) := by
  subst hi
  refine W.bast hx hb h.1 ((hK.K.2 1 _ rfl).1 n (fun j => .int (f j))) (fun q => by cases q) (by show ¬ (nI k < 0 ∨ (arrV _ _ _).slots.size ≤ _); rw [arrV_size]; exact vp_in_nI hk hn) rfl rfl hdg fun H1 e z oq => ?_
  rw [nI_clamp (by omega)] at e
  refine kk H1 _ ⟨?_, h.2⟩ ⟨z, oq⟩ (hS.put z oq h.2)
  show H1[a]? = some (vp_cell _ _)
  rw [e]
  rw [vp_cell_i, vp_cell_i, arrV_store]
  congr 2
  funext q
  by_cases hq : q = k
  · subst hq
    simp [updV, upd, vp_nar]
    try rfl
  · simp [updV, upd, hq]
theorem k_lst (hx : p.tables.exec = Jvm.exec) (hb : c.code = cc) (hK : PP g s s.heap) (hS : va_S (gA g) s.heap H locs) {n : Nat} {f : Nat → Int64} (h : Ar g a 2 (aJ n f) H) {i : Int32} {x : Int64} (k : Nat) (hi : i = nI k) (hk : k < n) (hn : n < 2 ^ 31) (hdg : decode cc pc = .ok (.lastore, 1))
    (kk : ∀ (H1 : Heap) (locs1 : List Loc), Ar g a 2 (aJ n (va_up f k x)) H1 → Upd a H H1 → va_S (gA g) s.heap H1 locs1 → W p l e R s m args below meth c H1 locs1 cells slots Q (F0 m (pc + 1) ls rest)) : W p l e R s m args below meth c H locs cells slots Q (F0 m pc ls (.long x :: .int i :: .ref a :: rest)) := by
  subst hi
  refine W.last hx hb h.1 ((hK.K.2 2 _ rfl).1 n (fun j => .long (f j))) (fun q => by cases q) (by show ¬ (nI k < 0 ∨ (arrV _ _ _).slots.size ≤ _); rw [arrV_size]; exact vp_in_nI hk hn) rfl rfl hdg fun H1 e z oq => ?_
  rw [nI_clamp (by omega)] at e
  refine kk H1 _ ⟨?_, h.2⟩ ⟨z, oq⟩ (hS.put z oq h.2)
  show H1[a]? = some (vp_cell _ _)
  rw [e]
  rw [vp_cell_l, vp_cell_l, arrV_store]
  congr 2
  funext q
  by_cases hq : q = k
  · subst hq
    simp [updV, va_up]
  · simp [updV, va_up, hq]
theorem k_qst (hx : p.tables.exec = Jvm.exec) (hb : c.code = cc) (hK : PP g s s.heap) (hS : va_S (gA g) s.heap H locs) {n : Nat} {f : Nat → Option Nat} (h : Ar g a 3 (aQ n f) H) {i : Int32} {v ci : Nat} {fs : List Value} {r : vw_C} (hv : Ob g v ci fs H) (hc : kcl[ci]? = some r) (hca : va_Nw (.castable r.1 "java/lang/Object") s) (k : Nat) (hi : i = nI k) (hk : k < n) (hn : n < 2 ^ 31) (hdg : decode cc pc = .ok (.aastore, 1))
    (kk : ∀ (H1 : Heap) (locs1 : List Loc), Ar g a 3 (aQ n (va_up f k (some v))) H1 → Upd a H H1 → va_S (gA g) s.heap H1 locs1 → W p l e R s m args below meth c H1 locs1 cells slots Q (F0 m (pc + 1) ls rest)) : W p l e R s m args below meth c H locs cells slots Q (F0 m pc ls (.ref v :: .int i :: .ref a :: rest)) := by
  subst hi
  have hin := vp_in_nI hk hn
  have h0 : ¬ nI k < 0 := fun q => hin (Or.inl q)
  obtain ⟨cellV, g1, g2, g3⟩ := hv.cls
  have hcls := (hK.K.1 ci r hc).2
  obtain ⟨kA, comp, k1, k2, k3, -⟩ := (hK.K.2 3 _ rfl).2
  obtain ⟨kE, hkE, -⟩ := Vm.findClass_spec k3
  obtain ⟨c0, t1, f1, f2, f3⟩ := Cond.castable_spec (va_Nw.use (A := args) rfl hca)
  cases hcls.1.symm.trans f1
  cases k3.symm.trans f2
  obtain ⟨kC, hkC, -⟩ := hcls.2
  refine W.aast hx hb h.1 (fun q h => by cases h) (fun h => by cases h) k1 k2 rfl hkE ⟨h0, by show _ < (arrV _ _ _).slots.size; rw [arrV_size, nI_clamp (by omega)]; exact hk⟩ g1 (fun q h => by rw [g3] at h; cases h) (by rw [g2]; exact hkC) (by rw [g2]; exact f3) rfl rfl hdg fun H1 e z oq => ?_
  rw [nI_clamp (by omega)] at e
  refine kk H1 _ ⟨?_, h.2⟩ ⟨z, oq⟩ (hS.put z oq h.2)
  show H1[a]? = some (vp_cell _ _)
  rw [e]
  rw [vp_cell_q, vp_cell_q, arrV_store]
  congr 2
  funext q
  by_cases hq : q = k
  · subst hq
    simp [updV, va_up, va_rf]
  · simp [updV, va_up, hq]
theorem k_qstN (hx : p.tables.exec = Jvm.exec) (hb : c.code = cc) (hK : PP g s s.heap) (hS : va_S (gA g) s.heap H locs) {n : Nat} {f : Nat → Option Nat} (h : Ar g a 3 (aQ n f) H) {i : Int32} (k : Nat) (hi : i = nI k) (hk : k < n) (hn : n < 2 ^ 31) (hdg : decode cc pc = .ok (.aastore, 1))
    (kk : ∀ (H1 : Heap) (locs1 : List Loc), Ar g a 3 (aQ n (va_up f k none)) H1 → Upd a H H1 → va_S (gA g) s.heap H1 locs1 → W p l e R s m args below meth c H1 locs1 cells slots Q (F0 m (pc + 1) ls rest)) : W p l e R s m args below meth c H locs cells slots Q (F0 m pc ls (.null :: .int i :: .ref a :: rest)) := by
  subst hi
  refine va_WaastN (C := "java/lang/Object") hx hb h.1 ((hK.K.2 3 _ rfl).1 n (fun j => va_rf (f j))) (fun h => by cases h) (by show ¬ (nI k < 0 ∨ (arrV _ _ _).slots.size ≤ _); rw [arrV_size]; exact vp_in_nI hk hn) rfl rfl hdg fun H1 e z oq => ?_
  rw [nI_clamp (by omega)] at e
  refine kk H1 _ ⟨?_, h.2⟩ ⟨z, oq⟩ (hS.put z oq h.2)
  show H1[a]? = some (vp_cell _ _)
  rw [e]
  rw [vp_cell_q, vp_cell_q, arrV_store]
  congr 2
  funext q
  by_cases hq : q = k
  · subst hq
    simp [updV, va_up, va_rf]
  · simp [updV, va_up, hq]
theorem k_newB (hx : p.tables.exec = Jvm.exec) (hb : c.code = cc) (hts : ∀ w ∈ lw_all, w.before args s = true) (harr : Cond.arrayClass .byte ∈ lw_all) (hK : PP g s s.heap) (hS : va_S (gA g) s.heap H locs) {n : Int32} (N' : Nat) (hn : n = nI N') (hN : N' ≤ 65536) (hcells : cells + 1 ≤ R.cells) (hslots : slots + N' ≤ R.slots) (hdg : decode cc pc = .ok (.newarray .byte, 2))
    (kk : ∀ (q : Nat) (H1 : Heap), Ar g q 1 (aI N' (fun _ => 0)) H1 → Neu q H H1 → va_S (gA g) s.heap H1 locs →
      W p l e R s m args below meth c H1 locs (cells + 1) (slots + N') Q (F0 m (pc + 2) ls (.ref q :: rest))) : W p l e R s m args below meth c H locs cells slots Q (F0 m pc ls (.int n :: rest)) := by
  subst hn
  refine va_newaK (atype := .byte) hx hb (hts _ harr) rfl hdg rfl (nI_pos (by omega)) (nI_clamp (by omega)) (by show N' * 1 ≤ _; omega) hcells hslots rfl fun H1 cA e1 z1 o1 hAr hNm => ?_
  have hc0 : cA = g.2.1 1 := by
    have h2 : s.vm.findClass ("[" ++ FieldType.byte.toString) = some (g.2.1 1) := (hK.K.2 1 _ rfl).2
    exact Option.some.inj (hNm.symm.trans h2)
  subst hc0
  exact kk H.size H1 ⟨e1, Nat.le_trans hK.sz hS.1⟩ ⟨rfl, z1, o1⟩ ⟨Nat.le_trans hS.1 (by omega), fun x h1 h2 => (o1 x (Nat.lt_of_lt_of_le h1 hS.1)).trans (hS.2.1 x h1 h2), hS.2.2⟩
theorem k_newJ (hx : p.tables.exec = Jvm.exec) (hb : c.code = cc) (hts : ∀ w ∈ lw_all, w.before args s = true) (harr : Cond.arrayClass .long ∈ lw_all) (hK : PP g s s.heap) (hS : va_S (gA g) s.heap H locs) {n : Int32} (N' : Nat) (hn : n = nI N') (hN : N' ≤ 65536) (hcells : cells + 1 ≤ R.cells) (hslots : slots + N' ≤ R.slots) (hdg : decode cc pc = .ok (.newarray .long, 2))
    (kk : ∀ (q : Nat) (H1 : Heap), Ar g q 2 (aJ N' (fun _ => 0)) H1 → Neu q H H1 → va_S (gA g) s.heap H1 locs →
      W p l e R s m args below meth c H1 locs (cells + 1) (slots + N') Q (F0 m (pc + 2) ls (.ref q :: rest))) : W p l e R s m args below meth c H locs cells slots Q (F0 m pc ls (.int n :: rest)) := by
  subst hn
  refine va_newaK (atype := .long) hx hb (hts _ harr) rfl hdg rfl (nI_pos (by omega)) (nI_clamp (by omega)) (by show N' * 8 ≤ _; omega) hcells hslots rfl fun H1 cA e1 z1 o1 hAr hNm => ?_
  have hc0 : cA = g.2.1 2 := by
    have h2 : s.vm.findClass ("[" ++ FieldType.long.toString) = some (g.2.1 2) := (hK.K.2 2 _ rfl).2
    exact Option.some.inj (hNm.symm.trans h2)
  subst hc0
  exact kk H.size H1 ⟨e1, Nat.le_trans hK.sz hS.1⟩ ⟨rfl, z1, o1⟩ ⟨Nat.le_trans hS.1 (by omega), fun x h1 h2 => (o1 x (Nat.lt_of_lt_of_le h1 hS.1)).trans (hS.2.1 x h1 h2), hS.2.2⟩
theorem k_newQ (hx : p.tables.exec = Jvm.exec) (hb : c.code = cc) {own : String} {index : Nat} (hts : ∀ w ∈ lw_all, w.before args s = true) (hown : s.vm.findClass own = some m.cls) (hcl : Cond.classLink own index "java/lang/Object" ∈ lw_all) (hK : PP g s s.heap) (hS : va_S (gA g) s.heap H locs) {n : Int32} (N' : Nat) (hn : n = nI N') (hN : N' ≤ 65536) (hcells : cells + 1 ≤ R.cells) (hslots : slots + N' ≤ R.slots) (hdg : decode cc pc = .ok (.anewarray index, 3))
    (kk : ∀ (q : Nat) (H1 : Heap), Ar g q 3 (aQ N' (fun _ => none)) H1 → Neu q H H1 → va_S (gA g) s.heap H1 locs →
      W p l e R s m args below meth c H1 locs (cells + 1) (slots + N') Q (F0 m (pc + 3) ls (.ref q :: rest))) : W p l e R s m args below meth c H locs cells slots Q (F0 m pc ls (.int n :: rest)) := by
  subst hn
  refine W.anew hx hb hown (hts _ hcl) (va_AO.use hK.ao) rfl hdg rfl (nI_pos (by omega)) (by rw [nI_clamp (by omega)]; omega) hcells (by rw [nI_clamp (by omega)]; exact hslots) fun cA kA comp f1 f2 f3 f4 => ?_
  rw [nI_clamp (by omega)]
  generalize hH1 : H.push ({ cls := cA, slots := Array.replicate N' .null, vm := .none } : Cell) = H1
  have z1 : H1.size = H.size + 1 := by rw [← hH1, Array.size_push]
  have e1 : H1[H.size]? = some (arrV cA N' (fun _ => .null)) := by rw [← hH1, Array.getElem?_push_size, ← arrV_new]
  have o1 : ∀ q : Nat, q < H.size → H1[q]? = H[q]? := fun q hq => by rw [← hH1, Array.getElem?_push, if_neg (Nat.ne_of_lt hq)]
  have hc0 : cA = g.2.1 3 := by
    obtain ⟨kA', comp', r1, r2, r3, r4⟩ := (hK.K.2 3 _ rfl).2
    exact Option.some.inj (f1.symm.trans r4)
  subst hc0
  exact kk H.size H1 ⟨e1, Nat.le_trans hK.sz hS.1⟩ ⟨rfl, z1, o1⟩ ⟨Nat.le_trans hS.1 (by omega), fun x h1 h2 => (o1 x (Nat.lt_of_lt_of_le h1 hS.1)).trans (hS.2.1 x h1 h2), hS.2.2⟩
end KR
