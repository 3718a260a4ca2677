/-! ===== THE GROUND: all classes by number, one start word for every contract, single cells and how a heap moves ===== -/
set_option maxRecDepth 100000
/-- the classes by number: 0 HandBlinds, 1 Blind, 2 Model, 3 Blind$1, 4 Name, 5 Row, 6 Route, 7 Fault, 8 Refused, 9 Cranking, 10 ArrayList, 11 ArrayDeque, 12 StringBuilder, 13 String, 14 ArrayList$Itr, 15 BitSet -/
abbrev kcl : List vw_C := [(RX0, TX0, 3), (RX1, TX1, 9), (RX2, TX2, 13), (RX3, TX3, 2), (RX4, TX4, 1), (RX5, TX5, 4), (RX6, TX6, 3), (RX7, TX7, 7), (RX9, TX9, 7), (RX10, TX10, 6), (RJ2, TJ2, 3), (RJ3, TJ3, 3), (RJ5, TJ5, 4), (RJ6, TJ6, 4), (RJ13, TJ13, 4), (RJ14, TJ14, 3)]
/-- what is fixed through a run: class numbers and slots; array classes (0 int, 1 byte, 2 long, 3 Object); numbers (0: the size of the first heap; 1: ArrayList's empty array; 2: the Class object of Object[]; 10 ..: String constants; 30 ..: their bytes) -/
abbrev GT : Type := va_G × (Nat → ClassId) × (Nat → Nat)
abbrev gA (g : GT) : Nat → Prop := fun q => g.2.2 0 ≤ q
abbrev gty (g : GT) : List (ClassId × FieldType) := [(g.2.1 0, .int), (g.2.1 1, .byte), (g.2.1 2, .long), (g.2.1 3, .object "java/lang/Object")]
abbrev aI (n : Nat) (f : Nat → Int32) : vp_A := (n, .inl f)
abbrev aJ (n : Nat) (f : Nat → Int64) : vp_A := (n, .inr (.inl f))
abbrev aQ (n : Nat) (f : Nat → Option Nat) : vp_A := (n, .inr (.inr (.inr (.inr f))))
/-- an object made in the run, of the class number ci, with these fields -/
def Ob (g : GT) (q ci : Nat) (fs : List Value) (H : Heap) : Prop := va_at g.1 kcl (q, .inr (ci, fs)) H ∧ g.2.2 0 ≤ q
/-- an array made in the run, of the array class number k -/
def Ar (g : GT) (q k : Nat) (a : vp_A) (H : Heap) : Prop := va_at g.1 kcl (q, .inl (g.2.1 k, a)) H ∧ g.2.2 0 ≤ q
/-- one cell was written -/
def Upd (a : Nat) (H H1 : Heap) : Prop := H1.size = H.size ∧ ∀ q : Nat, q ≠ a → H1[q]? = H[q]?
/-- one cell was made -/
def Neu (a : Nat) (H H1 : Heap) : Prop := a = H.size ∧ H1.size = H.size + 1 ∧ ∀ q : Nat, q < H.size → H1[q]? = H[q]?
/-- what isn't in M stays -/
def Fx (M : Nat → Prop) (H H1 : Heap) : Prop := H.size ≤ H1.size ∧ ∀ q : Nat, q < H.size → ¬ M q → H1[q]? = H[q]?
theorem Ob.lt {g : GT} {q ci : Nat} {fs : List Value} {H : Heap} (h : Ob g q ci fs H) : q < H.size := h.1.lt
theorem Ar.lt {g : GT} {q k : Nat} {a : vp_A} {H : Heap} (h : Ar g q k a H) : q < H.size := h.1.lt
theorem Ob.lo {g : GT} {q ci : Nat} {fs : List Value} {H : Heap} (h : Ob g q ci fs H) : g.2.2 0 ≤ q := h.2
theorem Ar.lo {g : GT} {q k : Nat} {a : vp_A} {H : Heap} (h : Ar g q k a H) : g.2.2 0 ≤ q := h.2
theorem Ob.kept {g : GT} {q ci : Nat} {fs : List Value} {H H1 : Heap} (h : Ob g q ci fs H) (e : H1[q]? = H[q]?) : Ob g q ci fs H1 := ⟨h.1.kept e, h.2⟩
theorem Ar.kept {g : GT} {q k : Nat} {a : vp_A} {H H1 : Heap} (h : Ar g q k a H) (e : H1[q]? = H[q]?) : Ar g q k a H1 := ⟨h.1.kept e, h.2⟩
theorem Ob.upd {g : GT} {q ci a : Nat} {fs : List Value} {H H1 : Heap} (h : Ob g q ci fs H) (u : Upd a H H1) (n : q ≠ a) : Ob g q ci fs H1 := h.kept (u.2 q n)
theorem Ar.upd {g : GT} {q k b : Nat} {a : vp_A} {H H1 : Heap} (h : Ar g q k a H) (u : Upd b H H1) (n : q ≠ b) : Ar g q k a H1 := h.kept (u.2 q n)
theorem Ob.neu {g : GT} {q ci a : Nat} {fs : List Value} {H H1 : Heap} (h : Ob g q ci fs H) (u : Neu a H H1) : Ob g q ci fs H1 := h.kept (u.2.2 q h.lt)
theorem Ar.neu {g : GT} {q k b : Nat} {a : vp_A} {H H1 : Heap} (h : Ar g q k a H) (u : Neu b H H1) : Ar g q k a H1 := h.kept (u.2.2 q h.lt)
theorem Ob.fx {g : GT} {q ci : Nat} {M : Nat → Prop} {fs : List Value} {H H1 : Heap} (h : Ob g q ci fs H) (u : Fx M H H1) (n : ¬ M q) : Ob g q ci fs H1 := h.kept (u.2 q h.lt n)
theorem Ar.fx {g : GT} {q k : Nat} {M : Nat → Prop} {a : vp_A} {H H1 : Heap} (h : Ar g q k a H) (u : Fx M H H1) (n : ¬ M q) : Ar g q k a H1 := h.kept (u.2 q h.lt n)
theorem Neu.ne {g : GT} {q ci a : Nat} {fs : List Value} {H H1 : Heap} (u : Neu a H H1) (h : Ob g q ci fs H) : q ≠ a := fun e => by have := h.lt; rw [u.1] at e; omega
theorem Neu.neA {g : GT} {q k b : Nat} {a : vp_A} {H H1 : Heap} (u : Neu b H H1) (h : Ar g q k a H) : q ≠ b := fun e => by have := h.lt; rw [u.1] at e; omega
theorem Fx.rf {M : Nat → Prop} {H : Heap} : Fx M H H := ⟨Nat.le_refl _, fun _ _ _ => rfl⟩
theorem Fx.put {M : Nat → Prop} {H0 H H1 : Heap} {a : Nat} (h : Fx M H0 H) (u : Upd a H H1) (ha : M a ∨ H0.size ≤ a) : Fx M H0 H1 :=
  ⟨by rw [u.1]; exact h.1, fun q h1 h2 => (u.2 q (fun e => by subst e; rcases ha with z | z; exact h2 z; omega)).trans (h.2 q h1 h2)⟩
theorem Fx.neu {M : Nat → Prop} {H0 H H1 : Heap} {a : Nat} (h : Fx M H0 H) (u : Neu a H H1) : Fx M H0 H1 :=
  ⟨by have := h.1; have := u.2.1; omega, fun q h1 h2 => (u.2.2 q (Nat.lt_of_lt_of_le h1 h.1)).trans (h.2 q h1 h2)⟩
theorem Fx.trans {M N : Nat → Prop} {H0 H H1 : Heap} (h : Fx M H0 H) (u : Fx N H H1) (hn : ∀ q, q < H0.size → N q → M q) : Fx M H0 H1 :=
  ⟨Nat.le_trans h.1 u.1, fun q h1 h2 => (u.2 q (Nat.lt_of_lt_of_le h1 h.1) (fun z => h2 (hn q h1 z))).trans (h.2 q h1 h2)⟩
theorem Fx.mono {M N : Nat → Prop} {H H1 : Heap} (h : Fx M H H1) (hn : ∀ q, q < H.size → M q → N q) : Fx N H H1 := ⟨h.1, fun q h1 h2 => h.2 q h1 (fun z => h2 (hn q h1 z))⟩
theorem Fx.of_upd {a : Nat} {H H1 : Heap} (u : Upd a H H1) : Fx (fun q => q = a) H H1 := ⟨Nat.le_of_eq u.1.symm, fun q _ h => u.2 q h⟩
/-- class numbers are apart -/
def GG (g : GT) : Prop := (∀ i j : Nat, i < 16 → j < 16 → g.1.1 i = g.1.1 j → i = j) ∧ (∀ i k : Nat, i < 16 → k < 4 → g.1.1 i ≠ g.2.1 k) ∧ (∀ j k : Nat, j < 4 → k < 4 → g.2.1 j = g.2.1 k → j = k)
theorem Ob.cls {g : GT} {q ci : Nat} {fs : List Value} {H : Heap} (h : Ob g q ci fs H) : ∃ cell : Cell, H[q]? = some cell ∧ cell.cls = g.1.1 ci ∧ cell.vm = .none := by
  obtain ⟨⟨r, h1, cell, h2, h3, h4, h5⟩, -⟩ := h
  exact ⟨cell, h2, h3, h4⟩
theorem vp_cell_cls (cA : ClassId) (a : vp_A) : (vp_cell cA a).cls = cA := by
  obtain ⟨n, f | f | f | f | f⟩ := a <;> rfl
theorem Ob.ne {g : GT} {q ci r cj : Nat} {fs fs' : List Value} {H : Heap} (hG : GG g) (h : Ob g q ci fs H) (h' : Ob g r cj fs' H) (hi : ci < 16) (hj : cj < 16) (hn : ci ≠ cj) : q ≠ r := by
  intro e
  subst e
  obtain ⟨c1, a1, a2, -⟩ := h.cls
  obtain ⟨c2, b1, b2, -⟩ := h'.cls
  cases a1.symm.trans b1
  exact hn (hG.1 ci cj hi hj (a2.symm.trans b2))
theorem Ob.neA {g : GT} {q ci r k : Nat} {fs : List Value} {a : vp_A} {H : Heap} (hG : GG g) (h : Ob g q ci fs H) (h' : Ar g r k a H) (hi : ci < 16) (hk : k < 4) : q ≠ r := by
  intro e
  subst e
  obtain ⟨c1, a1, a2, -⟩ := h.cls
  have b1 : H[q]? = some (vp_cell (g.2.1 k) a) := h'.1
  cases a1.symm.trans b1
  exact hG.2.1 ci k hi hk (a2.symm.trans (vp_cell_cls _ _))
theorem Ar.ne {g : GT} {q j r k : Nat} {a b : vp_A} {H : Heap} (hG : GG g) (h : Ar g q j a H) (h' : Ar g r k b H) (hj : j < 4) (hk : k < 4) (hn : j ≠ k) : q ≠ r := by
  intro e
  subst e
  have a1 : H[q]? = some (vp_cell (g.2.1 j) a) := h.1
  have b1 : H[q]? = some (vp_cell (g.2.1 k) b) := h'.1
  have e1 : vp_cell (g.2.1 j) a = vp_cell (g.2.1 k) b := Option.some.inj (a1.symm.trans b1)
  exact hn (hG.2.2 j k hj hk (by rw [← vp_cell_cls (g.2.1 j) a, e1, vp_cell_cls]))
/-- the words of the tables that don't ride in the lists: which kinds are taken along -/
def nwk : Cond → Bool
  | .fieldLinkNest _ _ _ _ _ _ => true
  | .methodLinkNest _ _ _ _ => true
  | .castable _ _ => true
  | .declares _ => true
  | _ => false
theorem nwk_warm {w : Cond} (hw : nwk w = true) {s U : State} (hW : s.WarmedH U.vm) (h : va_Nw w s) : va_Nw w U := by
  cases w <;> first | (exact va_Nw.warmF hW h) | (exact va_Nw.warmM hW h) | (exact va_Nw.warmC hW h) | (exact va_Nw.warmD hW h) | (cases hw)
/-- the String constants: where they stand, and their texts -/
def kstr : Nat → String × Nat × String
  | 0 => ("HandBlinds$Name", 19, "DEPOT")
  | 1 => ("HandBlinds$Name", 25, "SORRY")
  | 2 => ("HandBlinds$Name", 27, "PRIVATE")
  | 3 => ("HandBlinds$Refused", 1, "refused")
  | 4 => ("HandBlinds$Fault", 1, "a fault")
  | _ => ("java/lang/StringLatin1", 151, "")
def kbyt : List (List Int32) := [[68, 69, 80, 79, 84], [83, 79, 82, 82, 89], [80, 82, 73, 86, 65, 84, 69], [114, 101, 102, 117, 115, 101, 100], [97, 32, 102, 97, 117, 108, 116], []]
def klen : List Nat := [5, 5, 7, 7, 7, 0]
/-- what every contract starts from -/
def PP (g : GT) (U : State) (H : Heap) : Prop :=
  va_K g.1 kcl (gty g) U ∧ (∀ w ∈ lw_tbl, nwk w = true → va_Nw w U) ∧ GG g ∧ g.2.2 0 ≤ H.size ∧ va_AO "java/lang/Object" U ∧ va_Dc U ∧ va_Mi "[Ljava/lang/Object;" (g.2.2 2) U ∧
  va_Z "java/lang/String" "COMPACT_STRINGS" "Z" (.int 1) (gA g) U H ∧ va_Z "java/util/BitSet" "$assertionsDisabled" "Z" (.int 1) (gA g) U H ∧ va_Z "java/util/ArrayList" "DEFAULTCAPACITY_EMPTY_ELEMENTDATA" "[Ljava/lang/Object;" (.ref (g.2.2 1)) (gA g) U H ∧ va_T (.object "java/lang/Object") (g.2.2 1) 0 (fun _ => .null) (gA g) U H ∧ va_Zq "jdk/internal/util/Preconditions" "SIOOBE_FORMATTER" "Ljava/util/function/BiFunction;" (gA g) U H ∧
  vx_Zq Bundle.tN "UNASSIGNED_STACK" Bundle.steD (gA g) U H ∧ vx_Zq Bundle.tN "SUPPRESSED_SENTINEL" Bundle.listD (gA g) U H ∧ vk_S 6 klen kbyt (fun i => g.2.2 (10 + i)) (fun i => g.2.2 (30 + i)) (gA g) U H ∧ (∀ i, i < 6 → vk_R (kstr i).1 (kstr i).2.1 (kstr i).2.2 (g.2.2 (10 + i)) U)
theorem PP.K {g : GT} {U : State} {H : Heap} (h : PP g U H) : va_K g.1 kcl (gty g) U := h.1
theorem PP.nw {g : GT} {U : State} {H : Heap} (h : PP g U H) {w : Cond} (hw : w ∈ lw_tbl) (hk : nwk w = true) : va_Nw w U := h.2.1 w hw hk
theorem PP.gg {g : GT} {U : State} {H : Heap} (h : PP g U H) : GG g := h.2.2.1
theorem PP.sz {g : GT} {U : State} {H : Heap} (h : PP g U H) : g.2.2 0 ≤ H.size := h.2.2.2.1
theorem PP.ao {g : GT} {U : State} {H : Heap} (h : PP g U H) : va_AO "java/lang/Object" U := h.2.2.2.2.1
theorem PP.dc {g : GT} {U : State} {H : Heap} (h : PP g U H) : va_Dc U := h.2.2.2.2.2.1
theorem PP.mi {g : GT} {U : State} {H : Heap} (h : PP g U H) : va_Mi "[Ljava/lang/Object;" (g.2.2 2) U := h.2.2.2.2.2.2.1
theorem PP.cs {g : GT} {U : State} {H : Heap} (h : PP g U H) : va_Z "java/lang/String" "COMPACT_STRINGS" "Z" (.int 1) (gA g) U H := h.2.2.2.2.2.2.2.1
theorem PP.ba {g : GT} {U : State} {H : Heap} (h : PP g U H) : va_Z "java/util/BitSet" "$assertionsDisabled" "Z" (.int 1) (gA g) U H := h.2.2.2.2.2.2.2.2.1
theorem PP.em {g : GT} {U : State} {H : Heap} (h : PP g U H) : va_Z "java/util/ArrayList" "DEFAULTCAPACITY_EMPTY_ELEMENTDATA" "[Ljava/lang/Object;" (.ref (g.2.2 1)) (gA g) U H := h.2.2.2.2.2.2.2.2.2.1
theorem PP.et {g : GT} {U : State} {H : Heap} (h : PP g U H) : va_T (.object "java/lang/Object") (g.2.2 1) 0 (fun _ => .null) (gA g) U H := h.2.2.2.2.2.2.2.2.2.2.1
theorem PP.fm {g : GT} {U : State} {H : Heap} (h : PP g U H) : va_Zq "jdk/internal/util/Preconditions" "SIOOBE_FORMATTER" "Ljava/util/function/BiFunction;" (gA g) U H := h.2.2.2.2.2.2.2.2.2.2.2.1
theorem PP.tu {g : GT} {U : State} {H : Heap} (h : PP g U H) : vx_Zq Bundle.tN "UNASSIGNED_STACK" Bundle.steD (gA g) U H := h.2.2.2.2.2.2.2.2.2.2.2.2.1
theorem PP.ts {g : GT} {U : State} {H : Heap} (h : PP g U H) : vx_Zq Bundle.tN "SUPPRESSED_SENTINEL" Bundle.listD (gA g) U H := h.2.2.2.2.2.2.2.2.2.2.2.2.2.1
theorem PP.sk {g : GT} {U : State} {H : Heap} (h : PP g U H) : vk_S 6 klen kbyt (fun i => g.2.2 (10 + i)) (fun i => g.2.2 (30 + i)) (gA g) U H := h.2.2.2.2.2.2.2.2.2.2.2.2.2.2.1
theorem PP.sr {g : GT} {U : State} {H : Heap} (h : PP g U H) (i : Nat) (hi : i < 6) : vk_R (kstr i).1 (kstr i).2.1 (kstr i).2.2 (g.2.2 (10 + i)) U := h.2.2.2.2.2.2.2.2.2.2.2.2.2.2.2 i hi
theorem PP.warm {g : GT} {s U : State} {H : Heap} (h : PP g s H) (hW : s.WarmedH U.vm) : PP g U H :=
  ⟨va_K.moved hW.alike h.K, fun w hw hk => nwk_warm hk hW (h.nw hw hk), h.gg, h.sz, h.ao.moved hW.alike, h.dc.moved hW.alike, h.mi.moved hW.alike, h.cs.moved hW.alike, h.ba.moved hW.alike, h.em.moved hW.alike, h.et.moved hW.alike, h.fm.moved hW.alike, h.tu.moved hW.alike, h.ts.moved hW.alike, h.sk.moved hW.alike, fun i hi => (h.sr i hi).warm hW⟩
theorem PP.to {g : GT} {s : State} {H0 H : Heap} (h : PP g s H0) (hz : H0.size ≤ H.size) (hq : ∀ a : Nat, a < H0.size → ¬ gA g a → H[a]? = H0[a]?) : PP g s H :=
  ⟨h.K, h.2.1, h.gg, Nat.le_trans h.sz hz, h.ao, h.dc, h.mi, h.cs.kept hq, h.ba.kept hq, h.em.kept hq, h.et.kept hq, h.fm.kept hq, h.tu.kept hq, h.ts.kept hq, h.sk.kept hq, h.sr⟩
theorem PP.at {g : GT} {s : State} {H : Heap} {locs : List Loc} (h : PP g s s.heap) (hS : va_S (gA g) s.heap H locs) : PP g s H := h.to hS.1 hS.2.1
/-- the start word: this heap, and what every contract starts from -/
abbrev Pre (g : GT) (H : Heap) : State → Prop := fun U => U.heap = H ∧ PP g U H
theorem blindP {g : GT} {H : Heap} {av : List Value} : FrameBlind (va_Pc av (Pre g H)) := fun a U f mk q => ⟨q.1, q.2.1, q.2.2.warm (State.WarmedH.refl U)⟩
theorem preS {g : GT} {s : State} {H : Heap} {locs : List Loc} {As : List Value} (h : PP g s s.heap) (hS : va_S (gA g) s.heap H locs) : PreS s H (va_Pc As (Pre g H)) As := ⟨blindP, fun U hU hW => ⟨rfl, hU, (h.at hS).warm hW⟩⟩
theorem recvO {g : GT} {s : State} {H : Heap} {a ci : Nat} {fs : List Value} {C : String} {T : u_T} {N : Nat} (h : PP g s s.heap) (hO : Ob g a ci fs H) (hc : kcl[ci]? = some (C, T, N)) : ∃ cell : Cell, H[a]? = some cell ∧ cell.vm.isStatics = false ∧ s.vm.findClass C = some cell.cls := by
  obtain ⟨cell, g1, g2, g3⟩ := hO.cls
  exact ⟨cell, g1, by rw [g3]; rfl, by rw [g2]; exact (h.K.1 ci _ hc).2.1⟩
theorem preV {g : GT} {s : State} {H : Heap} {locs : List Loc} {As : List Value} {a ci : Nat} {fs : List Value} {C : String} {T : u_T} {N : Nat} (h : PP g s s.heap) (hS : va_S (gA g) s.heap H locs) (hO : Ob g a ci fs H) (hc : kcl[ci]? = some (C, T, N)) : PreV s H C a (va_Pc (.ref a :: As) (Pre g H)) As := ⟨blindP, recvO h hO hc, fun U hU hW => ⟨rfl, hU, (h.at hS).warm hW⟩⟩
/-- the ends: an answer and the heap behind -/
abbrev Qi (g : GT) (post : Int32 → Heap → Prop) : Array Value → State → Outcome → State → Prop := va_Qi (S := Heap) post (fun u t => t.heap = u) (gA g)
abbrev Ql (g : GT) (post : Int64 → Heap → Prop) : Array Value → State → Outcome → State → Prop := va_Ql (S := Heap) post (fun u t => t.heap = u) (gA g)
abbrev Qf (g : GT) (post : UInt32 → Heap → Prop) : Array Value → State → Outcome → State → Prop := va_Qf (S := Heap) post (fun u t => t.heap = u) (gA g)
abbrev Qv (g : GT) (post : Heap → Prop) : Array Value → State → Outcome → State → Prop := va_Qv (S := Heap) post (fun u t => t.heap = u) (gA g)
abbrev Qr (g : GT) (post : Nat → Heap → Prop) : Array Value → State → Outcome → State → Prop := va_Qr (S := Heap) (fun _ => True) (fun u a t => t.heap = u ∧ post a u) (gA g)
abbrev Qq (g : GT) (post : Option Nat → Heap → Prop) : Array Value → State → Outcome → State → Prop := va_Qq (S := Heap) post (fun u t => t.heap = u) (gA g)
section KG
variable {p : Program} {l : Launch} {e : Env} {R : Room} {s : State} {m : MethodId} {args : Array Value} {below : List Frame} {meth : Method} {c : Code} {H : Heap} {locs : List Loc} {cells slots : Nat} {Q : State → Prop}
variable {cc : ByteArray} {pc : Nat} {ls : Array Slot} {rest : List Value} {g : GT} {a : Nat}
theorem one_P {D : va_G} {cl : List vw_C} {x : Nat × va_E} {H : Heap} (h : va_at D cl x H) : va_P D cl [x] H := fun k q hk => by
  match k, hk with
  | 0, hk => cases hk; exact h
  | k + 1, hk => simp at hk
theorem k_get (hx : p.tables.exec = Jvm.exec) (hb : c.code = cc) {own ref C : String} {T : u_T} {N ci index : Nat} (hts : ∀ w ∈ lw_all, w.before args s = true) (hin : ∀ w ∈ u_ws C T N, w ∈ lw_all) (hown : s.vm.findClass own = some m.cls) (hK : PP g s s.heap) {fs : List Value} (h : Ob g a ci fs H) (hc : kcl[ci]? = some (C, T, N)) (k : Nat) (hk : k < N) (hlink : Cond.fieldLink own index ref (T k).2.1 (T k).2.2.1 ∈ lw_all) (hsame : ∀ x, s.fieldFound? (T k).1 (T k).2.1 (T k).2.2.1 = some x → s.fieldFound? ref (T k).2.1 (T k).2.2.1 = some x) {v : Value} (hv : fs[k]? = some v) (hdg : decode cc pc = .ok (.getfield index, 3))
    (kk : W p l e R s m args below meth c H locs cells slots Q (F0 m (pc + 3) ls (v :: rest))) : W p l e R s m args below meth c H locs cells slots Q (F0 m pc ls (.ref a :: rest)) :=
  va_get hx hb hts hin hown hK.K (one_P h.1) 0 rfl hc k hk (hts _ hlink) hsame hv hdg kk
theorem k_getN (hx : p.tables.exec = Jvm.exec) (hb : c.code = cc) {own ref C host : String} {T : u_T} {N ci index : Nat} (hts : ∀ w ∈ lw_all, w.before args s = true) (hin : ∀ w ∈ u_ws C T N, w ∈ lw_all) (hown : s.vm.findClass own = some m.cls) (hK : PP g s s.heap) {fs : List Value} (h : Ob g a ci fs H) (hc : kcl[ci]? = some (C, T, N)) (k : Nat) (hk : k < N) (hlink : Cond.fieldLinkNest own index ref (T k).2.1 (T k).2.2.1 host ∈ lw_tbl) (hsame : ∀ x, s.fieldFound? (T k).1 (T k).2.1 (T k).2.2.1 = some x → s.fieldFound? ref (T k).2.1 (T k).2.2.1 = some x) {v : Value} (hv : fs[k]? = some v) (hdg : decode cc pc = .ok (.getfield index, 3))
    (kk : W p l e R s m args below meth c H locs cells slots Q (F0 m (pc + 3) ls (v :: rest))) : W p l e R s m args below meth c H locs cells slots Q (F0 m pc ls (.ref a :: rest)) :=
  va_getN hx hb hts hin hown hK.K (one_P h.1) 0 rfl hc k hk (va_Nw.use rfl (hK.nw hlink rfl)) hsame hv hdg kk
theorem k_put (hx : p.tables.exec = Jvm.exec) (hb : c.code = cc) {own ref C : String} {T : u_T} {N ci index : Nat} (hts : ∀ w ∈ lw_all, w.before args s = true) (hin : ∀ w ∈ u_ws C T N, w ∈ lw_all) (ty0 : Nat → FieldType) (hty : ∀ k, k < N → parseFieldDescriptor (T k).2.2.1 = some (ty0 k)) (hnm : ∀ a, a < N → ∀ b, b < N → a ≠ b → (T a).2.1 ≠ (T b).2.1) (hown : s.vm.findClass own = some m.cls) (hK : PP g s s.heap) (hS0 : va_S (gA g) s.heap H locs) {fs : List Value} (h : Ob g a ci fs H) (hc : kcl[ci]? = some (C, T, N)) (k : Nat) (hk : k < N) (hlink : Cond.fieldLink own index ref (T k).2.1 (T k).2.2.1 ∈ lw_all) (hsame : ∀ x, s.fieldFound? (T k).1 (T k).2.1 (T k).2.2.1 = some x → s.fieldFound? ref (T k).2.1 (T k).2.2.1 = some x) (hfin : (T k).2.2.2 = false) {v : Value} (hn : narrow (ty0 k) v = v) (hfit : fits (ty0 k) v = true) (hl : k < fs.length)
    (hdg : decode cc pc = .ok (.putfield index, 3)) (kk : ∀ (H1 : Heap) (locs1 : List Loc), Ob g a ci (fs.set k v) H1 → Upd a H H1 → va_S (gA g) s.heap H1 locs1 → W p l e R s m args below meth c H1 locs1 cells slots Q (F0 m (pc + 3) ls rest)) : W p l e R s m args below meth c H locs cells slots Q (F0 m pc ls (v :: .ref a :: rest)) := by
  have hap := va_apart (own := own) hts hin ty0 hty hnm hK.K hc
  obtain ⟨⟨r, h1, cell, q1, q2, q3, q4⟩, hlo⟩ := h
  have hr : r = (C, T, N) := Option.some.inj (h1.symm.trans hc)
  subst hr
  obtain ⟨hS, hfc, kC, hkC, hkind⟩ := hK.K.1 ci _ hc
  obtain ⟨cf, kf, fi, f, hi, hsl⟩ := hS k hk
  have hlay := hts _ (hin _ (u_in_lay hk))
  unfold u_lay at hlay
  rw [if_neg (by rw [hfin]; decide)] at hlay
  have hst := (u_facts hfc hkC (u_lays hts hin hk) hi).1
  have h6 := u_store hfc hkC hkind hlay hi (hty k hk) hn hfit
  refine W.putK hx hb (f := f) ⟨hown, hts _ hlink, ⟨_, _, _, hsame _ hi⟩, hst⟩ (by rw [q2]; exact h6) q1 q3 (by rw [hsl]; exact k2_hasslot (q4 k hk)) rfl rfl hdg fun H' e1 e2 e3 => ?_
  rw [hsl] at e1 ⊢
  exact kk H' _ ⟨⟨_, hc, t_OB.to (V := updV (vp_V fs) k v) ⟨_, e1, q2, q3, t_set q4 hap hk v⟩ (fun j _ => vp_updV_set hl v j)⟩, hlo⟩ ⟨e2, e3⟩ (hS0.put e2 e3 hlo)
theorem k_putF (hx : p.tables.exec = Jvm.exec) (hb : c.code = cc) {own ref C : String} {T : u_T} {N ci index : Nat} (hts : ∀ w ∈ lw_all, w.before args s = true) (hin : ∀ w ∈ u_ws C T N, w ∈ lw_all) (ty0 : Nat → FieldType) (hty : ∀ k, k < N → parseFieldDescriptor (T k).2.2.1 = some (ty0 k)) (hnm : ∀ a, a < N → ∀ b, b < N → a ≠ b → (T a).2.1 ≠ (T b).2.1) (hown : s.vm.findClass own = some m.cls) (hK : PP g s s.heap) (hS0 : va_S (gA g) s.heap H locs) {fs : List Value} (h : Ob g a ci fs H) (hc : kcl[ci]? = some (C, T, N)) (k : Nat) (hk : k < N) (hlink : Cond.fieldLink own index ref (T k).2.1 (T k).2.2.1 ∈ lw_all) (hsame : ∀ x, s.fieldFound? (T k).1 (T k).2.1 (T k).2.2.1 = some x → s.fieldFound? ref (T k).2.1 (T k).2.2.1 = some x) (hfin : (T k).2.2.2 = true) (hin2 : meth.name = "<init>") (hdecl : (T k).1 = own) {v : Value} (hn : narrow (ty0 k) v = v) (hfit : fits (ty0 k) v = true) (hl : k < fs.length)
    (hdg : decode cc pc = .ok (.putfield index, 3)) (kk : ∀ (H1 : Heap) (locs1 : List Loc), Ob g a ci (fs.set k v) H1 → Upd a H H1 → va_S (gA g) s.heap H1 locs1 → W p l e R s m args below meth c H1 locs1 cells slots Q (F0 m (pc + 3) ls rest)) : W p l e R s m args below meth c H locs cells slots Q (F0 m pc ls (v :: .ref a :: rest)) := by
  have hap := va_apart (own := own) hts hin ty0 hty hnm hK.K hc
  obtain ⟨⟨r, h1, cell, q1, q2, q3, q4⟩, hlo⟩ := h
  have hr : r = (C, T, N) := Option.some.inj (h1.symm.trans hc)
  subst hr
  obtain ⟨hS, hfc, kC, hkC, hkind⟩ := hK.K.1 ci _ hc
  obtain ⟨cf, kf, fi, f, hi, hsl⟩ := hS k hk
  have hlay := hts _ (hin _ (u_in_lay hk))
  unfold u_lay at hlay
  rw [if_pos hfin] at hlay
  have hst := (u_facts hfc hkC (u_lays hts hin hk) hi).1
  have hcf : m.cls = cf := by
    obtain ⟨_, _, c', _, _, _, -, -, hf', -, -, -, hown2, -⟩ := Cond.laysFinal_spec hlay
    have e1 : c' = cf := by have := hi.symm.trans hf'; simp at this; exact this.1.symm
    rw [hdecl] at hown2
    rw [← e1]; exact Option.some.inj (hown.symm.trans hown2)
  have h6 := u_fits hfc hkC hkind (Or.inr hlay) hi (hty k hk) hn hfit
  refine W.putFinK hx hb hown (hts _ hlink) (hsame _ hi) hst hcf hin2 (by rw [q2]; exact h6) q1 q3 (by rw [hsl]; exact k2_hasslot (q4 k hk)) rfl rfl hdg fun H' e1 e2 e3 => ?_
  rw [hsl] at e1 ⊢
  exact kk H' _ ⟨⟨_, hc, t_OB.to (V := updV (vp_V fs) k v) ⟨_, e1, q2, q3, t_set q4 hap hk v⟩ (fun j _ => vp_updV_set hl v j)⟩, hlo⟩ ⟨e2, e3⟩ (hS0.put e2 e3 hlo)
theorem k_ild (hx : p.tables.exec = Jvm.exec) (hb : c.code = cc) (hK : PP g s s.heap) {n : Nat} {f : Nat → Int32} (h : Ar g a 0 (aI n f) H) {i : Int32} (hin : vp_in i n) (hdg : decode cc pc = .ok (.iaload, 1))
    (kk : W p l e R s m args below meth c H locs cells slots Q (F0 m (pc + 1) ls (.int (f i.toNatClampNeg) :: rest))) : W p l e R s m args below meth c H locs cells slots Q (F0 m pc ls (.int i :: .ref a :: rest)) :=
  va_iald hx hb hK.K (one_P h.1) 0 0 rfl rfl hin hdg kk
/-- an int array read at a Nat place -/
theorem k_ildN (hx : p.tables.exec = Jvm.exec) (hb : c.code = cc) (hK : PP g s s.heap) {n : Nat} {f : Nat → Int32} (h : Ar g a 0 (aI n f) H) {i : Int32} (k : Nat) (hi : i = nI k) (hk : k < n) (hn : n < 2 ^ 31) (hdg : decode cc pc = .ok (.iaload, 1))
    (kk : W p l e R s m args below meth c H locs cells slots Q (F0 m (pc + 1) ls (.int (f k) :: rest))) : W p l e R s m args below meth c H locs cells slots Q (F0 m pc ls (.int i :: .ref a :: rest)) := by
  subst hi
  refine k_ild hx hb hK h (vp_in_nI hk hn) hdg ?_
  rw [nI_clamp (by omega)]
  exact kk
theorem k_ist (hx : p.tables.exec = Jvm.exec) (hb : c.code = cc) (hK : PP g s s.heap) (hS : va_S (gA g) s.heap H locs) {n : Nat} {f : Nat → Int32} (h : Ar g a 0 (aI n f) H) {i : Int32} {x : Int32} (hin : vp_in i n) (hdg : decode cc pc = .ok (.iastore, 1))
    (kk : ∀ (H1 : Heap) (locs1 : List Loc), Ar g a 0 (aI n (upd f i.toNatClampNeg x)) H1 → Upd a H H1 → va_S (gA g) s.heap H1 locs1 → W p l e R s m args below meth c H1 locs1 cells slots Q (F0 m (pc + 1) ls rest)) : W p l e R s m args below meth c H locs cells slots Q (F0 m pc ls (.int x :: .int i :: .ref a :: rest)) := by
  refine W.iast hx hb h.1 ((hK.K.2 0 _ rfl).1 n (fun j => .int (f j))) (fun q => by cases q) (by show ¬ (i < 0 ∨ (arrV _ _ _).slots.size ≤ _); rw [arrV_size]; exact hin) rfl rfl hdg fun H1 e z oq => ?_
  refine kk H1 _ ⟨?_, h.2⟩ ⟨z, oq⟩ (hS.put z oq h.2)
  show H1[a]? = some (vp_cell _ _)
  rw [e]
  show some ((vp_cell _ (aI n f)).setSlot _ _) = _
  rw [vp_cell_i, vp_cell_i, arrV_store]
  congr 2
  funext q
  by_cases hq : q = i.toNatClampNeg
  · subst hq
    simp [updV, upd]
  · simp [updV, upd, hq]
theorem k_istN (hx : p.tables.exec = Jvm.exec) (hb : c.code = cc) (hK : PP g s s.heap) (hS : va_S (gA g) s.heap H locs) {n : Nat} {f : Nat → Int32} (h : Ar g a 0 (aI n f) H) {i : Int32} {x : Int32} (k : Nat) (hi : i = nI k) (hk : k < n) (hn : n < 2 ^ 31) (hdg : decode cc pc = .ok (.iastore, 1))
    (kk : ∀ (H1 : Heap) (locs1 : List Loc), Ar g a 0 (aI n (upd f k x)) H1 → Upd a H H1 → va_S (gA g) s.heap H1 locs1 → W p l e R s m args below meth c H1 locs1 cells slots Q (F0 m (pc + 1) ls rest)) : W p l e R s m args below meth c H locs cells slots Q (F0 m pc ls (.int x :: .int i :: .ref a :: rest)) := by
  subst hi
  refine k_ist hx hb hK hS h (vp_in_nI hk hn) hdg ?_
  rw [nI_clamp (by omega)]
  exact kk
theorem k_alen (hx : p.tables.exec = Jvm.exec) (hb : c.code = cc) (hK : PP g s s.heap) {k : Nat} {x : vp_A} (h : Ar g a k x H) {ty : FieldType} (ht : (gty g)[k]? = some (g.2.1 k, ty)) {v : Int32} (hv : nI x.1 = v) (hdg : decode cc pc = .ok (.arraylength, 1))
    (kk : W p l e R s m args below meth c H locs cells slots Q (F0 m (pc + 1) ls (.int v :: rest))) : W p l e R s m args below meth c H locs cells slots Q (F0 m pc ls (.ref a :: rest)) :=
  va_alen hx hb hK.K (one_P h.1) 0 k rfl ht hv hdg kk
theorem k_new (hx : p.tables.exec = Jvm.exec) (hb : c.code = cc) {own C : String} {T : u_T} {N ci index : Nat} (hts : ∀ w ∈ lw_all, w.before args s = true) (hin : ∀ w ∈ u_ws C T N, w ∈ lw_all) (ty : Nat → FieldType) (hty : ∀ k, k < N → parseFieldDescriptor (T k).2.2.1 = some (ty k)) (hown : s.vm.findClass own = some m.cls) (hcl : Cond.classLink own index C ∈ lw_all) (hinst : Cond.instantiable C N ∈ lw_all) (hini : Cond.initialized C ∈ lw_all)
    (hK : PP g s s.heap) (hS : va_S (gA g) s.heap H locs) (hc : kcl[ci]? = some (C, T, N)) {fs : List Value} (hfs : ∀ j, j < N → defaultValue (ty j) = vp_V fs j) (hcells : cells + 1 ≤ R.cells) (hslots : slots + N ≤ R.slots) (hdg : decode cc pc = .ok (.new index, 3))
    (kk : ∀ (q : Nat) (H1 : Heap), Ob g q ci fs H1 → Neu q H H1 → va_S (gA g) s.heap H1 locs →
      W p l e R s m args below meth c H1 locs (cells + 1) (slots + N) Q (F0 m (pc + 3) ls (.ref q :: rest))) : W p l e R s m args below meth c H locs cells slots Q (F0 m pc ls rest) := by
  have hKn := hK.K.1 ci _ hc
  refine W.newcK hx hb hown (hts _ hcl) (hts _ hinst) (hts _ hini) rfl hdg hcells hslots hKn.2.1 rfl fun H1 kC hkC e1 z1 o1 => ?_
  exact kk H.size H1 ⟨⟨_, hc, (u_born ty hts hin hKn hkC e1 hty).to hfs⟩, Nat.le_trans hK.sz hS.1⟩ ⟨rfl, z1, o1⟩ ⟨Nat.le_trans hS.1 (by omega), fun x h1 h2 => (o1 x (Nat.lt_of_lt_of_le h1 hS.1)).trans (hS.2.1 x h1 h2), hS.2.2⟩
theorem k_newI (hx : p.tables.exec = Jvm.exec) (hb : c.code = cc) (hts : ∀ w ∈ lw_all, w.before args s = true) (harr : Cond.arrayClass .int ∈ lw_all) (hK : PP g s s.heap) (hS : va_S (gA g) s.heap H locs) {n : Int32} (N' : Nat) (hn : n = nI N') (hN : N' ≤ 65536) (hcells : cells + 1 ≤ R.cells) (hslots : slots + N' ≤ R.slots) (hdg : decode cc pc = .ok (.newarray .int, 2))
    (kk : ∀ (q : Nat) (H1 : Heap), Ar g q 0 (aI N' (fun _ => 0)) H1 → Neu q H H1 → va_S (gA g) s.heap H1 locs →
      W p l e R s m args below meth c H1 locs (cells + 1) (slots + N') Q (F0 m (pc + 2) ls (.ref q :: rest))) : W p l e R s m args below meth c H locs cells slots Q (F0 m pc ls (.int n :: rest)) := by
  subst hn
  refine va_newaK (atype := .int) hx hb (hts _ harr) rfl hdg rfl (nI_pos (by omega)) (nI_clamp (by omega)) (by show N' * 4 ≤ _; omega) hcells hslots rfl fun H1 cA e1 z1 o1 hAr hNm => ?_
  have hc0 : cA = g.2.1 0 := by
    have h2 : s.vm.findClass ("[" ++ FieldType.int.toString) = some (g.2.1 0) := (hK.K.2 0 _ rfl).2
    exact Option.some.inj (hNm.symm.trans h2)
  subst hc0
  exact kk H.size H1 ⟨e1, Nat.le_trans hK.sz hS.1⟩ ⟨rfl, z1, o1⟩ ⟨Nat.le_trans hS.1 (by omega), fun x h1 h2 => (o1 x (Nat.lt_of_lt_of_le h1 hS.1)).trans (hS.2.1 x h1 h2), hS.2.2⟩
/-- a loop: an invariant over anything, a measure that falls -/
theorem w_loop {α : Type} {pc : Nat} {st : List Value} (Inv : α → Heap → List Loc → Nat → Nat → Array Slot → Prop) (μ : α → Nat)
    (step : ∀ (a : α) (H : Heap) (locs : List Loc) (cells slots : Nat) (ls : Array Slot), Inv a H locs cells slots ls → (∀ (a' : α) (H' : Heap) (locs' : List Loc) (cells' slots' : Nat) (ls' : Array Slot), Inv a' H' locs' cells' slots' ls' → μ a' < μ a → W p l e R s m args below meth c H' locs' cells' slots' Q (F0 m pc ls' st)) → W p l e R s m args below meth c H locs cells slots Q (F0 m pc ls st)) :
    ∀ (a : α) (H : Heap) (locs : List Loc) (cells slots : Nat) (ls : Array Slot), Inv a H locs cells slots ls → W p l e R s m args below meth c H locs cells slots Q (F0 m pc ls st) := by
  have key : ∀ (n : Nat) (a : α) (H : Heap) (locs : List Loc) (cells slots : Nat) (ls : Array Slot), μ a < n → Inv a H locs cells slots ls → W p l e R s m args below meth c H locs cells slots Q (F0 m pc ls st) := by
    intro n
    induction n with
    | zero => intro a H locs cells slots ls h; omega
    | succ n ih => intro a H locs cells slots ls h hI; exact step a H locs cells slots ls hI (fun a' H' locs' cells' slots' ls' hI' h' => ih a' H' locs' cells' slots' ls' (by omega) hI')
  exact fun a H locs cells slots ls hI => key (μ a + 1) a H locs cells slots ls (Nat.lt_succ_self _) hI
/-- the same with more loop variables -/
theorem w_loop2 {α β : Type} {pc : Nat} {st : List Value} (Inv : α → β → Heap → List Loc → Nat → Nat → Array Slot → Prop) (μ : α → β → Nat)
    (step : ∀ (a : α) (b : β) (H : Heap) (locs : List Loc) (cells slots : Nat) (ls : Array Slot), Inv a b H locs cells slots ls → (∀ (a' : α) (b' : β) (H' : Heap) (locs' : List Loc) (cells' slots' : Nat) (ls' : Array Slot), Inv a' b' H' locs' cells' slots' ls' → μ a' b' < μ a b → W p l e R s m args below meth c H' locs' cells' slots' Q (F0 m pc ls' st)) → W p l e R s m args below meth c H locs cells slots Q (F0 m pc ls st)) :
    ∀ (a : α) (b : β) (H : Heap) (locs : List Loc) (cells slots : Nat) (ls : Array Slot), Inv a b H locs cells slots ls → W p l e R s m args below meth c H locs cells slots Q (F0 m pc ls st) :=
  fun a b H locs cells slots ls hI => w_loop (α := α × β) (Inv := fun x => Inv x.1 x.2) (μ := fun x => μ x.1 x.2) (fun x H locs cells slots ls hI ih => step x.1 x.2 H locs cells slots ls hI (fun a' b' H' locs' cells' slots' ls' hI' hm => ih (a', b') H' locs' cells' slots' ls' hI' hm)) (a, b) H locs cells slots ls hI
theorem w_loop3 {α β γ : Type} {pc : Nat} {st : List Value} (Inv : α → β → γ → Heap → List Loc → Nat → Nat → Array Slot → Prop) (μ : α → β → γ → Nat)
    (step : ∀ (a : α) (b : β) (d : γ) (H : Heap) (locs : List Loc) (cells slots : Nat) (ls : Array Slot), Inv a b d H locs cells slots ls → (∀ (a' : α) (b' : β) (d' : γ) (H' : Heap) (locs' : List Loc) (cells' slots' : Nat) (ls' : Array Slot), Inv a' b' d' H' locs' cells' slots' ls' → μ a' b' d' < μ a b d → W p l e R s m args below meth c H' locs' cells' slots' Q (F0 m pc ls' st)) → W p l e R s m args below meth c H locs cells slots Q (F0 m pc ls st)) :
    ∀ (a : α) (b : β) (d : γ) (H : Heap) (locs : List Loc) (cells slots : Nat) (ls : Array Slot), Inv a b d H locs cells slots ls → W p l e R s m args below meth c H locs cells slots Q (F0 m pc ls st) :=
  fun a b d H locs cells slots ls hI => w_loop (α := α × β × γ) (Inv := fun x => Inv x.1 x.2.1 x.2.2) (μ := fun x => μ x.1 x.2.1 x.2.2) (fun x H locs cells slots ls hI ih => step x.1 x.2.1 x.2.2 H locs cells slots ls hI (fun a' b' d' H' locs' cells' slots' ls' hI' hm => ih (a', b', d') H' locs' cells' slots' ls' hI' hm)) (a, b, d) H locs cells slots ls hI
theorem w_loop4 {α β γ δ : Type} {pc : Nat} {st : List Value} (Inv : α → β → γ → δ → Heap → List Loc → Nat → Nat → Array Slot → Prop) (μ : α → β → γ → δ → Nat)
    (step : ∀ (a : α) (b : β) (d : γ) (f : δ) (H : Heap) (locs : List Loc) (cells slots : Nat) (ls : Array Slot), Inv a b d f H locs cells slots ls → (∀ (a' : α) (b' : β) (d' : γ) (f' : δ) (H' : Heap) (locs' : List Loc) (cells' slots' : Nat) (ls' : Array Slot), Inv a' b' d' f' H' locs' cells' slots' ls' → μ a' b' d' f' < μ a b d f → W p l e R s m args below meth c H' locs' cells' slots' Q (F0 m pc ls' st)) → W p l e R s m args below meth c H locs cells slots Q (F0 m pc ls st)) :
    ∀ (a : α) (b : β) (d : γ) (f : δ) (H : Heap) (locs : List Loc) (cells slots : Nat) (ls : Array Slot), Inv a b d f H locs cells slots ls → W p l e R s m args below meth c H locs cells slots Q (F0 m pc ls st) :=
  fun a b d f H locs cells slots ls hI => w_loop (α := α × β × γ × δ) (Inv := fun x => Inv x.1 x.2.1 x.2.2.1 x.2.2.2) (μ := fun x => μ x.1 x.2.1 x.2.2.1 x.2.2.2) (fun x H locs cells slots ls hI ih => step x.1 x.2.1 x.2.2.1 x.2.2.2 H locs cells slots ls hI (fun a' b' d' f' H' locs' cells' slots' ls' hI' hm => ih (a', b', d', f') H' locs' cells' slots' ls' hI' hm)) (a, b, d, f) H locs cells slots ls hI
/-- the top of the stack under another name -/
theorem k_topi {x : Int32} (y : Int32) (h : x = y) (k : W p l e R s m args below meth c H locs cells slots Q (F0 m pc ls (.int y :: rest))) : W p l e R s m args below meth c H locs cells slots Q (F0 m pc ls (.int x :: rest)) := by
  subst h; exact k
theorem k_topl {x : Int64} (y : Int64) (h : x = y) (k : W p l e R s m args below meth c H locs cells slots Q (F0 m pc ls (.long y :: rest))) : W p l e R s m args below meth c H locs cells slots Q (F0 m pc ls (.long x :: rest)) := by
  subst h; exact k
theorem k_top2 {x : Int32} {v : Value} (y : Int32) (h : x = y) (k : W p l e R s m args below meth c H locs cells slots Q (F0 m pc ls (v :: .int y :: rest))) : W p l e R s m args below meth c H locs cells slots Q (F0 m pc ls (v :: .int x :: rest)) := by
  subst h; exact k
/-- where paths come together -/
theorem w_join {α : Type} (J : α → Prop) (gf : α → JFrame) {g0 : JFrame} (k : ∀ a, J a → W p l e R s m args below meth c H locs cells slots Q (gf a)) (kk : (∀ a, J a → W p l e R s m args below meth c H locs cells slots Q (gf a)) → W p l e R s m args below meth c H locs cells slots Q g0) : W p l e R s m args below meth c H locs cells slots Q g0 := kk k
/-- where paths come together, with heaps of their own -/
theorem w_joinH {α : Type} {pc : Nat} (J : α → Heap → List Loc → Nat → Nat → Array Slot → Prop) (sf : α → List Value) {g0 : JFrame} (k : ∀ (a : α) (H : Heap) (locs : List Loc) (cells slots : Nat) (ls : Array Slot), J a H locs cells slots ls → W p l e R s m args below meth c H locs cells slots Q (F0 m pc ls (sf a))) (kk : (∀ (a : α) (H : Heap) (locs : List Loc) (cells slots : Nat) (ls : Array Slot), J a H locs cells slots ls → W p l e R s m args below meth c H locs cells slots Q (F0 m pc ls (sf a))) → W p l e R s m args below meth c H locs cells slots Q g0) : W p l e R s m args below meth c H locs cells slots Q g0 := kk k
end KG
