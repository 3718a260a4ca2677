/-! ===== rows of one contract form: entry, calls, ends ===== -/
set_option maxRecDepth 100000
theorem k_met {l : Launch} {y : MethodName} {cc : ByteArray} {nL : Nat} {ret : Option FieldType} {rm : Room} {Qc : Array Value → State → Outcome → State → Prop} {mc ms : Nat} {g : GT} {H : Heap} {vs : List Value} (hy : plainName y.cls = true) (hlen : (lg_sl vs).length ≤ nL)
    (body : ∀ (p : Program) (e : Env) (s : State) (m : MethodId) (below : List Frame) (meth : Method) (c : Code), s.heap = H → p.tables.exec = Jvm.exec → c.code = cc → meth.sig.returnType = ret → (∀ w ∈ lw_all, w.before vs.toArray s = true) → s.vm.findClass y.cls = some m.cls → meth.locks = false → c.maxLocals = nL → meth.name = y.name → PP g s s.heap → va_S (gA g) s.heap s.heap [] → ∀ ls : Array Slot, lv_has ls nL (lv_args 0 vs) → W p l e rm s m vs.toArray below meth c s.heap [] 0 0 (MQ below Qc vs.toArray s mc ms (gA g)) (F0 m 0 ls [])) :
    Met l y (ws_ y cc nL ret) rm (va_Pc vs (Pre g H)) Qc mc ms (gA g) := by
  refine Met.ofW (cc := cc) (maxL := nL) (ret := ret) hy rfl ?_
  intro p e s m args below meth c s₁ B hml hv
  obtain ⟨rfl, hH, hK⟩ := hv
  have hts0 := atoms_spec (ws := ws_ y cc nL ret) B.pre
  have hts : ∀ w ∈ lw_all, w.before vs.toArray s = true := fun w h => hts0 w (List.mem_cons_of_mem _ h)
  rw [lg_entry_eq]
  exact body p e s m below meth c hH B.exec B.bytes B.returns hts (findClass_of_methodNamed B.named) B.notSynchronized hml (name_of_methodNamed B.named B.method).1 (by rw [hH]; exact hK) va_S.rf _ (lv_entry vs hlen)
section KC
variable {p : Program} {l : Launch} {e : Env} {R : Room} {s : State} {m : MethodId} {args : Array Value} {below : List Frame} {meth : Method} {c : Code} {H : Heap} {locs : List Loc} {cells slots : Nat} {Q : State → Prop}
variable {cc : ByteArray} {pc : Nat} {ls : Array Slot} {rest st0 : List Value} {g : GT} {a : Array Value} {mc ms : Nat}
theorem k_calli {post : Int32 → Heap → Prop} (hr : va_Run p l e R s m args below meth c H locs cells slots mc ms (F0 m pc ls st0) rest (Qi g post a) (gA g)) (hS : va_S (gA g) s.heap H locs)
    (kk : ∀ (r : Int32) (H1 : Heap) (locs1 : List Loc), post r H1 → va_S (gA g) s.heap H1 locs1 → W p l e R s m args below meth c H1 locs1 (cells + mc) (slots + ms) Q (F0 m (pc + 3) ls (.int r :: rest))) : W p l e R s m args below meth c H locs cells slots Q (F0 m pc ls st0) := by
  refine va_calli hr hS (fun _ _ h => h) (fun _ h => h) ?_
  intro r u t H1 locs1 ht hv hp hB hz hq hS2
  have e1 : u = H1 := by rw [← hB, ht]
  subst e1
  exact kk r u locs1 hp hS2
theorem k_calll {post : Int64 → Heap → Prop} (hr : va_Run p l e R s m args below meth c H locs cells slots mc ms (F0 m pc ls st0) rest (Ql g post a) (gA g)) (hS : va_S (gA g) s.heap H locs)
    (kk : ∀ (r : Int64) (H1 : Heap) (locs1 : List Loc), post r H1 → va_S (gA g) s.heap H1 locs1 → W p l e R s m args below meth c H1 locs1 (cells + mc) (slots + ms) Q (F0 m (pc + 3) ls (.long r :: rest))) : W p l e R s m args below meth c H locs cells slots Q (F0 m pc ls st0) := by
  refine va_calll hr hS (fun _ _ h => h) (fun _ h => h) ?_
  intro r u t H1 locs1 ht hv hp hB hz hq hS2
  have e1 : u = H1 := by rw [← hB, ht]
  subst e1
  exact kk r u locs1 hp hS2
theorem k_callv {post : Heap → Prop} (hr : va_Run p l e R s m args below meth c H locs cells slots mc ms (F0 m pc ls st0) rest (Qv g post a) (gA g)) (hS : va_S (gA g) s.heap H locs)
    (kk : ∀ (H1 : Heap) (locs1 : List Loc), post H1 → va_S (gA g) s.heap H1 locs1 → W p l e R s m args below meth c H1 locs1 (cells + mc) (slots + ms) Q (F0 m (pc + 3) ls rest)) : W p l e R s m args below meth c H locs cells slots Q (F0 m pc ls st0) := by
  refine va_callv hr hS (fun _ _ h => h) (fun _ h => h) ?_
  intro u t H1 locs1 ht hv hp hB hz hq hS2
  have e1 : u = H1 := by rw [← hB, ht]
  subst e1
  exact kk u locs1 hp hS2
theorem k_callr {post : Nat → Heap → Prop} (hr : va_Run p l e R s m args below meth c H locs cells slots mc ms (F0 m pc ls st0) rest (Qr g post a) (gA g)) (hS : va_S (gA g) s.heap H locs)
    (kk : ∀ (r : Nat) (H1 : Heap) (locs1 : List Loc), post r H1 → va_S (gA g) s.heap H1 locs1 → W p l e R s m args below meth c H1 locs1 (cells + mc) (slots + ms) Q (F0 m (pc + 3) ls (.ref r :: rest))) : W p l e R s m args below meth c H locs cells slots Q (F0 m pc ls st0) := by
  refine va_callr hr hS (fun _ _ h => h) (fun _ h => h) ?_
  intro u ra t H1 locs1 ht hv hp hB hz hq hS2
  have e1 : u = H1 := by rw [← hB.1, ht]
  subst e1
  exact kk ra u locs1 hB.2 hS2
theorem k_callq {post : Option Nat → Heap → Prop} (hr : va_Run p l e R s m args below meth c H locs cells slots mc ms (F0 m pc ls st0) rest (Qq g post a) (gA g)) (hS : va_S (gA g) s.heap H locs)
    (kk : ∀ (r : Option Nat) (H1 : Heap) (locs1 : List Loc), post r H1 → va_S (gA g) s.heap H1 locs1 → W p l e R s m args below meth c H1 locs1 (cells + mc) (slots + ms) Q (F0 m (pc + 3) ls (va_rf r :: rest))) : W p l e R s m args below meth c H locs cells slots Q (F0 m pc ls st0) := by
  refine va_callq hr hS (fun _ _ h => h) (fun _ h => h) ?_
  intro r u t H1 locs1 ht hv hp hB hz hq hS2
  have e1 : u = H1 := by rw [← hB, ht]
  subst e1
  exact kk r u locs1 hp hS2
/-- the heap is as it was -/
theorem k_calliS {post : Int32 → Prop} (hr : va_Run p l e R s m args below meth c H locs cells slots mc ms (F0 m pc ls st0) rest (Qi g (fun r H1 => H1 = H ∧ post r) a) (gA g)) (hS : va_S (gA g) s.heap H locs)
    (kk : ∀ (r : Int32) (locs1 : List Loc), post r → va_S (gA g) s.heap H locs1 → W p l e R s m args below meth c H locs1 (cells + mc) (slots + ms) Q (F0 m (pc + 3) ls (.int r :: rest))) : W p l e R s m args below meth c H locs cells slots Q (F0 m pc ls st0) := by
  refine k_calli hr hS ?_
  intro r H1 locs1 hp hS1
  obtain ⟨rfl, hp⟩ := hp
  exact kk r locs1 hp hS1
/-- the heap is as it was -/
theorem k_calllS {post : Int64 → Prop} (hr : va_Run p l e R s m args below meth c H locs cells slots mc ms (F0 m pc ls st0) rest (Ql g (fun r H1 => H1 = H ∧ post r) a) (gA g)) (hS : va_S (gA g) s.heap H locs)
    (kk : ∀ (r : Int64) (locs1 : List Loc), post r → va_S (gA g) s.heap H locs1 → W p l e R s m args below meth c H locs1 (cells + mc) (slots + ms) Q (F0 m (pc + 3) ls (.long r :: rest))) : W p l e R s m args below meth c H locs cells slots Q (F0 m pc ls st0) := by
  refine k_calll hr hS ?_
  intro r H1 locs1 hp hS1
  obtain ⟨rfl, hp⟩ := hp
  exact kk r locs1 hp hS1
/-- the heap is as it was -/
theorem k_callrS {post : Nat → Prop} (hr : va_Run p l e R s m args below meth c H locs cells slots mc ms (F0 m pc ls st0) rest (Qr g (fun r H1 => H1 = H ∧ post r) a) (gA g)) (hS : va_S (gA g) s.heap H locs)
    (kk : ∀ (r : Nat) (locs1 : List Loc), post r → va_S (gA g) s.heap H locs1 → W p l e R s m args below meth c H locs1 (cells + mc) (slots + ms) Q (F0 m (pc + 3) ls (.ref r :: rest))) : W p l e R s m args below meth c H locs cells slots Q (F0 m pc ls st0) := by
  refine k_callr hr hS ?_
  intro r H1 locs1 hp hS1
  obtain ⟨rfl, hp⟩ := hp
  exact kk r locs1 hp hS1
/-- the heap is as it was -/
theorem k_callqS {post : Option Nat → Prop} (hr : va_Run p l e R s m args below meth c H locs cells slots mc ms (F0 m pc ls st0) rest (Qq g (fun r H1 => H1 = H ∧ post r) a) (gA g)) (hS : va_S (gA g) s.heap H locs)
    (kk : ∀ (r : Option Nat) (locs1 : List Loc), post r → va_S (gA g) s.heap H locs1 → W p l e R s m args below meth c H locs1 (cells + mc) (slots + ms) Q (F0 m (pc + 3) ls (va_rf r :: rest))) : W p l e R s m args below meth c H locs cells slots Q (F0 m pc ls st0) := by
  refine k_callq hr hS ?_
  intro r H1 locs1 hp hS1
  obtain ⟨rfl, hp⟩ := hp
  exact kk r locs1 hp hS1
theorem k_ireti {post : Int32 → Heap → Prop} {v : Int32} {ty : FieldType} (hx : p.tables.exec = Jvm.exec) (hb : c.code = cc) (hr : meth.sig.returnType = some ty) (hn : narrow ty (.int v) = .int v) (hlk : meth.locks = false) (hS : va_S (gA g) s.heap H locs) (hc : cells ≤ mc) (hs : slots ≤ ms) (hp : post v H) (hdg : decode cc pc = .ok (.ireturn, 1)) : W p l e R s m args below meth c H locs cells slots (MQ below (Qi g post) args s mc ms (gA g)) (F0 m pc ls [.int v]) :=
  W.widen hc hs (W.zret (v := v) hx hb hr hn (fun _ ht _ => ⟨⟨v, H, rfl, hp, ht⟩, hS.F ht⟩) hS.2.2 hdg hlk)
theorem k_retl {post : Int64 → Heap → Prop} {v : Int64} (hx : p.tables.exec = Jvm.exec) (hb : c.code = cc) (hr : meth.sig.returnType = some .long) (hlk : meth.locks = false) (hS : va_S (gA g) s.heap H locs) (hc : cells ≤ mc) (hs : slots ≤ ms) (hp : post v H) (hdg : decode cc pc = .ok (.lreturn, 1)) : W p l e R s m args below meth c H locs cells slots (MQ below (Ql g post) args s mc ms (gA g)) (F0 m pc ls [.long v]) :=
  W.widen hc hs (W.lret (v := v) hx hb hr (fun _ ht _ => ⟨⟨v, H, rfl, hp, ht⟩, hS.F ht⟩) hS.2.2 hdg hlk)
theorem k_retv {post : Heap → Prop} (hx : p.tables.exec = Jvm.exec) (hb : c.code = cc) (hr : meth.sig.returnType = none) (hlk : meth.locks = false) (hS : va_S (gA g) s.heap H locs) (hc : cells ≤ mc) (hs : slots ≤ ms) (hp : post H) (hdg : decode cc pc = .ok (.return_, 1)) : W p l e R s m args below meth c H locs cells slots (MQ below (Qv g post) args s mc ms (gA g)) (F0 m pc ls []) :=
  W.widen hc hs (W.vret hx hb hr (fun _ ht _ => ⟨⟨H, rfl, hp, ht⟩, hS.F ht⟩) hS.2.2 hdg hlk)
theorem k_retr {post : Nat → Heap → Prop} {q : Nat} {rt : FieldType} (hx : p.tables.exec = Jvm.exec) (hb : c.code = cc) (hr : meth.sig.returnType = some rt) (hrt : (∃ n, rt = .object n) ∨ ∃ t, rt = .array t) (hlk : meth.locks = false) (hS : va_S (gA g) s.heap H locs) (hc : cells ≤ mc) (hs : slots ≤ ms) (hp : post q H) (hdg : decode cc pc = .ok (.areturn, 1)) : W p l e R s m args below meth c H locs cells slots (MQ below (Qr g post) args s mc ms (gA g)) (F0 m pc ls [.ref q]) :=
  W.widen hc hs (W.aret (v := .ref q) hx hb hr hrt (Or.inr ⟨q, rfl⟩) (fun _ ht _ => ⟨⟨H, q, rfl, trivial, ht, hp⟩, hS.F ht⟩) hS.2.2 hdg hlk)
theorem k_retq {post : Option Nat → Heap → Prop} {q : Option Nat} {rt : FieldType} (hx : p.tables.exec = Jvm.exec) (hb : c.code = cc) (hr : meth.sig.returnType = some rt) (hrt : (∃ n, rt = .object n) ∨ ∃ t, rt = .array t) (hlk : meth.locks = false) (hS : va_S (gA g) s.heap H locs) (hc : cells ≤ mc) (hs : slots ≤ ms) (hp : post q H) (hdg : decode cc pc = .ok (.areturn, 1)) : W p l e R s m args below meth c H locs cells slots (MQ below (Qq g post) args s mc ms (gA g)) (F0 m pc ls [va_rf q]) :=
  W.widen hc hs (W.aret (v := va_rf q) hx hb hr hrt (va_rf_or q) (fun _ ht _ => ⟨⟨q, H, rfl, hp, ht⟩, hS.F ht⟩) hS.2.2 hdg hlk)
theorem k_retqN {post : Option Nat → Heap → Prop} {rt : FieldType} (hx : p.tables.exec = Jvm.exec) (hb : c.code = cc) (hr : meth.sig.returnType = some rt) (hrt : (∃ n, rt = .object n) ∨ ∃ t, rt = .array t) (hlk : meth.locks = false) (hS : va_S (gA g) s.heap H locs) (hc : cells ≤ mc) (hs : slots ≤ ms) (hp : post none H) (hdg : decode cc pc = .ok (.areturn, 1)) : W p l e R s m args below meth c H locs cells slots (MQ below (Qq g post) args s mc ms (gA g)) (F0 m pc ls [.null]) :=
  k_retq (q := none) hx hb hr hrt hlk hS hc hs hp hdg
theorem k_retqS {post : Option Nat → Heap → Prop} {q : Nat} {rt : FieldType} (hx : p.tables.exec = Jvm.exec) (hb : c.code = cc) (hr : meth.sig.returnType = some rt) (hrt : (∃ n, rt = .object n) ∨ ∃ t, rt = .array t) (hlk : meth.locks = false) (hS : va_S (gA g) s.heap H locs) (hc : cells ≤ mc) (hs : slots ≤ ms) (hp : post (some q) H) (hdg : decode cc pc = .ok (.areturn, 1)) : W p l e R s m args below meth c H locs cells slots (MQ below (Qq g post) args s mc ms (gA g)) (F0 m pc ls [.ref q]) :=
  k_retq (q := some q) hx hb hr hrt hlk hS hc hs hp hdg
end KC
/-- a truth as a number -/
def b2i (p : Prop) [Decidable p] : Int32 := if p then 1 else 0
theorem b2i_t {p : Prop} [Decidable p] (h : p) : b2i p = 1 := if_pos h
theorem b2i_f {p : Prop} [Decidable p] (h : ¬ p) : b2i p = 0 := if_neg h
theorem b2i_1 {p : Prop} [Decidable p] : b2i p = 1 ↔ p := by unfold b2i; split <;> simp_all
theorem b2i_0 {p : Prop} [Decidable p] : b2i p = 0 ↔ ¬ p := by unfold b2i; split <;> simp_all
theorem b2t {p : Prop} [Decidable p] {r : Int32} (h : r = b2i p) (c : ¬ r = 0) : p := by
  subst h; exact Decidable.not_not.mp (fun z => c (b2i_f z))
theorem b2f {p : Prop} [Decidable p] {r : Int32} (h : r = b2i p) (c : r = 0) : ¬ p := by
  subst h; exact b2i_0.mp c
theorem b2n {p : Prop} [Decidable p] {r : Int32} (h : r = b2i p) : narrow .boolean (.int r) = .int r := by
  subst h; unfold b2i; split <;> rfl
theorem b2i_n {p : Prop} [Decidable p] : narrow .boolean (.int (b2i p)) = .int (b2i p) := by unfold b2i; split <;> rfl
theorem i_nlt {x y : Int32} (h : ¬ x < y) : y ≤ x := Int32.not_lt.mp h
theorem i_nle {x y : Int32} (h : ¬ x ≤ y) : y < x := Int32.not_le.mp h
/-- a literal is a Nat's number -/
theorem nlit (n : Nat) : (OfNat.ofNat n : Int32) = nI n := rfl
