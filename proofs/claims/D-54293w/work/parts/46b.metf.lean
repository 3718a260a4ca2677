/-! ===== the entry of a method whose class has members of the machine's own ===== -/
set_option maxRecDepth 100000
theorem k_metF {l : Launch} {y : MethodName} {cc : ByteArray} {nL : Nat} {ret : Option FieldType} {rm : Room} {Qc : Array Value → State → Outcome → State → Prop} {mc ms : Nat} {g : GT} {H : Heap} {vs : List Value} (hy : plainFor y = true) (hlen : (lg_sl vs).length ≤ nL)
    (body : ∀ (p : Program) (e : Env) (s : State) (m : MethodId) (below : List Frame) (meth : Method) (c : Code), s.heap = H → p.tables.exec = Jvm.exec → c.code = cc → meth.sig.returnType = ret → (∀ w ∈ lw_all, w.before vs.toArray s = true) → s.vm.findClass y.cls = some m.cls → meth.locks = false → c.maxLocals = nL → meth.name = y.name → PP g s s.heap → va_S (gA g) s.heap s.heap [] → ∀ ls : Array Slot, lv_has ls nL (lv_args 0 vs) → W p l e rm s m vs.toArray below meth c s.heap [] 0 0 (MQ below Qc vs.toArray s mc ms (gA g)) (F0 m 0 ls [])) :
    Met l y (ws_ y cc nL ret) rm (va_Pc vs (Pre g H)) Qc mc ms (gA g) := by
  refine va_MetF (cc := cc) (maxL := nL) (ret := ret) hy rfl ?_
  intro p e s m args below meth c s₁ B hml hv
  obtain ⟨rfl, hH, hK⟩ := hv
  have hts0 := atoms_spec (ws := ws_ y cc nL ret) B.pre
  have hts : ∀ w ∈ lw_all, w.before vs.toArray s = true := fun w h => hts0 w (List.mem_cons_of_mem _ h)
  rw [lg_entry_eq]
  exact body p e s m below meth c hH B.exec B.bytes B.returns hts (findClass_of_methodNamed B.named) B.notSynchronized hml (name_of_methodNamed B.named B.method).1 (by rw [hH]; exact hK) va_S.rf _ (lv_entry vs hlen)
