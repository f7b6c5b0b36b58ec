/-- a method's walk from its entry -/
theorem c_start {l : Launch} {y : MethodName} {cc : ByteArray} {maxL : Nat} {ret : Option FieldType} {rm : Room} {G : gG} {av : List Value} {B : Heap → Prop} {Qc : Array Value → State → Outcome → State → Prop} {mc ms : Nat} {free : Addr → Prop} (hy : plainName y.cls = true) (hlen : (lg_sl av).length ≤ maxL)
    (body : ∀ (p : Program) (e : Env) (s : State) (m : MethodId) (below : List Frame) (meth : Method) (c : Code), p.tables.exec = Jvm.exec → c.code = cc → meth.sig.returnType = ret → meth.locks = false → c.maxLocals = maxL → s.vm.findClass y.cls = some m.cls → (∀ w ∈ lw_all, w.before av.toArray s = true) → B s.heap → KK G s → ∀ ls : Array Slot, lv_has ls maxL (lv_args 0 av) → W p l e rm s m av.toArray below meth c s.heap [] 0 0 (MQ below Qc av.toArray s mc ms free) (F0 m 0 ls [])) :
    Met l y (ws_ y cc maxL ret) rm (cP G av B) Qc mc ms free := by
  refine Met.ofW (cc := cc) (maxL := maxL) (ret := ret) hy rfl ?_
  intro p e s m args below meth c s₁ Bd hml hv
  obtain ⟨rfl, hB, hK⟩ := hv
  have hts := atoms_spec (ws := ws_ y cc maxL ret) Bd.pre
  rw [lg_entry_eq]
  exact body p e s m below meth c Bd.exec Bd.bytes Bd.returns Bd.notSynchronized hml (findClass_of_methodNamed Bd.named) (fun w h => hts w (List.mem_cons_of_mem _ h)) hB hK _ (lv_entry av hlen)
/-- the same of a constructor, which may write final fields -/
theorem c_startI {l : Launch} {y : MethodName} {cc : ByteArray} {maxL : Nat} {ret : Option FieldType} {rm : Room} {G : gG} {av : List Value} {B : Heap → Prop} {Qc : Array Value → State → Outcome → State → Prop} {mc ms : Nat} {free : Addr → Prop} (hy : plainName y.cls = true) (hlen : (lg_sl av).length ≤ maxL)
    (body : ∀ (p : Program) (e : Env) (s : State) (m : MethodId) (below : List Frame) (meth : Method) (c : Code), p.tables.exec = Jvm.exec → c.code = cc → meth.sig.returnType = ret → meth.locks = false → c.maxLocals = maxL → s.vm.findClass y.cls = some m.cls → (∀ w ∈ lw_all, w.before av.toArray s = true) → B s.heap → KK G s → meth.name = y.name → ∀ ls : Array Slot, lv_has ls maxL (lv_args 0 av) → W p l e rm s m av.toArray below meth c s.heap [] 0 0 (MQ below Qc av.toArray s mc ms free) (F0 m 0 ls [])) :
    Met l y (ws_ y cc maxL ret) rm (cP G av B) Qc mc ms free := by
  refine Met.ofW (cc := cc) (maxL := maxL) (ret := ret) hy rfl ?_
  intro p e s m args below meth c s₁ Bd hml hv
  obtain ⟨rfl, hB, hK⟩ := hv
  have hts := atoms_spec (ws := ws_ y cc maxL ret) Bd.pre
  rw [lg_entry_eq]
  exact body p e s m below meth c Bd.exec Bd.bytes Bd.returns Bd.notSynchronized hml (findClass_of_methodNamed Bd.named) (fun w h => hts w (List.mem_cons_of_mem _ h)) hB hK (name_of_methodNamed Bd.named Bd.method).1 _ (lv_entry av hlen)
theorem bI_nar (P : Prop) : narrow .boolean (.int (bI P)) = .int (bI P) := by
  by_cases h : P
  · rw [bI_t h]; rfl
  · rw [bI_f h]; rfl
