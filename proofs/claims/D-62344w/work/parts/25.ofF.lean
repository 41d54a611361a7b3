theorem zMet.ofF {l : Launch} {g : zG} {y : MethodName} {b : ByteArray} {mL fr lo mc ms : Nat} {ret : Option FieldType} {av : List Value} {n : Nat} {I : zI} {J : zJ} {R : zR} {Qc : Array Value → State → Outcome → State → Prop} (hy : plainFor y = true) (ls : List (Option Value)) (hls : zsl av ++ List.replicate (mL - (lg_sl av).length) none = ls) (hlen : (lg_sl av).length ≤ mL)
    (body : ∀ (p : Program) (e : Env) (s : State) (m : MethodId) (args : Array Value) (below : List Frame) (meth : Method) (c : Code), zC p s m args meth c b y.cls mL g → meth.sig.returnType = ret → meth.name = y.name → zV p l e (zrm fr lo mc ms) s m args below meth c g mL (MQ below Qc args s mc ms (zA g)) 0 0 0 ls [] n I J R) : zMet l g y b mL ret fr lo mc ms (zPc g av n I J R) Qc := by
  refine va_MetF (cc := b) (maxL := mL) (ret := ret) hy rfl ?_
  intro p e s m args below meth c s₁ B hml hv
  obtain ⟨rfl, hK, hB0, hP⟩ := hv
  have hts := atoms_spec (ws := zws y b mL ret) B.pre
  have X : zC p s m av.toArray meth c b y.cls mL g := ⟨B.exec, B.bytes, findClass_of_methodNamed B.named, fun w hw => hts w (List.mem_cons_of_mem _ hw), hml, hK, hB0, B.notSynchronized⟩
  have hl := lv_entry av (n := mL) hlen
  rw [lg_entry_eq]
  refine body p e s m av.toArray below meth c X B.returns (name_of_methodNamed B.named B.method).1 s.heap [] _ hP va_S.rf ⟨hl.1, hl.2.1, fun i v hi => ?_⟩
  rw [← hls] at hi
  exact hl.2.2 (i, v) (by have := zsl_args av 0 i v (zlg_app _ _ _ _ hi); simpa using this)
