/-! ROWS OF CALLS, ANSWERS, AND A METHOD'S START -/
def zPc (g : zG) (av : List Value) (n : Nat) (I : zI) (J : zJ) (R : zR) : Array Value → State → Prop := va_Pc av (fun U => zK g U ∧ g.2.2.1 ≤ U.heap.size ∧ zRep g (n, I, J, R) U.heap)
def zQi (g : zG) (post : Int32 → zS → Prop) : Array Value → State → Outcome → State → Prop := va_Qi post (fun u t => zRep g u t.heap) (zA g)
def zQv (g : zG) (post : zS → Prop) : Array Value → State → Outcome → State → Prop := va_Qv post (fun u t => zRep g u t.heap) (zA g)
def zQq (g : zG) (k : Nat) (post : Option Nat → zS → Prop) : Array Value → State → Outcome → State → Prop := va_Qq (fun a u => ∃ r : Option Nat, a = r.map (zad g k) ∧ post r u) (fun u t => zRep g u t.heap) (zA g)
def zrm (fr lo mc ms : Nat) : Room := { frames := fr, cells := mc, slots := ms, locals := lo }
/-- a contract -/
def zMet (l : Launch) (g : zG) (y : MethodName) (b : ByteArray) (mL : Nat) (ret : Option FieldType) (fr lo mc ms : Nat) (Pc : Array Value → State → Prop) (Qc : Array Value → State → Outcome → State → Prop) : Prop := Met l y (zws y b mL ret) (zrm fr lo mc ms) Pc Qc mc ms (zA g)
/-- static facts of a call: an instance method of the class C; one that is private to a nest mate; a static one; a constructor -/
def zdn (y : MethodName) (na : Nat) : Prop := y.cls ≠ "java/lang/invoke/MethodHandle" ∧ y.cls ≠ "java/lang/invoke/VarHandle" ∧ (parseMethodDescriptor y.desc).map (fun d => d.parameters.length) = some na
def zCV (own : String) (idx : Nat) (C : String) (y : MethodName) (b : ByteArray) (mL : Nat) (ret : Option FieldType) (na : Nat) : Prop := Cond.methodLink own idx y ∈ zTB ∧ Cond.instanceMethod y ∈ zTB ∧ Cond.selects C y y ∈ zTB ∧ Cond.initialized C ∈ zTB ∧ Cond.code y b mL ret ∈ zTB ∧ y.cls = C ∧ zdn y na
def zCN (own : String) (idx : Nat) (host : String) (C : String) (y : MethodName) (b : ByteArray) (mL : Nat) (ret : Option FieldType) (na : Nat) : Prop := Cond.methodLinkNest own idx y host ∈ lw_tbl ∧ Cond.instanceMethod y ∈ zTB ∧ Cond.selects C y y ∈ zTB ∧ Cond.initialized C ∈ zTB ∧ Cond.code y b mL ret ∈ zTB ∧ y.cls = C ∧ zdn y na
def zCS (own : String) (idx : Nat) (y : MethodName) (b : ByteArray) (mL : Nat) (ret : Option FieldType) (na : Nat) : Prop := Cond.methodLink own idx y ∈ zTB ∧ Cond.static y ∈ zTB ∧ Cond.initialized y.cls ∈ zTB ∧ Cond.code y b mL ret ∈ zTB ∧ zdn y na
def zCI (own : String) (idx : Nat) (y : MethodName) (b : ByteArray) (mL na : Nat) : Prop := Cond.methodLink own idx y ∈ zTB ∧ Cond.instanceMethod y ∈ zTB ∧ Cond.initialized y.cls ∈ zTB ∧ Cond.code y b mL none ∈ zTB ∧ y.name = "<init>" ∧ zdn y na
def zCJ (own : String) (idx : Nat) (host : String) (y : MethodName) (b : ByteArray) (mL na : Nat) : Prop := Cond.methodLinkNest own idx y host ∈ lw_tbl ∧ Cond.instanceMethod y ∈ zTB ∧ Cond.initialized y.cls ∈ zTB ∧ Cond.code y b mL none ∈ zTB ∧ y.name = "<init>" ∧ zdn y na
/-- an abstract method x called, the method y of the class C selected -/
def zCU (own : String) (idx : Nat) (C owner : String) (x y : MethodName) (b : ByteArray) (mL : Nat) (ret : Option FieldType) (na : Nat) : Prop := Cond.methodLink own idx x ∈ zTB ∧ Cond.sameMethod x.cls owner x.name x.desc ∈ zTB ∧ Cond.selects C x y ∈ zTB ∧ Cond.instanceMethod y ∈ zTB ∧ Cond.initialized y.cls ∈ zTB ∧ Cond.declares ⟨owner, x.name, x.desc⟩ ∈ lw_tbl ∧ Cond.code y b mL ret ∈ zTB ∧ owner ≠ "java/lang/invoke/MethodHandle" ∧ owner ≠ "java/lang/invoke/VarHandle" ∧ (parseMethodDescriptor x.desc).map (fun d => d.parameters.length) = some na
theorem zPc.blind {g : zG} {av : List Value} {n : Nat} {I : zI} {J : zJ} {R : zR} : FrameBlind (zPc g av n I J R) := fun a U gf mk h => ⟨h.1, zK.moved (s := U) (U := U.calling gf mk a) (State.WarmedH.refl U) h.2.1, h.2.2.1, h.2.2.2⟩
section ZCALL
variable {p : Program} {l : Launch} {e : Env} {Rm : Room} {s : State} {m : MethodId} {args : Array Value} {below : List Frame} {meth : Method} {c : Code} {Q : State → Prop} {cells slots : Nat}
variable {cc : ByteArray} {own : String} {nL : Nat} {g : zG} {pc pc' : Nat} {ls : List (Option Value)} {st stk : List Value} {n : Nat} {I : zI} {J : zJ} {R : zR}
variable {y : MethodName} {b : ByteArray} {mL fr lo mc ms na idx : Nat} {ret : Option FieldType} {As : List Value} {Qc : Array Value → State → Outcome → State → Prop} {C host : String} {k i ci N : Nat}
def zRun (p : Program) (l : Launch) (e : Env) (Rm : Room) (s : State) (m : MethodId) (args : Array Value) (below : List Frame) (meth : Method) (c : Code) (g : zG) (nL cells slots mc ms pc pc' : Nat) (ls : List (Option Value)) (stk st : List Value) (n : Nat) (I : zI) (J : zJ) (R : zR) (Qa : State → Outcome → State → Prop) : Prop :=
  pc + 3 = pc' ∧ ∀ (H : Heap) (locs : List Loc) (la : Array Slot), zRep g (n, I, J, R) H → va_S (zA g) s.heap H locs → zL la nL ls → va_Run p l e Rm s m args below meth c H locs cells slots mc ms (F0 m pc la stk) st Qa (zA g)
theorem zC.pre (X : zC p s m args meth c cc own nL g) {H : Heap} {locs : List Loc} (hP : zRep g (n, I, J, R) H) (hS : va_S (zA g) s.heap H locs) (av : List Value) : ∀ U : State, U.heap = H → s.WarmedH U.vm → zPc g av n I J R av.toArray U := fun U hU hW => ⟨rfl, zK.moved hW X.2.2.2.2.2.1, by rw [hU]; exact Nat.le_trans X.2.2.2.2.2.2.1 hS.1, by rw [hU]; exact hP⟩
theorem zC.recv (X : zC p s m args meth c cc own nL g) {H : Heap} (hP : zRep g (n, I, J, R) H) (hv : zv g.2.2.2 k i) (hn : zn g.2.2.2 k i < n) (hs : zsh k i = .inl (ci, N)) {T : u_T} (hc : zcl[ci]? = some (C, T, N)) : ∃ cellB : Cell, H[zad g k i]? = some cellB ∧ cellB.vm.isStatics = false ∧ s.vm.findClass C = some cellB.cls := by
  obtain ⟨cell, q1, q2, q3, -⟩ := hP.obj hv hn hs
  exact ⟨cell, q1, by rw [q3]; rfl, by rw [q2]; exact (X.2.2.2.2.2.1.1.1 ci _ hc).2.1⟩
theorem z_rV (X : zC p s m args meth c cc own nL g) (cs : zCV own idx C y b mL ret na) {T : u_T} (hc : zcl[ci]? = some (C, T, N)) (hs : zsh k i = .inl (ci, N)) (hv : zv g.2.2.2 k i) (hn : zn g.2.2.2 k i < n) (hM : zMet l g y b mL ret fr lo mc ms (zPc g (.ref (zad g k i) :: As) n I J R) Qc)
    (hR : fr + 1 ≤ Rm.frames ∧ 8 + (mL + 11) + lo ≤ Rm.locals) (hna : As.length = na) (hst : stk = As.reverse ++ .ref (zad g k i) :: st) (hro : (st.map fun v => v.category).sum ≤ 8) (hf : cells + mc ≤ Rm.cells ∧ slots + ms ≤ Rm.slots) (hd : zD cc pc (.invokevirtual idx) 3 pc') :
    zRun p l e Rm s m args below meth c g nL cells slots mc ms pc pc' ls stk st n I J R (Qc (Value.ref (zad g k i) :: As).toArray) := by
  obtain ⟨w1, w2, w3, w4, w5, w6, w7⟩ := cs
  obtain ⟨hexec, hb, hown, hts, hml, hK, hB, hlocks⟩ := id X
  subst w6
  exact ⟨hd.2, fun H locs la hP hS hL => va_runV ⟨hexec, hb, hml, hown, hts⟩ hM ⟨callB_of na hts (zgood (fun w h => h) w5) rfl rfl rfl (hts _ w4) (hts _ w1) w7 hR, hts _ w2, hts _ w3⟩ ⟨zPc.blind, X.recv hP hv hn hs hc, X.pre hP hS _⟩ rfl hna hL.1 hst (lv_room hro) hd.1 hf⟩
theorem z_rN (X : zC p s m args meth c cc own nL g) (cs : zCN own idx host C y b mL ret na) {T : u_T} (hc : zcl[ci]? = some (C, T, N)) (hs : zsh k i = .inl (ci, N)) (hv : zv g.2.2.2 k i) (hn : zn g.2.2.2 k i < n) (hM : zMet l g y b mL ret fr lo mc ms (zPc g (.ref (zad g k i) :: As) n I J R) Qc)
    (hR : fr + 1 ≤ Rm.frames ∧ 8 + (mL + 11) + lo ≤ Rm.locals) (hna : As.length = na) (hst : stk = As.reverse ++ .ref (zad g k i) :: st) (hro : (st.map fun v => v.category).sum ≤ 8) (hf : cells + mc ≤ Rm.cells ∧ slots + ms ≤ Rm.slots) (hd : zD cc pc (.invokevirtual idx) 3 pc') :
    zRun p l e Rm s m args below meth c g nL cells slots mc ms pc pc' ls stk st n I J R (Qc (Value.ref (zad g k i) :: As).toArray) := by
  obtain ⟨w1, w2, w3, w4, w5, w6, w7⟩ := cs
  obtain ⟨hexec, hb, hown, hts, hml, hK, hB, hlocks⟩ := id X
  subst w6
  exact ⟨hd.2, fun H locs la hP hS hL => va_runVN ⟨hexec, hb, hml, hown, hts⟩ hM ⟨va_cnB na hts (zgood (fun w h => h) w5) rfl rfl rfl (hK.2.1 _ w1 rfl) (hts _ w4) w7 hR, hts _ w2, hts _ w3⟩ ⟨zPc.blind, X.recv hP hv hn hs hc, X.pre hP hS _⟩ rfl hna hL.1 hst (lv_room hro) hd.1 hf⟩
theorem z_rS (X : zC p s m args meth c cc own nL g) (cs : zCS own idx y b mL ret na) (hM : zMet l g y b mL ret fr lo mc ms (zPc g As n I J R) Qc)
    (hR : fr + 1 ≤ Rm.frames ∧ 8 + (mL + 11) + lo ≤ Rm.locals) (hna : As.length = na) (hst : stk = As.reverse ++ st) (hro : (st.map fun v => v.category).sum ≤ 8) (hf : cells + mc ≤ Rm.cells ∧ slots + ms ≤ Rm.slots) (hd : zD cc pc (.invokestatic idx) 3 pc') :
    zRun p l e Rm s m args below meth c g nL cells slots mc ms pc pc' ls stk st n I J R (Qc As.toArray) := by
  obtain ⟨w1, w2, w4, w5, w7⟩ := cs
  obtain ⟨hexec, hb, hown, hts, hml, hK, hB, hlocks⟩ := id X
  exact ⟨hd.2, fun H locs la hP hS hL => va_runS ⟨hexec, hb, hml, hown, hts⟩ hM ⟨callB_of na hts (zgood (fun w h => h) w5) rfl rfl rfl (hts _ w4) (hts _ w1) w7 hR, hts _ w2⟩ ⟨zPc.blind, X.pre hP hS _⟩ rfl hna hL.1 hst (lv_room hro) hd.1 hf⟩
theorem z_rI {q : Nat} (X : zC p s m args meth c cc own nL g) (cs : zCI own idx y b mL na) (hM : zMet l g y b mL none fr lo mc ms (zPc g (.ref q :: As) n I J R) Qc)
    (hR : fr + 1 ≤ Rm.frames ∧ 8 + (mL + 11) + lo ≤ Rm.locals) (hna : As.length = na) (hst : stk = As.reverse ++ .ref q :: st) (hro : (st.map fun v => v.category).sum ≤ 8) (hf : cells + mc ≤ Rm.cells ∧ slots + ms ≤ Rm.slots) (hd : zD cc pc (.invokespecial idx) 3 pc') :
    zRun p l e Rm s m args below meth c g nL cells slots mc ms pc pc' ls stk st n I J R (Qc (Value.ref q :: As).toArray) := by
  obtain ⟨w1, w2, w4, w5, w6, w7⟩ := cs
  obtain ⟨hexec, hb, hown, hts, hml, hK, hB, hlocks⟩ := id X
  exact ⟨hd.2, fun H locs la hP hS hL => va_runI ⟨hexec, hb, hml, hown, hts⟩ hM ⟨callB_of na hts (zgood (fun w h => h) w5) rfl rfl rfl (hts _ w4) (hts _ w1) w7 hR, w6, hts _ w2⟩ ⟨zPc.blind, X.pre hP hS _⟩ rfl hna hL.1 hst (lv_room hro) hd.1 hf⟩
theorem z_rJ {q : Nat} (X : zC p s m args meth c cc own nL g) (cs : zCJ own idx host y b mL na) (hM : zMet l g y b mL none fr lo mc ms (zPc g (.ref q :: As) n I J R) Qc)
    (hR : fr + 1 ≤ Rm.frames ∧ 8 + (mL + 11) + lo ≤ Rm.locals) (hna : As.length = na) (hst : stk = As.reverse ++ .ref q :: st) (hro : (st.map fun v => v.category).sum ≤ 8) (hf : cells + mc ≤ Rm.cells ∧ slots + ms ≤ Rm.slots) (hd : zD cc pc (.invokespecial idx) 3 pc') :
    zRun p l e Rm s m args below meth c g nL cells slots mc ms pc pc' ls stk st n I J R (Qc (Value.ref q :: As).toArray) := by
  obtain ⟨w1, w2, w4, w5, w6, w7⟩ := cs
  obtain ⟨hexec, hb, hown, hts, hml, hK, hB, hlocks⟩ := id X
  exact ⟨hd.2, fun H locs la hP hS hL => va_runIN ⟨hexec, hb, hml, hown, hts⟩ hM ⟨va_cnB na hts (zgood (fun w h => h) w5) rfl rfl rfl (hK.2.1 _ w1 rfl) (hts _ w4) w7 hR, w6, hts _ w2⟩ ⟨zPc.blind, X.pre hP hS _⟩ rfl hna hL.1 hst (lv_room hro) hd.1 hf⟩
theorem z_rU {owner : String} {x : MethodName} (X : zC p s m args meth c cc own nL g) (cs : zCU own idx C owner x y b mL ret na) {T : u_T} (hc : zcl[ci]? = some (C, T, N)) (hs : zsh k i = .inl (ci, N)) (hv : zv g.2.2.2 k i) (hn : zn g.2.2.2 k i < n) (hM : zMet l g y b mL ret fr lo mc ms (zPc g (.ref (zad g k i) :: As) n I J R) Qc)
    (hR : fr + 1 ≤ Rm.frames ∧ 8 + (mL + 11) + lo ≤ Rm.locals) (hna : As.length = na) (hst : stk = As.reverse ++ .ref (zad g k i) :: st) (hro : (st.map fun v => v.category).sum ≤ 8) (hf : cells + mc ≤ Rm.cells ∧ slots + ms ≤ Rm.slots) (hd : zD cc pc (.invokevirtual idx) 3 pc') :
    zRun p l e Rm s m args below meth c g nL cells slots mc ms pc pc' ls stk st n I J R (Qc (Value.ref (zad g k i) :: As).toArray) := by
  obtain ⟨w1, w2, w3, w4, w5, w6, w7, w8⟩ := cs
  obtain ⟨hexec, hb, hown, hts, hml, hK, hB, hlocks⟩ := id X
  have hG : GoodIn zTB (va_wsU own idx C owner x y (zws y b mL ret)) := by
    have key : ∀ w ∈ zTB, w ∈ zTB ∧ ((w.onTables && w.keeps) = true ∨ ∃ ty, w = .arrayClass ty) := fun w hw => ⟨hw, good_of_word (List.mem_filter.mp hw).2⟩
    intro w hw
    unfold va_wsU at hw
    rcases List.mem_append.mp hw with h | h
    · simp only [List.mem_cons, List.not_mem_nil, or_false] at h
      rcases h with rfl | rfl | rfl | rfl | rfl
      · exact key _ w1
      · exact key _ w2
      · exact key _ w3
      · exact key _ w4
      · exact key _ w5
    · exact zgood (fun w h => h) w7 w h
  exact ⟨hd.2, fun H locs la hP hS hL => va_runU ⟨hexec, hb, hml, hown, hts⟩ hM (va_cwA na hts hG rfl rfl rfl (hK.2.1 _ w6 rfl) w8 hR) ⟨zPc.blind, X.recv hP hv hn hs hc, X.pre hP hS _⟩ rfl hna hL.1 hst (lv_room hro) hd.1 hf⟩
theorem z_ci {post : Int32 → zS → Prop} {a : Array Value} (hr : zRun p l e Rm s m args below meth c g nL cells slots mc ms pc pc' ls stk st n I J R (zQi g post a)) (kk : ∀ (r : Int32) (n2 : Nat) (I2 : zI) (J2 : zJ) (R2 : zR), post r (n2, I2, J2, R2) → zV p l e Rm s m args below meth c g nL Q (cells + mc) (slots + ms) pc' ls (.int r :: st) n2 I2 J2 R2) : zV p l e Rm s m args below meth c g nL Q cells slots pc ls stk n I J R := by
  obtain ⟨rfl, hr⟩ := hr
  intro H locs la hP hS hL
  exact va_calli (hr H locs la hP hS hL) hS (fun q _ h => h) (fun q h => h) (fun r u t H1 locs1 ht hvm hp hB hz hk hS1 => kk r u.1 u.2.1 u.2.2.1 u.2.2.2 hp H1 locs1 la (by rw [← ht]; exact hB) hS1 hL)
theorem z_cv {post : zS → Prop} {a : Array Value} (hr : zRun p l e Rm s m args below meth c g nL cells slots mc ms pc pc' ls stk st n I J R (zQv g post a)) (kk : ∀ (n2 : Nat) (I2 : zI) (J2 : zJ) (R2 : zR), post (n2, I2, J2, R2) → zV p l e Rm s m args below meth c g nL Q (cells + mc) (slots + ms) pc' ls st n2 I2 J2 R2) : zV p l e Rm s m args below meth c g nL Q cells slots pc ls stk n I J R := by
  obtain ⟨rfl, hr⟩ := hr
  intro H locs la hP hS hL
  exact va_callv (hr H locs la hP hS hL) hS (fun q _ h => h) (fun q h => h) (fun u t H1 locs1 ht hvm hp hB hz hk hS1 => kk u.1 u.2.1 u.2.2.1 u.2.2.2 hp H1 locs1 la (by rw [← ht]; exact hB) hS1 hL)
theorem z_cq {t0 : Nat} {post : Option Nat → zS → Prop} {a : Array Value} (hr : zRun p l e Rm s m args below meth c g nL cells slots mc ms pc pc' ls stk st n I J R (zQq g t0 post a)) (kk : ∀ (r : Option Nat) (n2 : Nat) (I2 : zI) (J2 : zJ) (R2 : zR), post r (n2, I2, J2, R2) → zV p l e Rm s m args below meth c g nL Q (cells + mc) (slots + ms) pc' ls (va_rf (r.map (zad g t0)) :: st) n2 I2 J2 R2) : zV p l e Rm s m args below meth c g nL Q cells slots pc ls stk n I J R := by
  obtain ⟨rfl, hr⟩ := hr
  intro H locs la hP hS hL
  refine va_callq (hr H locs la hP hS hL) hS (fun q _ h => h) (fun q h => h) (fun a u t H1 locs1 ht hvm hp hB hz hk hS1 => ?_)
  obtain ⟨r, rfl, hp⟩ := hp
  exact kk r u.1 u.2.1 u.2.2.1 u.2.2.2 hp H1 locs1 la (by rw [← ht]; exact hB) hS1 hL
/-! answers -/
theorem z_iret {post : Int32 → zS → Prop} {v : Int32} (X : zC p s m args meth c cc own nL g) {ty : FieldType} (hr : meth.sig.returnType = some ty) (hnr : narrow ty (.int v) = .int v) (hc : cells ≤ mc) (hs : slots ≤ ms) (hp : post v (n, I, J, R)) (hd : zD cc pc .ireturn 1 pc') : zV p l e Rm s m args below meth c g nL (MQ below (zQi g post) args s mc ms (zA g)) cells slots pc ls [.int v] n I J R := by
  intro H locs la hP hS hL
  refine W.widen hc hs ?_
  exact W.zret X.1 X.2.1 hr hnr (fun t ht hW => ⟨⟨v, (n, I, J, R), rfl, hp, by show zRep _ _ t.heap; rw [ht]; exact hP⟩, hS.F ht⟩) hS.2.2 hd.1 X.2.2.2.2.2.2.2
theorem z_vret {post : zS → Prop} (X : zC p s m args meth c cc own nL g) (hr : meth.sig.returnType = none) (hc : cells ≤ mc) (hs : slots ≤ ms) (hp : post (n, I, J, R)) (hd : zD cc pc .return_ 1 pc') : zV p l e Rm s m args below meth c g nL (MQ below (zQv g post) args s mc ms (zA g)) cells slots pc ls [] n I J R := by
  intro H locs la hP hS hL
  refine W.widen hc hs ?_
  exact W.vret X.1 X.2.1 hr (fun t ht hW => ⟨⟨(n, I, J, R), rfl, hp, by show zRep _ _ t.heap; rw [ht]; exact hP⟩, hS.F ht⟩) hS.2.2 hd.1 X.2.2.2.2.2.2.2
theorem z_aret {t0 : Nat} {post : Option Nat → zS → Prop} {v : Value} (r : Option Nat) (X : zC p s m args meth c cc own nL g) {C : String} (hr : meth.sig.returnType = some (.object C)) (hv : v = va_rf (r.map (zad g t0))) (hc : cells ≤ mc) (hs : slots ≤ ms) (hp : post r (n, I, J, R)) (hd : zD cc pc .areturn 1 pc') : zV p l e Rm s m args below meth c g nL (MQ below (zQq g t0 post) args s mc ms (zA g)) cells slots pc ls [v] n I J R := by
  subst hv
  intro H locs la hP hS hL
  refine W.widen hc hs ?_
  exact W.aret X.1 X.2.1 hr (Or.inl ⟨_, rfl⟩) (va_rf_or _) (fun t ht hW => ⟨⟨r.map (zad g t0), (n, I, J, R), rfl, ⟨r, rfl, hp⟩, by show zRep _ _ t.heap; rw [ht]; exact hP⟩, hS.F ht⟩) hS.2.2 hd.1 X.2.2.2.2.2.2.2
end ZCALL
/-! a method's start -/
def zsl : List Value → List (Option Value)
  | [] => []
  | v :: vs => if v.category = 2 then some v :: none :: zsl vs else some v :: zsl vs
theorem zsl_args : ∀ (vs : List Value) (o i : Nat) (v : Value), zlg (zsl vs) i = some v → (o + i, v) ∈ lv_args o vs
  | [], o, i, v, h => by simp [zsl, zlg] at h
  | w :: vs, o, i, v, h => by
    unfold lv_args
    unfold zsl at h
    by_cases hc : w.category = 2
    · rw [if_pos hc] at h ⊢
      match i, h with
      | 0, h => simp [zlg] at h; subst h; exact List.mem_cons_self
      | 1, h => simp [zlg] at h
      | i + 2, h =>
        have := zsl_args vs (o + 2) i v (by simpa [zlg] using h)
        rw [show o + (i + 2) = o + 2 + i by omega]
        exact List.mem_cons_of_mem _ this
    · rw [if_neg hc] at h ⊢
      match i, h with
      | 0, h => simp [zlg] at h; subst h; exact List.mem_cons_self
      | i + 1, h =>
        have := zsl_args vs (o + 1) i v (by simpa [zlg] using h)
        rw [show o + (i + 1) = o + 1 + i by omega]
        exact List.mem_cons_of_mem _ this
theorem zlg_app (l : List (Option Value)) (k i : Nat) (v : Value) (h : zlg (l ++ List.replicate k none) i = some v) : zlg l i = some v := by
  induction l generalizing i with
  | nil =>
    simp only [List.nil_append] at h
    exfalso
    induction k generalizing i with
    | zero => simp [zlg] at h
    | succ k ih =>
      rw [List.replicate_succ] at h
      cases i with
      | zero => simp [zlg] at h
      | succ i => exact ih i (by simpa [zlg] using h)
  | cons a l ih =>
    cases i with
    | zero => simpa [zlg] using h
    | succ i => simp only [List.cons_append, zlg] at h ⊢; exact ih i h
theorem zMet.of {l : Launch} {g : zG} {y : MethodName} {b : ByteArray} {mL fr lo mc ms : Nat} {ret : Option FieldType} {av : List Value} {n : Nat} {I : zI} {J : zJ} {R : zR} {Qc : Array Value → State → Outcome → State → Prop} (hy : plainName y.cls = true) (ls : List (Option Value)) (hls : zsl av ++ List.replicate (mL - (lg_sl av).length) none = ls) (hlen : (lg_sl av).length ≤ mL)
    (body : ∀ (p : Program) (e : Env) (s : State) (m : MethodId) (args : Array Value) (below : List Frame) (meth : Method) (c : Code), zC p s m args meth c b y.cls mL g → meth.sig.returnType = ret → meth.name = y.name → zV p l e (zrm fr lo mc ms) s m args below meth c g mL (MQ below Qc args s mc ms (zA g)) 0 0 0 ls [] n I J R) : zMet l g y b mL ret fr lo mc ms (zPc g av n I J R) Qc := by
  refine Met.ofW (cc := b) (maxL := mL) (ret := ret) hy rfl ?_
  intro p e s m args below meth c s₁ B hml hv
  obtain ⟨rfl, hK, hB0, hP⟩ := hv
  have hts := atoms_spec (ws := zws y b mL ret) B.pre
  have X : zC p s m av.toArray meth c b y.cls mL g := ⟨B.exec, B.bytes, findClass_of_methodNamed B.named, fun w hw => hts w (List.mem_cons_of_mem _ hw), hml, hK, hB0, B.notSynchronized⟩
  have hl := lv_entry av (n := mL) hlen
  rw [lg_entry_eq]
  refine body p e s m av.toArray below meth c X B.returns (name_of_methodNamed B.named B.method).1 s.heap [] _ hP va_S.rf ⟨hl.1, hl.2.1, fun i v hi => ?_⟩
  rw [← hls] at hi
  exact hl.2.2 (i, v) (by have := zsl_args av 0 i v (zlg_app _ _ _ _ hi); simpa using this)
