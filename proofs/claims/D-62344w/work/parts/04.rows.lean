/-! THE JUDGEMENT zV: the machine at pc with locals ls and stack st, over any heap that represents the state (n, I, J, R), comes to Q. One row an instruction. -/
def zD (cc : ByteArray) (pc : Nat) (ins : Instr) (len pc' : Nat) : Prop := decode cc pc = .ok (ins, len) ∧ pc + len = pc'
def zA (g : zG) : Nat → Prop := fun q => g.2.2.1 ≤ q
def zC (p : Program) (s : State) (m : MethodId) (args : Array Value) (meth : Method) (c : Code) (cc : ByteArray) (own : String) (nL : Nat) (g : zG) : Prop :=
  p.tables.exec = Jvm.exec ∧ c.code = cc ∧ s.vm.findClass own = some m.cls ∧ (∀ w ∈ zTB, w.before args s = true) ∧ c.maxLocals = nL ∧ zK g s ∧ g.2.2.1 ≤ s.heap.size ∧ meth.locks = false
def zV (p : Program) (l : Launch) (e : Env) (Rm : Room) (s : State) (m : MethodId) (args : Array Value) (below : List Frame) (meth : Method) (c : Code) (g : zG) (nL : Nat) (Q : State → Prop) (cells slots pc : Nat) (ls : List (Option Value)) (st : List Value) (n : Nat) (I : zI) (J : zJ) (R : zR) : Prop :=
  ∀ (H : Heap) (locs : List Loc) (la : Array Slot), zRep g (n, I, J, R) H → va_S (zA g) s.heap H locs → zL la nL ls → W p l e Rm s m args below meth c H locs cells slots Q (F0 m pc la st)
section ZV
variable {p : Program} {l : Launch} {e : Env} {Rm : Room} {s : State} {m : MethodId} {args : Array Value} {below : List Frame} {meth : Method} {c : Code} {Q : State → Prop} {cells slots : Nat}
variable {cc : ByteArray} {own : String} {nL : Nat} {g : zG} {pc pc' : Nat} {ls : List (Option Value)} {st : List Value} {n : Nat} {I : zI} {J : zJ} {R : zR}

theorem z_iconst (X : zC p s m args meth c cc own nL g) {a : Int} {v : Int32} (hd : zD cc pc (.iconst a) 1 pc') (hv : Int32.ofInt a = v) (kk : zV p l e Rm s m args below meth c g nL Q cells slots pc' ls (.int v :: st) n I J R) : zV p l e Rm s m args below meth c g nL Q cells slots pc ls (st) n I J R := by
  obtain ⟨hd, rfl⟩ := hd
  intro H locs la hP hS hL
  exact lv_iconst X.1 X.2.1 hd hv (kk H locs la hP hS hL)
theorem z_bipush (X : zC p s m args meth c cc own nL g) {a : Int} {v : Int32} (hd : zD cc pc (.bipush a) 2 pc') (hv : (Int8.ofInt a).toInt32 = v) (kk : zV p l e Rm s m args below meth c g nL Q cells slots pc' ls (.int v :: st) n I J R) : zV p l e Rm s m args below meth c g nL Q cells slots pc ls (st) n I J R := by
  obtain ⟨hd, rfl⟩ := hd
  intro H locs la hP hS hL
  exact lv_bipush X.1 X.2.1 hd hv (kk H locs la hP hS hL)
theorem z_sipush (X : zC p s m args meth c cc own nL g) {a : Int} {v : Int32} (hd : zD cc pc (.sipush a) 3 pc') (hv : (Int16.ofInt a).toInt32 = v) (kk : zV p l e Rm s m args below meth c g nL Q cells slots pc' ls (.int v :: st) n I J R) : zV p l e Rm s m args below meth c g nL Q cells slots pc ls (st) n I J R := by
  obtain ⟨hd, rfl⟩ := hd
  intro H locs la hP hS hL
  exact lv_sipush X.1 X.2.1 hd hv (kk H locs la hP hS hL)
theorem z_lconst (X : zC p s m args meth c cc own nL g) {a : Fin 2} {v : Int64} (hd : zD cc pc (.lconst a) 1 pc') (hv : Int64.ofNat (a : Nat) = v) (kk : zV p l e Rm s m args below meth c g nL Q cells slots pc' ls (.long v :: st) n I J R) : zV p l e Rm s m args below meth c g nL Q cells slots pc ls (st) n I J R := by
  obtain ⟨hd, rfl⟩ := hd
  intro H locs la hP hS hL
  exact lv_lconst X.1 X.2.1 hd hv (kk H locs la hP hS hL)
theorem z_iload_n (X : zC p s m args meth c cc own nL g) {k : Fin 4} {x : Int32} (hd : zD cc pc (.iload_n k) 1 pc') (hl : zlg ls (k : Nat) = some (.int x)) (kk : zV p l e Rm s m args below meth c g nL Q cells slots pc' ls (.int x :: st) n I J R) : zV p l e Rm s m args below meth c g nL Q cells slots pc ls (st) n I J R := by
  obtain ⟨hd, rfl⟩ := hd
  intro H locs la hP hS hL
  exact lv_iload_n X.1 X.2.1 hd rfl (hL.2.2 _ _ hl) (kk H locs la hP hS hL)
theorem z_iload (X : zC p s m args meth c cc own nL g) {k : Nat} {x : Int32} (hd : zD cc pc (.iload k) 2 pc') (hl : zlg ls k = some (.int x)) (kk : zV p l e Rm s m args below meth c g nL Q cells slots pc' ls (.int x :: st) n I J R) : zV p l e Rm s m args below meth c g nL Q cells slots pc ls (st) n I J R := by
  obtain ⟨hd, rfl⟩ := hd
  intro H locs la hP hS hL
  exact lv_iload X.1 X.2.1 hd (hL.2.2 _ _ hl) (kk H locs la hP hS hL)
theorem z_lload_n (X : zC p s m args meth c cc own nL g) {k : Fin 4} {x : Int64} (hd : zD cc pc (.lload_n k) 1 pc') (hl : zlg ls (k : Nat) = some (.long x)) (kk : zV p l e Rm s m args below meth c g nL Q cells slots pc' ls (.long x :: st) n I J R) : zV p l e Rm s m args below meth c g nL Q cells slots pc ls (st) n I J R := by
  obtain ⟨hd, rfl⟩ := hd
  intro H locs la hP hS hL
  exact lv_lload_n X.1 X.2.1 hd rfl (hL.2.2 _ _ hl) (kk H locs la hP hS hL)
theorem z_lload (X : zC p s m args meth c cc own nL g) {k : Nat} {x : Int64} (hd : zD cc pc (.lload k) 2 pc') (hl : zlg ls k = some (.long x)) (kk : zV p l e Rm s m args below meth c g nL Q cells slots pc' ls (.long x :: st) n I J R) : zV p l e Rm s m args below meth c g nL Q cells slots pc ls (st) n I J R := by
  obtain ⟨hd, rfl⟩ := hd
  intro H locs la hP hS hL
  exact lv_lload X.1 X.2.1 hd (hL.2.2 _ _ hl) (kk H locs la hP hS hL)
theorem z_aload_n (X : zC p s m args meth c cc own nL g) {k : Fin 4} {x : Nat} (hd : zD cc pc (.aload_n k) 1 pc') (hl : zlg ls (k : Nat) = some (.ref x)) (kk : zV p l e Rm s m args below meth c g nL Q cells slots pc' ls (.ref x :: st) n I J R) : zV p l e Rm s m args below meth c g nL Q cells slots pc ls (st) n I J R := by
  obtain ⟨hd, rfl⟩ := hd
  intro H locs la hP hS hL
  exact lv_aload_n X.1 X.2.1 hd rfl (hL.2.2 _ _ hl) (kk H locs la hP hS hL)
theorem z_aload (X : zC p s m args meth c cc own nL g) {k : Nat} {x : Nat} (hd : zD cc pc (.aload k) 2 pc') (hl : zlg ls k = some (.ref x)) (kk : zV p l e Rm s m args below meth c g nL Q cells slots pc' ls (.ref x :: st) n I J R) : zV p l e Rm s m args below meth c g nL Q cells slots pc ls (st) n I J R := by
  obtain ⟨hd, rfl⟩ := hd
  intro H locs la hP hS hL
  exact lv_aload X.1 X.2.1 hd (hL.2.2 _ _ hl) (kk H locs la hP hS hL)
theorem z_aload_nN (X : zC p s m args meth c cc own nL g) {k : Fin 4} (hd : zD cc pc (.aload_n k) 1 pc') (hl : zlg ls (k : Nat) = some .null) (kk : zV p l e Rm s m args below meth c g nL Q cells slots pc' ls (.null :: st) n I J R) : zV p l e Rm s m args below meth c g nL Q cells slots pc ls (st) n I J R := by
  obtain ⟨hd, rfl⟩ := hd
  intro H locs la hP hS hL
  exact lv_aload_nN X.1 X.2.1 hd rfl (hL.2.2 _ _ hl) (kk H locs la hP hS hL)
theorem z_aloadN (X : zC p s m args meth c cc own nL g) {k : Nat} (hd : zD cc pc (.aload k) 2 pc') (hl : zlg ls k = some .null) (kk : zV p l e Rm s m args below meth c g nL Q cells slots pc' ls (.null :: st) n I J R) : zV p l e Rm s m args below meth c g nL Q cells slots pc ls (st) n I J R := by
  obtain ⟨hd, rfl⟩ := hd
  intro H locs la hP hS hL
  exact lv_aloadN X.1 X.2.1 hd (hL.2.2 _ _ hl) (kk H locs la hP hS hL)
theorem z_null (X : zC p s m args meth c cc own nL g)  (hd : zD cc pc (.aconst_null) 1 pc') (kk : zV p l e Rm s m args below meth c g nL Q cells slots pc' ls (.null :: st) n I J R) : zV p l e Rm s m args below meth c g nL Q cells slots pc ls (st) n I J R := by
  obtain ⟨hd, rfl⟩ := hd
  intro H locs la hP hS hL
  exact lv_null X.1 X.2.1 hd  (kk H locs la hP hS hL)
theorem z_iadd (X : zC p s m args meth c cc own nL g) {x y : Int32} (hd : zD cc pc (.iadd) 1 pc') (kk : zV p l e Rm s m args below meth c g nL Q cells slots pc' ls (.int (x + y) :: st) n I J R) : zV p l e Rm s m args below meth c g nL Q cells slots pc ls (.int y :: .int x :: st) n I J R := by
  obtain ⟨hd, rfl⟩ := hd
  intro H locs la hP hS hL
  exact lv_iadd X.1 X.2.1 hd  (kk H locs la hP hS hL)
theorem z_isub (X : zC p s m args meth c cc own nL g) {x y : Int32} (hd : zD cc pc (.isub) 1 pc') (kk : zV p l e Rm s m args below meth c g nL Q cells slots pc' ls (.int (x - y) :: st) n I J R) : zV p l e Rm s m args below meth c g nL Q cells slots pc ls (.int y :: .int x :: st) n I J R := by
  obtain ⟨hd, rfl⟩ := hd
  intro H locs la hP hS hL
  exact lv_isub X.1 X.2.1 hd  (kk H locs la hP hS hL)
theorem z_imul (X : zC p s m args meth c cc own nL g) {x y : Int32} (hd : zD cc pc (.imul) 1 pc') (kk : zV p l e Rm s m args below meth c g nL Q cells slots pc' ls (.int (x * y) :: st) n I J R) : zV p l e Rm s m args below meth c g nL Q cells slots pc ls (.int y :: .int x :: st) n I J R := by
  obtain ⟨hd, rfl⟩ := hd
  intro H locs la hP hS hL
  exact lv_imul X.1 X.2.1 hd  (kk H locs la hP hS hL)
theorem z_iand (X : zC p s m args meth c cc own nL g) {x y : Int32} (hd : zD cc pc (.iand) 1 pc') (kk : zV p l e Rm s m args below meth c g nL Q cells slots pc' ls (.int (x &&& y) :: st) n I J R) : zV p l e Rm s m args below meth c g nL Q cells slots pc ls (.int y :: .int x :: st) n I J R := by
  obtain ⟨hd, rfl⟩ := hd
  intro H locs la hP hS hL
  exact lv_iand X.1 X.2.1 hd  (kk H locs la hP hS hL)
theorem z_ior (X : zC p s m args meth c cc own nL g) {x y : Int32} (hd : zD cc pc (.ior) 1 pc') (kk : zV p l e Rm s m args below meth c g nL Q cells slots pc' ls (.int (x ||| y) :: st) n I J R) : zV p l e Rm s m args below meth c g nL Q cells slots pc ls (.int y :: .int x :: st) n I J R := by
  obtain ⟨hd, rfl⟩ := hd
  intro H locs la hP hS hL
  exact lv_ior X.1 X.2.1 hd  (kk H locs la hP hS hL)
theorem z_ixor (X : zC p s m args meth c cc own nL g) {x y : Int32} (hd : zD cc pc (.ixor) 1 pc') (kk : zV p l e Rm s m args below meth c g nL Q cells slots pc' ls (.int (x ^^^ y) :: st) n I J R) : zV p l e Rm s m args below meth c g nL Q cells slots pc ls (.int y :: .int x :: st) n I J R := by
  obtain ⟨hd, rfl⟩ := hd
  intro H locs la hP hS hL
  exact lv_ixor X.1 X.2.1 hd  (kk H locs la hP hS hL)
theorem z_ishl (X : zC p s m args meth c cc own nL g) {x y : Int32} (hd : zD cc pc (.ishl) 1 pc') (kk : zV p l e Rm s m args below meth c g nL Q cells slots pc' ls (.int (x <<< (y &&& 31)) :: st) n I J R) : zV p l e Rm s m args below meth c g nL Q cells slots pc ls (.int y :: .int x :: st) n I J R := by
  obtain ⟨hd, rfl⟩ := hd
  intro H locs la hP hS hL
  exact lv_ishl X.1 X.2.1 hd  (kk H locs la hP hS hL)
theorem z_ishr (X : zC p s m args meth c cc own nL g) {x y : Int32} (hd : zD cc pc (.ishr) 1 pc') (kk : zV p l e Rm s m args below meth c g nL Q cells slots pc' ls (.int (x >>> (y &&& 31)) :: st) n I J R) : zV p l e Rm s m args below meth c g nL Q cells slots pc ls (.int y :: .int x :: st) n I J R := by
  obtain ⟨hd, rfl⟩ := hd
  intro H locs la hP hS hL
  exact lv_ishr X.1 X.2.1 hd  (kk H locs la hP hS hL)
theorem z_land (X : zC p s m args meth c cc own nL g) {x y : Int64} (hd : zD cc pc (.land) 1 pc') (kk : zV p l e Rm s m args below meth c g nL Q cells slots pc' ls (.long (x &&& y) :: st) n I J R) : zV p l e Rm s m args below meth c g nL Q cells slots pc ls (.long y :: .long x :: st) n I J R := by
  obtain ⟨hd, rfl⟩ := hd
  intro H locs la hP hS hL
  exact lv_land X.1 X.2.1 hd  (kk H locs la hP hS hL)
theorem z_lor (X : zC p s m args meth c cc own nL g) {x y : Int64} (hd : zD cc pc (.lor) 1 pc') (kk : zV p l e Rm s m args below meth c g nL Q cells slots pc' ls (.long (x ||| y) :: st) n I J R) : zV p l e Rm s m args below meth c g nL Q cells slots pc ls (.long y :: .long x :: st) n I J R := by
  obtain ⟨hd, rfl⟩ := hd
  intro H locs la hP hS hL
  exact lv_lor X.1 X.2.1 hd  (kk H locs la hP hS hL)
theorem z_ineg (X : zC p s m args meth c cc own nL g) {x : Int32} (hd : zD cc pc (.ineg) 1 pc') (kk : zV p l e Rm s m args below meth c g nL Q cells slots pc' ls (.int (-x) :: st) n I J R) : zV p l e Rm s m args below meth c g nL Q cells slots pc ls (.int x :: st) n I J R := by
  obtain ⟨hd, rfl⟩ := hd
  intro H locs la hP hS hL
  exact lv_ineg X.1 X.2.1 hd  (kk H locs la hP hS hL)
theorem z_dup (X : zC p s m args meth c cc own nL g) {va : Value} (hd : zD cc pc (.dup) 1 pc') (hc : va.category = 1) (kk : zV p l e Rm s m args below meth c g nL Q cells slots pc' ls (va :: va :: st) n I J R) : zV p l e Rm s m args below meth c g nL Q cells slots pc ls (va :: st) n I J R := by
  obtain ⟨hd, rfl⟩ := hd
  intro H locs la hP hS hL
  exact lv_dup X.1 X.2.1 hd hc (kk H locs la hP hS hL)
theorem z_dup2 (X : zC p s m args meth c cc own nL g) {va vb : Value} (hd : zD cc pc (.dup2) 1 pc') (hc : va.category = 1) (hc2 : vb.category = 1) (kk : zV p l e Rm s m args below meth c g nL Q cells slots pc' ls (va :: vb :: va :: vb :: st) n I J R) : zV p l e Rm s m args below meth c g nL Q cells slots pc ls (va :: vb :: st) n I J R := by
  obtain ⟨hd, rfl⟩ := hd
  intro H locs la hP hS hL
  exact lv_dup2_11 X.1 X.2.1 hd hc hc2 (kk H locs la hP hS hL)
theorem z_pop (X : zC p s m args meth c cc own nL g) {va : Value} (hd : zD cc pc (.pop) 1 pc') (hc : va.category = 1) (kk : zV p l e Rm s m args below meth c g nL Q cells slots pc' ls (st) n I J R) : zV p l e Rm s m args below meth c g nL Q cells slots pc ls (va :: st) n I J R := by
  obtain ⟨hd, rfl⟩ := hd
  intro H locs la hP hS hL
  exact lv_pop X.1 X.2.1 hd hc (kk H locs la hP hS hL)
theorem z_lshl (X : zC p s m args meth c cc own nL g) {x : Int64} {y : Int32} (hd : zD cc pc (.lshl) 1 pc') (kk : zV p l e Rm s m args below meth c g nL Q cells slots pc' ls (.long (x <<< (y.toInt64 &&& 63)) :: st) n I J R) : zV p l e Rm s m args below meth c g nL Q cells slots pc ls (.int y :: .long x :: st) n I J R := by
  obtain ⟨hd, rfl⟩ := hd
  intro H locs la hP hS hL
  exact lv_lshl X.1 X.2.1 hd rfl (kk H locs la hP hS hL)
theorem z_lshr (X : zC p s m args meth c cc own nL g) {x : Int64} {y : Int32} (hd : zD cc pc (.lshr) 1 pc') (kk : zV p l e Rm s m args below meth c g nL Q cells slots pc' ls (.long (x >>> (y.toInt64 &&& 63)) :: st) n I J R) : zV p l e Rm s m args below meth c g nL Q cells slots pc ls (.int y :: .long x :: st) n I J R := by
  obtain ⟨hd, rfl⟩ := hd
  intro H locs la hP hS hL
  exact lv_lshr X.1 X.2.1 hd rfl (kk H locs la hP hS hL)
theorem z_lcmp (X : zC p s m args meth c cc own nL g) {x y : Int64} (hd : zD cc pc (.lcmp) 1 pc') (kk : zV p l e Rm s m args below meth c g nL Q cells slots pc' ls (.int (lg_cmp x y) :: st) n I J R) : zV p l e Rm s m args below meth c g nL Q cells slots pc ls (.long y :: .long x :: st) n I J R := by
  obtain ⟨hd, rfl⟩ := hd
  intro H locs la hP hS hL
  exact W.lcmp X.1 X.2.1 hd  (kk H locs la hP hS hL)
theorem z_istore_n (X : zC p s m args meth c cc own nL g) {k : Fin 4} {x : Int32} (hd : zD cc pc (.istore_n k) 1 pc') (hi : (k : Nat) < nL) (ho : zok ls (k : Nat) = true) (kk : zV p l e Rm s m args below meth c g nL Q cells slots pc' (zls ls (k : Nat) (.int x)) (st) n I J R) : zV p l e Rm s m args below meth c g nL Q cells slots pc ls (.int x :: st) n I J R := by
  obtain ⟨hd, rfl⟩ := hd
  intro H locs la hP hS hL
  obtain ⟨la2, e2, hL2⟩ := hL.store (v := .int x) hi rfl ho
  intro T hT Y
  obtain ⟨t, a, b⟩ := kk H locs la2 hP hS hL2 T hT Y
  refine ⟨t, ?_, b⟩
  have hx := X.1
  have hb := X.2.1
  jvm_step Y.here [Y.here.top, ↓top_set Y.here.top, hx, hb, hd, e2, Value.isRef]
  exact a
theorem z_istore (X : zC p s m args meth c cc own nL g) {k : Nat} {x : Int32} (hd : zD cc pc (.istore k) 2 pc') (hi : k < nL) (ho : zok ls k = true) (kk : zV p l e Rm s m args below meth c g nL Q cells slots pc' (zls ls k (.int x)) (st) n I J R) : zV p l e Rm s m args below meth c g nL Q cells slots pc ls (.int x :: st) n I J R := by
  obtain ⟨hd, rfl⟩ := hd
  intro H locs la hP hS hL
  obtain ⟨la2, e2, hL2⟩ := hL.store (v := .int x) hi rfl ho
  intro T hT Y
  obtain ⟨t, a, b⟩ := kk H locs la2 hP hS hL2 T hT Y
  refine ⟨t, ?_, b⟩
  have hx := X.1
  have hb := X.2.1
  jvm_step Y.here [Y.here.top, ↓top_set Y.here.top, hx, hb, hd, e2, Value.isRef]
  exact a
theorem z_astore_n (X : zC p s m args meth c cc own nL g) {k : Fin 4} {x : Nat} (hd : zD cc pc (.astore_n k) 1 pc') (hi : (k : Nat) < nL) (ho : zok ls (k : Nat) = true) (kk : zV p l e Rm s m args below meth c g nL Q cells slots pc' (zls ls (k : Nat) (.ref x)) (st) n I J R) : zV p l e Rm s m args below meth c g nL Q cells slots pc ls (.ref x :: st) n I J R := by
  obtain ⟨hd, rfl⟩ := hd
  intro H locs la hP hS hL
  obtain ⟨la2, e2, hL2⟩ := hL.store (v := .ref x) hi rfl ho
  intro T hT Y
  obtain ⟨t, a, b⟩ := kk H locs la2 hP hS hL2 T hT Y
  refine ⟨t, ?_, b⟩
  have hx := X.1
  have hb := X.2.1
  jvm_step Y.here [Y.here.top, ↓top_set Y.here.top, hx, hb, hd, e2, Value.isRef]
  exact a
theorem z_astore (X : zC p s m args meth c cc own nL g) {k : Nat} {x : Nat} (hd : zD cc pc (.astore k) 2 pc') (hi : k < nL) (ho : zok ls k = true) (kk : zV p l e Rm s m args below meth c g nL Q cells slots pc' (zls ls k (.ref x)) (st) n I J R) : zV p l e Rm s m args below meth c g nL Q cells slots pc ls (.ref x :: st) n I J R := by
  obtain ⟨hd, rfl⟩ := hd
  intro H locs la hP hS hL
  obtain ⟨la2, e2, hL2⟩ := hL.store (v := .ref x) hi rfl ho
  intro T hT Y
  obtain ⟨t, a, b⟩ := kk H locs la2 hP hS hL2 T hT Y
  refine ⟨t, ?_, b⟩
  have hx := X.1
  have hb := X.2.1
  jvm_step Y.here [Y.here.top, ↓top_set Y.here.top, hx, hb, hd, e2, Value.isRef]
  exact a
theorem z_astore_nN (X : zC p s m args meth c cc own nL g) {k : Fin 4} (hd : zD cc pc (.astore_n k) 1 pc') (hi : (k : Nat) < nL) (ho : zok ls (k : Nat) = true) (kk : zV p l e Rm s m args below meth c g nL Q cells slots pc' (zls ls (k : Nat) (.null)) (st) n I J R) : zV p l e Rm s m args below meth c g nL Q cells slots pc ls (.null :: st) n I J R := by
  obtain ⟨hd, rfl⟩ := hd
  intro H locs la hP hS hL
  obtain ⟨la2, e2, hL2⟩ := hL.store (v := .null) hi rfl ho
  intro T hT Y
  obtain ⟨t, a, b⟩ := kk H locs la2 hP hS hL2 T hT Y
  refine ⟨t, ?_, b⟩
  have hx := X.1
  have hb := X.2.1
  jvm_step Y.here [Y.here.top, ↓top_set Y.here.top, hx, hb, hd, e2, Value.isRef]
  exact a
theorem z_astoreN (X : zC p s m args meth c cc own nL g) {k : Nat} (hd : zD cc pc (.astore k) 2 pc') (hi : k < nL) (ho : zok ls k = true) (kk : zV p l e Rm s m args below meth c g nL Q cells slots pc' (zls ls k (.null)) (st) n I J R) : zV p l e Rm s m args below meth c g nL Q cells slots pc ls (.null :: st) n I J R := by
  obtain ⟨hd, rfl⟩ := hd
  intro H locs la hP hS hL
  obtain ⟨la2, e2, hL2⟩ := hL.store (v := .null) hi rfl ho
  intro T hT Y
  obtain ⟨t, a, b⟩ := kk H locs la2 hP hS hL2 T hT Y
  refine ⟨t, ?_, b⟩
  have hx := X.1
  have hb := X.2.1
  jvm_step Y.here [Y.here.top, ↓top_set Y.here.top, hx, hb, hd, e2, Value.isRef]
  exact a
theorem z_iinc (X : zC p s m args meth c cc own nL g) {k : Nat} {a : Int} {x v : Int32} (hd : zD cc pc (.iinc k a) 3 pc') (hl : zlg ls k = some (.int x)) (hv : x + Int32.ofInt a = v) (hi : k < nL) (ho : zok ls k = true) (kk : zV p l e Rm s m args below meth c g nL Q cells slots pc' (zls ls k (.int v)) (st) n I J R) : zV p l e Rm s m args below meth c g nL Q cells slots pc ls (st) n I J R := by
  obtain ⟨hd, rfl⟩ := hd
  subst hv
  intro H locs la hP hS hL
  have hg := hL.2.2 _ _ hl
  obtain ⟨la2, e2, hL2⟩ := hL.store (v := .int (x + Int32.ofInt a)) hi rfl ho
  intro T hT Y
  obtain ⟨t, b1, b2⟩ := kk H locs la2 hP hS hL2 T hT Y
  refine ⟨t, ?_, b2⟩
  have hx := X.1
  have hb := X.2.1
  jvm_step Y.here [Y.here.top, ↓top_set Y.here.top, hx, hb, hd, hg, e2]
  exact b1
theorem z_if_eq (X : zC p s m args meth c cc own nL g) {x : Int32} {off : Int} {tgt : Nat} (hd : zD cc pc (.ifCond .eq off) 3 pc') (ht : (pc : Int) + off = (tgt : Int)) (kt : x = 0 → zV p l e Rm s m args below meth c g nL Q cells slots tgt ls (st) n I J R) (kf : ¬ x = 0 → zV p l e Rm s m args below meth c g nL Q cells slots pc' ls (st) n I J R) : zV p l e Rm s m args below meth c g nL Q cells slots pc ls (.int x :: st) n I J R := by
  obtain ⟨hd, rfl⟩ := hd
  intro H locs la hP hS hL
  exact lv_if_eq X.1 X.2.1 hd ht (fun h => kt h H locs la hP hS hL) (fun h => kf h H locs la hP hS hL)
theorem z_if_ne (X : zC p s m args meth c cc own nL g) {x : Int32} {off : Int} {tgt : Nat} (hd : zD cc pc (.ifCond .ne off) 3 pc') (ht : (pc : Int) + off = (tgt : Int)) (kt : ¬ x = 0 → zV p l e Rm s m args below meth c g nL Q cells slots tgt ls (st) n I J R) (kf : x = 0 → zV p l e Rm s m args below meth c g nL Q cells slots pc' ls (st) n I J R) : zV p l e Rm s m args below meth c g nL Q cells slots pc ls (.int x :: st) n I J R := by
  obtain ⟨hd, rfl⟩ := hd
  intro H locs la hP hS hL
  exact lv_if_ne X.1 X.2.1 hd ht (fun h => kt h H locs la hP hS hL) (fun h => kf h H locs la hP hS hL)
theorem z_if_lt (X : zC p s m args meth c cc own nL g) {x : Int32} {off : Int} {tgt : Nat} (hd : zD cc pc (.ifCond .lt off) 3 pc') (ht : (pc : Int) + off = (tgt : Int)) (kt : x < 0 → zV p l e Rm s m args below meth c g nL Q cells slots tgt ls (st) n I J R) (kf : ¬ x < 0 → zV p l e Rm s m args below meth c g nL Q cells slots pc' ls (st) n I J R) : zV p l e Rm s m args below meth c g nL Q cells slots pc ls (.int x :: st) n I J R := by
  obtain ⟨hd, rfl⟩ := hd
  intro H locs la hP hS hL
  exact lv_if_lt X.1 X.2.1 hd ht (fun h => kt h H locs la hP hS hL) (fun h => kf h H locs la hP hS hL)
theorem z_if_ge (X : zC p s m args meth c cc own nL g) {x : Int32} {off : Int} {tgt : Nat} (hd : zD cc pc (.ifCond .ge off) 3 pc') (ht : (pc : Int) + off = (tgt : Int)) (kt : 0 ≤ x → zV p l e Rm s m args below meth c g nL Q cells slots tgt ls (st) n I J R) (kf : ¬ 0 ≤ x → zV p l e Rm s m args below meth c g nL Q cells slots pc' ls (st) n I J R) : zV p l e Rm s m args below meth c g nL Q cells slots pc ls (.int x :: st) n I J R := by
  obtain ⟨hd, rfl⟩ := hd
  intro H locs la hP hS hL
  exact lv_if_ge X.1 X.2.1 hd ht (fun h => kt h H locs la hP hS hL) (fun h => kf h H locs la hP hS hL)
theorem z_if_gt (X : zC p s m args meth c cc own nL g) {x : Int32} {off : Int} {tgt : Nat} (hd : zD cc pc (.ifCond .gt off) 3 pc') (ht : (pc : Int) + off = (tgt : Int)) (kt : 0 < x → zV p l e Rm s m args below meth c g nL Q cells slots tgt ls (st) n I J R) (kf : ¬ 0 < x → zV p l e Rm s m args below meth c g nL Q cells slots pc' ls (st) n I J R) : zV p l e Rm s m args below meth c g nL Q cells slots pc ls (.int x :: st) n I J R := by
  obtain ⟨hd, rfl⟩ := hd
  intro H locs la hP hS hL
  exact lv_if_gt X.1 X.2.1 hd ht (fun h => kt h H locs la hP hS hL) (fun h => kf h H locs la hP hS hL)
theorem z_if_le (X : zC p s m args meth c cc own nL g) {x : Int32} {off : Int} {tgt : Nat} (hd : zD cc pc (.ifCond .le off) 3 pc') (ht : (pc : Int) + off = (tgt : Int)) (kt : x ≤ 0 → zV p l e Rm s m args below meth c g nL Q cells slots tgt ls (st) n I J R) (kf : ¬ x ≤ 0 → zV p l e Rm s m args below meth c g nL Q cells slots pc' ls (st) n I J R) : zV p l e Rm s m args below meth c g nL Q cells slots pc ls (.int x :: st) n I J R := by
  obtain ⟨hd, rfl⟩ := hd
  intro H locs la hP hS hL
  exact lv_if_le X.1 X.2.1 hd ht (fun h => kt h H locs la hP hS hL) (fun h => kf h H locs la hP hS hL)
theorem z_icmp_eq (X : zC p s m args meth c cc own nL g) {x y : Int32} {off : Int} {tgt : Nat} (hd : zD cc pc (.if_icmp .eq off) 3 pc') (ht : (pc : Int) + off = (tgt : Int)) (kt : x = y → zV p l e Rm s m args below meth c g nL Q cells slots tgt ls (st) n I J R) (kf : ¬ x = y → zV p l e Rm s m args below meth c g nL Q cells slots pc' ls (st) n I J R) : zV p l e Rm s m args below meth c g nL Q cells slots pc ls (.int y :: .int x :: st) n I J R := by
  obtain ⟨hd, rfl⟩ := hd
  intro H locs la hP hS hL
  exact lv_icmp_eq X.1 X.2.1 hd ht (fun h => kt h H locs la hP hS hL) (fun h => kf h H locs la hP hS hL)
theorem z_icmp_ne (X : zC p s m args meth c cc own nL g) {x y : Int32} {off : Int} {tgt : Nat} (hd : zD cc pc (.if_icmp .ne off) 3 pc') (ht : (pc : Int) + off = (tgt : Int)) (kt : ¬ x = y → zV p l e Rm s m args below meth c g nL Q cells slots tgt ls (st) n I J R) (kf : x = y → zV p l e Rm s m args below meth c g nL Q cells slots pc' ls (st) n I J R) : zV p l e Rm s m args below meth c g nL Q cells slots pc ls (.int y :: .int x :: st) n I J R := by
  obtain ⟨hd, rfl⟩ := hd
  intro H locs la hP hS hL
  exact lv_icmp_ne X.1 X.2.1 hd ht (fun h => kt h H locs la hP hS hL) (fun h => kf h H locs la hP hS hL)
theorem z_icmp_lt (X : zC p s m args meth c cc own nL g) {x y : Int32} {off : Int} {tgt : Nat} (hd : zD cc pc (.if_icmp .lt off) 3 pc') (ht : (pc : Int) + off = (tgt : Int)) (kt : x < y → zV p l e Rm s m args below meth c g nL Q cells slots tgt ls (st) n I J R) (kf : ¬ x < y → zV p l e Rm s m args below meth c g nL Q cells slots pc' ls (st) n I J R) : zV p l e Rm s m args below meth c g nL Q cells slots pc ls (.int y :: .int x :: st) n I J R := by
  obtain ⟨hd, rfl⟩ := hd
  intro H locs la hP hS hL
  exact lv_icmp_lt X.1 X.2.1 hd ht (fun h => kt h H locs la hP hS hL) (fun h => kf h H locs la hP hS hL)
theorem z_icmp_ge (X : zC p s m args meth c cc own nL g) {x y : Int32} {off : Int} {tgt : Nat} (hd : zD cc pc (.if_icmp .ge off) 3 pc') (ht : (pc : Int) + off = (tgt : Int)) (kt : y ≤ x → zV p l e Rm s m args below meth c g nL Q cells slots tgt ls (st) n I J R) (kf : ¬ y ≤ x → zV p l e Rm s m args below meth c g nL Q cells slots pc' ls (st) n I J R) : zV p l e Rm s m args below meth c g nL Q cells slots pc ls (.int y :: .int x :: st) n I J R := by
  obtain ⟨hd, rfl⟩ := hd
  intro H locs la hP hS hL
  exact lv_icmp_ge X.1 X.2.1 hd ht (fun h => kt h H locs la hP hS hL) (fun h => kf h H locs la hP hS hL)
theorem z_icmp_gt (X : zC p s m args meth c cc own nL g) {x y : Int32} {off : Int} {tgt : Nat} (hd : zD cc pc (.if_icmp .gt off) 3 pc') (ht : (pc : Int) + off = (tgt : Int)) (kt : y < x → zV p l e Rm s m args below meth c g nL Q cells slots tgt ls (st) n I J R) (kf : ¬ y < x → zV p l e Rm s m args below meth c g nL Q cells slots pc' ls (st) n I J R) : zV p l e Rm s m args below meth c g nL Q cells slots pc ls (.int y :: .int x :: st) n I J R := by
  obtain ⟨hd, rfl⟩ := hd
  intro H locs la hP hS hL
  exact lv_icmp_gt X.1 X.2.1 hd ht (fun h => kt h H locs la hP hS hL) (fun h => kf h H locs la hP hS hL)
theorem z_icmp_le (X : zC p s m args meth c cc own nL g) {x y : Int32} {off : Int} {tgt : Nat} (hd : zD cc pc (.if_icmp .le off) 3 pc') (ht : (pc : Int) + off = (tgt : Int)) (kt : x ≤ y → zV p l e Rm s m args below meth c g nL Q cells slots tgt ls (st) n I J R) (kf : ¬ x ≤ y → zV p l e Rm s m args below meth c g nL Q cells slots pc' ls (st) n I J R) : zV p l e Rm s m args below meth c g nL Q cells slots pc ls (.int y :: .int x :: st) n I J R := by
  obtain ⟨hd, rfl⟩ := hd
  intro H locs la hP hS hL
  exact lv_icmp_le X.1 X.2.1 hd ht (fun h => kt h H locs la hP hS hL) (fun h => kf h H locs la hP hS hL)
theorem z_icmpN_eq (X : zC p s m args meth c cc own nL g) {a b : Nat} {off : Int} {tgt : Nat} (hd : zD cc pc (.if_icmp .eq off) 3 pc') (ht : (pc : Int) + off = (tgt : Int)) (ha : a < 2 ^ 31) (hb : b < 2 ^ 31) (kt : a = b → zV p l e Rm s m args below meth c g nL Q cells slots tgt ls (st) n I J R) (kf : ¬ a = b → zV p l e Rm s m args below meth c g nL Q cells slots pc' ls (st) n I J R) : zV p l e Rm s m args below meth c g nL Q cells slots pc ls (.int (nI b) :: .int (nI a) :: st) n I J R :=
  z_icmp_eq X hd ht (fun h => kt ((nI_eq ha hb).mp h)) (fun h => kf (fun q => h ((nI_eq ha hb).mpr q)))
theorem z_icmpN_ne (X : zC p s m args meth c cc own nL g) {a b : Nat} {off : Int} {tgt : Nat} (hd : zD cc pc (.if_icmp .ne off) 3 pc') (ht : (pc : Int) + off = (tgt : Int)) (ha : a < 2 ^ 31) (hb : b < 2 ^ 31) (kt : ¬ a = b → zV p l e Rm s m args below meth c g nL Q cells slots tgt ls (st) n I J R) (kf : a = b → zV p l e Rm s m args below meth c g nL Q cells slots pc' ls (st) n I J R) : zV p l e Rm s m args below meth c g nL Q cells slots pc ls (.int (nI b) :: .int (nI a) :: st) n I J R :=
  z_icmp_ne X hd ht (fun h => kt (fun q => h ((nI_eq ha hb).mpr q))) (fun h => kf ((nI_eq ha hb).mp h))
theorem z_icmpN_lt (X : zC p s m args meth c cc own nL g) {a b : Nat} {off : Int} {tgt : Nat} (hd : zD cc pc (.if_icmp .lt off) 3 pc') (ht : (pc : Int) + off = (tgt : Int)) (ha : a < 2 ^ 31) (hb : b < 2 ^ 31) (kt : a < b → zV p l e Rm s m args below meth c g nL Q cells slots tgt ls (st) n I J R) (kf : b ≤ a → zV p l e Rm s m args below meth c g nL Q cells slots pc' ls (st) n I J R) : zV p l e Rm s m args below meth c g nL Q cells slots pc ls (.int (nI b) :: .int (nI a) :: st) n I J R :=
  z_icmp_lt X hd ht (fun h => kt ((nI_ltI ha hb).mp h)) (fun h => kf (Nat.not_lt.mp (fun q => h ((nI_ltI ha hb).mpr q))))
theorem z_icmpN_ge (X : zC p s m args meth c cc own nL g) {a b : Nat} {off : Int} {tgt : Nat} (hd : zD cc pc (.if_icmp .ge off) 3 pc') (ht : (pc : Int) + off = (tgt : Int)) (ha : a < 2 ^ 31) (hb : b < 2 ^ 31) (kt : b ≤ a → zV p l e Rm s m args below meth c g nL Q cells slots tgt ls (st) n I J R) (kf : a < b → zV p l e Rm s m args below meth c g nL Q cells slots pc' ls (st) n I J R) : zV p l e Rm s m args below meth c g nL Q cells slots pc ls (.int (nI b) :: .int (nI a) :: st) n I J R :=
  z_icmp_ge X hd ht (fun h => kt ((nI_leI hb ha).mp h)) (fun h => kf (Nat.not_le.mp (fun q => h ((nI_leI hb ha).mpr q))))
theorem z_icmpN_gt (X : zC p s m args meth c cc own nL g) {a b : Nat} {off : Int} {tgt : Nat} (hd : zD cc pc (.if_icmp .gt off) 3 pc') (ht : (pc : Int) + off = (tgt : Int)) (ha : a < 2 ^ 31) (hb : b < 2 ^ 31) (kt : b < a → zV p l e Rm s m args below meth c g nL Q cells slots tgt ls (st) n I J R) (kf : a ≤ b → zV p l e Rm s m args below meth c g nL Q cells slots pc' ls (st) n I J R) : zV p l e Rm s m args below meth c g nL Q cells slots pc ls (.int (nI b) :: .int (nI a) :: st) n I J R :=
  z_icmp_gt X hd ht (fun h => kt ((nI_ltI hb ha).mp h)) (fun h => kf (Nat.not_lt.mp (fun q => h ((nI_ltI hb ha).mpr q))))
theorem z_icmpN_le (X : zC p s m args meth c cc own nL g) {a b : Nat} {off : Int} {tgt : Nat} (hd : zD cc pc (.if_icmp .le off) 3 pc') (ht : (pc : Int) + off = (tgt : Int)) (ha : a < 2 ^ 31) (hb : b < 2 ^ 31) (kt : a ≤ b → zV p l e Rm s m args below meth c g nL Q cells slots tgt ls (st) n I J R) (kf : b < a → zV p l e Rm s m args below meth c g nL Q cells slots pc' ls (st) n I J R) : zV p l e Rm s m args below meth c g nL Q cells slots pc ls (.int (nI b) :: .int (nI a) :: st) n I J R :=
  z_icmp_le X hd ht (fun h => kt ((nI_leI ha hb).mp h)) (fun h => kf (Nat.not_le.mp (fun q => h ((nI_leI ha hb).mpr q))))
theorem z_goto (X : zC p s m args meth c cc own nL g) {off : Int} {tgt : Nat} (hd : zD cc pc (.goto off) 3 pc') (ht : (pc : Int) + off = (tgt : Int)) (kk : zV p l e Rm s m args below meth c g nL Q cells slots tgt ls (st) n I J R) : zV p l e Rm s m args below meth c g nL Q cells slots pc ls (st) n I J R := by
  obtain ⟨hd, rfl⟩ := hd
  intro H locs la hP hS hL
  exact lv_goto X.1 X.2.1 hd ht (kk H locs la hP hS hL)
theorem z_ifnonnull (X : zC p s m args meth c cc own nL g) {x : Nat} {off : Int} {tgt : Nat} (hd : zD cc pc (.ifnonnull off) 3 pc') (ht : (pc : Int) + off = (tgt : Int)) (kk : zV p l e Rm s m args below meth c g nL Q cells slots tgt ls (st) n I J R) : zV p l e Rm s m args below meth c g nL Q cells slots pc ls (.ref x :: st) n I J R := by
  obtain ⟨hd, rfl⟩ := hd
  intro H locs la hP hS hL
  exact lv_ifnonnull X.1 X.2.1 hd ht (kk H locs la hP hS hL)
theorem z_ifnull (X : zC p s m args meth c cc own nL g) {x : Nat} {off : Int} {tgt : Nat} (hd : zD cc pc (.ifnull off) 3 pc') (ht : (pc : Int) + off = (tgt : Int)) (kk : zV p l e Rm s m args below meth c g nL Q cells slots pc' ls (st) n I J R) : zV p l e Rm s m args below meth c g nL Q cells slots pc ls (.ref x :: st) n I J R := by
  obtain ⟨hd, rfl⟩ := hd
  intro H locs la hP hS hL
  exact lv_ifnull X.1 X.2.1 hd (kk H locs la hP hS hL)
theorem z_ifnullN (X : zC p s m args meth c cc own nL g) {off : Int} {tgt : Nat} (hd : zD cc pc (.ifnull off) 3 pc') (ht : (pc : Int) + off = (tgt : Int)) (kk : zV p l e Rm s m args below meth c g nL Q cells slots tgt ls (st) n I J R) : zV p l e Rm s m args below meth c g nL Q cells slots pc ls (.null :: st) n I J R := by
  obtain ⟨hd, rfl⟩ := hd
  intro H locs la hP hS hL
  exact lv_ifnullN X.1 X.2.1 hd ht (kk H locs la hP hS hL)
theorem z_ifnonnullN (X : zC p s m args meth c cc own nL g) {off : Int} {tgt : Nat} (hd : zD cc pc (.ifnonnull off) 3 pc') (ht : (pc : Int) + off = (tgt : Int)) (kk : zV p l e Rm s m args below meth c g nL Q cells slots pc' ls (st) n I J R) : zV p l e Rm s m args below meth c g nL Q cells slots pc ls (.null :: st) n I J R := by
  obtain ⟨hd, rfl⟩ := hd
  intro H locs la hP hS hL
  exact lv_ifnonnullN X.1 X.2.1 hd (kk H locs la hP hS hL)
theorem z_acmp_eq (X : zC p s m args meth c cc own nL g) {rx ry : Option Nat} {vx vy : Value} (ex : vx = va_rf rx) (ey : vy = va_rf ry) {off : Int} {tgt : Nat} (hd : zD cc pc (.if_acmp .eq off) 3 pc') (ht : (pc : Int) + off = (tgt : Int)) (kt : rx = ry → zV p l e Rm s m args below meth c g nL Q cells slots tgt ls (st) n I J R) (kf : ¬ rx = ry → zV p l e Rm s m args below meth c g nL Q cells slots pc' ls (st) n I J R) : zV p l e Rm s m args below meth c g nL Q cells slots pc ls (vy :: vx :: st) n I J R := by
  obtain ⟨hd, rfl⟩ := hd
  subst ex; subst ey
  intro H locs la hP hS hL
  exact lv_acmp_eq X.1 X.2.1 hd ht (fun h => kt h H locs la hP hS hL) (fun h => kf h H locs la hP hS hL)
theorem z_acmp_ne (X : zC p s m args meth c cc own nL g) {rx ry : Option Nat} {vx vy : Value} (ex : vx = va_rf rx) (ey : vy = va_rf ry) {off : Int} {tgt : Nat} (hd : zD cc pc (.if_acmp .ne off) 3 pc') (ht : (pc : Int) + off = (tgt : Int)) (kt : ¬ rx = ry → zV p l e Rm s m args below meth c g nL Q cells slots tgt ls (st) n I J R) (kf : rx = ry → zV p l e Rm s m args below meth c g nL Q cells slots pc' ls (st) n I J R) : zV p l e Rm s m args below meth c g nL Q cells slots pc ls (vy :: vx :: st) n I J R := by
  obtain ⟨hd, rfl⟩ := hd
  subst ex; subst ey
  intro H locs la hP hS hL
  exact lv_acmp_ne X.1 X.2.1 hd ht (fun h => kt h H locs la hP hS hL) (fun h => kf h H locs la hP hS hL)
theorem z_widen {k2 n2 : Nat} (h1 : cells ≤ k2) (h2 : slots ≤ n2) (kk : zV p l e Rm s m args below meth c g nL Q k2 n2 pc ls st n I J R) : zV p l e Rm s m args below meth c g nL Q cells slots pc ls (st) n I J R := fun H locs la hP hS hL => W.widen h1 h2 (kk H locs la hP hS hL)
/-- the same state by other words -/
theorem z_eq {ls2 : List (Option Value)} {st2 : List Value} {I2 : zI} {J2 : zJ} {R2 : zR} (h1 : ls = ls2) (h2 : st = st2) (h3 : I = I2) (h4 : J = J2) (h5 : R = R2) (kk : zV p l e Rm s m args below meth c g nL Q cells slots pc ls2 (st2) n I2 J2 R2) : zV p l e Rm s m args below meth c g nL Q cells slots pc ls (st) n I J R := by
  subst h1; subst h2; subst h3; subst h4; subst h5; exact kk
theorem z_eqL {ls2 : List (Option Value)} (h1 : ls = ls2) (kk : zV p l e Rm s m args below meth c g nL Q cells slots pc ls2 (st) n I J R) : zV p l e Rm s m args below meth c g nL Q cells slots pc ls (st) n I J R := by
  subst h1; exact kk
theorem z_eqS {st2 : List Value} (h1 : st = st2) (kk : zV p l e Rm s m args below meth c g nL Q cells slots pc ls (st2) n I J R) : zV p l e Rm s m args below meth c g nL Q cells slots pc ls (st) n I J R := by
  subst h1; exact kk
theorem z_top {v v2 : Value} (h1 : v = v2) (kk : zV p l e Rm s m args below meth c g nL Q cells slots pc ls (v2 :: st) n I J R) : zV p l e Rm s m args below meth c g nL Q cells slots pc ls (v :: st) n I J R := by
  subst h1; exact kk
theorem z_eqI {I2 : zI} (h1 : I = I2) (kk : zV p l e Rm s m args below meth c g nL Q cells slots pc ls (st) n I2 J R) : zV p l e Rm s m args below meth c g nL Q cells slots pc ls (st) n I J R := by
  subst h1; exact kk
theorem z_eqR {R2 : zR} (h1 : R = R2) (kk : zV p l e Rm s m args below meth c g nL Q cells slots pc ls (st) n I J R2) : zV p l e Rm s m args below meth c g nL Q cells slots pc ls (st) n I J R := by
  subst h1; exact kk
end ZV
