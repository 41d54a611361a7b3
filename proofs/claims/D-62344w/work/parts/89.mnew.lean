/-! MULTIANEWARRAY of two dimensions: N rows of M places -/
def zmO (cA : ClassId) (N a i : Nat) : Cell := arrV cA N (fun j => if j < i then .ref (a + 1 + j) else .null)
/-- the state when i rows are made and hung -/
def zmU (T : State) (cA cI : ClassId) (N M : Nat) (dv : Value) : Nat → State
  | 0 => T.pushCell (zmO cA N T.heap.size 0)
  | i + 1 => ((zmU T cA cI N M dv i).pushCell (arrV cI M fun _ => dv)).setCell T.heap.size (zmO cA N T.heap.size (i + 1))
theorem zmO_next (cA : ClassId) (N a i : Nat) : (zmO cA N a i).setSlot i (.ref (a + 1 + i)) = zmO cA N a (i + 1) := by
  unfold zmO
  rw [arrV_store]
  refine congrArg (arrV cA N) (funext fun j => ?_)
  unfold updV
  by_cases h : j = i
  · subst h; simp
  · rw [if_neg h]
    by_cases h2 : j < i
    · rw [if_pos h2, if_pos (by omega)]
    · rw [if_neg h2, if_neg (by omega)]
theorem zmU_inv (T : State) (cA cI : ClassId) (N M : Nat) (dv : Value) (i : Nat) : (zmU T cA cI N M dv i).heap.size = T.heap.size + 1 + i ∧ (zmU T cA cI N M dv i).heap[T.heap.size]? = some (zmO cA N T.heap.size i) ∧ (zmU T cA cI N M dv i).vm = T.vm ∧ (zmU T cA cI N M dv i).slotsUsed = T.slotsUsed + N + i * M ∧ (∀ q : Nat, q < T.heap.size → (zmU T cA cI N M dv i).heap[q]? = T.heap[q]?) ∧ ∀ j, j < i → (zmU T cA cI N M dv i).heap[T.heap.size + 1 + j]? = some (arrV cI M fun _ => dv) := by
  induction i with
  | zero => exact ⟨by simp [zmU], by simp [zmU], rfl, by simp [zmU, zmO, arrV], fun q hq => State.heap_pushCell_of_lt _ _ hq, fun j hj => absurd hj (Nat.not_lt_zero _)⟩
  | succ i ih =>
    obtain ⟨a1, a2, a3, a4, a5, a6⟩ := ih
    have hl : T.heap.size < (zmU T cA cI N M dv i).heap.size := by omega
    have hc : ((zmU T cA cI N M dv i).pushCell (arrV cI M fun _ => dv)).heap[T.heap.size]? = some (zmO cA N T.heap.size i) := by rw [State.heap_pushCell_of_lt (h := hl)]; exact a2
    refine ⟨?_, State.heap_setCell_self hc, by simp [zmU, a3], ?_, fun q hq => ?_, fun j hj => ?_⟩
    · simp [zmU, State.setCell, a1]; omega
    · simp [zmU, a4, arrV, Nat.succ_mul]; omega
    · show (((zmU T cA cI N M dv i).pushCell _).setCell T.heap.size _).heap[q]? = _
      rw [State.heap_setCell_other (Nat.ne_of_gt hq), State.heap_pushCell_of_lt (h := by omega)]
      exact a5 q hq
    · show (((zmU T cA cI N M dv i).pushCell _).setCell T.heap.size _).heap[T.heap.size + 1 + j]? = _
      rw [State.heap_setCell_other (show T.heap.size ≠ T.heap.size + 1 + j by omega)]
      by_cases e : j = i
      · subst e
        rw [← a1]
        exact State.heap_pushCell_size _ _
      · rw [State.heap_pushCell_of_lt (h := by omega)]
        exact a6 j (by omega)
theorem zmU_top (T : State) (f : JFrame) (cA cI : ClassId) (N M : Nat) (dv : Value) (i : Nat) : zmU (T.setTop f) cA cI N M dv i = (zmU T cA cI N M dv i).setTop f := by
  induction i with
  | zero => rfl
  | succ i ih =>
    unfold zmU
    rw [ih, State.heap_setTop, State.pushCell_setTop, State.setCell_setTop]
section ZMN
variable {E : CtlPost} {e : Env} {d : Bool} {acts : List Action} {s : State}
theorem zwp_row {cI cc : ClassId} {kc : Class} {ty : FieldType} {m : Int32} (hk : s.vm.classes[cI]? = some kc) (hkind : kc.kind = .array cc ty) (hm : ¬ m < 0) (h1 : ¬ m.toNatClampNeg > e.platform.arrayLengthLimit) (h2 : ¬ m.toNatClampNeg * componentBytes ty > e.platform.maxHeapBytes) (hf : fits ty (defaultValue ty) = true)
    (h3 : s.heap.size < e.platform.maxCells) (h4 : s.slotsUsed + m.toNatClampNeg ≤ e.platform.maxSlots) {Q : Addr → Pre} (hq : ∀ acts', Q s.heap.size d acts' (s.pushCell (arrV cI m.toNatClampNeg fun _ => defaultValue ty))) : wp (multianewarray.make cI [m]) Q E e d acts s := by
  unfold multianewarray.make
  simp only [wp_bind', W.ite, hm, if_false, wp_pure', W.theClass, hk, hkind, Option.some.injEq, exists_eq_left']
  refine W.newArray_of hk hkind h1 h2 h3 h4 hf (fun acts' => ?_)
  rw [arrV_new]
  exact hq acts'
theorem zwp_make {cA cI cc : ClassId} {k kc : Class} {ty : FieldType} {x m : Int32} {N : Nat} (hN : x.toNatClampNeg = N) (hk : s.vm.classes[cA]? = some k) (hkind : k.kind = .array cI (.array ty)) (hkc : s.vm.classes[cI]? = some kc) (hkindc : kc.kind = .array cc ty) (hx : ¬ x < 0) (hm : ¬ m < 0)
    (h1 : ¬ N > e.platform.arrayLengthLimit) (h2 : ¬ N * componentBytes (.array ty) > e.platform.maxHeapBytes) (h3 : ¬ m.toNatClampNeg > e.platform.arrayLengthLimit) (h4 : ¬ m.toNatClampNeg * componentBytes ty > e.platform.maxHeapBytes) (hf : fits ty (defaultValue ty) = true)
    (h5 : s.heap.size + 1 + N ≤ e.platform.maxCells) (h6 : s.slotsUsed + N + N * m.toNatClampNeg ≤ e.platform.maxSlots) {Q : Addr → Pre} (hq : ∀ d' acts', Q s.heap.size d' acts' (zmU s cA cI N m.toNatClampNeg (defaultValue ty) N)) : wp (multianewarray.make cA [x, m]) Q E e d acts s := by
  have hno : ([m].find? (· < 0)) = none := by simp [hm]
  unfold multianewarray.make
  simp only [wp_bind', W.ite, hx, if_false, wp_pure', W.theClass, hk, hkind, Option.some.injEq, exists_eq_left', hN]
  refine W.newArray_of hk hkind h1 h2 (by omega) (Nat.le_trans (Nat.le_add_right _ _) h6) rfl (fun acts' => ?_)
  simp only [hno]
  rw [ite_self, wp_bind', Std.Legacy.Range.forIn_eq_forIn_range', arrV_new, show ([:N] : Std.Legacy.Range).size = N by simp [Std.Legacy.Range.size]]
  show wp (forIn (List.range' 0 N 1) PUnit.unit _) _ E e d acts' _
  refine wp_forIn_inv (fun rest u => ∃ i, i + rest.length = N ∧ rest = List.range' i rest.length ∧ u = zmU s cA cI N m.toNatClampNeg (defaultValue ty) i) _ _ ⟨0, by simp, by simp, ?_⟩ ?_ ?_
  · show _ = s.pushCell (zmO cA N s.heap.size 0)
    unfold zmO
    simp
  · rintro y rest u d' acts2 Q' ⟨i, hi, hl, rfl⟩ hnext
    rw [List.length_cons, List.range'_succ] at hl
    obtain ⟨rfl, hrest⟩ := List.cons.inj hl
    rw [List.length_cons] at hi
    obtain ⟨a1, a2, a3, a4, a5, a6⟩ := zmU_inv s cA cI N m.toNatClampNeg (defaultValue ty) y
    have hmul : y * m.toNatClampNeg + m.toNatClampNeg ≤ N * m.toNatClampNeg := by
      have := Nat.mul_le_mul_right m.toNatClampNeg (show y + 1 ≤ N by omega)
      rw [Nat.succ_mul] at this; exact this
    simp only [wp_bind']
    refine zwp_row (by rw [a3]; exact hkc) hkindc hm h3 h4 hf (by omega) (by omega) (fun acts3 => ?_)
    have hl0 : s.heap.size < (zmU s cA cI N m.toNatClampNeg (defaultValue ty) y).heap.size := by omega
    simp only [wp_bind', W.writeLoc, wp_pure']
    refine ⟨zmO cA N s.heap.size y, by rw [State.heap_pushCell_of_lt (h := hl0)]; exact a2, by unfold zmO arrV; exact fun q => by cases q, by unfold zmO; rw [arrV_size]; omega, ?_, hnext _ _ _ ⟨y + 1, by omega, hrest, ?_⟩⟩
    · show State.fitsSlot _ cA .none y _ = true
      simp [State.fitsSlot, State.slotType?, a3, hk, hkind]
      rfl
    · rw [a1, zmO_next]; rfl
  · rintro u d' acts2 ⟨i, hi, hl, rfl⟩
    simp only [wp_pure']
    have : i = N := by simpa using hi
    subst this
    exact hq _ _
end ZMN
section ZMS
variable {p : Program} {l : Launch} {e : Env} {Rm : Room} {s : State} {m : MethodId} {args : Array Value} {below : List Frame} {meth : Method} {c : Code} {T : State} {locs : List Loc} {cells slots : Nat} {Q : State → Prop} {H : Heap}
theorem zmU_st (X : Stand p l e Rm s m args below meth c T locs cells slots) (cA cI : ClassId) (N M : Nat) (dv : Value) (i : Nat) : Stand p l e Rm s m args below meth c (zmU T cA cI N M dv i) (locs ++ (List.range i).map fun j => ⟨T.heap.size, j⟩) (cells + 1 + i) (slots + N + i * M) := by
  induction i with
  | zero =>
    have h := X.pushed (zmO cA N T.heap.size 0)
    rw [show (zmO cA N T.heap.size 0).slots.size = N from arrV_size _ _ _] at h
    simpa [zmU] using h
  | succ i ih =>
    obtain ⟨a1, a2, a3, a4, a5, a6⟩ := zmU_inv T cA cI N M dv i
    have hc : ((zmU T cA cI N M dv i).pushCell (arrV cI M fun _ => dv)).heap[T.heap.size]? = some (zmO cA N T.heap.size i) := by rw [State.heap_pushCell_of_lt (h := by omega)]; exact a2
    have h := (ih.pushed (arrV cI M fun _ => dv)).stored hc i (.ref (T.heap.size + 1 + i))
    rw [arrV_size, zmO_next, List.append_assoc] at h
    have e2 : (List.range (i + 1)).map (fun j => (⟨T.heap.size, j⟩ : Loc)) = (List.range i).map (fun j => (⟨T.heap.size, j⟩ : Loc)) ++ [⟨T.heap.size, i⟩] := by simp [List.range_succ]
    rw [e2, show slots + N + (i + 1) * M = slots + N + i * M + M by rw [Nat.succ_mul]; omega]
    exact h
theorem zW_mnew {cc : ByteArray} (hexec : p.tables.exec = Jvm.exec) (hb : c.code = cc) {own : String} {index : Nat} {ty : FieldType} (hown : s.vm.findClass own = some m.cls) (w1 : (Cond.classLink own index ("[" ++ (FieldType.array ty).toString)).before args s = true) (w2 : (Cond.arrayOver (.array ty)).before args s = true) (w3 : (Cond.arrayClass ty).before args s = true)
    {pc N M : Nat} {la : Array Slot} {rest : List Value} (hdg : decode cc pc = .ok (.multianewarray index 2, 4)) (hN : N < 100) (hM : M < 100) (hcb : componentBytes ty ≤ 8) (hf : fits ty (defaultValue ty) = true) (hce : cells + (1 + N) ≤ Rm.cells) (hsl : slots + (N + N * M) ≤ Rm.slots)
    (kk : ∀ (H1 : Heap) (cA cI : ClassId) (L : List Loc), s.vm.findClass ("[" ++ (FieldType.array ty).toString) = some cA → s.vm.findClass (FieldType.array ty).toString = some cI → H1.size = H.size + 1 + N → H1[H.size]? = some (arrV cA N fun j => .ref (H.size + 1 + j)) → (∀ j, j < N → H1[H.size + 1 + j]? = some (arrV cI M fun _ => defaultValue ty)) → (∀ q : Nat, q < H.size → H1[q]? = H[q]?) → (∀ q ∈ L, q.base = H.size) →
      W p l e Rm s m args below meth c H1 (locs ++ L) (cells + 1 + N) (slots + N + N * M) Q (F0 m (pc + 4) la (.ref H.size :: rest))) : W p l e Rm s m args below meth c H locs cells slots Q (F0 m pc la (.int (nI M) :: .int (nI N) :: rest)) := by
  intro T hT X
  subst hT; subst hb
  have hpl : e.platform.magicAccessors = ({} : Platform).magicAccessors := by rw [X.admits.platform]
  obtain ⟨cI, cA, kA, hcomp, -, hkA, hkindA, hnameA⟩ := arrayOverA_spec w2
  obtain ⟨cI', kC, cc, hcomp', hkC, hkindC⟩ := Cond.arrayClass_spec w3
  have ecI : cI' = cI := Option.some.inj (hcomp'.symm.trans hcomp)
  subst ecI
  obtain ⟨c0, hfc0, hcl⟩ := Cond.classLink_spec hown w1 e.platform hpl
  cases hnameA.symm.trans hfc0
  obtain ⟨hg₁, hwarm₁, hready₁⟩ := State.classEntry (e := e) X.warmed hcl
  generalize T.vm.noted m.cls index (.cls cA) = vm₁ at hg₁ hwarm₁ hready₁
  obtain ⟨kA₁, hkA₁, heA⟩ := hwarm₁.alike.2.2 _ _ hkA
  obtain ⟨kC₁, hkC₁, heC⟩ := hwarm₁.alike.2.2 _ _ hkC
  have X₁ := X.noted hwarm₁
  obtain ⟨hr1, hr2⟩ := X.roomAbove hce hsl
  have eN : (nI N).toNatClampNeg = N := nI_clamp (by omega)
  have eM : (nI M).toNatClampNeg = M := nI_clamp (by omega)
  have XF := zmU_st X₁ cA cI' N M (defaultValue ty) N
  obtain ⟨a1, a2, a3, a4, a5, a6⟩ := zmU_inv (T.setVm vm₁) cA cI' N M (defaultValue ty) N
  obtain ⟨t, b1, b2⟩ := kk _ cA cI' _ hnameA hcomp a1 (by
    refine Eq.trans a2 ?_
    refine congrArg some (arrV_congr (fun j hj => ?_))
    rw [if_pos hj]; rfl) a6 a5 (fun q hq => by
    obtain ⟨j, -, rfl⟩ := List.mem_map.mp hq
    rfl) _ rfl XF
  refine ⟨t, ?_, b2⟩
  have hM8 : M * componentBytes ty ≤ 100 * 8 := Nat.mul_le_mul (by omega) hcb
  jvm_step X.here [hexec, hdg]
  simp only [multianewarray.sem, wp_bind', W.resolveClassAt_links (State.method?_setTop (F0 m pc la (.int (nI M) :: .int (nI N) :: rest)) X.here.top) hg₁]
  rw [W.popN, if_neg (by decide)]
  refine ⟨_, State.topJava?_setTop' (s := T.setVm vm₁) _ X.here.top, [.int (nI N), .int (nI M)], rest, rfl, rfl, ?_⟩
  simp only [List.mapM_cons, List.mapM_nil, wp_bind', wp_pure']
  refine zwp_make (N := N) (k := kA₁) (kc := kC₁) eN hkA₁ (by rw [heA]; exact hkindA) hkC₁ (by rw [heC]; exact hkindC) (nI_pos (by omega)) (nI_pos (by omega)) (by rw [Launch.admits_arrayLengthLimit X.admits]; omega) (by rw [Launch.admits_maxHeapBytes X.admits]; show ¬ N * 4 > 536870912; omega) (by rw [eM, Launch.admits_arrayLengthLimit X.admits]; omega) (by rw [eM, Launch.admits_maxHeapBytes X.admits]; omega) hf (by show T.heap.size + 1 + _ ≤ _; omega) (by rw [eM]; show T.slotsUsed + _ + _ ≤ _; omega) (fun d' acts' => ?_)
  rw [eM, show ((T.setTop (F0 m pc la (.int (nI M) :: .int (nI N) :: rest))).setVm vm₁).setTop { F0 m pc la (.int (nI M) :: .int (nI N) :: rest) with stack := rest } = (T.setVm vm₁).setTop (F0 m pc la rest) from State.setTop_setTop _ _ _, zmU_top]
  simp only [wp_bind', W.mark, W.pushRef, State.topJava?_setTop' _ XF.here.top, Option.some.injEq, exists_eq_left', State.setTop_setTop, State.heap_setTop]
  intro acts
  simp [jvm, XF.here.top]
  exact b1
end ZMS
section ZMR
variable {p : Program} {l : Launch} {e : Env} {Rm : Room} {s : State} {m : MethodId} {args : Array Value} {below : List Frame} {meth : Method} {c : Code} {Q : State → Prop} {cells slots : Nat}
variable {cc : ByteArray} {own : String} {nL : Nat} {g : zG} {pc pc' : Nat} {ls : List (Option Value)} {st : List Value} {n : Nat} {I : zI} {J : zJ} {R : zR}
/-- the references of a new array of N rows: row j at place j -/
def zmW (R : zR) (k N : Nat) : zR := fun k' i j => bif (k' == k && i == 0) && Nat.blt j N then some j else R k' i j
theorem zmW_if (R : zR) (k N k' i j : Nat) : zmW R k N k' i j = if k' = k ∧ i = 0 ∧ j < N then some j else R k' i j := by
  unfold zmW
  rw [Bool.cond_eq_ite]
  simp only [Bool.and_eq_true, beq_iff_eq, Nat.blt_eq, and_assoc]
theorem z_mnew (X : zC p s m args meth c cc own nL g) {t u N M index : Nat} (k k2 : Nat) {ty : FieldType} (hty : zty t = .array ty) (htu : zty u = ty) (ht : t < 10) (hu : u < 3) (w1 : Cond.classLink own index ("[" ++ (FieldType.array ty).toString) ∈ zTB) (w2 : Cond.arrayOver (.array ty) ∈ lw_tbl) (w3 : Cond.arrayClass ty ∈ zTB)
    (hs : zsh k 0 = .inr (t, N)) (hs2 : ∀ j, zsh k2 j = .inr (u, M)) (hz : ∀ j, j < N → zft k j = k2 + 2) (hz2 : ∀ j, zft k2 j = 0) (hk : k = 7 ∨ k = 22) (hk2 : k2 = 8 ∨ k2 = 23) (hN : N = 6) (hM : M < 100) (hn : zn g.2.2.2 k 0 = n) (hn2 : ∀ j, j < 6 → zn g.2.2.2 k2 j = n + 1 + j) (hd0 : defaultValue ty = .int 0) (hce : cells + (1 + N) ≤ Rm.cells) (hsl : slots + (N + N * M) ≤ Rm.slots) (hd : zD cc pc (.multianewarray index 2) 4 pc')
    (kk : zV p l e Rm s m args below meth c g nL Q (cells + 1 + N) (slots + N + N * M) pc' ls (.ref (zad g k 0) :: st) (n + 1 + N) I J (zmW R k N)) : zV p l e Rm s m args below meth c g nL Q cells slots pc ls (.int (nI M) :: .int (nI N) :: st) n I J R := by
  obtain ⟨hd, rfl⟩ := hd
  obtain ⟨hexec, hb, hown, hts, hml, hK, hB, hlocks⟩ := X
  intro H locs la hP hS hL
  have hsz : H.size = zad g k 0 := by have := hP.2.1; unfold zad; rw [hn]; exact this
  have hcb : componentBytes ty ≤ 8 := by
    rw [← htu]
    rcases (show u = 0 ∨ u = 1 ∨ u = 2 by omega) with rfl | rfl | rfl <;> decide
  have hff : fits ty (defaultValue ty) = true := by
    rw [← htu]
    rcases (show u = 0 ∨ u = 1 ∨ u = 2 by omega) with rfl | rfl | rfl <;> rfl
  refine zW_mnew hexec hb hown (hts _ w1) (va_Nw.use rfl (hK.2.1 _ w2 rfl)) (hts _ w3) hd (by omega) hM hcb hff hce hsl fun H1 cA cI L f1 f2 z1 e1 e2 o1 hLb => ?_
  have ecA : cA = g.2.1 t := by
    have hra := (zK.arr hK (t := t) ht).2
    rw [hty] at hra
    exact Option.some.inj (f1.symm.trans hra)
  have ecI : cI = g.2.1 u := by
    have hra := (zK.arr hK (t := u) (by omega)).2
    rw [← htu] at f2
    rcases (show u = 0 ∨ u = 1 ∨ u = 2 by omega) with rfl | rfl | rfl <;> exact Option.some.inj (f2.symm.trans hra)
  subst ecA
  subst ecI
  rw [hsz]
  have hvk : zv g.2.2.2 k 0 := by rcases hk with rfl | rfl <;> exact ⟨rfl, by decide⟩
  have hvk2 : ∀ j, j < 6 → zv g.2.2.2 k2 j := by intro j hj; rcases hk2 with rfl | rfl <;> exact hj
  obtain ⟨hc, hs0, ha, hdz⟩ := hP
  dsimp only at hs0 ha hdz
  refine kk H1 _ la ⟨hc, by show H1.size = _ + (n + 1 + N); omega, fun k' i' hv' hl' => ?_, fun k' i' j' hv' hl' => ?_⟩ ⟨Nat.le_trans hS.1 (by omega), fun x h1 h2 => (o1 x (by have := hS.1; omega)).trans (hS.2.1 x h1 h2), fun q hq => ?_⟩ hL
  · dsimp only at hl'
    by_cases q1 : k' = k ∧ i' = 0
    · obtain ⟨rfl, rfl⟩ := q1
      unfold zat
      rw [hs]
      dsimp only
      rw [← hsz, e1]
      refine congrArg some (arrV_congr (fun j hj => ?_))
      rw [zval2 (hz j hj)]
      rw [zmW_if, if_pos ⟨rfl, rfl, hj⟩]
      show Value.ref _ = Value.ref (zad g k2 j)
      unfold zad
      rw [hn2 j (by omega), hs0]
      exact congrArg Value.ref (by omega)
    · by_cases q2 : k' = k2 ∧ i' < 6
      · obtain ⟨rfl, q3⟩ := q2
        unfold zat
        rw [hs2]
        dsimp only
        have ea : zad g k' i' = H.size + 1 + i' := by unfold zad; rw [hn2 i' q3, hs0]; omega
        rw [ea, e2 i' (by omega)]
        refine congrArg some (arrV_congr (fun j hj => ?_))
        rw [zval0 (hz2 j), (hdz k' i' j hv' (by rw [hn2 i' q3]; omega)).1, hd0]
      · have hlt : zn g.2.2.2 k' i' < n := by
          rcases Nat.lt_or_ge (zn g.2.2.2 k' i') n with q | q
          · exact q
          · exfalso
            by_cases q0 : zn g.2.2.2 k' i' = n
            · exact q1 (zn_inj hc hv' hvk (by omega))
            · have hj6 : zn g.2.2.2 k' i' - n - 1 < 6 := by omega
              have := zn_inj hc hv' (hvk2 _ hj6) (by rw [hn2 _ hj6]; omega)
              exact q2 ⟨this.1, by omega⟩
        refine (ha k' i' hv' hlt).kept ?_ (fun f => ?_)
        · exact o1 _ (by unfold zad; omega)
        · have : zmW R k N k' i' f = R k' i' f := by rw [zmW_if, if_neg (fun z => q1 ⟨z.1, z.2.1⟩)]
          unfold zval
          dsimp only
          rw [this]
  · dsimp only at hl' ⊢
    have q1 : ¬ (k' = k ∧ i' = 0 ∧ j' < N) := by rintro ⟨rfl, rfl, -⟩; omega
    rw [zmW_if, if_neg q1]
    exact hdz k' i' j' hv' (by omega)
  · rcases List.mem_append.mp hq with h | h
    · exact hS.2.2 q h
    · show g.2.2.1 ≤ q.base
      rw [hLb q h, hs0]
      omega
theorem z_cs {cells2 slots2 n2 : Nat} (hc : cells = cells2) (hs : slots = slots2) (hn : n = n2) (kk : zV p l e Rm s m args below meth c g nL Q cells2 slots2 pc ls st n2 I J R) : zV p l e Rm s m args below meth c g nL Q cells slots pc ls st n I J R := by
  subst hc; subst hs; subst hn; exact kk
end ZMR
