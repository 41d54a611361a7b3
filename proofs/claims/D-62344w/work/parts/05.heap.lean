/-! ROWS OF THE HEAP -/
section ZH
variable {p : Program} {l : Launch} {e : Env} {Rm : Room} {s : State} {m : MethodId} {args : Array Value} {below : List Frame} {meth : Method} {c : Code} {Q : State → Prop} {cells slots : Nat}
variable {cc : ByteArray} {own : String} {nL : Nat} {g : zG} {pc pc' : Nat} {ls : List (Option Value)} {st : List Value} {n : Nat} {I : zI} {J : zJ} {R : zR}
theorem z_idiv (X : zC p s m args meth c cc own nL g) {x y : Int32} (hd : zD cc pc .idiv 1 pc') (hne : ¬ y = 0) (kk : zV p l e Rm s m args below meth c g nL Q cells slots pc' ls (.int (x / y) :: st) n I J R) : zV p l e Rm s m args below meth c g nL Q cells slots pc ls (.int y :: .int x :: st) n I J R := by
  obtain ⟨hd, rfl⟩ := hd
  intro H locs la hP hS hL
  exact lv_idiv X.1 X.2.1 hd hne (kk H locs la hP hS hL)
theorem z_irem (X : zC p s m args meth c cc own nL g) {x y : Int32} (hd : zD cc pc .irem 1 pc') (hne : ¬ y = 0) (kk : zV p l e Rm s m args below meth c g nL Q cells slots pc' ls (.int (x - x / y * y) :: st) n I J R) : zV p l e Rm s m args below meth c g nL Q cells slots pc ls (.int y :: .int x :: st) n I J R := by
  obtain ⟨hd, rfl⟩ := hd
  intro H locs la hP hS hL
  exact lv_irem X.1 X.2.1 hd hne (kk H locs la hP hS hL)
theorem z_i2l (X : zC p s m args meth c cc own nL g) {x : Int32} (hd : zD cc pc .i2l 1 pc') (kk : zV p l e Rm s m args below meth c g nL Q cells slots pc' ls (.long x.toInt64 :: st) n I J R) : zV p l e Rm s m args below meth c g nL Q cells slots pc ls (.int x :: st) n I J R := by
  obtain ⟨hd, rfl⟩ := hd
  intro H locs la hP hS hL
  exact lv_i2l X.1 X.2.1 hd rfl (kk H locs la hP hS hL)
theorem z_iushr (X : zC p s m args meth c cc own nL g) {x y : Int32} (hd : zD cc pc .iushr 1 pc') (kk : zV p l e Rm s m args below meth c g nL Q cells slots pc' ls (.int ((x.toUInt32 >>> (y.toUInt32 &&& Int32.toUInt32 31)).toInt32) :: st) n I J R) : zV p l e Rm s m args below meth c g nL Q cells slots pc ls (.int y :: .int x :: st) n I J R := by
  obtain ⟨hd, rfl⟩ := hd
  intro H locs la hP hS hL
  exact lv_iushr X.1 X.2.1 hd rfl (kk H locs la hP hS hL)
theorem z_ldc2 (X : zC p s m args meth c cc own nL g) {index : Nat} {v : Int64} (hw : Cond.constantLong own index v ∈ zTB) (hd : zD cc pc (.ldc2_w index) 3 pc') (kk : zV p l e Rm s m args below meth c g nL Q cells slots pc' ls (.long v :: st) n I J R) : zV p l e Rm s m args below meth c g nL Q cells slots pc ls st n I J R := by
  obtain ⟨hd, rfl⟩ := hd
  intro H locs la hP hS hL
  exact lv_ldc2 X.1 X.2.1 X.2.2.1 (X.2.2.2.1 _ hw) hd (kk H locs la hP hS hL)
/-- an object, by its parts -/
theorem zRep.obj {k i ci N : Nat} {H : Heap} (hP : zRep g (n, I, J, R) H) (hv : zv g.2.2.2 k i) (hn : zn g.2.2.2 k i < n) (hs : zsh k i = .inl (ci, N)) : t_OB (zad g k i) (g.1.1 ci) N (g.1.2 ci) H (zval g (n, I, J, R) k i) := by
  have h := hP.2.2.1 k i hv hn
  unfold zat at h
  rw [hs] at h
  exact h
theorem zRep.arr {k i t N : Nat} {H : Heap} (hP : zRep g (n, I, J, R) H) (hv : zv g.2.2.2 k i) (hn : zn g.2.2.2 k i < n) (hs : zsh k i = .inr (t, N)) : H[zad g k i]? = some (arrV (g.2.1 t) N (zval g (n, I, J, R) k i)) := by
  have h := hP.2.2.1 k i hv hn
  unfold zat at h
  rw [hs] at h
  exact h
/-- what a field's place is in a class's table -/
def zF (own : String) (index : Nat) (ref : String) (ci f : Nat) (C : String) (T : u_T) (N : Nat) : Prop := zcl[ci]? = some (C, T, N) ∧ f < N ∧ (∀ w ∈ u_ws C T N, w ∈ zTB) ∧ (Cond.fieldLink own index ref (T f).2.1 (T f).2.2.1 ∈ zTB ∨ ∃ host, Cond.fieldLinkNest own index ref (T f).2.1 (T f).2.2.1 host ∈ lw_tbl) ∧ ((T f).1 = ref ∨ Cond.sameField ref (T f).1 (T f).2.1 (T f).2.2.1 ∈ zTB)
theorem z_get (X : zC p s m args meth c cc own nL g) {k i f ci N index : Nat} {ref C : String} {T : u_T} (hF : zF own index ref ci f C T N) (hs : zsh k i = .inl (ci, N)) (hv : zv g.2.2.2 k i) (hn : zn g.2.2.2 k i < n) (hd : zD cc pc (.getfield index) 3 pc') (kk : zV p l e Rm s m args below meth c g nL Q cells slots pc' ls (zval g (n, I, J, R) k i f :: st) n I J R) : zV p l e Rm s m args below meth c g nL Q cells slots pc ls (.ref (zad g k i) :: st) n I J R := by
  obtain ⟨hd, rfl⟩ := hd
  obtain ⟨hc, hk, hin, hlink, hsame⟩ := hF
  obtain ⟨hexec, hb, hown, hts, hml, hK, hB, hlocks⟩ := X
  intro H locs la hP hS hL
  obtain ⟨cell, q1, q2, q3, q4⟩ := hP.obj hv hn hs
  obtain ⟨hSl, hfc, kC, hkC, hkind⟩ := hK.1.1 ci _ hc
  obtain ⟨cf, kf, fi, fd, hi, hsl⟩ := hSl f hk
  have hi2 : s.fieldFound? ref (T f).2.1 (T f).2.2.1 = some (cf, kf, fi, fd) := by
    rcases hsame with e | e
    · rw [← e]; exact hi
    · exact u_same (hts _ e) _ hi
  rcases hlink with hl | ⟨host, hl⟩
  · exact W.getf hexec hb hown (hts _ hl) hi2 (u_facts hfc hkC (u_lays hts hin hk) hi).1 q1 (by rw [q3]; exact fun h => by cases h) (by rw [hsl]; exact q4 f hk) rfl rfl hd (kk H locs la hP hS hL)
  · exact va_Wgetf hexec hb hown (va_Nw.use rfl (hK.2.1 _ hl rfl)) hi2 (u_facts hfc hkC (u_lays hts hin hk) hi).1 q1 (by rw [q3]; exact fun h => by cases h) (by rw [hsl]; exact q4 f hk) rfl rfl hd (kk H locs la hP hS hL)
/-- a field is written: the state behind it is (n, I2, J2, R2), which differs at this place alone -/
theorem z_put (X : zC p s m args meth c cc own nL g) {k i f ci N index : Nat} {ref C : String} {T : u_T} {I2 : zI} {J2 : zJ} {R2 : zR} {v : Value} {ty : FieldType} (hF : zF own index ref ci f C T N) (hs : zsh k i = .inl (ci, N)) (hv : zv g.2.2.2 k i) (hn : zn g.2.2.2 k i < n) (t0 : Nat → FieldType) (ht0 : ∀ k, k < N → parseFieldDescriptor (T k).2.2.1 = some (t0 k)) (hnm : ∀ a, a < N → ∀ b, b < N → a ≠ b → (T a).2.1 ≠ (T b).2.1)
    (hfin : (T f).2.2.2 = false ∨ (meth.name = "<init>" ∧ (T f).2.2.2 = true ∧ (T f).1 = own ∧ Cond.fieldLink own index ref (T f).2.1 (T f).2.2.1 ∈ zTB)) (hty : parseFieldDescriptor (T f).2.2.1 = some ty) (hnr : narrow ty v = v) (hft : fits ty v = true)
    (hval : zval g (n, I2, J2, R2) k i f = v) (hoth : ∀ k' i' j', ¬ (k' = k ∧ i' = i ∧ j' = f) → I2 k' i' j' = I k' i' j' ∧ J2 k' i' j' = J k' i' j' ∧ R2 k' i' j' = R k' i' j')
    (hd : zD cc pc (.putfield index) 3 pc') (kk : zV p l e Rm s m args below meth c g nL Q cells slots pc' ls st n I2 J2 R2) : zV p l e Rm s m args below meth c g nL Q cells slots pc ls (v :: .ref (zad g k i) :: st) n I J R := by
  obtain ⟨hd, rfl⟩ := hd
  obtain ⟨hc, hk, hin, hlink, hsame⟩ := hF
  obtain ⟨hexec, hb, hown, hts, hml, hK, hB, hlocks⟩ := X
  intro H locs la hP hS hL
  have hap := va_apart (own := own) hts hin t0 ht0 hnm hK.1 hc
  obtain ⟨cell, q1, q2, q3, q4⟩ := hP.obj hv hn hs
  obtain ⟨hSl, hfc, kC, hkC, hkind⟩ := hK.1.1 ci _ hc
  obtain ⟨cf, kf, fi, fd, hi, hsl⟩ := hSl f hk
  have hi2 : s.fieldFound? ref (T f).2.1 (T f).2.2.1 = some (cf, kf, fi, fd) := by
    rcases hsame with e | e
    · rw [← e]; exact hi
    · exact u_same (hts _ e) _ hi
  have hst := (u_facts hfc hkC (u_lays hts hin hk) hi).1
  have hlay := hts _ (hin _ (u_in_lay hk))
  unfold u_lay at hlay
  have key : ∀ H1 : Heap, H1[zad g k i]? = some (cell.setSlot fd.slot v) → H1.size = H.size → (∀ q, q ≠ zad g k i → H1[q]? = H[q]?) → W p l e Rm s m args below meth c H1 (locs ++ [⟨zad g k i, fd.slot⟩]) cells slots Q (F0 m (pc + 3) la st) := by
    intro H1 e1 e2 e3
    refine kk H1 _ la ?_ (hS.put e2 e3 (by show g.2.2.1 ≤ zad g k i; unfold zad; omega)) hL
    refine hP.set hv hn rfl e2 ?_ e3 (fun k' i' j' hne => hoth k' i' j' (fun z => hne ⟨z.1, z.2.1⟩))
    unfold zat
    rw [hs]
    rw [hsl] at e1
    refine t_OB.to (V := updV (zval g (n, I, J, R) k i) f v) ⟨_, e1, q2, q3, t_set q4 hap hk v⟩ (fun j _ => ?_)
    by_cases hj : j = f
    · subst hj; simp [updV, hval]
    · obtain ⟨e4, e5, e6⟩ := hoth k i j (fun z => hj z.2.2)
      simp only [updV, if_neg hj]
      unfold zval
      dsimp only
      rw [e4, e5, e6]
  rcases hfin with hfin | ⟨hin2, hfin, hdecl, hl⟩
  · rw [if_neg (by rw [hfin]; decide)] at hlay
    have h6 := u_store hfc hkC hkind hlay hi hty hnr hft
    rcases hlink with hl | ⟨host, hl⟩
    · exact W.putK hexec hb (f := fd) ⟨hown, hts _ hl, ⟨_, _, _, hi2⟩, hst⟩ (by rw [q2]; exact h6) q1 q3 (by rw [hsl]; exact k2_hasslot (q4 f hk)) rfl rfl hd key
    · exact va_WputK hexec hb (f := fd) hown (va_Nw.use rfl (hK.2.1 _ hl rfl)) hi2 hst (by rw [q2]; exact h6) q1 q3 (by rw [hsl]; exact k2_hasslot (q4 f hk)) rfl rfl hd key
  · rw [if_pos hfin] at hlay
    have hcf : m.cls = cf := by
      obtain ⟨_, _, c', _, _, _, -, -, hf', -, -, -, hown2, -⟩ := Cond.laysFinal_spec hlay
      have e1 : c' = cf := by have := hi.symm.trans hf'; simp at this; exact this.1.symm
      rw [hdecl] at hown2
      rw [← e1]; exact Option.some.inj (hown.symm.trans hown2)
    have h6 := u_fits hfc hkC hkind (Or.inr hlay) hi hty hnr hft
    exact W.putFinK hexec hb hown (hts _ hl) hi2 hst hcf hin2 (by rw [q2]; exact h6) q1 q3 (by rw [hsl]; exact k2_hasslot (q4 f hk)) rfl rfl hd key
theorem zu_oth {α : Type} {f : Nat → Nat → Nat → α} {k i j : Nat} {v : α} {k' i' j' : Nat} (h : ¬ (k' = k ∧ i' = i ∧ j' = j)) : zu f k i j v k' i' j' = f k' i' j' := by rw [zu_if, if_neg h]
theorem z_putI (X : zC p s m args meth c cc own nL g) {k i f ci N index : Nat} {ref C : String} {T : u_T} {x : Int32} {ty : FieldType} (hF : zF own index ref ci f C T N) (hs : zsh k i = .inl (ci, N)) (hv : zv g.2.2.2 k i) (hn : zn g.2.2.2 k i < n) (t0 : Nat → FieldType) (ht0 : ∀ k, k < N → parseFieldDescriptor (T k).2.2.1 = some (t0 k)) (hnm : ∀ a, a < N → ∀ b, b < N → a ≠ b → (T a).2.1 ≠ (T b).2.1)
    (hfin : (T f).2.2.2 = false ∨ (meth.name = "<init>" ∧ (T f).2.2.2 = true ∧ (T f).1 = own ∧ Cond.fieldLink own index ref (T f).2.1 (T f).2.2.1 ∈ zTB)) (hty : parseFieldDescriptor (T f).2.2.1 = some ty) (hnr : narrow ty (.int x) = .int x) (hft : fits ty (.int x) = true) (hz : zft k f = 0)
    (hd : zD cc pc (.putfield index) 3 pc') (kk : zV p l e Rm s m args below meth c g nL Q cells slots pc' ls st n (zu I k i f x) J R) : zV p l e Rm s m args below meth c g nL Q cells slots pc ls (.int x :: .ref (zad g k i) :: st) n I J R :=
  z_put X hF hs hv hn t0 ht0 hnm hfin hty hnr hft (by unfold zval; rw [hz]; show Value.int (zu I k i f x k i f) = _; rw [zu_s]) (fun _ _ _ h => ⟨zu_oth h, rfl, rfl⟩) hd kk
theorem z_putR (X : zC p s m args meth c cc own nL g) {k i f ci N index t : Nat} {ref C : String} {T : u_T} {v : Value} (r : Option Nat) {ty : FieldType} (hF : zF own index ref ci f C T N) (hs : zsh k i = .inl (ci, N)) (hv : zv g.2.2.2 k i) (hn : zn g.2.2.2 k i < n) (t0 : Nat → FieldType) (ht0 : ∀ k, k < N → parseFieldDescriptor (T k).2.2.1 = some (t0 k)) (hnm : ∀ a, a < N → ∀ b, b < N → a ≠ b → (T a).2.1 ≠ (T b).2.1)
    (hfin : (T f).2.2.2 = false ∨ (meth.name = "<init>" ∧ (T f).2.2.2 = true ∧ (T f).1 = own ∧ Cond.fieldLink own index ref (T f).2.1 (T f).2.2.1 ∈ zTB)) (hty : parseFieldDescriptor (T f).2.2.1 = some ty) (hnr : ∀ r : Option Nat, narrow ty (va_rf r) = va_rf r) (hft : ∀ r : Option Nat, fits ty (va_rf r) = true) (hz : zft k f = t + 2) (hr : v = va_rf (r.map (zad g t)))
    (hd : zD cc pc (.putfield index) 3 pc') (kk : zV p l e Rm s m args below meth c g nL Q cells slots pc' ls st n I J (zu R k i f r)) : zV p l e Rm s m args below meth c g nL Q cells slots pc ls (v :: .ref (zad g k i) :: st) n I J R := by
  subst hr
  exact z_put X hF hs hv hn t0 ht0 hnm hfin hty (hnr _) (hft _) (by unfold zval; rw [hz]; show va_rf ((zu R k i f r k i f).map (zad g t)) = _; rw [zu_s]) (fun _ _ _ h => ⟨rfl, rfl, zu_oth h⟩) hd kk
/-! arrays -/
theorem zK.arr {t : Nat} (hK : zK g s) (ht : t < 10) : ArrOfT s (g.2.1 t) (zty t) ∧ va_RA s (g.2.1 t) (zty t) := by
  refine hK.1.2 t (g.2.1 t, zty t) ?_
  unfold ztys
  rw [List.getElem?_map, List.getElem?_range ht]
  rfl
theorem zval0 {k i f : Nat} (h : zft k f = 0) : zval g (n, I, J, R) k i f = .int (I k i f) := by unfold zval; rw [h]
theorem zval1 {k i f : Nat} (h : zft k f = 1) : zval g (n, I, J, R) k i f = .long (J k i f) := by unfold zval; rw [h]
theorem zval2 {k i f t : Nat} (h : zft k f = t + 2) : zval g (n, I, J, R) k i f = va_rf ((R k i f).map (zad g t)) := by unfold zval; rw [h]
theorem z_iald (X : zC p s m args meth c cc own nL g) {k i N : Nat} (j : Nat) {x : Int32} (hs : zsh k i = .inr (0, N)) (hz : zft k j = 0) (hv : zv g.2.2.2 k i) (hn : zn g.2.2.2 k i < n) (hj : j < N) (hx : x = nI j) (hN : N < 2 ^ 31) (hd : zD cc pc .iaload 1 pc') (kk : zV p l e Rm s m args below meth c g nL Q cells slots pc' ls (.int (I k i j) :: st) n I J R) : zV p l e Rm s m args below meth c g nL Q cells slots pc ls (.int x :: .ref (zad g k i) :: st) n I J R := by
  obtain ⟨hd, rfl⟩ := hd
  subst hx
  intro H locs la hP hS hL
  have hA := hP.arr hv hn hs
  exact W.iald (v := .int (I k i j)) X.1 X.2.1 hA ((zK.arr X.2.2.2.2.2.1 (t := 0) (by decide)).1 N _) (fun q => by cases q) (by rw [arrV_size]; exact vp_in_nI hj hN) (by rw [nI_clamp (by omega), arrV_read _ _ hj, zval0 hz]) rfl rfl hd (kk H locs la hP hS hL)
theorem z_zald (X : zC p s m args meth c cc own nL g) {k i N : Nat} (j : Nat) {x : Int32} (hs : zsh k i = .inr (1, N)) (hz : zft k j = 0) (hv : zv g.2.2.2 k i) (hn : zn g.2.2.2 k i < n) (hj : j < N) (hx : x = nI j) (hN : N < 2 ^ 31) (hd : zD cc pc .baload 1 pc') (kk : zV p l e Rm s m args below meth c g nL Q cells slots pc' ls (.int (I k i j) :: st) n I J R) : zV p l e Rm s m args below meth c g nL Q cells slots pc ls (.int x :: .ref (zad g k i) :: st) n I J R := by
  obtain ⟨hd, rfl⟩ := hd
  subst hx
  intro H locs la hP hS hL
  have hA := hP.arr hv hn hs
  exact W.zald (v := .int (I k i j)) X.1 X.2.1 hA ((zK.arr X.2.2.2.2.2.1 (t := 1) (by decide)).1 N _) (fun q => by cases q) (by rw [arrV_size]; exact vp_in_nI hj hN) (by rw [nI_clamp (by omega), arrV_read _ _ hj, zval0 hz]) rfl rfl hd (kk H locs la hP hS hL)
theorem z_lald (X : zC p s m args meth c cc own nL g) {k i N : Nat} (j : Nat) {x : Int32} (hs : zsh k i = .inr (2, N)) (hz : zft k j = 1) (hv : zv g.2.2.2 k i) (hn : zn g.2.2.2 k i < n) (hj : j < N) (hx : x = nI j) (hN : N < 2 ^ 31) (hd : zD cc pc .laload 1 pc') (kk : zV p l e Rm s m args below meth c g nL Q cells slots pc' ls (.long (J k i j) :: st) n I J R) : zV p l e Rm s m args below meth c g nL Q cells slots pc ls (.int x :: .ref (zad g k i) :: st) n I J R := by
  obtain ⟨hd, rfl⟩ := hd
  subst hx
  intro H locs la hP hS hL
  have hA := hP.arr hv hn hs
  exact W.lald (v := .long (J k i j)) X.1 X.2.1 hA ((zK.arr X.2.2.2.2.2.1 (t := 2) (by decide)).1 N _) (fun q => by cases q) (by rw [arrV_size]; exact vp_in_nI hj hN) (by rw [nI_clamp (by omega), arrV_read _ _ hj, zval1 hz]) rfl rfl hd (kk H locs la hP hS hL)
theorem z_aald (X : zC p s m args meth c cc own nL g) {k i N t t2 : Nat} (j : Nat) {x : Int32} (hs : zsh k i = .inr (t, N)) (ht : t < 10) (hrf : (zty t).isReference = true) (hz : zft k j = t2 + 2) (hv : zv g.2.2.2 k i) (hn : zn g.2.2.2 k i < n) (hj : j < N) (hx : x = nI j) (hN : N < 2 ^ 31) (hd : zD cc pc .aaload 1 pc') (kk : zV p l e Rm s m args below meth c g nL Q cells slots pc' ls (va_rf ((R k i j).map (zad g t2)) :: st) n I J R) : zV p l e Rm s m args below meth c g nL Q cells slots pc ls (.int x :: .ref (zad g k i) :: st) n I J R := by
  obtain ⟨hd, rfl⟩ := hd
  subst hx
  intro H locs la hP hS hL
  have hA := hP.arr hv hn hs
  exact W.aald (v := va_rf ((R k i j).map (zad g t2))) (ty := zty t) X.1 X.2.1 hA ((zK.arr X.2.2.2.2.2.1 ht).1 N _) hrf (fun q => by cases q) (by rw [arrV_size]; exact vp_in_nI hj hN) (by rw [nI_clamp (by omega), arrV_read _ _ hj, zval2 hz]) rfl rfl hd (kk H locs la hP hS hL)
theorem z_asetp {k i N t j : Nat} {H H1 : Heap} {I2 : zI} {J2 : zJ} {R2 : zR} {v : Value} (hP : zRep g (n, I, J, R) H) (hs : zsh k i = .inr (t, N)) (hv : zv g.2.2.2 k i) (hn : zn g.2.2.2 k i < n) (hval : zval g (n, I2, J2, R2) k i j = v) (hoth : ∀ k' i' j', ¬ (k' = k ∧ i' = i ∧ j' = j) → I2 k' i' j' = I k' i' j' ∧ J2 k' i' j' = J k' i' j' ∧ R2 k' i' j' = R k' i' j')
    (e1 : H1[zad g k i]? = some ((arrV (g.2.1 t) N (zval g (n, I, J, R) k i)).setSlot j v)) (e2 : H1.size = H.size) (e3 : ∀ q, q ≠ zad g k i → H1[q]? = H[q]?) : zRep g (n, I2, J2, R2) H1 := by
  refine hP.set hv hn rfl e2 ?_ e3 (fun k' i' j' hne => hoth k' i' j' (fun z => hne ⟨z.1, z.2.1⟩))
  unfold zat
  rw [hs]
  show H1[zad g k i]? = some (arrV _ _ _)
  rw [e1, arrV_store]
  congr 2
  funext q
  by_cases hj : q = j
  · subst hj; simp [updV, hval]
  · obtain ⟨e4, e5, e6⟩ := hoth k i q (fun z => hj z.2.2)
    simp only [updV, if_neg hj]
    unfold zval
    dsimp only
    rw [e4, e5, e6]
theorem z_iast (X : zC p s m args meth c cc own nL g) {k i N : Nat} (j : Nat) {x y : Int32} (hs : zsh k i = .inr (0, N)) (hz : zft k j = 0) (hv : zv g.2.2.2 k i) (hn : zn g.2.2.2 k i < n) (hj : j < N) (hx : x = nI j) (hN : N < 2 ^ 31) (hd : zD cc pc .iastore 1 pc') (kk : zV p l e Rm s m args below meth c g nL Q cells slots pc' ls st n (zu I k i j y) J R) : zV p l e Rm s m args below meth c g nL Q cells slots pc ls (.int y :: .int x :: .ref (zad g k i) :: st) n I J R := by
  obtain ⟨hd, rfl⟩ := hd
  subst hx
  intro H locs la hP hS hL
  have hA := hP.arr hv hn hs
  refine W.iast X.1 X.2.1 hA ((zK.arr X.2.2.2.2.2.1 (t := 0) (by decide)).1 N _) (fun q => by cases q) (by rw [arrV_size]; exact vp_in_nI hj hN) rfl rfl hd fun H1 e1 e2 e3 => ?_
  rw [nI_clamp (by omega)] at e1
  refine kk H1 _ la (z_asetp hP hs hv hn (by rw [zval0 hz, zu_s]) (fun _ _ _ h => ⟨zu_oth h, rfl, rfl⟩) e1 e2 e3) (hS.put e2 e3 (by show g.2.2.1 ≤ zad g k i; unfold zad; omega)) hL
theorem z_zast (X : zC p s m args meth c cc own nL g) {k i N : Nat} (j : Nat) {x y : Int32} (hs : zsh k i = .inr (1, N)) (hz : zft k j = 0) (hv : zv g.2.2.2 k i) (hn : zn g.2.2.2 k i < n) (hj : j < N) (hx : x = nI j) (hN : N < 2 ^ 31) (hy : y = 0 ∨ y = 1) (hd : zD cc pc .bastore 1 pc') (kk : zV p l e Rm s m args below meth c g nL Q cells slots pc' ls st n (zu I k i j y) J R) : zV p l e Rm s m args below meth c g nL Q cells slots pc ls (.int y :: .int x :: .ref (zad g k i) :: st) n I J R := by
  obtain ⟨hd, rfl⟩ := hd
  subst hx
  intro H locs la hP hS hL
  have hA := hP.arr hv hn hs
  refine W.zast X.1 X.2.1 hA ((zK.arr X.2.2.2.2.2.1 (t := 1) (by decide)).1 N _) (fun q => by cases q) (by rw [arrV_size]; exact vp_in_nI hj hN) rfl rfl hd fun H1 e1 e2 e3 => ?_
  rw [nI_clamp (by omega)] at e1
  have hnr : narrow .boolean (.int y) = .int y := by rcases hy with rfl | rfl <;> rfl
  rw [hnr] at e1
  refine kk H1 _ la (z_asetp hP hs hv hn (by rw [zval0 hz, zu_s]) (fun _ _ _ h => ⟨zu_oth h, rfl, rfl⟩) e1 e2 e3) (hS.put e2 e3 (by show g.2.2.1 ≤ zad g k i; unfold zad; omega)) hL
theorem z_last (X : zC p s m args meth c cc own nL g) {k i N : Nat} (j : Nat) {x : Int32} {y : Int64} (hs : zsh k i = .inr (2, N)) (hz : zft k j = 1) (hv : zv g.2.2.2 k i) (hn : zn g.2.2.2 k i < n) (hj : j < N) (hx : x = nI j) (hN : N < 2 ^ 31) (hd : zD cc pc .lastore 1 pc') (kk : zV p l e Rm s m args below meth c g nL Q cells slots pc' ls st n I (zu J k i j y) R) : zV p l e Rm s m args below meth c g nL Q cells slots pc ls (.long y :: .int x :: .ref (zad g k i) :: st) n I J R := by
  obtain ⟨hd, rfl⟩ := hd
  subst hx
  intro H locs la hP hS hL
  have hA := hP.arr hv hn hs
  refine W.last X.1 X.2.1 hA ((zK.arr X.2.2.2.2.2.1 (t := 2) (by decide)).1 N _) (fun q => by cases q) (by rw [arrV_size]; exact vp_in_nI hj hN) rfl rfl hd fun H1 e1 e2 e3 => ?_
  rw [nI_clamp (by omega)] at e1
  refine kk H1 _ la (z_asetp hP hs hv hn (by rw [zval1 hz, zu_s]) (fun _ _ _ h => ⟨rfl, zu_oth h, rfl⟩) e1 e2 e3) (hS.put e2 e3 (by show g.2.2.1 ≤ zad g k i; unfold zad; omega)) hL
end ZH
