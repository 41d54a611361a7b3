/-! a new object; addresses apart -/
theorem zad_inj {g : zG} {k i i' : Nat} (hc : g.2.2.2 ≤ 6) (h : zv g.2.2.2 k i) (h' : zv g.2.2.2 k i') (e : zad g k i = zad g k i') : i = i' := by
  unfold zad at e
  exact (zn_inj hc h h' (by omega)).2
theorem zsome_inj {g : zG} {k i i' : Nat} (hc : g.2.2.2 ≤ 6) (h : zv g.2.2.2 k i) (h' : zv g.2.2.2 k i') : (some (zad g k i) = some (zad g k i')) ↔ i = i' := ⟨fun e => zad_inj hc h h' (Option.some.inj e), fun e => by rw [e]⟩
section ZNEW
variable {p : Program} {l : Launch} {e : Env} {Rm : Room} {s : State} {m : MethodId} {args : Array Value} {below : List Frame} {meth : Method} {c : Code} {Q : State → Prop} {cells slots : Nat}
variable {cc : ByteArray} {own : String} {nL : Nat} {g : zG} {pc pc' : Nat} {ls : List (Option Value)} {st : List Value} {n : Nat} {I : zI} {J : zJ} {R : zR}
theorem z_new (X : zC p s m args meth c cc own nL g) {C : String} {T : u_T} {N ci index : Nat} (k i : Nat) (hc : zcl[ci]? = some (C, T, N)) (hs : zsh k i = .inl (ci, N)) (hin : ∀ w ∈ u_ws C T N, w ∈ zTB) (t0 : Nat → FieldType) (ht0 : ∀ k, k < N → parseFieldDescriptor (T k).2.2.1 = some (t0 k)) (hdef : ∀ j, j < N → (zft k j = 0 ∧ defaultValue (t0 j) = .int 0) ∨ ((∃ t, zft k j = t + 2) ∧ defaultValue (t0 j) = .null))
    (w1 : Cond.classLink own index C ∈ zTB) (w2 : Cond.instantiable C N ∈ zTB) (w3 : Cond.initialized C ∈ zTB) (hv : zv g.2.2.2 k i) (hn : zn g.2.2.2 k i = n) (hce : cells + 1 ≤ Rm.cells) (hsl : slots + N ≤ Rm.slots) (hd : zD cc pc (.new index) 3 pc')
    (kk : zV p l e Rm s m args below meth c g nL Q (cells + 1) (slots + N) pc' ls (.ref (zad g k i) :: st) (n + 1) I J R) : zV p l e Rm s m args below meth c g nL Q cells slots pc ls st n I J R := by
  obtain ⟨hd, rfl⟩ := hd
  obtain ⟨hexec, hb, hown, hts, hml, hK, hB, hlocks⟩ := X
  intro H locs la hP hS hL
  have hKn := hK.1.1 ci _ hc
  have hsz : H.size = zad g k i := by have := hP.2.1; unfold zad; rw [hn]; exact this
  refine W.newcK hexec hb hown (hts _ w1) (hts _ w2) (hts _ w3) rfl hd hce hsl hKn.2.1 hsz fun H1 kC hkC e1 z1 o1 => ?_
  refine kk H1 locs la ?_ ⟨Nat.le_trans hS.1 (by omega), fun x h1 h2 => (o1 x (by have := hS.1; omega)).trans (hS.2.1 x h1 h2), hS.2.2⟩ hL
  refine hP.new hv hn (by omega) (fun a1 a2 a3 => ?_) (fun q hq => o1 q (by omega))
  unfold zat
  rw [hs]
  refine (u_born t0 hts hin hKn hkC e1 ht0).to (fun j hj => ?_)
  rcases hdef j hj with ⟨h1, h2⟩ | ⟨⟨t, h1⟩, h2⟩
  · rw [h2, zval0 h1, a1]
  · rw [h2, zval2 h1, a3]; rfl
end ZNEW
