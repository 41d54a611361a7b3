/-! NEW ARRAYS OF REFERENCES -/
section ZNQ
variable {p : Program} {l : Launch} {e : Env} {Rm : Room} {s : State} {m : MethodId} {args : Array Value} {below : List Frame} {meth : Method} {c : Code} {Q : State → Prop} {cells slots : Nat}
variable {cc : ByteArray} {own : String} {nL : Nat} {g : zG} {pc pc' : Nat} {ls : List (Option Value)} {st : List Value} {n : Nat} {I : zI} {J : zJ} {R : zR}
theorem z_anewa (X : zC p s m args meth c cc own nL g) {C : String} {index t N : Nat} (k i : Nat) (w1 : Cond.classLink own index C ∈ zTB) (v : Cond.arrayOver (.object C) ∈ lw_tbl) (hty : zty t = .object C) (ht : t < 10) (hs : zsh k i = .inr (t, N)) (hz : ∀ j, j < N → ∃ t2, zft k j = t2 + 2) (hv : zv g.2.2.2 k i) (hn : zn g.2.2.2 k i = n) (hN : N < 100) (hce : cells + 1 ≤ Rm.cells) (hsl : slots + N ≤ Rm.slots) (hd : zD cc pc (.anewarray index) 3 pc')
    (kk : zV p l e Rm s m args below meth c g nL Q (cells + 1) (slots + N) pc' ls (.ref (zad g k i) :: st) (n + 1) I J R) : zV p l e Rm s m args below meth c g nL Q cells slots pc ls (.int (nI N) :: st) n I J R := by
  obtain ⟨hd, rfl⟩ := hd
  obtain ⟨hexec, hb, hown, hts, hml, hK, hB, hlocks⟩ := X
  intro H locs la hP hS hL
  have hsz : H.size = zad g k i := by have := hP.2.1; unfold zad; rw [hn]; exact this
  have hra := (zK.arr hK (t := t) ht).2
  rw [hty] at hra
  obtain ⟨kA0, comp0, r1, r2, r3, r4⟩ := hra
  have hcl : (nI N).toNatClampNeg = N := nI_clamp (by omega)
  refine W.anew hexec hb hown (hts _ w1) (va_AO.use (hK.2.1 _ v rfl)) rfl hd rfl (fun q => by have := nI_le (a := 0) (b := N) (Nat.zero_le _) (by omega); exact absurd q (Int32.not_lt.mpr this)) (by rw [hcl]; omega) hce (by rw [hcl]; exact hsl) fun cA kA comp f1 f2 f3 f4 => ?_
  rw [hcl]
  have ecA : cA = g.2.1 t := Option.some.inj (f1.symm.trans r4)
  subst ecA
  generalize hH1 : H.push ({ cls := g.2.1 t, slots := Array.replicate N .null, vm := .none } : Cell) = H1
  have z1 : H1.size = H.size + 1 := by rw [← hH1, Array.size_push]
  have e1 : H1[H.size]? = some (arrV (g.2.1 t) N (fun _ => .null)) := by rw [← hH1, Array.getElem?_push_size, ← arrV_new]
  have o1 : ∀ q : Nat, q < H.size → H1[q]? = H[q]? := fun q hq => by rw [← hH1, Array.getElem?_push, if_neg (Nat.ne_of_lt hq)]
  rw [hsz]
  refine kk H1 locs la ?_ ⟨Nat.le_trans hS.1 (by omega), fun x h1 h2 => (o1 x (by have := hS.1; omega)).trans (hS.2.1 x h1 h2), hS.2.2⟩ hL
  refine hP.new hv hn (by omega) (fun a1 a2 a3 => ?_) (fun q hq => o1 q (by omega))
  unfold zat
  rw [hs]
  dsimp only
  rw [← hsz, e1]
  congr 1
  refine arrV_congr (fun j hj => ?_)
  obtain ⟨t2, h1⟩ := hz j hj
  rw [zval2 h1, a3]
  rfl
end ZNQ
