/-! NEW ARRAYS -/
theorem arrV_congr {cA : ClassId} {N : Nat} {f f2 : Nat → Value} (h : ∀ j, j < N → f j = f2 j) : arrV cA N f = arrV cA N f2 := by
  unfold arrV
  congr 1
  refine Array.ext (by simp) (fun i h1 h2 => ?_)
  simp
  exact h i (by simpa using h1)
section ZNA
variable {p : Program} {l : Launch} {e : Env} {Rm : Room} {s : State} {m : MethodId} {args : Array Value} {below : List Frame} {meth : Method} {c : Code} {Q : State → Prop} {cells slots : Nat}
variable {cc : ByteArray} {own : String} {nL : Nat} {g : zG} {pc pc' : Nat} {ls : List (Option Value)} {st : List Value} {n : Nat} {I : zI} {J : zJ} {R : zR}
theorem z_newa (X : zC p s m args meth c cc own nL g) {atype : ArrayType} {t N : Nat} (k i : Nat) (hty : newarray.typeOf atype = zty t) (ht : t < 3) (hw : Cond.arrayClass (newarray.typeOf atype) ∈ zTB) (hs : zsh k i = .inr (t, N)) (hz : ∀ j, j < N → (zft k j = 0 ∧ defaultValue (zty t) = .int 0) ∨ (zft k j = 1 ∧ defaultValue (zty t) = .long 0)) (hv : zv g.2.2.2 k i) (hn : zn g.2.2.2 k i = n) (hN : N < 100) (hce : cells + 1 ≤ Rm.cells) (hsl : slots + N ≤ Rm.slots) (hd : zD cc pc (.newarray atype) 2 pc')
    (kk : zV p l e Rm s m args below meth c g nL Q (cells + 1) (slots + N) pc' ls (.ref (zad g k i) :: st) (n + 1) I J R) : zV p l e Rm s m args below meth c g nL Q cells slots pc ls (.int (nI N) :: st) n I J R := by
  obtain ⟨hd, rfl⟩ := hd
  have X0 := X
  obtain ⟨hexec, hb, hown, hts, hml, hK, hB, hlocks⟩ := X
  intro H locs la hP hS hL
  have hsz : H.size = zad g k i := by have := hP.2.1; unfold zad; rw [hn]; exact this
  have hra := (zK.arr hK (t := t) (by omega)).2
  have hcb : componentBytes (newarray.typeOf atype) ≤ 8 := by
    rw [hty]
    rcases (show t = 0 ∨ t = 1 ∨ t = 2 by omega) with rfl | rfl | rfl <;> decide
  refine va_newaK hexec hb (hts _ hw) rfl hd rfl (fun q => by have := nI_le (a := 0) (b := N) (Nat.zero_le _) (by omega); exact absurd q (Int32.not_lt.mpr this)) (nI_clamp (by omega)) (by have := Nat.mul_le_mul (show N ≤ 100 by omega) hcb; omega) hce hsl hsz fun H1 cA e1 z1 o1 hA hf => ?_
  have ecA : cA = g.2.1 t := by
    rw [hty] at hf
    rcases (show t = 0 ∨ t = 1 ∨ t = 2 by omega) with rfl | rfl | rfl <;> exact Option.some.inj (hf.symm.trans hra)
  subst ecA
  refine kk H1 locs la ?_ ⟨Nat.le_trans hS.1 (by omega), fun x h1 h2 => (o1 x (by have := hS.1; omega)).trans (hS.2.1 x h1 h2), hS.2.2⟩ hL
  refine hP.new hv hn (by omega) (fun a1 a2 a3 => ?_) (fun q hq => o1 q (by omega))
  unfold zat
  rw [hs]
  dsimp only
  rw [e1, hty]
  congr 1
  refine arrV_congr (fun j hj => ?_)
  rcases hz j hj with ⟨h1, h2⟩ | ⟨h1, h2⟩
  · rw [h2, zval0 h1, a1]
  · rw [h2, zval1 h1, a2]
end ZNA
