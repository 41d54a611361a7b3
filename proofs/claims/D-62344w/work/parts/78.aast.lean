/-! STORES INTO ARRAYS OF REFERENCES -/
section ZA
variable {p : Program} {l : Launch} {e : Env} {Rm : Room} {s : State} {m : MethodId} {args : Array Value} {below : List Frame} {meth : Method} {c : Code} {Q : State → Prop} {cells slots : Nat}
variable {cc : ByteArray} {own : String} {nL : Nat} {g : zG} {pc pc' : Nat} {ls : List (Option Value)} {st : List Value} {n : Nat} {I : zI} {J : zJ} {R : zR}
theorem z_aastN (X : zC p s m args meth c cc own nL g) {k i N t t2 : Nat} {E : String} (j : Nat) {x : Int32} (ht : t < 10) (hty : zty t = .object E) (hs : zsh k i = .inr (t, N)) (hz : zft k j = t2 + 2) (ho : zo g n k i) (hj : j < N) (hx : x = nI j) (hN : N < 2 ^ 31) (hd : zD cc pc .aastore 1 pc') (kk : zV p l e Rm s m args below meth c g nL Q cells slots pc' ls st n I J (zu R k i j none)) : zV p l e Rm s m args below meth c g nL Q cells slots pc ls (.null :: .int x :: .ref (zad g k i) :: st) n I J R := by
  obtain ⟨hd, rfl⟩ := hd
  subst hx
  intro H locs la hP hS hL
  have hA := hP.arr ho.1 ho.2 hs
  have harr := (zK.arr X.2.2.2.2.2.1 (t := t) ht).1 N (zval g (n, I, J, R) k i)
  rw [hty] at harr
  refine va_WaastN (C := E) X.1 X.2.1 hA harr (fun q => by cases q) (by rw [arrV_size]; exact vp_in_nI hj hN) rfl rfl hd fun H1 e1 e2 e3 => ?_
  rw [nI_clamp (by omega)] at e1
  exact kk H1 _ la (z_asetp hP hs ho.1 ho.2 (by rw [zval2 hz, zu_s]; rfl) (fun _ _ _ h => ⟨rfl, rfl, zu_oth h⟩) e1 e2 e3) (hS.put e2 e3 (by show g.2.2.1 ≤ zad g k i; unfold zad; omega)) hL
theorem z_aast (X : zC p s m args meth c cc own nL g) {k i N t k2 i2 ci M : Nat} {C E : String} {T : u_T} (j : Nat) {x : Int32} (ht : t < 10) (hty : zty t = .object E) (hca : C = E ∨ va_Nw (.castable C E) s) (hs : zsh k i = .inr (t, N)) (hz : zft k j = k2 + 2) (ho : zo g n k i) (ho2 : zo g n k2 i2) (hs2 : zsh k2 i2 = .inl (ci, M)) (hc : zcl[ci]? = some (C, T, M)) (hj : j < N) (hx : x = nI j) (hN : N < 2 ^ 31) (hd : zD cc pc .aastore 1 pc') (kk : zV p l e Rm s m args below meth c g nL Q cells slots pc' ls st n I J (zu R k i j (some i2))) : zV p l e Rm s m args below meth c g nL Q cells slots pc ls (.ref (zad g k2 i2) :: .int x :: .ref (zad g k i) :: st) n I J R := by
  obtain ⟨hd, rfl⟩ := hd
  subst hx
  intro H locs la hP hS hL
  have hA := hP.arr ho.1 ho.2 hs
  obtain ⟨cellV, g1, g2, g3, -⟩ := hP.obj ho2.1 ho2.2 hs2
  have hK := X.2.2.2.2.2.1.1
  have hra := (zK.arr X.2.2.2.2.2.1 (t := t) ht).2
  rw [hty] at hra
  obtain ⟨kA, comp, k1, k2', k3, -⟩ := hra
  have hin : vp_in (nI j) N := vp_in_nI hj hN
  have hlt : (nI j).toNatClampNeg < N := Nat.not_le.mp fun q => hin (Or.inr q)
  have h0 : ¬ nI j < 0 := fun q => hin (Or.inl q)
  have hcls := (hK.1 ci _ hc).2
  have hasg : s.vm.assignable (g.1.1 ci) comp = true := by
    rcases hca with rfl | hca
    · cases k3.symm.trans hcls.1
      exact va_assign hcls
    · obtain ⟨c0, t1, f1, f2, f3⟩ := Cond.castable_spec (va_Nw.use (A := args) rfl hca)
      cases hcls.1.symm.trans f1
      cases k3.symm.trans f2
      exact f3
  obtain ⟨kE, hkE, -⟩ := Vm.findClass_spec k3
  obtain ⟨kC, hkC, -⟩ := hcls.2
  refine W.aast X.1 X.2.1 hA (fun q h => by cases h) (fun h => by cases h) k1 k2' rfl hkE ⟨h0, by rw [arrV_size]; exact hlt⟩ g1 (fun q h => by rw [g3] at h; cases h) (by rw [g2]; exact hkC) (by rw [g2]; exact hasg) rfl rfl hd fun H1 e1 e2 e3 => ?_
  rw [nI_clamp (by omega)] at e1
  exact kk H1 _ la (z_asetp hP hs ho.1 ho.2 (by rw [zval2 hz, zu_s]; rfl) (fun _ _ _ h => ⟨rfl, rfl, zu_oth h⟩) e1 e2 e3) (hS.put e2 e3 (by show g.2.2.1 ≤ zad g k i; unfold zad; omega)) hL
end ZA
