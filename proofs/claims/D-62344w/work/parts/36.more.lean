/-! fewer locals; the standing facts over other ints -/
def zsb : List (Option Value) → List (Option Value) → Prop
  | [], _ => True
  | none :: l2, l1 => zsb l2 l1.tail
  | some v :: l2, l1 => l1.head? = some (some v) ∧ zsb l2 l1.tail
theorem zsb_lg : ∀ (l2 l1 : List (Option Value)), zsb l2 l1 → ∀ i v, zlg l2 i = some v → zlg l1 i = some v
  | [], _, _, i, v, h => by simp [zlg] at h
  | none :: l2, [], hs, 0, v, h => by simp [zlg] at h
  | none :: l2, [], hs, i + 1, v, h => by
    have := zsb_lg l2 [] hs i v (by simpa [zlg] using h)
    simp [zlg] at this
  | none :: l2, a :: l1, hs, 0, v, h => by simp [zlg] at h
  | none :: l2, a :: l1, hs, i + 1, v, h => zsb_lg l2 l1 hs i v (by simpa [zlg] using h)
  | some w :: l2, [], hs, i, v, h => by have := hs.1; simp at this
  | some w :: l2, a :: l1, hs, 0, v, h => by
    have := hs.1
    simp at this
    subst this
    simpa [zlg] using h
  | some w :: l2, a :: l1, hs, i + 1, v, h => zsb_lg l2 l1 hs.2 i v (by simpa [zlg] using h)
theorem z_wk {p : Program} {l : Launch} {e : Env} {Rm : Room} {s : State} {m : MethodId} {args : Array Value} {below : List Frame} {meth : Method} {c : Code} {Q : State → Prop} {cells slots : Nat} {nL : Nat} {g : zG} {pc : Nat} {ls ls2 : List (Option Value)} {st : List Value} {n : Nat} {I : zI} {J : zJ} {R : zR} (hs : zsb ls2 ls) (kk : zV p l e Rm s m args below meth c g nL Q cells slots pc ls2 st n I J R) : zV p l e Rm s m args below meth c g nL Q cells slots pc ls st n I J R := fun H locs la hP hS hL => kk H locs la hP hS ⟨hL.1, hL.2.1, fun i v h => hL.2.2 i v (zsb_lg ls2 ls hs i v h)⟩
theorem zW.low {g : zG} {S h n : Nat} {I I2 : zI} {R : zR} (hW : zW g S h n I R) (h1 : ∀ k i j, k < 29 → I2 k i j = I k i j) (h2 : ∀ j, j < 3 → I2 29 0 j = I 29 0 j) : zW g S h n I2 R := by
  obtain ⟨a1, a2, a3, a4, a5, b1, b2, b3, b4, b5, b6, b7⟩ := hW
  exact ⟨a1, a2, a3, a4, a5, (h1 0 0 0 (by decide)).trans b1, (h1 0 0 1 (by decide)).trans b2, (h1 0 0 2 (by decide)).trans b3, fun i hi => (h1 1 i 0 (by decide)).trans (b4 i hi), (h2 0 (by decide)).trans b5, (h2 1 (by decide)).trans b6, (h2 2 (by decide)).trans b7⟩
/-- the twin's own part of the standing facts, out of the spec's ints -/
theorem zW.can {g : zG} {S h n : Nat} {I I2 : zI} {R : zR} (hW : zW g S h n I R) (h1 : ∀ k i j, k < 29 → I2 k i j = I k i j) (h2 : ∀ j, j < 3 → zcan I2 29 0 j = I 29 0 j) : zW g S h n I2 R := hW.low h1 h2
theorem z_is3 {y : Int32} (h0 : ¬ y < 0) (h1 : y ≤ nI 3) (a : ¬ y = 0) (b : ¬ y = nI 1) (c : ¬ y = nI 2) : y = nI 3 := by
  obtain ⟨j, hj, rfl⟩ := nI_of2 (M := nI 3) (n := 3) rfl h0 h1
  rcases (show j = 0 ∨ j = 1 ∨ j = 2 ∨ j = 3 by omega) with rfl | rfl | rfl | rfl
  · exact absurd rfl a
  · exact absurd rfl b
  · exact absurd rfl c
  · rfl
