/-! SMALL LAWS for the walks -/
theorem zinc (k : Nat) : nI k + Int32.ofInt 1 = nI (k + 1) := nI_1 k
theorem zdec (k : Nat) : nI (k + 1) + Int32.ofInt (-1) = nI k := pk_m1 k
theorem z_objInit {p : Program} {l : Launch} {e : Env} {Rm : Room} {s : State} {m : MethodId} {args : Array Value} {below : List Frame} {meth : Method} {c : Code} {Q : State → Prop} {cells slots : Nat} {cc : ByteArray} {own : String} {nL : Nat} {g : zG} {pc pc' : Nat} {ls : List (Option Value)} {st : List Value} {n : Nat} {I : zI} {J : zJ} {R : zR} {q idx : Nat}
    (X : zC p s m args meth c cc own nL g) (w1 : Cond.methodLink own idx ⟨"java/lang/Object", "<init>", "()V"⟩ ∈ zTB) (w2 : Cond.instanceMethod ⟨"java/lang/Object", "<init>", "()V"⟩ ∈ zTB) (w3 : Cond.code ⟨"java/lang/Object", "<init>", "()V"⟩ object_method_1_code 1 none ∈ zTB) (hd : zD cc pc (.invokespecial idx) 3 pc') (hf : 1 ≤ Rm.frames) (hl : (st.map fun v => v.category).sum + 12 ≤ Rm.locals)
    (kk : zV p l e Rm s m args below meth c g nL Q cells slots pc' ls st n I J R) : zV p l e Rm s m args below meth c g nL Q cells slots pc ls (.ref q :: st) n I J R := by
  obtain ⟨hd, rfl⟩ := hd
  obtain ⟨hexec, hb, hown, hts, hml, hK, hB, hlocks⟩ := X
  intro H locs la hP hS hL
  refine W.objInit hexec hb hown (hts _ w1) (hts _ w2) (hts _ w3) rfl (by rw [hml]; exact hL.1) rfl hd hf ?_ (kk H locs la hP hS hL)
  show 2 * 0 + _ + 12 ≤ _
  omega
/-- which node a number names -/
def znd (c : Nat) (x : Int32) : Option Nat := if 0 ≤ x.toInt ∧ x.toInt < c then some x.toInt.toNat else none
theorem znd_nI {c j : Nat} (h : j < c) (hc : c ≤ 6) : znd c (nI j) = some j := by
  unfold znd
  rw [nI_toInt (by omega), if_pos ⟨by omega, by omega⟩]
  simp
theorem znd_lo {c : Nat} {x : Int32} (h : x < 0) : znd c x = none := by
  unfold znd
  rw [if_neg]
  rw [Int32.lt_iff_toInt_lt, Int32.toInt_zero] at h
  omega
theorem znd_hi {c : Nat} {x : Int32} (hc : c ≤ 6) (h : ¬ x < nI c) : znd c x = none := by
  unfold znd
  rw [if_neg]
  rw [Int32.lt_iff_toInt_lt, nI_toInt (by omega)] at h
  omega
theorem znd_some {c j : Nat} {x : Int32} (hc : c ≤ 6) (h : znd c x = some j) : j < c ∧ x = nI j := by
  unfold znd at h
  split at h
  next q =>
    cases h
    refine ⟨by omega, ?_⟩
    apply Int32.toInt_inj.mp
    rw [nI_toInt (by omega)]
    omega
  next => cases h
theorem zget {c : Nat} {x : Int32} (h1 : ¬ x < 0) (h2 : x < nI c) (hc : c ≤ 6) : ∃ j, j < c ∧ x = nI j := by
  rcases pk_ix x (n := c) (by omega) with h | h | h
  · exact absurd h h1
  · rw [Int32.lt_iff_toInt_lt] at h2
    rw [Int32.le_iff_toInt_le] at h
    omega
  · exact h
