/-! THE STATE: cells are named (kind, index); their ints, longs and references lie in three functions of (kind, index, place); a reference holds the index of its target, whose kind is known. A cell's address is B0 + its number in the order of making. -/
abbrev zI : Type := Nat → Nat → Nat → Int32
abbrev zJ : Type := Nat → Nat → Nat → Int64
abbrev zR : Type := Nat → Nat → Nat → Option Nat
abbrev zS : Type := Nat × zI × zJ × zR
abbrev zG : Type := va_G × (Nat → ClassId) × Nat × Nat
def zu {α : Type} (f : Nat → Nat → Nat → α) (k i j : Nat) (v : α) : Nat → Nat → Nat → α := fun k' i' j' => bif (k' == k && j' == j) && i' == i then v else f k' i' j'
theorem zu_if {α : Type} (f : Nat → Nat → Nat → α) (k i j : Nat) (v : α) (k' i' j' : Nat) : zu f k i j v k' i' j' = if k' = k ∧ i' = i ∧ j' = j then v else f k' i' j' := by
  unfold zu
  rw [Bool.cond_eq_ite]
  simp only [Bool.and_eq_true, beq_iff_eq]
  by_cases h : k' = k ∧ i' = i ∧ j' = j
  · rw [if_pos ⟨⟨h.1, h.2.2⟩, h.2.1⟩, if_pos h]
  · rw [if_neg (fun q => h ⟨q.1.1, q.2, q.1.2⟩), if_neg h]
theorem zu_s {α : Type} {f : Nat → Nat → Nat → α} {k i j : Nat} {v : α} : zu f k i j v k i j = v := by rw [zu_if, if_pos ⟨rfl, rfl, rfl⟩]
theorem zu_k {α : Type} {f : Nat → Nat → Nat → α} {k i j : Nat} {v : α} {k' i' j' : Nat} (h : k' ≠ k) : zu f k i j v k' i' j' = f k' i' j' := by rw [zu_if, if_neg (fun q => h q.1)]
theorem zu_i {α : Type} {f : Nat → Nat → Nat → α} {k i j : Nat} {v : α} {k' i' j' : Nat} (h : i' ≠ i) : zu f k i j v k' i' j' = f k' i' j' := by rw [zu_if, if_neg (fun q => h q.2.1)]
theorem zu_j {α : Type} {f : Nat → Nat → Nat → α} {k i j : Nat} {v : α} {k' i' j' : Nat} (h : j' ≠ j) : zu f k i j v k' i' j' = f k' i' j' := by rw [zu_if, if_neg (fun q => h q.2.2)]
/-- the number of a cell in the order of making (c: how many nodes) -/
def zn (c k i : Nat) : Nat :=
  if k = 0 then 0 else if k = 6 then 1 else if k = 7 then 2 else if k = 8 then 3 + i
  else if 9 ≤ k ∧ k ≤ 22 then k
  else if k = 23 then 23 + i
  else if 24 ≤ k ∧ k ≤ 28 then k + 5
  else if k = 1 then 34 + 6 * i
  else if k = 2 then (if i < 6 then 35 + 6 * i else 6 * i)
  else if k = 5 then (if i < 6 then 37 + 6 * i else 2 + 6 * i)
  else if k = 4 then (if i < 6 then 39 + 6 * i else 28 + 6 * c + i)
  else if k = 3 then 78 + 6 * c + i
  else 20 + 6 * c + k
/-- the names that are in use -/
def zv (c k i : Nat) : Prop :=
  if k = 1 then i < c else if k = 2 ∨ k = 5 then (i < c ∨ (6 ≤ i ∧ i < 6 + c)) else if k = 3 then True else if k = 4 then (i < c ∨ (6 ≤ i ∧ i < 21)) else if k = 8 ∨ k = 23 then i < 6 else (i = 0 ∧ k < 58)
/-- back from the number -/
def zd (c x : Nat) : Nat × Nat :=
  if x = 0 then (0, 0) else if x = 1 then (6, 0) else if x = 2 then (7, 0) else if x < 9 then (8, x - 3) else if x < 23 then (x, 0) else if x < 29 then (23, x - 23) else if x < 34 then (x - 5, 0)
  else if x < 34 + 6 * c then (if (x - 34) % 6 = 0 then (1, (x - 34) / 6) else if (x - 34) % 6 = 1 then (2, (x - 34) / 6) else if (x - 34) % 6 = 2 then (2, 6 + (x - 34) / 6) else if (x - 34) % 6 = 3 then (5, (x - 34) / 6) else if (x - 34) % 6 = 4 then (5, 6 + (x - 34) / 6) else (4, (x - 34) / 6))
  else if x < 49 + 6 * c then (4, x - 28 - 6 * c) else if x < 78 + 6 * c then (x - 20 - 6 * c, 0) else (3, x - 78 - 6 * c)
theorem zd_a {c x k i : Nat} (h : (x = 0 ∧ k = 0 ∧ i = 0) ∨ (x = 1 ∧ k = 6 ∧ i = 0) ∨ (x = 2 ∧ k = 7 ∧ i = 0)) : zd c x = (k, i) := by
  rcases h with ⟨rfl, rfl, rfl⟩ | ⟨rfl, rfl, rfl⟩ | ⟨rfl, rfl, rfl⟩ <;> rfl
theorem zd_b {c j : Nat} (h : j < 6) : zd c (3 + j) = (8, j) := by
  unfold zd
  rw [if_neg (by omega), if_neg (by omega), if_neg (by omega), if_pos (by omega)]
  simp
theorem zd_c {c a : Nat} (h : 9 ≤ a) (h2 : a ≤ 22) : zd c a = (a, 0) := by
  unfold zd
  rw [if_neg (by omega), if_neg (by omega), if_neg (by omega), if_neg (by omega), if_pos (by omega)]
theorem zd_d {c j : Nat} (h : j < 6) : zd c (23 + j) = (23, j) := by
  unfold zd
  rw [if_neg (by omega), if_neg (by omega), if_neg (by omega), if_neg (by omega), if_neg (by omega), if_pos (by omega)]
  simp
theorem zd_e {c a : Nat} (h : 24 ≤ a) (h2 : a ≤ 28) : zd c (a + 5) = (a, 0) := by
  unfold zd
  rw [if_neg (by omega), if_neg (by omega), if_neg (by omega), if_neg (by omega), if_neg (by omega), if_neg (by omega), if_pos (by omega)]
  simp
theorem zd_f {c j r : Nat} (h : j < c) (hr : r < 6) : zd c (34 + r + 6 * j) = (if r = 0 then (1, j) else if r = 1 then (2, j) else if r = 2 then (2, 6 + j) else if r = 3 then (5, j) else if r = 4 then (5, 6 + j) else (4, j)) := by
  unfold zd
  rw [if_neg (by omega), if_neg (by omega), if_neg (by omega), if_neg (by omega), if_neg (by omega), if_neg (by omega), if_neg (by omega), if_pos (by omega)]
  have e1 : (34 + r + 6 * j - 34) % 6 = r := by omega
  have e2 : (34 + r + 6 * j - 34) / 6 = j := by omega
  rw [e1, e2]
theorem zd_g {c j : Nat} (h : 6 ≤ j) (h2 : j < 21) : zd c (28 + 6 * c + j) = (4, j) := by
  unfold zd
  rw [if_neg (by omega), if_neg (by omega), if_neg (by omega), if_neg (by omega), if_neg (by omega), if_neg (by omega), if_neg (by omega), if_neg (by omega), if_pos (by omega)]
  congr 1; omega
theorem zd_h {c a : Nat} (h : 29 ≤ a) (h2 : a < 58) : zd c (20 + 6 * c + a) = (a, 0) := by
  unfold zd
  rw [if_neg (by omega), if_neg (by omega), if_neg (by omega), if_neg (by omega), if_neg (by omega), if_neg (by omega), if_neg (by omega), if_neg (by omega), if_neg (by omega), if_pos (by omega)]
  congr 1; omega
theorem zd_i {c j : Nat} : zd c (78 + 6 * c + j) = (3, j) := by
  unfold zd
  rw [if_neg (by omega), if_neg (by omega), if_neg (by omega), if_neg (by omega), if_neg (by omega), if_neg (by omega), if_neg (by omega), if_neg (by omega), if_neg (by omega), if_neg (by omega)]
  congr 1; omega
theorem zd_zn {c a j : Nat} (hc : c ≤ 6) (hv : zv c a j) : zd c (zn c a j) = (a, j) := by
  have ha : a < 58 := by
    unfold zv at hv
    (repeat' split at hv) <;> omega
  by_cases a0 : a = 0
  · subst a0; simp [zv] at hv; subst hv; rfl
  by_cases a6 : a = 6
  · subst a6; simp [zv] at hv; subst hv; rfl
  by_cases a7 : a = 7
  · subst a7; simp [zv] at hv; subst hv; rfl
  by_cases a8 : a = 8
  · subst a8; simp [zv] at hv; exact zd_b hv
  by_cases a23 : a = 23
  · subst a23; simp [zv] at hv; exact zd_d hv
  by_cases a1 : a = 1
  · subst a1; simp [zv] at hv; exact zd_f (r := 0) hv (by omega)
  by_cases a3 : a = 3
  · subst a3; exact zd_i
  by_cases a2 : a = 2
  · subst a2; simp [zv] at hv
    by_cases hj : j < 6
    · rw [show zn c 2 j = 34 + 1 + 6 * j by simp [zn, hj]]
      exact zd_f (r := 1) (by omega) (by omega)
    · rw [show zn c 2 j = 34 + 2 + 6 * (j - 6) by simp [zn, hj]; omega, zd_f (r := 2) (by omega) (by omega)]
      simp; omega
  by_cases a5 : a = 5
  · subst a5; simp [zv] at hv
    by_cases hj : j < 6
    · rw [show zn c 5 j = 34 + 3 + 6 * j by simp [zn, hj]]
      exact zd_f (r := 3) (by omega) (by omega)
    · rw [show zn c 5 j = 34 + 4 + 6 * (j - 6) by simp [zn, hj]; omega, zd_f (r := 4) (by omega) (by omega)]
      simp; omega
  by_cases a4 : a = 4
  · subst a4; simp [zv] at hv
    by_cases hj : j < 6
    · rw [show zn c 4 j = 34 + 5 + 6 * j by simp [zn, hj]]
      exact zd_f (r := 5) (by omega) (by omega)
    · rw [show zn c 4 j = 28 + 6 * c + j by simp [zn, hj]]
      exact zd_g (by omega) (by omega)
  have hj : j = 0 := by
    unfold zv at hv
    rw [if_neg a1, if_neg (by omega), if_neg a3, if_neg a4, if_neg (by omega)] at hv
    exact hv.1
  subst hj
  by_cases r1 : 9 ≤ a ∧ a ≤ 22
  · have e : zn c a 0 = a := by unfold zn; rw [if_neg a0, if_neg a6, if_neg a7, if_neg a8, if_pos r1]
    rw [e]; exact zd_c r1.1 r1.2
  by_cases r2 : 24 ≤ a ∧ a ≤ 28
  · have e : zn c a 0 = a + 5 := by unfold zn; rw [if_neg a0, if_neg a6, if_neg a7, if_neg a8, if_neg r1, if_neg a23, if_pos r2]
    rw [e]; exact zd_e r2.1 r2.2
  have e : zn c a 0 = 20 + 6 * c + a := by unfold zn; rw [if_neg a0, if_neg a6, if_neg a7, if_neg a8, if_neg r1, if_neg a23, if_neg r2, if_neg a1, if_neg a2, if_neg a5, if_neg a4, if_neg a3]
  rw [e]; exact zd_h (by omega) ha
theorem zn_inj {c k i k' i' : Nat} (hc : c ≤ 6) (h : zv c k i) (h' : zv c k' i') (e : zn c k i = zn c k' i') : k = k' ∧ i = i' := by
  have h1 := zd_zn hc h
  rw [e, zd_zn hc h'] at h1
  cases h1
  exact ⟨rfl, rfl⟩
def zad (g : zG) (k i : Nat) : Nat := g.2.2.1 + zn g.2.2.2 k i
/-- what stands at a place -/
def zval (g : zG) (u : zS) (k i f : Nat) : Value := match zft k f with
  | 0 => .int (u.2.1 k i f)
  | 1 => .long (u.2.2.1 k i f)
  | t + 2 => va_rf ((u.2.2.2 k i f).map (zad g t))
def zat (g : zG) (u : zS) (k i : Nat) (H : Heap) : Prop := match zsh k i with
  | .inl o => t_OB (zad g k i) (g.1.1 o.1) o.2 (g.1.2 o.1) H (zval g u k i)
  | .inr o => H[zad g k i]? = some (arrV (g.2.1 o.1) o.2 (zval g u k i))
def zRep (g : zG) (u : zS) (H : Heap) : Prop := g.2.2.2 ≤ 6 ∧ H.size = g.2.2.1 + u.1 ∧ (∀ k i, zv g.2.2.2 k i → zn g.2.2.2 k i < u.1 → zat g u k i H) ∧ ∀ k i j, zv g.2.2.2 k i → u.1 ≤ zn g.2.2.2 k i → u.2.1 k i j = 0 ∧ u.2.2.1 k i j = 0 ∧ u.2.2.2 k i j = none
theorem zat.kept {g : zG} {u u' : zS} {k i : Nat} {H H1 : Heap} (h : zat g u k i H) (hq : H1[zad g k i]? = H[zad g k i]?) (hv : ∀ f, zval g u' k i f = zval g u k i f) : zat g u' k i H1 := by
  have e : zval g u' k i = zval g u k i := funext hv
  unfold zat at h ⊢
  rw [e]
  split at h
  · exact h.kept hq
  · exact hq.trans h
theorem zad_ne {g : zG} {k i k' i' : Nat} (hc : g.2.2.2 ≤ 6) (h : zv g.2.2.2 k i) (h' : zv g.2.2.2 k' i') (n : ¬ (k' = k ∧ i' = i)) : zad g k' i' ≠ zad g k i := by
  intro e
  unfold zad at e
  exact n (zn_inj hc h' h (by omega))
/-- a place of one cell is written -/
theorem zRep.set {g : zG} {u u' : zS} {k i : Nat} {H H1 : Heap} (h : zRep g u H) (hv : zv g.2.2.2 k i) (hl : zn g.2.2.2 k i < u.1) (hn : u'.1 = u.1) (hz : H1.size = H.size) (he : zat g u' k i H1) (oq : ∀ q, q ≠ zad g k i → H1[q]? = H[q]?)
    (h1 : ∀ k' i' j', ¬ (k' = k ∧ i' = i) → u'.2.1 k' i' j' = u.2.1 k' i' j' ∧ u'.2.2.1 k' i' j' = u.2.2.1 k' i' j' ∧ u'.2.2.2 k' i' j' = u.2.2.2 k' i' j') : zRep g u' H1 := by
  obtain ⟨hc, hs, ha, hd⟩ := h
  refine ⟨hc, by rw [hz, hs, hn], fun k' i' hv' hl' => ?_, fun k' i' j' hv' hl' => ?_⟩
  · by_cases e : k' = k ∧ i' = i
    · rw [e.1, e.2]; exact he
    · refine (ha k' i' hv' (by rw [← hn]; exact hl')).kept (oq _ (zad_ne hc hv hv' e)) (fun f => ?_)
      obtain ⟨e1, e2, e3⟩ := h1 k' i' f e
      unfold zval
      rw [e1, e2, e3]
  · have e : ¬ (k' = k ∧ i' = i) := by
      rintro ⟨rfl, rfl⟩
      rw [hn] at hl'
      omega
    obtain ⟨e1, e2, e3⟩ := h1 k' i' j' e
    rw [e1, e2, e3]
    exact hd k' i' j' hv' (by rw [← hn]; exact hl')
/-- a cell is made -/
theorem zRep.new {g : zG} {n : Nat} {I : zI} {J : zJ} {R : zR} {k i : Nat} {H H1 : Heap} (h : zRep g (n, I, J, R) H) (hv : zv g.2.2.2 k i) (hl : zn g.2.2.2 k i = n) (hz : H1.size = H.size + 1) (he : (∀ j, I k i j = 0) → (∀ j, J k i j = 0) → (∀ j, R k i j = none) → zat g (n + 1, I, J, R) k i H1) (oq : ∀ q, q < H.size → H1[q]? = H[q]?) : zRep g (n + 1, I, J, R) H1 := by
  obtain ⟨hc, hs, ha, hd⟩ := h
  dsimp only at hs ha hd
  refine ⟨hc, by dsimp only; omega, fun k' i' hv' hl' => ?_, fun k' i' j' hv' hl' => hd k' i' j' hv' (by dsimp only at hl' ⊢; omega)⟩
  by_cases e : k' = k ∧ i' = i
  · rw [e.1, e.2]
    exact he (fun j => (hd k i j hv (by omega)).1) (fun j => (hd k i j hv (by omega)).2.1) (fun j => (hd k i j hv (by omega)).2.2)
  · dsimp only at hl'
    have hlt : zn g.2.2.2 k' i' < n := by
      rcases Nat.lt_or_ge (zn g.2.2.2 k' i') n with q | q
      · exact q
      · exact absurd (zn_inj hc hv' hv (by omega)) e
    refine (ha k' i' hv' hlt).kept (oq _ (by unfold zad; omega)) (fun f => rfl)
/-! LOCALS -/
def zlg : List (Option Value) → Nat → Option Value
  | [], _ => none
  | a :: _, 0 => a
  | _ :: l, i + 1 => zlg l i
def zls : List (Option Value) → Nat → Value → List (Option Value)
  | [], _, _ => []
  | _ :: l, 0, v => some v :: l
  | a :: l, i + 1, v => a :: zls l i v
theorem zlg_set : ∀ (l : List (Option Value)) (i : Nat) (v : Value) (j : Nat) (w : Value), zlg (zls l i v) j = some w → (j = i ∧ w = v) ∨ (j ≠ i ∧ zlg l j = some w)
  | [], i, v, j, w, h => by simp [zls, zlg] at h
  | a :: l, 0, v, j, w, h => by
    cases j with
    | zero => simp [zls, zlg] at h; exact Or.inl ⟨rfl, h.symm⟩
    | succ j => simp [zls, zlg] at h; exact Or.inr ⟨by omega, by simpa [zlg] using h⟩
  | a :: l, i + 1, v, j, w, h => by
    cases j with
    | zero => simp [zls, zlg] at h; exact Or.inr ⟨by omega, by simpa [zlg] using h⟩
    | succ j =>
      simp only [zls, zlg] at h
      rcases zlg_set l i v j w h with q | q
      · exact Or.inl ⟨by omega, q.2⟩
      · exact Or.inr ⟨by omega, by simpa [zlg] using q.2⟩
/-- the place ahead of i holds no long -/
def zok (l : List (Option Value)) (i : Nat) : Bool := match i with
  | 0 => true
  | i + 1 => match zlg l i with
    | some v => v.category == 1
    | none => true
def zL (la : Array Slot) (nL : Nat) (l : List (Option Value)) : Prop := la.size = nL ∧ lv_wf la ∧ ∀ i v, zlg l i = some v → la[i]? = some (.val v)
theorem zL.store {la : Array Slot} {nL : Nat} {l : List (Option Value)} {i : Nat} {v : Value} (h : zL la nL l) (hi : i < nL) (hc : v.category = 1) (ho : zok l i = true) : ∃ la', storeLocals la i v = some la' ∧ zL la' nL (zls l i v) := by
  obtain ⟨h1, h2, h3⟩ := h
  obtain ⟨la', e, hs, hw, hx⟩ := lv_store1 (ls := la) (nL := nL) (l := []) (i := i) (v := v) ⟨h1, h2, fun q hq => by cases hq⟩ hi hc
  refine ⟨la', e, hs, hw, fun j w hj => ?_⟩
  rcases zlg_set l i v j w hj with ⟨rfl, rfl⟩ | ⟨hne, hj2⟩
  · exact hx (j, w) List.mem_cons_self
  · obtain ⟨la2, e2, -, -, hx2⟩ := lv_store1 (ls := la) (nL := nL) (l := [(j, w)]) (i := i) (v := v) ⟨h1, h2, fun q hq => by rw [List.mem_singleton] at hq; subst hq; exact h3 j w hj2⟩ hi hc
    cases e.symm.trans e2
    refine hx2 (j, w) (List.mem_cons_of_mem _ (List.mem_filter.mpr ⟨List.mem_singleton.mpr rfl, ?_⟩))
    have hcat : ¬ (j + 1 = i ∧ w.category = 2) := by
      rintro ⟨rfl, hw2⟩
      simp [zok, hj2, hw2] at ho
    simp only [Bool.and_eq_true, Bool.not_eq_true', beq_eq_false_iff_ne, ne_eq, Bool.and_eq_false_iff]
    refine ⟨hne, ?_⟩
    by_cases q : j + 1 = i
    · exact Or.inr (fun z => hcat ⟨q, z⟩)
    · exact Or.inl q
/-! THE TABLES' WORDS of every method, and what is passed on beside them -/
def zTB : List Cond := lw_tbl.filter goodWord
theorem zin {w : Cond} (h : w ∈ lw_tbl) (hg : goodWord w = true) : w ∈ zTB := List.mem_filter.mpr ⟨h, hg⟩
def zws (y : MethodName) (b : ByteArray) (n : Nat) (r : Option FieldType) : List Cond := .code y b n r :: zTB
theorem zgood {y : MethodName} {b : ByteArray} {n : Nat} {r : Option FieldType} {Ts : List Cond} (hT : ∀ w ∈ zTB, w ∈ Ts) (h : Cond.code y b n r ∈ zTB) : GoodIn Ts (zws y b n r) := by
  have key : ∀ w ∈ zTB, w ∈ Ts ∧ ((w.onTables && w.keeps) = true ∨ ∃ ty, w = .arrayClass ty) := fun w hw => ⟨hT w hw, good_of_word (List.mem_filter.mp hw).2⟩
  intro w hw
  rcases List.mem_cons.mp hw with rfl | hw
  · exact key _ h
  · exact key w hw
def zNest : Cond → Bool
  | .fieldLinkNest .. => true
  | .methodLinkNest .. => true
  | .declares .. => true
  | .castable .. => true
  | .arrayOver (.object _) => true
  | _ => false
theorem zNest.warm {w : Cond} (h : zNest w = true) {s U : State} (hW : s.WarmedH U.vm) (hw : va_Nw w s) : va_Nw w U := by
  cases w <;> first | (simp [zNest] at h; done) | exact va_Nw.warmF hW hw | exact va_Nw.warmM hW hw | exact va_Nw.warmD hW hw | exact va_Nw.warmC hW hw | skip
  case arrayOver t =>
    cases t <;> first | (simp [zNest] at h; done) | exact va_AO.moved hW.alike hw
def ztys (g : zG) : List (ClassId × FieldType) := (List.range 10).map (fun t => (g.2.1 t, zty t))
def zK (g : zG) (s : State) : Prop := va_K g.1 zcl (ztys g) s ∧ (∀ w ∈ lw_tbl, zNest w = true → va_Nw w s) ∧ va_Nc R_Up R_Advert s ∧ va_Nc R_Down R_Advert s
theorem zK.moved {g : zG} {s U : State} (hW : s.WarmedH U.vm) (h : zK g s) : zK g U := ⟨va_K.moved hW.alike h.1, fun w hw hn => zNest.warm hn hW (h.2.1 w hw hn), h.2.2.1.moved hW.alike, h.2.2.2.moved hW.alike⟩
