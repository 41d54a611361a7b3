/-! WHAT THE STEPS OF A SLOT KEEP; the spec of a slot and of a run -/
/-- the places that a link's step may change -/
def zmv (k j : Nat) : Bool := (k == 29 && j == 4) || (k == 32 || (k == 33 || (k == 47 || (k == 48 || (k == 49 || (k == 51 || (k == 52 || (k == 56 || k == 57))))))))
theorem zmv_n {k j : Nat} (h : zmv k j = false) : ¬ (k = 29 ∧ j = 4) ∧ k ≠ 32 ∧ k ≠ 33 ∧ k ≠ 47 ∧ k ≠ 48 ∧ k ≠ 49 ∧ k ≠ 51 ∧ k ≠ 52 ∧ k ≠ 56 ∧ k ≠ 57 := by
  unfold zmv at h
  simp only [Bool.or_eq_false_iff, Bool.and_eq_false_iff, beq_eq_false_iff_ne] at h
  omega
theorem zcaA_keep {A : zI} {e : Nat} {v : Int32} {k i j : Nat} (h : zmv k j = false) : zcaA A e v k i j = A k i j := by
  obtain ⟨h0, h1, h2, h3, h4, h5, h6, h7, h8, h9⟩ := zmv_n h
  unfold zcaA
  rw [zu_k h8, zu_k h7, zu_k h6, zu_k h6, zu_k h6]
theorem zupR_keep {b e : Nat} {kk v : Int32} {A : zI} {q : zq} {k i j : Nat} (h : zmv k j = false) : (zupR b e kk v A q).1.1 k i j = A k i j := by
  obtain ⟨h0, h1, h2, h3, h4, h5, h6, h7, h8, h9⟩ := zmv_n h
  unfold zupR
  (repeat' split)
  · rfl
  · dsimp only; rw [zcaA_keep h, zu_k h5]
  · exact zu_k h5
  · rfl
theorem zupE_keep {a b : Nat} {ok : Bool} {A : zI} {q : zq} {k i j : Nat} (h : zmv k j = false) : (zupE a b ok A q).1 k i j = A k i j := by
  obtain ⟨h0, h1, h2, h3, h4, h5, h6, h7, h8, h9⟩ := zmv_n h
  unfold zupE
  (repeat' split)
  all_goals first | (show zu (zu A 47 0 a _) _ 0 a _ k i j = _; rw [zu_k (by assumption), zu_k h3]) | exact zu_k h3
theorem zsend_keep {A : zI} {k i j : Nat} (h : zmv k j = false) : zsend A k i j = A k i j := by
  obtain ⟨h0, -⟩ := zmv_n h
  unfold zsend
  exact zu_oth (fun q => h0 ⟨q.1, q.2.2⟩)
theorem zup_keep {a b : Nat} {hb cb : Bool} {A : zI} {q : zq} {k i j : Nat} (h : zmv k j = false) : (zup a b hb cb A q).1 k i j = A k i j := by
  unfold zup
  split
  · rfl
  split
  · rfl
  split
  · rw [zupE_keep h, zupR_keep h, zsend_keep h]
  · rw [zupE_keep h, zsend_keep h]
theorem zdnR_keep {a b e : Nat} {kk v : Int32} {A : zI} {q : zq} {k i j : Nat} (h : zmv k j = false) : (zdnR a b e kk v A q).1.1 k i j = A k i j := by
  obtain ⟨h0, h1, h2, h3, h4, h5, h6, h7, h8, h9⟩ := zmv_n h
  unfold zdnR
  (repeat' split)
  · exact zu_k h2
  · show zu (zu (zu A 33 0 b _) 49 0 _ _) 57 0 b _ k i j = _
    rw [zu_k h9, zu_k h5, zu_k h2]
  · show zu (zu A 33 0 b _) 49 0 _ _ k i j = _
    rw [zu_k h5, zu_k h2]
  · exact zu_k h2
theorem zdnE_keep {a : Nat} {ok : Bool} {A : zI} {q : zq} {k i j : Nat} (h : zmv k j = false) : (zdnE a ok A q).1 k i j = A k i j := by
  obtain ⟨h0, h1, h2, h3, h4, h5, h6, h7, h8, h9⟩ := zmv_n h
  unfold zdnE
  (repeat' split) <;> exact zu_k h4
theorem zdow_keep {pf : Nat → Nat} {a b : Nat} {hb cb : Bool} {A : zI} {q : zq} {k i j : Nat} (h : zmv k j = false) : (zdow pf a b hb cb A q).1 k i j = A k i j := by
  unfold zdow
  split
  · rfl
  split
  · rfl
  split
  · split
    · rw [zdnE_keep h, zdnR_keep h, zsend_keep h]
    · rw [zdnE_keep h, zsend_keep h]
  · rfl
theorem zad1_keep {u b : Nat} {A : zI} {k i j : Nat} (h : zmv k j = false) : zad1 u b A k i j = A k i j := by
  obtain ⟨h0, h1, h2, h3, h4, h5, h6, h7, h8, h9⟩ := zmv_n h
  unfold zad1
  (repeat' split)
  · rfl
  · rw [zu_k h3, zu_k h2, zu_k h1]
  · exact zu_k h2
  · rfl
theorem zadL_keep {u : Nat} {k i j : Nat} (h : zmv k j = false) : ∀ (s b : Nat) (A : zI), zadL u s b A k i j = A k i j
  | 0, _, _ => rfl
  | s + 1, b, A => (zadL_keep h s (b + 1) (zad1 u b A)).trans (zad1_keep h)
theorem zadv_keep {c u : Nat} {hb : Bool} {A : zI} {k i j : Nat} (h : zmv k j = false) : zadv c u hb A k i j = A k i j := by
  unfold zadv
  split
  · rfl
  · exact zadL_keep h _ _ _
theorem zcan_ad1 {u b : Nat} {I : zI} : zcan (zad1 u b I) = zad1 u b (zcan I) := by
  have e1 : zcan I 30 0 (6 * u + b) = I 30 0 (6 * u + b) := rfl
  have e2 : zcan I 31 0 b = I 31 0 b := rfl
  have e3 : zcan I 32 0 b = I 32 0 b := rfl
  have e4 : zcan I 33 0 b = I 33 0 b := rfl
  have e5 : zcan I 33 0 u = I 33 0 u := rfl
  have e6 : zcan I 38 0 (2 * b) = I 38 0 (2 * b) := rfl
  unfold zad1
  rw [e1, e2, e3, e4, e5, e6]
  (repeat' split)
  · rfl
  · rw [zc_47, zc_33, zc_32]
  · rw [zc_33]
  · rfl
theorem zcan_adL {u : Nat} : ∀ (s b : Nat) (I : zI), zcan (zadL u s b I) = zadL u s b (zcan I)
  | 0, _, _ => rfl
  | s + 1, b, I => by
    show zcan (zadL u s (b + 1) (zad1 u b I)) = zadL u s (b + 1) (zad1 u b (zcan I))
    rw [zcan_adL s (b + 1), zcan_ad1]
theorem zcan_adv {c u : Nat} {hb : Bool} {I : zI} : zcan (zadv c u hb I) = zadv c u hb (zcan I) := by
  unfold zadv
  rw [show zcan I 32 0 u = I 32 0 u from rfl]
  split
  · rfl
  · exact zcan_adL _ _ _
/-- drifting: node b -/
def zdr1 (b : Nat) (A : zI) : zI := zu A 33 0 b (A 33 0 b + (if A 31 0 b = 0 then nI 0 else A 34 0 b))
def zdrL : Nat → Nat → zI → zI
  | 0, _, A => A
  | s + 1, b, A => zdrL s (b + 1) (zdr1 b A)
def zdrift (c : Nat) (A : zI) : zI := zdrL (c - 1) 1 A
theorem zdrL_keep {k i j : Nat} (h : k ≠ 33) : ∀ (s b : Nat) (A : zI), zdrL s b A k i j = A k i j
  | 0, _, _ => rfl
  | s + 1, b, A => (zdrL_keep h s (b + 1) (zdr1 b A)).trans (zu_k h)
theorem zdrift_keep {c k i j : Nat} {A : zI} (h : k ≠ 33) : zdrift c A k i j = A k i j := zdrL_keep h _ _ _
theorem zcan_drL : ∀ (s b : Nat) (I : zI), zcan (zdrL s b I) = zdrL s b (zcan I)
  | 0, _, _ => rfl
  | s + 1, b, I => by
    show zcan (zdrL s (b + 1) (zdr1 b I)) = zdrL s (b + 1) (zdr1 b (zcan I))
    rw [zcan_drL s (b + 1)]
    unfold zdr1
    rw [zc_33]
    rfl
theorem zcan_drift {c : Nat} {I : zI} : zcan (zdrift c I) = zdrift c (zcan I) := zcan_drL _ _ _
/-- what a cell's code does -/
def zcell (pf : Nat → Nat) (k : Nat) (hb cb : Bool) (A : zI) (q : zq) : zI × zq :=
  if 300 ≤ k then zdow pf (k / 10 % 10) (k % 10) hb cb A q else if 200 ≤ k then zup (k / 10 % 10) (k % 10) hb cb A q else (A, q)
theorem zcell_keep {pf : Nat → Nat} {x : Nat} {hb cb : Bool} {A : zI} {q : zq} {k i j : Nat} (h : zmv k j = false) : (zcell pf x hb cb A q).1 k i j = A k i j := by
  unfold zcell
  split
  · exact zdow_keep h
  split
  · exact zup_keep h
  · rfl
def zchL (pf : Nat → Nat) (tb : Nat → Nat) (J : zJ) (h t : Nat) : Nat → Nat → zI → zq → zI × zq
  | 0, _, A, q => (A, q)
  | s + 1, x, A, q => zchL pf tb J h t s (x + 1) (zcell pf (tb x) (zbit (J 35 0 ((x + t) % h)) t) (zbit (J 36 0 ((x + t) % h)) t) A q).1 (zcell pf (tb x) (zbit (J 35 0 ((x + t) % h)) t) (zbit (J 36 0 ((x + t) % h)) t) A q).2
theorem zchL_keep {pf tb : Nat → Nat} {J : zJ} {h t k i j : Nat} (hk : zmv k j = false) : ∀ (s x : Nat) (A : zI) (q : zq), (zchL pf tb J h t s x A q).1 k i j = A k i j
  | 0, _, _, _ => rfl
  | s + 1, x, A, q => (zchL_keep hk s (x + 1) _ _).trans (zcell_keep hk)
/-- the work of a slot whose row of codes is tb -/
def zwork (c : Nat) (pf tb : Nat → Nat) (J : zJ) (h t : Nat) (A : zI) (q : zq) : zI × zq :=
  if 100 ≤ tb 0 ∧ tb 0 < 200 then (zadv c (tb 0 / 10 % 10) (zbit (J 35 0 (t % h)) t) A, q) else zchL pf tb J h t h 0 A q
theorem zwork_keep {c : Nat} {pf tb : Nat → Nat} {J : zJ} {h t k i j : Nat} {A : zI} {q : zq} (hk : zmv k j = false) : (zwork c pf tb J h t A q).1 k i j = A k i j := by
  unfold zwork
  split
  · exact zadv_keep hk
  · exact zchL_keep hk _ _ _ _
/-- a slot: all but the time -/
def zslot (c S h : Nat) (pl : Bool) (pf tb : Nat → Nat) (J : zJ) (t : Nat) (A : zI) (q : zq) : zI × zq :=
  if pl = true then zwork c pf (fun x => tb (4 * (t % S) + x)) J h t (zdrift c A) q else (zdrift c A, q)
def zrun (c S h : Nat) (pl : Bool) (pf tb : Nat → Nat) (J : zJ) : Nat → Nat → zI → zq → zI × zq
  | 0, _, A, q => (A, q)
  | s + 1, t, A, q => zrun c S h pl pf tb J s (t + 1) (zu (zslot c S h pl pf tb J t A q).1 29 0 3 (nI (t + 1))) (zslot c S h pl pf tb J t A q).2
/-- a table of codes that is in order -/
def zTbl (c : Nat) (tb : Nat → Nat) : Prop := ∀ x, x < 96 → tb x < 400 ∧ (100 ≤ tb x → tb x < 200 → tb x / 10 % 10 < c) ∧ (200 ≤ tb x → tb x / 10 % 10 < c ∧ tb x % 10 < c ∧ tb x / 10 % 10 ≠ tb x % 10)
