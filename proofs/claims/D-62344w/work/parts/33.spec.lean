/-! THE SPEC STATE (zcan I, q): the twin's ints (kinds 29.. but the rows' arrays 43..46), and the rows as lists -/
def zjk (k : Nat) : Bool := Nat.blt k 29 || (Nat.ble 43 k && Nat.ble k 46)
def zcan (I : zI) : zI := fun k i j => bif zjk k then 0 else I k i j
theorem zcan_zu {I : zI} {k i j : Nat} {v : Int32} (h : zjk k = false) : zcan (zu I k i j v) = zu (zcan I) k i j v := by
  funext k' i' j'
  unfold zcan
  rw [zu_if, zu_if]
  by_cases e : k' = k ∧ i' = i ∧ j' = j
  · rw [if_pos e, if_pos e, e.1, h]; rfl
  · rw [if_neg e, if_neg e]
theorem zcan_jk {I : zI} {k i j : Nat} {v : Int32} (h : zjk k = true) : zcan (zu I k i j v) = zcan I := by
  funext k' i' j'
  unfold zcan
  rw [zu_if]
  by_cases e : k' = k ∧ i' = i ∧ j' = j
  · rw [if_pos e, e.1, h]; rfl
  · rw [if_neg e]
theorem zcan_of {I I2 : zI} (h : ∀ k i j, zjk k = false → I2 k i j = I k i j) : zcan I2 = zcan I := by
  funext k i j
  unfold zcan
  cases hk : zjk k
  · simp only [cond_false]; exact h k i j hk
  · rfl
abbrev zq : Type := Nat → List (Nat × Int32 × Int32)
def qu (q : zq) (r : Nat) (l : List (Nat × Int32 × Int32)) : zq := fun r' => if r' = r then l else q r'
theorem qu_s {q : zq} {r : Nat} {l : List (Nat × Int32 × Int32)} : qu q r l r = l := if_pos rfl
theorem qu_n {q : zq} {r r' : Nat} {l : List (Nat × Int32 × Int32)} (h : r' ≠ r) : qu q r l r' = q r' := if_neg h
def zrv (c r : Nat) : Prop := r < c ∨ (6 ≤ r ∧ r < 6 + c)
/-- the twin's rows hold q -/
def zRT (c : Nat) (I : zI) (q : zq) : Prop := ∀ r, zrv c r → (q r).length ≤ 4 ∧ I 43 0 r = nI (q r).length ∧ ∀ j e k v, (q r)[j]? = some (e, k, v) → (1 ≤ e ∧ e < c) ∧ I 44 0 (4 * r + j) = nI e ∧ I 45 0 (4 * r + j) = k ∧ I 46 0 (4 * r + j) = v
theorem zRT.of {c : Nat} {I I2 : zI} {q : zq} (h : zRT c I q) (he : ∀ k j, 43 ≤ k → k ≤ 46 → I2 k 0 j = I k 0 j) : zRT c I2 q := by
  intro r hr
  obtain ⟨h1, h2, h3⟩ := h r hr
  refine ⟨h1, by rw [he 43 _ (by omega) (by omega)]; exact h2, fun j e k v hj => ?_⟩
  rw [he 44 _ (by omega) (by omega), he 45 _ (by omega) (by omega), he 46 _ (by omega) (by omega)]
  exact h3 j e k v hj
theorem zRT.put {c : Nat} {I : zI} {q : zq} {k i j : Nat} {v : Int32} (h : zRT c I q) (hk : (Nat.blt k 43 || Nat.blt 46 k) = true) : zRT c (zu I k i j v) q := by
  refine h.of (fun k' j' h1 h2 => zu_k ?_)
  simp only [Bool.or_eq_true, Nat.blt_eq] at hk
  omega
theorem zaddT_43 {I : zI} {r m : Nat} {e k v : Int32} (j : Nat) : zaddT I r m e k v 43 0 j = if j = r then nI (m + 1) else I 43 0 j := by simp [zaddT, zu_if]
theorem zaddT_44 {I : zI} {r m : Nat} {e k v : Int32} (j : Nat) : zaddT I r m e k v 44 0 j = if j = 4 * r + m then e else I 44 0 j := by simp [zaddT, zu_if]
theorem zaddT_45 {I : zI} {r m : Nat} {e k v : Int32} (j : Nat) : zaddT I r m e k v 45 0 j = if j = 4 * r + m then k else I 45 0 j := by simp [zaddT, zu_if]
theorem zaddT_46 {I : zI} {r m : Nat} {e k v : Int32} (j : Nat) : zaddT I r m e k v 46 0 j = if j = 4 * r + m then v else I 46 0 j := by simp [zaddT, zu_if]
theorem zRT.add {c : Nat} {I : zI} {q : zq} {r e : Nat} {k v : Int32} (hc : c ≤ 6) (h : zRT c I q) (hr : zrv c r) (hm : (q r).length < 4) (he : 1 ≤ e ∧ e < c) : zRT c (zaddT I r (q r).length (nI e) k v) (qu q r (q r ++ [(e, k, v)])) := by
  intro r2 hr2
  obtain ⟨h1, h2, h3⟩ := h r2 hr2
  by_cases e2 : r2 = r
  · subst e2
    rw [qu_s]
    refine ⟨by simp; omega, by rw [zaddT_43, if_pos rfl]; simp, fun j e3 k3 v3 hj => ?_⟩
    rw [zaddT_44, zaddT_45, zaddT_46]
    rcases Nat.lt_or_ge j (q r2).length with hl | hl
    · rw [List.getElem?_append_left hl] at hj
      rw [if_neg (by omega), if_neg (by omega), if_neg (by omega)]
      exact h3 j e3 k3 v3 hj
    · rw [List.getElem?_append_right hl] at hj
      have hz : j - (q r2).length = 0 := by
        have := (List.getElem?_eq_some_iff.mp hj).1
        simp at this
        omega
      rw [hz] at hj
      simp at hj
      obtain ⟨rfl, rfl, rfl⟩ := hj
      rw [if_pos (by omega), if_pos (by omega), if_pos (by omega)]
      exact ⟨he, rfl, rfl, rfl⟩
  · rw [qu_n e2]
    refine ⟨h1, by rw [zaddT_43, if_neg e2]; exact h2, fun j e3 k3 v3 hj => ?_⟩
    have hl := (List.getElem?_eq_some_iff.mp hj).1
    rw [zaddT_44, zaddT_45, zaddT_46, if_neg (by omega), if_neg (by omega), if_neg (by omega)]
    exact h3 j e3 k3 v3 hj
/-- the first frame of a row has left -/
def zlvT (I I2 : zI) (r m : Nat) : Prop := (∀ k i j, ¬ (43 ≤ k ∧ k ≤ 46) → I2 k i j = I k i j) ∧ (∀ r2, I2 43 0 r2 = if r2 = r then nI m else I 43 0 r2) ∧ ∀ k j, 44 ≤ k → k ≤ 46 → I2 k 0 j = if 4 * r ≤ j ∧ j < 4 * r + m then I k 0 (j + 1) else I k 0 j
theorem zRT.leave {c : Nat} {I I2 : zI} {q : zq} {r : Nat} {x : Nat × Int32 × Int32} {t : List (Nat × Int32 × Int32)} (hc : c ≤ 6) (h : zRT c I q) (hr : zrv c r) (hq : q r = x :: t) (hl : zlvT I I2 r t.length) : zRT c I2 (qu q r t) := by
  obtain ⟨l1, l2, l3⟩ := hl
  intro r2 hr2
  obtain ⟨h1, h2, h3⟩ := h r2 hr2
  by_cases e2 : r2 = r
  · subst e2
    rw [qu_s]
    rw [hq] at h1 h2 h3
    simp at h1
    refine ⟨by omega, by rw [l2, if_pos rfl], fun j e k v hj => ?_⟩
    have hlt := (List.getElem?_eq_some_iff.mp hj).1
    obtain ⟨a1, a2, a3, a4⟩ := h3 (j + 1) e k v (by simpa using hj)
    rw [l3 44 _ (by omega) (by omega), l3 45 _ (by omega) (by omega), l3 46 _ (by omega) (by omega), if_pos (by omega), if_pos (by omega), if_pos (by omega)]
    exact ⟨a1, a2, a3, a4⟩
  · rw [qu_n e2]
    obtain ⟨g1, -⟩ := h r hr
    rw [hq] at g1
    simp at g1
    refine ⟨h1, by rw [l2, if_neg e2]; exact h2, fun j e k v hj => ?_⟩
    have hlt := (List.getElem?_eq_some_iff.mp hj).1
    rw [l3 44 _ (by omega) (by omega), l3 45 _ (by omega) (by omega), l3 46 _ (by omega) (by omega), if_neg (by omega), if_neg (by omega), if_neg (by omega)]
    exact h3 j e k v hj
/-! numbers -/
def zwi (v b : Int32) : Int32 := if v < -b then -b else if b < v then b else v
def zbit (x : Int64) (t : Nat) : Bool := decide ((x >>> ((nI (t % 64)).toInt64 &&& 63)) &&& 1 = 1)
theorem zlg1 (x : Int64) : lg_cmp x 1 = 0 ↔ x = 1 := by
  unfold lg_cmp
  constructor
  · intro h
    (repeat' split at h) <;> first | assumption | (exact absurd h (by decide)) | skip
  · intro h
    subst h
    decide
/-! the steps of a slot -/
def zcaA (A : zI) (e : Nat) (v : Int32) : zI :=
  zu (zu (zu (zu (zu A 51 0 (3 * e + 2) (A 51 0 (3 * e + 1))) 51 0 (3 * e + 1) (A 51 0 (3 * e))) 51 0 (3 * e) v) 52 0 e (if A 52 0 e < nI 3 then A 52 0 e + nI 1 else nI 3)) 56 0 e (zwi (A 56 0 e + (A 53 0 e - v)) (nI 2000))
def zcaC (A : zI) (e : Nat) (v : Int32) : Int32 := zwi ((A 54 0 e * (A 53 0 e - v) + A 55 0 e * zwi (A 56 0 e + (A 53 0 e - v)) (nI 2000)) >>> (nI 4 &&& 31)) (nI 500)
def zcaQ (A : zI) (q : zq) (e : Nat) (k v : Int32) : zq := if (q 6).length < 4 then qu q 6 (q 6 ++ [(e, k, zcaC A e v)]) else q
def zclose (A : zI) (a b : Nat) : Prop := ¬ (A 33 0 a - A 33 0 b < -10) ∧ ¬ (nI 10 < A 33 0 a - A 33 0 b)
def zcl1 (x : Int32) : Bool := !decide (x < -10) && !decide (nI 10 < x)
def zhears (A : zI) (a b : Nat) (hb : Bool) : Bool := !(A 32 0 b == 0) && (!(A 30 0 (6 * a + b) == 0) && (zcl1 (A 33 0 a - A 33 0 b) && hb))
/-- what a receiver does with an up frame: the state, and whether it may be confirmed -/
def zupR (b e : Nat) (k v : Int32) (A : zI) (q : zq) : (zI × zq) × Bool :=
  if k ≤ A 49 0 (6 * b + e) then ((A, q), true)
  else if b = 0 then ((zcaA (zu A 49 0 (6 * b + e) k) e v, zcaQ (zu A 49 0 (6 * b + e) k) q e k v), true)
  else if (q b).length < 4 then ((zu A 49 0 (6 * b + e) k, qu q b (q b ++ [(e, k, v)])), true)
  else ((A, q), false)
def zupE (a b : Nat) (ok : Bool) (A : zI) (q : zq) : zI × zq :=
  if ok = true then (zu (zu A 47 0 a (nI 0)) 33 0 a (if A 38 0 (2 * a) = nI b then A 33 0 b else A 33 0 a), qu q a (q a).tail)
  else if A 47 0 a + nI 1 = nI 4 then (zu (zu A 47 0 a (nI 0)) 32 0 a (nI 0), q) else (zu A 47 0 a (A 47 0 a + nI 1), q)
def zsend (A : zI) : zI := zu A 29 0 4 (A 29 0 4 + nI 1)
def zup (a b : Nat) (hb cb : Bool) (A : zI) (q : zq) : zI × zq :=
  if A 32 0 a = 0 then (A, q) else match q a with
  | [] => (A, q)
  | (e, k, v) :: _ =>
    if zhears (zsend A) a b hb = true then zupE a b ((zupR b e k v (zsend A) q).2 && cb) (zupR b e k v (zsend A) q).1.1 (zupR b e k v (zsend A) q).1.2
    else zupE a b false (zsend A) q
def zdnR (a b e : Nat) (k v : Int32) (A : zI) (q : zq) : (zI × zq) × Bool :=
  if k ≤ A 49 0 (36 + 6 * b + e) then ((zu A 33 0 b (A 33 0 a), q), true)
  else if e = b then ((zu (zu (zu A 33 0 b (A 33 0 a)) 49 0 (36 + 6 * b + e) k) 57 0 b v, q), true)
  else if (q (6 + b)).length < 4 then ((zu (zu A 33 0 b (A 33 0 a)) 49 0 (36 + 6 * b + e) k, qu q (6 + b) (q (6 + b) ++ [(e, k, v)])), true)
  else ((zu A 33 0 b (A 33 0 a), q), false)
def zdnE (a : Nat) (ok : Bool) (A : zI) (q : zq) : zI × zq :=
  if ok = true then (zu A 48 0 a (nI 0), qu q (6 + a) (q (6 + a)).tail)
  else if A 48 0 a + nI 1 = nI 6 then (zu A 48 0 a (nI 0), qu q (6 + a) (q (6 + a)).tail) else (zu A 48 0 a (A 48 0 a + nI 1), q)
/-- by first parents, up to six steps from k to b or to the gateway -/
def zbl (pf : Nat → Nat) (b : Nat) : Nat → Nat → Nat
  | 0, k => k
  | s + 1, k => if k = 0 ∨ k = b then k else zbl pf b s (pf k)
def zdow (pf : Nat → Nat) (a b : Nat) (hb cb : Bool) (A : zI) (q : zq) : zI × zq :=
  if A 32 0 a = 0 then (A, q) else match q (6 + a) with
  | [] => (A, q)
  | (e, k, v) :: _ =>
    if zbl pf b 6 e = b then
      if zhears (zsend A) a b hb = true then zdnE a ((zdnR a b e k v (zsend A) q).2 && cb) (zdnR a b e k v (zsend A) q).1.1 (zdnR a b e k v (zsend A) q).1.2
      else zdnE a false (zsend A) q
    else (A, q)
/-- an advert of u reaches b -/
def zad1 (u b : Nat) (A : zI) : zI :=
  if A 30 0 (6 * u + b) = 0 ∨ A 31 0 b = 0 then A
  else if A 32 0 b = 0 then zu (zu (zu A 32 0 b (nI 1)) 33 0 b (A 33 0 u)) 47 0 b (nI 0)
  else if A 38 0 (2 * b) = nI u ∧ zcl1 (A 33 0 u - A 33 0 b) = true then zu A 33 0 b (A 33 0 u) else A
def zadL (u : Nat) : Nat → Nat → zI → zI
  | 0, _, A => A
  | s + 1, b, A => zadL u s (b + 1) (zad1 u b A)
def zadv (c u : Nat) (hb : Bool) (A : zI) : zI := if A 32 0 u = 0 ∨ hb = false then A else zadL u (c - 1) 1 A
theorem zc_29 {I : zI} {i j : Nat} {v : Int32} : zcan (zu I 29 i j v) = zu (zcan I) 29 i j v := zcan_zu rfl
theorem zc_30 {I : zI} {i j : Nat} {v : Int32} : zcan (zu I 30 i j v) = zu (zcan I) 30 i j v := zcan_zu rfl
theorem zc_31 {I : zI} {i j : Nat} {v : Int32} : zcan (zu I 31 i j v) = zu (zcan I) 31 i j v := zcan_zu rfl
theorem zc_32 {I : zI} {i j : Nat} {v : Int32} : zcan (zu I 32 i j v) = zu (zcan I) 32 i j v := zcan_zu rfl
theorem zc_33 {I : zI} {i j : Nat} {v : Int32} : zcan (zu I 33 i j v) = zu (zcan I) 33 i j v := zcan_zu rfl
theorem zc_34 {I : zI} {i j : Nat} {v : Int32} : zcan (zu I 34 i j v) = zu (zcan I) 34 i j v := zcan_zu rfl
theorem zc_35 {I : zI} {i j : Nat} {v : Int32} : zcan (zu I 35 i j v) = zu (zcan I) 35 i j v := zcan_zu rfl
theorem zc_36 {I : zI} {i j : Nat} {v : Int32} : zcan (zu I 36 i j v) = zu (zcan I) 36 i j v := zcan_zu rfl
theorem zc_37 {I : zI} {i j : Nat} {v : Int32} : zcan (zu I 37 i j v) = zu (zcan I) 37 i j v := zcan_zu rfl
theorem zc_38 {I : zI} {i j : Nat} {v : Int32} : zcan (zu I 38 i j v) = zu (zcan I) 38 i j v := zcan_zu rfl
theorem zc_39 {I : zI} {i j : Nat} {v : Int32} : zcan (zu I 39 i j v) = zu (zcan I) 39 i j v := zcan_zu rfl
theorem zc_40 {I : zI} {i j : Nat} {v : Int32} : zcan (zu I 40 i j v) = zu (zcan I) 40 i j v := zcan_zu rfl
theorem zc_41 {I : zI} {i j : Nat} {v : Int32} : zcan (zu I 41 i j v) = zu (zcan I) 41 i j v := zcan_zu rfl
theorem zc_42 {I : zI} {i j : Nat} {v : Int32} : zcan (zu I 42 i j v) = zu (zcan I) 42 i j v := zcan_zu rfl
theorem zc_47 {I : zI} {i j : Nat} {v : Int32} : zcan (zu I 47 i j v) = zu (zcan I) 47 i j v := zcan_zu rfl
theorem zc_48 {I : zI} {i j : Nat} {v : Int32} : zcan (zu I 48 i j v) = zu (zcan I) 48 i j v := zcan_zu rfl
theorem zc_49 {I : zI} {i j : Nat} {v : Int32} : zcan (zu I 49 i j v) = zu (zcan I) 49 i j v := zcan_zu rfl
theorem zc_50 {I : zI} {i j : Nat} {v : Int32} : zcan (zu I 50 i j v) = zu (zcan I) 50 i j v := zcan_zu rfl
theorem zc_51 {I : zI} {i j : Nat} {v : Int32} : zcan (zu I 51 i j v) = zu (zcan I) 51 i j v := zcan_zu rfl
theorem zc_52 {I : zI} {i j : Nat} {v : Int32} : zcan (zu I 52 i j v) = zu (zcan I) 52 i j v := zcan_zu rfl
theorem zc_53 {I : zI} {i j : Nat} {v : Int32} : zcan (zu I 53 i j v) = zu (zcan I) 53 i j v := zcan_zu rfl
theorem zc_54 {I : zI} {i j : Nat} {v : Int32} : zcan (zu I 54 i j v) = zu (zcan I) 54 i j v := zcan_zu rfl
theorem zc_55 {I : zI} {i j : Nat} {v : Int32} : zcan (zu I 55 i j v) = zu (zcan I) 55 i j v := zcan_zu rfl
theorem zc_56 {I : zI} {i j : Nat} {v : Int32} : zcan (zu I 56 i j v) = zu (zcan I) 56 i j v := zcan_zu rfl
theorem zc_57 {I : zI} {i j : Nat} {v : Int32} : zcan (zu I 57 i j v) = zu (zcan I) 57 i j v := zcan_zu rfl
theorem zc_0 {I : zI} {i j : Nat} {v : Int32} : zcan (zu I 0 i j v) = zcan I := zcan_jk rfl
theorem zc_1 {I : zI} {i j : Nat} {v : Int32} : zcan (zu I 1 i j v) = zcan I := zcan_jk rfl
theorem zc_2 {I : zI} {i j : Nat} {v : Int32} : zcan (zu I 2 i j v) = zcan I := zcan_jk rfl
theorem zc_3 {I : zI} {i j : Nat} {v : Int32} : zcan (zu I 3 i j v) = zcan I := zcan_jk rfl
theorem zc_4 {I : zI} {i j : Nat} {v : Int32} : zcan (zu I 4 i j v) = zcan I := zcan_jk rfl
theorem zc_5 {I : zI} {i j : Nat} {v : Int32} : zcan (zu I 5 i j v) = zcan I := zcan_jk rfl
theorem zc_6 {I : zI} {i j : Nat} {v : Int32} : zcan (zu I 6 i j v) = zcan I := zcan_jk rfl
theorem zc_7 {I : zI} {i j : Nat} {v : Int32} : zcan (zu I 7 i j v) = zcan I := zcan_jk rfl
theorem zc_8 {I : zI} {i j : Nat} {v : Int32} : zcan (zu I 8 i j v) = zcan I := zcan_jk rfl
theorem zc_9 {I : zI} {i j : Nat} {v : Int32} : zcan (zu I 9 i j v) = zcan I := zcan_jk rfl
theorem zc_10 {I : zI} {i j : Nat} {v : Int32} : zcan (zu I 10 i j v) = zcan I := zcan_jk rfl
theorem zc_11 {I : zI} {i j : Nat} {v : Int32} : zcan (zu I 11 i j v) = zcan I := zcan_jk rfl
theorem zc_12 {I : zI} {i j : Nat} {v : Int32} : zcan (zu I 12 i j v) = zcan I := zcan_jk rfl
theorem zc_13 {I : zI} {i j : Nat} {v : Int32} : zcan (zu I 13 i j v) = zcan I := zcan_jk rfl
theorem zc_14 {I : zI} {i j : Nat} {v : Int32} : zcan (zu I 14 i j v) = zcan I := zcan_jk rfl
theorem zc_15 {I : zI} {i j : Nat} {v : Int32} : zcan (zu I 15 i j v) = zcan I := zcan_jk rfl
theorem zc_16 {I : zI} {i j : Nat} {v : Int32} : zcan (zu I 16 i j v) = zcan I := zcan_jk rfl
theorem zc_17 {I : zI} {i j : Nat} {v : Int32} : zcan (zu I 17 i j v) = zcan I := zcan_jk rfl
theorem zc_18 {I : zI} {i j : Nat} {v : Int32} : zcan (zu I 18 i j v) = zcan I := zcan_jk rfl
theorem zc_19 {I : zI} {i j : Nat} {v : Int32} : zcan (zu I 19 i j v) = zcan I := zcan_jk rfl
theorem zc_20 {I : zI} {i j : Nat} {v : Int32} : zcan (zu I 20 i j v) = zcan I := zcan_jk rfl
theorem zc_21 {I : zI} {i j : Nat} {v : Int32} : zcan (zu I 21 i j v) = zcan I := zcan_jk rfl
theorem zc_22 {I : zI} {i j : Nat} {v : Int32} : zcan (zu I 22 i j v) = zcan I := zcan_jk rfl
theorem zc_23 {I : zI} {i j : Nat} {v : Int32} : zcan (zu I 23 i j v) = zcan I := zcan_jk rfl
theorem zc_24 {I : zI} {i j : Nat} {v : Int32} : zcan (zu I 24 i j v) = zcan I := zcan_jk rfl
theorem zc_25 {I : zI} {i j : Nat} {v : Int32} : zcan (zu I 25 i j v) = zcan I := zcan_jk rfl
theorem zc_26 {I : zI} {i j : Nat} {v : Int32} : zcan (zu I 26 i j v) = zcan I := zcan_jk rfl
theorem zc_27 {I : zI} {i j : Nat} {v : Int32} : zcan (zu I 27 i j v) = zcan I := zcan_jk rfl
theorem zc_28 {I : zI} {i j : Nat} {v : Int32} : zcan (zu I 28 i j v) = zcan I := zcan_jk rfl
theorem zc_43 {I : zI} {i j : Nat} {v : Int32} : zcan (zu I 43 i j v) = zcan I := zcan_jk rfl
theorem zc_44 {I : zI} {i j : Nat} {v : Int32} : zcan (zu I 44 i j v) = zcan I := zcan_jk rfl
theorem zc_45 {I : zI} {i j : Nat} {v : Int32} : zcan (zu I 45 i j v) = zcan I := zcan_jk rfl
theorem zc_46 {I : zI} {i j : Nat} {v : Int32} : zcan (zu I 46 i j v) = zcan I := zcan_jk rfl
theorem zcan_add {I : zI} {r m : Nat} {e k v : Int32} : zcan (zaddT I r m e k v) = zcan I := by simp only [zaddT, zc_43, zc_44, zc_45, zc_46]
theorem zcan_lv {I I2 : zI} {r m : Nat} (h : zlvT I I2 r m) : zcan I2 = zcan I := zcan_of (fun k i j hk => h.1 k i j (by
  intro q
  rcases (show k = 43 ∨ k = 44 ∨ k = 45 ∨ k = 46 by omega) with rfl | rfl | rfl | rfl <;> exact absurd hk (by decide)))
