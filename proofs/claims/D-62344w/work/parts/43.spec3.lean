/-! THE SPEC OF A PLAN: parents by ranks, first fit of adverts and links in a table of codes -/
/-- the parents of a: its neighbours one rank below, in order -/
def zpl (c : Nat) (f : Nat → Int32) (x : Nat → Nat) (b a : Nat) : List Nat := (List.range b).filter (fun u => !(f (6 * a + u) == 0) && x u + 1 == x a)
theorem zpl_succ (c : Nat) (f : Nat → Int32) (x : Nat → Nat) (b a : Nat) : zpl c f x (b + 1) a = zpl c f x b a ++ (if f (6 * a + b) ≠ 0 ∧ x b + 1 = x a then [b] else []) := by
  unfold zpl
  rw [List.range_succ, List.filter_append]
  congr 1
  by_cases h : f (6 * a + b) ≠ 0 ∧ x b + 1 = x a
  · rw [if_pos h]; simp [h.1, h.2]
  · rw [if_neg h]
    simp only [List.filter_cons, List.filter_nil]
    rw [if_neg]
    simp only [Bool.and_eq_true, Bool.not_eq_true', beq_eq_false_iff_ne, beq_iff_eq]
    exact h
theorem zpl_pre (c : Nat) (f : Nat → Int32) (x : Nat → Nat) (b a : Nat) : ∀ d, ∃ t, zpl c f x (b + d) a = zpl c f x b a ++ t
  | 0 => ⟨[], by simp⟩
  | d + 1 => by
    obtain ⟨t, ht⟩ := zpl_pre c f x b a d
    exact ⟨_, by rw [← Nat.add_assoc, zpl_succ, ht, List.append_assoc]⟩
def zo1 : Option Nat → Int32
  | none => -1
  | some b => nI b
/-- the first place from s on, of k, that P takes -/
def zfnd (P : Nat → Bool) : Nat → Nat → Option Nat
  | 0, _ => none
  | k + 1, s => if P s = true then some s else zfnd P k (s + 1)
def zall (P : Nat → Bool) : Nat → Nat → Bool
  | 0, _ => true
  | k + 1, s => P s && zall P k (s + 1)
theorem zfnd_some {P : Nat → Bool} : ∀ {k s j : Nat}, zfnd P k s = some j → s ≤ j ∧ j < s + k ∧ P j = true ∧ ∀ i, s ≤ i → i < j → P i = false
  | 0, s, j, h => by cases h
  | k + 1, s, j, h => by
    unfold zfnd at h
    by_cases e : P s = true
    · rw [if_pos e] at h
      cases h
      exact ⟨Nat.le_refl _, by omega, e, fun i h1 h2 => by omega⟩
    · rw [if_neg e] at h
      obtain ⟨a1, a2, a3, a4⟩ := zfnd_some h
      refine ⟨by omega, by omega, a3, fun i h1 h2 => ?_⟩
      by_cases ei : i = s
      · rw [ei]; simpa using e
      · exact a4 i (by omega) h2
theorem zfnd_none {P : Nat → Bool} : ∀ {k s : Nat}, zfnd P k s = none → ∀ i, s ≤ i → i < s + k → P i = false
  | 0, s, h, i, h1, h2 => by omega
  | k + 1, s, h, i, h1, h2 => by
    unfold zfnd at h
    by_cases e : P s = true
    · rw [if_pos e] at h; cases h
    · rw [if_neg e] at h
      by_cases ei : i = s
      · rw [ei]; simpa using e
      · exact zfnd_none h i (by omega) (by omega)
theorem zfnd_congr {P Q : Nat → Bool} : ∀ {k s : Nat}, (∀ i, s ≤ i → i < s + k → P i = Q i) → zfnd P k s = zfnd Q k s
  | 0, s, _ => rfl
  | k + 1, s, h => by
    unfold zfnd
    rw [h s (Nat.le_refl _) (by omega), zfnd_congr (fun i h1 h2 => h i (by omega) (by omega))]
theorem zall_iff {P : Nat → Bool} : ∀ {k s : Nat}, zall P k s = true ↔ ∀ i, s ≤ i → i < s + k → P i = true
  | 0, s => ⟨fun _ i h1 h2 => by omega, fun _ => rfl⟩
  | k + 1, s => by
    unfold zall
    rw [Bool.and_eq_true, zall_iff]
    constructor
    · rintro ⟨h1, h2⟩ i h3 h4
      by_cases e : i = s
      · rw [e]; exact h1
      · exact h2 i (by omega) (by omega)
    · intro h
      exact ⟨h s (Nat.le_refl _) (by omega), fun i h1 h2 => h i (by omega) (by omega)⟩
def zk1 (k : Nat) : Nat := if k = 0 then 9 else k / 10 % 10
def zk2 (k : Nat) : Nat := if k < 200 then 9 else k % 10
def zclash (o k : Nat) : Bool := zk1 o == zk1 k || (zk1 o == zk2 k || (zk2 o == zk1 k || zk2 o == zk2 k))
/-- an advert's place -/
def zafr (S : Nat) (T : Nat → Nat) : Option Nat := zfnd (fun s => T (4 * s) == 0) S 0
def zputA (h s a : Nat) (T : Nat → Nat) : Nat → Nat := fun j => if 4 * s ≤ j ∧ j < 4 * s + h then 100 + 10 * a else T j
/-- a link's place -/
def zlone (T : Nat → Nat) (s : Nat) : Bool := decide (T (4 * s) < 100) || decide (200 ≤ T (4 * s))
def zokc (T : Nat → Nat) (k s ch : Nat) : Bool := T (4 * s + ch) == 0 || !zclash (T (4 * s + ch)) k
def zfrc (T : Nat → Nat) (s ch : Nat) : Bool := T (4 * s + ch) == 0
def zfit (h : Nat) (T : Nat → Nat) (k s : Nat) : Bool := zlone T s && (zall (zokc T k s) h 0 && (zfnd (zfrc T s) h 0).isSome)
def zlfr (S h : Nat) (T : Nat → Nat) (k : Nat) : Option Nat := zfnd (zfit h T k) S 0
def zput (j k : Nat) (T : Nat → Nat) : Nat → Nat := fun i => if i = j then k else T i
/-- the codes that are to be placed, in order: adverts, then links -/
def zreqA (S h : Nat) : List Nat → (Nat → Nat) → Option (Nat → Nat)
  | [], T => some T
  | a :: l, T => match zafr S T with
    | none => none
    | some s => zreqA S h l (zputA h s a T)
def zreqL (S h : Nat) : List Nat → (Nat → Nat) → Option (Nat → Nat)
  | [], T => some T
  | k :: l, T => match zlfr S h T k with
    | none => none
    | some s => match zfnd (zfrc T s) h 0 with
      | none => none
      | some ch => zreqL S h l (zput (4 * s + ch) k T)
/-- nodes of rank r, then all nodes by ranks r .. -/
def zrow (c : Nat) (x : Nat → Nat) (r : Nat) : List Nat := (List.range c).filter (fun a => x a == r)
def zord (c : Nat) (x : Nat → Nat) : Nat → Nat → List Nat
  | 0, _ => []
  | k + 1, r => zrow c x r ++ zord c x k (r + 1)
/-- the links of a node -/
def zlks (c : Nat) (f : Nat → Int32) (x : Nat → Nat) (a : Nat) : List Nat := match zpl c f x c a with
  | [] => []
  | [p] => [200 + 10 * a + p, 300 + 10 * p + a]
  | p :: q :: _ => [200 + 10 * a + p, 200 + 10 * a + q, 300 + 10 * p + a]
/-- the whole plan: the table, if there is one -/
def zplan (c S h : Nat) (f : Nat → Int32) (x : Nat → Nat) : Option (Nat → Nat) := match zreqA S h (zord c x 6 0) (fun _ => 0) with
  | none => none
  | some T => zreqL S h ((zord c x 5 1).flatMap (zlks c f x)) T
/-- the twin's table -/
def zTT (T : Nat → Nat) (I : zI) : Prop := ∀ j, j < 96 → I 42 0 j = nI (T j) ∧ T j < 400
