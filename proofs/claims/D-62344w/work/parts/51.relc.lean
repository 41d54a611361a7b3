/-! THE COMPONENT AGAINST THE SPEC STATE (A, q) -/
/-- which place of the component (k, i, j) is which place of A (k', 0, j') -/
def zco (c k i j k' j' : Nat) : Prop :=
  (k = 1 ∧ i < c ∧ j' = i ∧ ((j = 1 ∧ k' = 31) ∨ (j = 2 ∧ k' = 32) ∨ (j = 3 ∧ k' = 33) ∨ (j = 4 ∧ k' = 34) ∨ (j = 5 ∧ k' = 47) ∨ (j = 6 ∧ k' = 48) ∨ (j = 7 ∧ k' = 50) ∨ (j = 8 ∧ k' = 57)))
  ∨ (k = 5 ∧ (i < c ∨ (6 ≤ i ∧ i < 6 + c)) ∧ j < 6 ∧ k' = 49 ∧ j' = 6 * i + j)
  ∨ (k = 8 ∧ i < 6 ∧ j < 6 ∧ k' = 30 ∧ j' = 6 * i + j)
  ∨ (k = 23 ∧ i < 6 ∧ j < 3 ∧ k' = 51 ∧ j' = 3 * i + j)
  ∨ (25 ≤ k ∧ k ≤ 28 ∧ i = 0 ∧ j < 6 ∧ k' = k + 28 ∧ j' = j)
  ∨ (k = 0 ∧ i = 0 ∧ k' = 29 ∧ ((j = 7 ∧ j' = 3) ∨ (j = 8 ∧ j' = 4)))
theorem zco_inj {c k i j k2 i2 j2 a b : Nat} (h : zco c k i j a b) (h2 : zco c k2 i2 j2 a b) : k = k2 ∧ i = i2 ∧ j = j2 := by
  rcases h with ⟨rfl, p1, rfl, h⟩ | ⟨rfl, p1, p2, rfl, rfl⟩ | ⟨rfl, p1, p2, rfl, rfl⟩ | ⟨rfl, p1, p2, rfl, rfl⟩ | ⟨p1, p2, rfl, p3, rfl, rfl⟩ | ⟨rfl, rfl, rfl, h⟩
  · rcases h2 with ⟨rfl, o1, e, h2⟩ | ⟨rfl, o1, o2, rfl, e⟩ | ⟨rfl, o1, o2, rfl, e⟩ | ⟨rfl, o1, o2, rfl, e⟩ | ⟨o1, o2, rfl, o3, rfl, e⟩ | ⟨rfl, rfl, rfl, h2⟩
    · subst e
      rcases h with ⟨rfl, rfl⟩ | ⟨rfl, rfl⟩ | ⟨rfl, rfl⟩ | ⟨rfl, rfl⟩ | ⟨rfl, rfl⟩ | ⟨rfl, rfl⟩ | ⟨rfl, rfl⟩ | ⟨rfl, rfl⟩ <;> simp at h2 <;> exact ⟨rfl, rfl, h2.symm⟩
    · simp at h
    · simp at h
    · simp at h
    · omega
    · simp at h
  · rcases h2 with ⟨rfl, o1, e, h2⟩ | ⟨rfl, o1, o2, -, e⟩ | ⟨rfl, o1, o2, h2, e⟩ | ⟨rfl, o1, o2, h2, e⟩ | ⟨o1, o2, rfl, o3, h2, e⟩ | ⟨rfl, rfl, h2, -⟩
    · simp at h2
    · omega
    all_goals omega
  · rcases h2 with ⟨rfl, o1, e, h2⟩ | ⟨rfl, o1, o2, h2, e⟩ | ⟨rfl, o1, o2, h2, e⟩ | ⟨rfl, o1, o2, h2, e⟩ | ⟨o1, o2, rfl, o3, h2, e⟩ | ⟨rfl, rfl, h2, -⟩
    · simp at h2
    all_goals omega
  · rcases h2 with ⟨rfl, o1, e, h2⟩ | ⟨rfl, o1, o2, h2, e⟩ | ⟨rfl, o1, o2, h2, e⟩ | ⟨rfl, o1, o2, h2, e⟩ | ⟨o1, o2, rfl, o3, h2, e⟩ | ⟨rfl, rfl, h2, -⟩
    · simp at h2
    all_goals omega
  · rcases h2 with ⟨rfl, o1, e, h2⟩ | ⟨rfl, o1, o2, h2, e⟩ | ⟨rfl, o1, o2, h2, e⟩ | ⟨rfl, o1, o2, h2, e⟩ | ⟨o1, o2, rfl, o3, h2, e⟩ | ⟨rfl, rfl, h2, -⟩
    · omega
    all_goals omega
  · rcases h2 with ⟨rfl, o1, e, h2⟩ | ⟨rfl, o1, o2, h2, e⟩ | ⟨rfl, o1, o2, h2, e⟩ | ⟨rfl, o1, o2, h2, e⟩ | ⟨o1, o2, rfl, o3, h2, e⟩ | ⟨rfl, rfl, -, h2⟩
    · simp at h2
    · simp at h2
    · simp at h2
    · simp at h2
    · omega
    · omega
theorem zco_fun {c k i j a b a2 b2 : Nat} (h : zco c k i j a b) (h2 : zco c k i j a2 b2) : a = a2 ∧ b = b2 := by
  rcases h with ⟨rfl, p1, rfl, h⟩ | ⟨rfl, p1, p2, rfl, rfl⟩ | ⟨rfl, p1, p2, rfl, rfl⟩ | ⟨rfl, p1, p2, rfl, rfl⟩ | ⟨p1, p2, rfl, p3, rfl, rfl⟩ | ⟨rfl, rfl, rfl, h⟩ <;> rcases h2 with ⟨q1, o1, rfl, h2⟩ | ⟨q1, o1, o2, rfl, rfl⟩ | ⟨q1, o1, o2, rfl, rfl⟩ | ⟨q1, o1, o2, rfl, rfl⟩ | ⟨q1, o2, o3, o4, rfl, rfl⟩ | ⟨q1, o1, rfl, h2⟩
  case inl.inl => rcases h with ⟨rfl, rfl⟩ | ⟨rfl, rfl⟩ | ⟨rfl, rfl⟩ | ⟨rfl, rfl⟩ | ⟨rfl, rfl⟩ | ⟨rfl, rfl⟩ | ⟨rfl, rfl⟩ | ⟨rfl, rfl⟩ <;> simp at h2 <;> exact ⟨h2.symm, rfl⟩
  all_goals first | omega | exact ⟨rfl, rfl⟩
theorem zco.n {c i j k' : Nat} (hi : i < c) (h : (j = 1 ∧ k' = 31) ∨ (j = 2 ∧ k' = 32) ∨ (j = 3 ∧ k' = 33) ∨ (j = 4 ∧ k' = 34) ∨ (j = 5 ∧ k' = 47) ∨ (j = 6 ∧ k' = 48) ∨ (j = 7 ∧ k' = 50) ∨ (j = 8 ∧ k' = 57)) : zco c 1 i j k' i := Or.inl ⟨rfl, hi, rfl, h⟩
theorem zco.tk {c r s : Nat} (hr : zrv c r) (hs : s < 6) : zco c 5 r s 49 (6 * r + s) := Or.inr (Or.inl ⟨rfl, hr, hs, rfl, rfl⟩)
theorem zco.nr {c a b : Nat} (ha : a < 6) (hb : b < 6) : zco c 8 a b 30 (6 * a + b) := Or.inr (Or.inr (Or.inl ⟨rfl, ha, hb, rfl, rfl⟩))
theorem zco.kp {c a b : Nat} (ha : a < 6) (hb : b < 3) : zco c 23 a b 51 (3 * a + b) := Or.inr (Or.inr (Or.inr (Or.inl ⟨rfl, ha, hb, rfl, rfl⟩)))
theorem zco.lp {c k k' s : Nat} (h1 : 25 ≤ k) (h2 : k ≤ 28) (hs : s < 6) (e : k' = k + 28) : zco c k 0 s k' s := Or.inr (Or.inr (Or.inr (Or.inr (Or.inl ⟨h1, h2, rfl, hs, e, rfl⟩))))
theorem zco.t7 {c : Nat} : zco c 0 0 7 29 3 := Or.inr (Or.inr (Or.inr (Or.inr (Or.inr ⟨rfl, rfl, rfl, Or.inl ⟨rfl, rfl⟩⟩))))
theorem zco.t8 {c : Nat} : zco c 0 0 8 29 4 := Or.inr (Or.inr (Or.inr (Or.inr (Or.inr ⟨rfl, rfl, rfl, Or.inr ⟨rfl, rfl⟩⟩))))
def zRN (c : Nat) (I A : zI) : Prop := ∀ k i j k' j', zco c k i j k' j' → I k i j = A k' 0 j'
theorem zRN.put {c k i j a b : Nat} {I A : zI} {v : Int32} (h : zRN c I A) (hp : zco c k i j a b) : zRN c (zu I k i j v) (zu A a 0 b v) := by
  intro k2 i2 j2 a2 b2 hp2
  rw [zu_if, zu_if]
  by_cases e : k2 = k ∧ i2 = i ∧ j2 = j
  · obtain ⟨rfl, rfl, rfl⟩ := e
    obtain ⟨rfl, rfl⟩ := zco_fun hp hp2
    rw [if_pos ⟨rfl, rfl, rfl⟩, if_pos ⟨rfl, rfl, rfl⟩]
  · rw [if_neg e, if_neg]
    · exact h k2 i2 j2 a2 b2 hp2
    · rintro ⟨rfl, -, rfl⟩
      exact e (zco_inj hp2 hp)
theorem zRN.of {c : Nat} {I I2 A A2 : zI} (h : zRN c I A) (h1 : ∀ k i j a b, zco c k i j a b → I2 k i j = I k i j) (h2 : ∀ k i j a b, zco c k i j a b → A2 a 0 b = A a 0 b) : zRN c I2 A2 := fun k i j a b hp => by rw [h1 k i j a b hp, h2 k i j a b hp]; exact h k i j a b hp
/-- a write at a place of the component that A doesn't know -/
theorem zRN.off {c k i j : Nat} {I A : zI} {v : Int32} (h : zRN c I A) (hn : ∀ a b, ¬ zco c k i j a b) : zRN c (zu I k i j v) A := h.of (fun k2 i2 j2 a b hp => zu_oth (fun e => hn a b (by rw [e.1, e.2.1, e.2.2] at hp; exact hp))) (fun _ _ _ _ _ _ => rfl)
theorem zRN.offA {c k j : Nat} {I A : zI} {v : Int32} (h : zRN c I A) (hn : ∀ k2 i2 j2, ¬ zco c k2 i2 j2 k j) : zRN c I (zu A k 0 j v) := h.of (fun _ _ _ _ _ _ => rfl) (fun k2 i2 j2 a b hp => zu_oth (fun e => hn k2 i2 j2 (by rw [e.1, e.2.2] at hp; exact hp)))
theorem zRN.nd {c i : Nat} {I A : zI} (h : zRN c I A) (hi : i < c) : I 1 i 1 = A 31 0 i ∧ I 1 i 2 = A 32 0 i ∧ I 1 i 3 = A 33 0 i ∧ I 1 i 4 = A 34 0 i ∧ I 1 i 5 = A 47 0 i ∧ I 1 i 6 = A 48 0 i ∧ I 1 i 7 = A 50 0 i ∧ I 1 i 8 = A 57 0 i :=
  ⟨h _ _ _ _ _ (zco.n hi (by decide)), h _ _ _ _ _ (zco.n hi (by decide)), h _ _ _ _ _ (zco.n hi (by decide)), h _ _ _ _ _ (zco.n hi (by decide)), h _ _ _ _ _ (zco.n hi (by decide)), h _ _ _ _ _ (zco.n hi (by decide)), h _ _ _ _ _ (zco.n hi (by decide)), h _ _ _ _ _ (zco.n hi (by decide))⟩
theorem zRN.tk {c r s : Nat} {I A : zI} (h : zRN c I A) (hr : zrv c r) (hs : s < 6) : I 5 r s = A 49 0 (6 * r + s) := h _ _ _ _ _ (zco.tk hr hs)
theorem zRN.nr {c a b : Nat} {I A : zI} (h : zRN c I A) (ha : a < 6) (hb : b < 6) : I 8 a b = A 30 0 (6 * a + b) := h _ _ _ _ _ (zco.nr ha hb)
theorem zRN.kp {c s j : Nat} {I A : zI} (h : zRN c I A) (hs : s < 6) (hj : j < 3) : I 23 s j = A 51 0 (3 * s + j) := h _ _ _ _ _ (zco.kp hs hj)
theorem zRN.lp {c s : Nat} {I A : zI} (h : zRN c I A) (hs : s < 6) : I 25 0 s = A 53 0 s ∧ I 26 0 s = A 54 0 s ∧ I 27 0 s = A 55 0 s ∧ I 28 0 s = A 56 0 s := ⟨h _ _ _ _ _ (zco.lp (by decide) (by decide) hs rfl), h _ _ _ _ _ (zco.lp (by decide) (by decide) hs rfl), h _ _ _ _ _ (zco.lp (by decide) (by decide) hs rfl), h _ _ _ _ _ (zco.lp (by decide) (by decide) hs rfl)⟩
theorem zRN.tm {c : Nat} {I A : zI} (h : zRN c I A) : I 0 0 7 = A 29 0 3 ∧ I 0 0 8 = A 29 0 4 := ⟨h _ _ _ _ _ zco.t7, h _ _ _ _ _ zco.t8⟩
/-- how many samples were kept -/
def zNw (N : Nat) (I A : zI) : Prop := ∀ s, s < 6 → ∃ m, m ≤ N ∧ I 24 0 s = nI m ∧ A 52 0 s = nI (if m < 3 then m else 3)
theorem zNw.of {N N2 : Nat} {I I2 A A2 : zI} (h : zNw N I A) (hn : N ≤ N2) (h1 : ∀ s, I2 24 0 s = I 24 0 s) (h2 : ∀ s, A2 52 0 s = A 52 0 s) : zNw N2 I2 A2 := fun s hs => by
  obtain ⟨m, a1, a2, a3⟩ := h s hs
  exact ⟨m, by omega, by rw [h1]; exact a2, by rw [h2]; exact a3⟩
def zQok (c : Nat) (q : zq) : Prop := ∀ r, zrv c r → (q r).length ≤ 4 ∧ ∀ x ∈ q r, 1 ≤ x.1 ∧ x.1 < c
theorem zQok.add {c r : Nat} {q : zq} {x : Nat × Int32 × Int32} (h : zQok c q) (hl : (q r).length < 4) (hx : 1 ≤ x.1 ∧ x.1 < c) : zQok c (qu q r (q r ++ [x])) := by
  intro r2 hr2
  obtain ⟨h1, h2⟩ := h r2 hr2
  by_cases e : r2 = r
  · subst e
    rw [qu_s]
    refine ⟨by simp; omega, fun y hy => ?_⟩
    rcases List.mem_append.mp hy with z | z
    · exact h2 y z
    · rw [List.mem_singleton] at z; subst z; exact hx
  · rw [qu_n e]; exact ⟨h1, h2⟩
theorem zQok.tail {c r : Nat} {q : zq} (h : zQok c q) : zQok c (qu q r (q r).tail) := by
  intro r2 hr2
  obtain ⟨h1, h2⟩ := h r2 hr2
  by_cases e : r2 = r
  · subst e
    rw [qu_s]
    exact ⟨by simp; omega, fun y hy => h2 y (List.mem_of_mem_tail hy)⟩
  · rw [qu_n e]; exact ⟨h1, h2⟩
theorem zQok.nil {c r : Nat} {q : zq} (h : zQok c q) : zQok c (qu q r []) := by
  intro r2 hr2
  obtain ⟨h1, h2⟩ := h r2 hr2
  by_cases e : r2 = r
  · subst e
    rw [qu_s]
    exact ⟨by simp, fun y hy => by cases hy⟩
  · rw [qu_n e]; exact ⟨h1, h2⟩
def zRC (c n N : Nat) (I : zI) (R : zR) (fl : zfl) (A : zI) (q : zq) : Prop := zRN c I A ∧ zNw N I A ∧ zFr c n I R fl q ∧ zQok c q
/-- references that the steps of a slot keep -/
def zRk2 (R R2 : zR) : Prop := ∀ k i j, k ≠ 2 → k ≠ 3 → ¬ (k = 0 ∧ i = 0 ∧ j = 9) → R2 k i j = R k i j
theorem zRk2.rf {R : zR} : zRk2 R R := fun _ _ _ _ _ _ => rfl
theorem zRk2.tr {R R2 R3 : zR} (h : zRk2 R R2) (h2 : zRk2 R2 R3) : zRk2 R R3 := fun k i j a b d => (h2 k i j a b d).trans (h k i j a b d)
theorem zRk2.add {R : zR} {r f : Nat} : zRk2 R (zaddR R r f) := by
  intro k i j h1 h2 h3
  unfold zaddR
  rw [zu_k h1]
  cases R 2 r 1 with
  | none => exact zu_k h1
  | some y => exact zu_k h2
theorem zRk2.take {R : zR} {r f : Nat} : zRk2 R (ztakeR R r f) := by
  intro k i j h1 h2 h3
  unfold ztakeR
  rw [zu_k h2, zu_k h1, zu_k h1]
theorem zRk2.rel {R : zR} {f : Nat} {v w : Option Nat} : zRk2 R (zu (zu R 3 f 3 v) 0 0 9 w) := by
  intro k i j h1 h2 h3
  rw [zu_oth h3, zu_k h2]
theorem zRk2.rel2 {R : zR} {f : Nat} {v w : Option Nat} : zRk2 R (zu (zu R 0 0 9 v) 3 f 3 w) := by
  intro k i j h1 h2 h3
  rw [zu_k h2, zu_oth h3]
theorem zRk2.rel3 {R : zR} {f : Nat} {w : Option Nat} : zRk2 R (zu R 3 f 3 w) := by
  intro k i j h1 h2 h3
  rw [zu_k h2]
/-- ints of the component that the steps of a slot may change -/
def zmc (k j : Nat) : Bool := k == 2 || (k == 3 || (k == 5 || (k == 23 || (k == 24 || (k == 28 || ((k == 1 && (j == 2 || (j == 3 || (j == 5 || (j == 6 || j == 8))))) || (k == 0 && j == 8)))))))
def zIk (I I2 : zI) : Prop := ∀ k i j, zmc k j = false → I2 k i j = I k i j
theorem zIk.rf {I : zI} : zIk I I := fun _ _ _ _ => rfl
theorem zIk.tr {I I2 I3 : zI} (h : zIk I I2) (h2 : zIk I2 I3) : zIk I I3 := fun k i j a => (h2 k i j a).trans (h k i j a)
theorem zIk.put {I : zI} {k i j : Nat} {v : Int32} (h : zmc k j = true) : zIk I (zu I k i j v) := fun k2 i2 j2 h2 => zu_oth (fun e => by rw [e.1, e.2.2, h] at h2; cases h2)
theorem zW.step {g : zG} {S h n n2 : Nat} {I I2 : zI} {R R2 : zR} (hW : zW g S h n I R) (hn : n ≤ n2) (hI : zIk I I2) (hR : zRk2 R R2) : zW g S h n2 I2 R2 := by
  obtain ⟨a1, a2, a3, a4, a5, a6⟩ := hW
  refine ⟨Nat.le_trans a1 hn, a2, a3, a4, fun k i f h1 h2 h3 => ?_, a6.of (fun k i f hc => hI k i f ?_)⟩
  · rw [hR k i f (fun e => by subst e; cases h1) (fun e => by subst e; cases h1) (fun e => by rw [e.1, e.2.2] at h1; cases h1)]
    exact a5 k i f h1 h2 h3
  · unfold zci at hc
    unfold zmc
    split at hc <;> simp_all <;> omega
