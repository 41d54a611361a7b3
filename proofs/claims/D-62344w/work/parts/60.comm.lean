/-! LINK STEPS ON DISJOINT PAIRS COMMUTE -/
abbrev zAQ : Type := zI × zq
/-- the places of a link from a to b -/
def zFp (a b k j : Nat) : Prop := (k = 30 ∧ j = 6 * a + b) ∨ (k = 32 ∧ (j = a ∨ j = b)) ∨ (k = 33 ∧ (j = a ∨ j = b)) ∨ (k = 38 ∧ j = 2 * a) ∨ (k = 47 ∧ j = a) ∨ (k = 48 ∧ j = a) ∨ (k = 57 ∧ j = b) ∨ (k = 49 ∧ (j / 6 = b ∨ j / 6 = 6 + b)) ∨ (b = 0 ∧ 51 ≤ k ∧ k ≤ 56)
def zFq (a b r : Nat) : Prop := r = a ∨ r = b ∨ r = 6 + a ∨ r = 6 + b
theorem zFp_k {a b k j : Nat} (h : zFp a b k j) : k ≠ 29 := by
  rcases h with ⟨rfl, -⟩ | ⟨rfl, -⟩ | ⟨rfl, -⟩ | ⟨rfl, -⟩ | ⟨rfl, -⟩ | ⟨rfl, -⟩ | ⟨rfl, -⟩ | ⟨rfl, -⟩ | ⟨-, h1, h2⟩ <;> omega
def zAg (a b : Nat) (s s' : zAQ) : Prop := (∀ k j, zFp a b k j → s.1 k 0 j = s'.1 k 0 j) ∧ ∀ r, zFq a b r → s.2 r = s'.2 r
def zE6 (s : zAQ) : Prop := ∀ r x, x ∈ s.2 r → x.1 < 6
def zLoc (a b : Nat) (f : zAQ → zAQ) : Prop := ∃ d : zAQ → Int32, ∀ s, zE6 s → zE6 (f s) ∧ (f s).1 29 0 4 = s.1 29 0 4 + d s ∧ (∀ k i j, ¬ (i = 0 ∧ zFp a b k j) → ¬ (k = 29 ∧ i = 0 ∧ j = 4) → (f s).1 k i j = s.1 k i j) ∧ (∀ r, ¬ zFq a b r → (f s).2 r = s.2 r) ∧ ∀ s', zE6 s' → zAg a b s s' → d s = d s' ∧ zAg a b (f s) (f s')
theorem zdisj {a b a2 b2 : Nat} (ha : a < 6) (hb : b < 6) (ha2 : a2 < 6) (hb2 : b2 < 6) (h1 : a ≠ a2) (h2 : a ≠ b2) (h3 : b ≠ a2) (h4 : b ≠ b2) {k j : Nat} (h : zFp a b k j) (h' : zFp a2 b2 k j) : False := by
  rcases h with ⟨rfl, p⟩ | ⟨rfl, p⟩ | ⟨rfl, p⟩ | ⟨rfl, p⟩ | ⟨rfl, p⟩ | ⟨rfl, p⟩ | ⟨rfl, p⟩ | ⟨rfl, p⟩ | ⟨p, p1, p2⟩ <;> rcases h' with ⟨e, p'⟩ | ⟨e, p'⟩ | ⟨e, p'⟩ | ⟨e, p'⟩ | ⟨e, p'⟩ | ⟨e, p'⟩ | ⟨e, p'⟩ | ⟨e, p'⟩ | ⟨e, p1', p2'⟩ <;> omega
theorem zdisjq {a b a2 b2 : Nat} (ha : a < 6) (hb : b < 6) (ha2 : a2 < 6) (hb2 : b2 < 6) (h1 : a ≠ a2) (h2 : a ≠ b2) (h3 : b ≠ a2) (h4 : b ≠ b2) {r : Nat} (h : zFq a b r) (h' : zFq a2 b2 r) : False := by
  unfold zFq at h h'
  omega
theorem zAg.rf {a b : Nat} {s : zAQ} : zAg a b s s := ⟨fun _ _ _ => rfl, fun _ _ => rfl⟩
theorem zLoc.comm {a b a2 b2 : Nat} {f f2 : zAQ → zAQ} (ha : a < 6) (hb : b < 6) (ha2 : a2 < 6) (hb2 : b2 < 6) (h1 : a ≠ a2) (h2 : a ≠ b2) (h3 : b ≠ a2) (h4 : b ≠ b2) (hf : zLoc a b f) (hf2 : zLoc a2 b2 f2) (s : zAQ) (hs : zE6 s) : f (f2 s) = f2 (f s) := by
  obtain ⟨d, hd⟩ := hf
  obtain ⟨d2, hd2⟩ := hf2
  obtain ⟨x1, x2, x3, x4, x5⟩ := hd s hs
  obtain ⟨y1, y2, y3, y4, y5⟩ := hd2 s hs
  obtain ⟨z1, z2, z3, z4, z5⟩ := hd (f2 s) y1
  obtain ⟨w1, w2, w3, w4, w5⟩ := hd2 (f s) x1
  have ag1 : zAg a b s (f2 s) := ⟨fun k j hk => (y3 k 0 j (fun z => zdisj ha hb ha2 hb2 h1 h2 h3 h4 hk z.2) (fun z => zFp_k hk z.1)).symm, fun r hr => (y4 r (fun z => zdisjq ha hb ha2 hb2 h1 h2 h3 h4 hr z)).symm⟩
  have ag2 : zAg a2 b2 s (f s) := ⟨fun k j hk => (x3 k 0 j (fun z => zdisj ha hb ha2 hb2 h1 h2 h3 h4 z.2 hk) (fun z => zFp_k hk z.1)).symm, fun r hr => (x4 r (fun z => zdisjq ha hb ha2 hb2 h1 h2 h3 h4 z hr)).symm⟩
  obtain ⟨p1, p2⟩ := x5 (f2 s) y1 ag1
  obtain ⟨q1, q2⟩ := y5 (f s) x1 ag2
  refine Prod.ext (funext fun k => funext fun i => funext fun j => ?_) (funext fun r => ?_)
  · by_cases e : k = 29 ∧ i = 0 ∧ j = 4
    · obtain ⟨rfl, rfl, rfl⟩ := e
      rw [z2, w2, y2, x2, ← p1, ← q1, Int32.add_assoc, Int32.add_assoc, Int32.add_comm (d2 s)]
    · by_cases e1 : i = 0 ∧ zFp a b k j
      · obtain ⟨rfl, e1⟩ := e1
        rw [← p2.1 k j e1, w3 k 0 j (fun z => zdisj ha hb ha2 hb2 h1 h2 h3 h4 e1 z.2) e]
      · rw [z3 k i j e1 e]
        by_cases e2 : i = 0 ∧ zFp a2 b2 k j
        · obtain ⟨rfl, e2⟩ := e2
          rw [← q2.1 k j e2]
        · rw [y3 k i j e2 e, w3 k i j e2 e, x3 k i j e1 e]
  · by_cases e1 : zFq a b r
    · rw [← p2.2 r e1, w4 r (fun z => zdisjq ha hb ha2 hb2 h1 h2 h3 h4 e1 z)]
    · rw [z4 r e1]
      by_cases e2 : zFq a2 b2 r
      · rw [← q2.2 r e2]
      · rw [y4 r e2, w4 r e2, x4 r e1]
theorem zAg.put {a b k j : Nat} {v : Int32} {A A' : zI} {q q' : zq} (h : zAg a b (A, q) (A', q')) : zAg a b (zu A k 0 j v, q) (zu A' k 0 j v, q') := ⟨fun k2 j2 h2 => by
  show zu A k 0 j v k2 0 j2 = zu A' k 0 j v k2 0 j2
  rw [zu_if, zu_if, show A k2 0 j2 = A' k2 0 j2 from h.1 k2 j2 h2], h.2⟩
theorem zAg.q {a b r : Nat} {l : List (Nat × Int32 × Int32)} {A A' : zI} {q q' : zq} (h : zAg a b (A, q) (A', q')) : zAg a b (A, qu q r l) (A', qu q' r l) := ⟨h.1, fun r2 h2 => by
  show qu q r l r2 = qu q' r l r2
  unfold qu
  rw [show q r2 = q' r2 from h.2 r2 h2]⟩
theorem zE6.q {r : Nat} {l : List (Nat × Int32 × Int32)} {A A2 : zI} {q : zq} (h : zE6 (A, q)) (hl : ∀ x ∈ l, x.1 < 6) : zE6 (A2, qu q r l) := fun r2 x hx => by
  have hx : x ∈ qu q r l r2 := hx
  by_cases e : r2 = r
  · subst e; rw [qu_s] at hx; exact hl x hx
  · rw [qu_n e] at hx; exact h r2 x hx
theorem zE6.ap {r e : Nat} {k v : Int32} {A A2 : zI} {q : zq} (h : zE6 (A, q)) (he : e < 6) : zE6 (A2, qu q r (q r ++ [(e, k, v)])) := h.q (fun x hx => by
  rcases List.mem_append.mp hx with z | z
  · exact h r x z
  · rw [List.mem_singleton] at z; subst z; exact he)
theorem zE6.tl {r : Nat} {A A2 : zI} {q : zq} (h : zE6 (A, q)) : zE6 (A2, qu q r (q r).tail) := h.q (fun x hx => h r x (List.mem_of_mem_tail hx))
/-- what a part of a step does: it keeps all but its places, and it acts alike on states that agree -/
def zPt (a b : Nat) (f : zAQ → zAQ) (s : zAQ) : Prop := zE6 (f s) ∧ (f s).1 29 0 4 = s.1 29 0 4 ∧ (∀ k i j, ¬ (i = 0 ∧ zFp a b k j) → (f s).1 k i j = s.1 k i j) ∧ (∀ r, ¬ zFq a b r → (f s).2 r = s.2 r) ∧ ∀ s', zE6 s' → zAg a b s s' → zAg a b (f s) (f s')
theorem zPt.cat {a b : Nat} {f f2 : zAQ → zAQ} {s : zAQ} (h : zPt a b f s) (h2 : zPt a b f2 (f s)) (hf : ∀ s', zE6 s' → zAg a b s s' → zE6 (f s')) : zPt a b (fun s => f2 (f s)) s :=
  ⟨h2.1, h2.2.1.trans h.2.1, fun k i j z => (h2.2.2.1 k i j z).trans (h.2.2.1 k i j z), fun r z => (h2.2.2.2.1 r z).trans (h.2.2.2.1 r z), fun s' e z => h2.2.2.2.2 (f s') (hf s' e z) (h.2.2.2.2 s' e z)⟩
