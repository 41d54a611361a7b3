/-! THE PLAN'S TABLE: how many links, and that it is in order -/
theorem zcnt_put {j k : Nat} {T : Nat → Nat} (h0 : T j = 0) (hk : 200 ≤ k) : ∀ m, zcnt (zput j k T) m = zcnt T m + (if j < m then 1 else 0)
  | 0 => rfl
  | m + 1 => by
    show zcnt (zput j k T) m + (if 200 ≤ zput j k T m then 1 else 0) = zcnt T m + (if 200 ≤ T m then 1 else 0) + _
    rw [zcnt_put h0 hk m]
    unfold zput
    by_cases e : m = j
    · subst e
      rw [if_pos rfl, if_pos hk, if_neg (by omega), if_neg (by omega), if_pos (by omega)]
    · rw [if_neg e]
      by_cases e2 : j < m
      · rw [if_pos e2, if_pos (show j < m + 1 by omega)]; omega
      · rw [if_neg e2, if_neg (show ¬ j < m + 1 by omega)]; omega
theorem zcnt_0 {T : Nat → Nat} (h : ∀ j, T j < 200) : ∀ m, zcnt T m = 0
  | 0 => rfl
  | m + 1 => by
    show zcnt T m + (if 200 ≤ T m then 1 else 0) = 0
    rw [zcnt_0 h m, if_neg (by have := h m; omega)]
theorem zQA.lt {S h : Nat} : ∀ {D : List Nat} {T T' : Nat → Nat} {P : List Nat}, zQA S h D T P T' → (∀ a ∈ D, a < 6) → (∀ j, T j < 200) → ∀ j, T' j < 200
  | [], T, T', P, h1, _, h2 => by obtain ⟨rfl, rfl⟩ := h1; exact h2
  | a :: D, T, T', P, h1, h3, h2 => by
    obtain ⟨s, P2, e1, rfl, e3⟩ := h1
    refine zQA.lt e3 (fun b hb => h3 b (List.mem_cons_of_mem _ hb)) (fun j => ?_)
    unfold zputA
    have := h3 a List.mem_cons_self
    split
    · omega
    · exact h2 j
theorem zQL.cnt {S h : Nat} (hS : S ≤ 24) (hh : h ≤ 4) : ∀ {D : List Nat} {T T' : Nat → Nat} {P : List Nat}, zQL S h D T P T' → (∀ k ∈ D, 200 ≤ k) → zcnt T' 96 = zcnt T 96 + D.length
  | [], T, T', P, h1, _ => by rw [h1.2]; exact (Nat.add_zero _).symm
  | k :: D, T, T', P, h1, h3 => by
    obtain ⟨s, ch, P2, e1, e2, rfl, e3⟩ := h1
    obtain ⟨f1, f2, f3, -⟩ := zfnd_some e1
    obtain ⟨g1, g2, g3, -⟩ := zfnd_some e2
    unfold zfrc at g3
    simp at g3
    rw [zQL.cnt hS hh e3 (fun b hb => h3 b (List.mem_cons_of_mem _ hb)), zcnt_put g3 (h3 k List.mem_cons_self), if_pos (by omega), List.length_cons]
    omega
theorem zlks_lc {c v : Nat} {f : Nat → Int32} {x : Nat → Nat} (hv : v < c) : ∀ k ∈ zlks c f x v, ∃ a b, zlc c k a b := by
  have hlt : ∀ u, u ∈ zpl c f x c v → u < c ∧ v ≠ u := fun u hu => ⟨(zpl_mem2 hu).1, fun e => by have := (zpl_mem2 hu).2; rw [e] at this; omega⟩
  intro k hk
  unfold zlks at hk
  split at hk
  · cases hk
  · rename_i p hz
    have hp := hlt p (by rw [hz]; simp)
    simp at hk
    rcases hk with rfl | rfl
    · exact ⟨v, p, hv, hp.1, hp.2, Or.inl rfl⟩
    · exact ⟨p, v, hp.1, hv, fun e => hp.2 e.symm, Or.inr rfl⟩
  · rename_i p q r hz
    have hp := hlt p (by rw [hz]; simp)
    have hq := hlt q (by rw [hz]; simp)
    simp at hk
    rcases hk with rfl | rfl | rfl
    · exact ⟨v, p, hv, hp.1, hp.2, Or.inl rfl⟩
    · exact ⟨v, q, hv, hq.1, hq.2, Or.inl rfl⟩
    · exact ⟨p, v, hp.1, hv, fun e => hp.2 e.symm, Or.inr rfl⟩
theorem zlks_all {c k : Nat} {f : Nat → Int32} {x : Nat → Nat} (h : k ∈ (zord c x 5 1).flatMap (zlks c f x)) : ∃ a b, zlc c k a b := by
  obtain ⟨v, hv, hk⟩ := List.mem_flatMap.mp h
  exact zlks_lc (zord_mem.mp hv).1 k hk
def zTb1 (c k : Nat) : Prop := k < 400 ∧ (100 ≤ k → k < 200 → k / 10 % 10 < c) ∧ (200 ≤ k → k / 10 % 10 < c ∧ k % 10 < c ∧ k / 10 % 10 ≠ k % 10)
theorem zTb1_lc {c k a b : Nat} (hc : c ≤ 6) (h : zlc c k a b) : zTb1 c k := by
  obtain ⟨h1, h2, h3, h4⟩ := h
  unfold zTb1
  rcases h4 with rfl | rfl
  · rw [show (200 + 10 * a + b) / 10 % 10 = a by omega, show (200 + 10 * a + b) % 10 = b by omega]
    exact ⟨by omega, fun _ _ => h1, fun _ => ⟨h1, h2, h3⟩⟩
  · rw [show (300 + 10 * a + b) / 10 % 10 = a by omega, show (300 + 10 * a + b) % 10 = b by omega]
    exact ⟨by omega, fun _ _ => h1, fun _ => ⟨h1, h2, h3⟩⟩
theorem zQA.tb {c S h : Nat} (hc : c ≤ 6) : ∀ {D : List Nat} {T T' : Nat → Nat} {P : List Nat}, zQA S h D T P T' → (∀ a ∈ D, a < c) → (∀ j, zTb1 c (T j)) → ∀ j, zTb1 c (T' j)
  | [], T, T', P, h1, _, h2 => by obtain ⟨rfl, rfl⟩ := h1; exact h2
  | a :: D, T, T', P, h1, h3, h2 => by
    obtain ⟨s, P2, e1, rfl, e3⟩ := h1
    refine zQA.tb hc e3 (fun b hb => h3 b (List.mem_cons_of_mem _ hb)) (fun j => ?_)
    have := h3 a List.mem_cons_self
    unfold zputA
    split
    · exact ⟨by omega, fun _ _ => by omega, fun _ => by omega⟩
    · exact h2 j
theorem zQL.tb {c S h : Nat} (hc : c ≤ 6) : ∀ {D : List Nat} {T T' : Nat → Nat} {P : List Nat}, zQL S h D T P T' → (∀ k ∈ D, ∃ a b, zlc c k a b) → (∀ j, zTb1 c (T j)) → ∀ j, zTb1 c (T' j)
  | [], T, T', P, h1, _, h2 => by obtain ⟨rfl, rfl⟩ := h1; exact h2
  | k :: D, T, T', P, h1, h3, h2 => by
    obtain ⟨s, ch, P2, e1, e2, rfl, e3⟩ := h1
    refine zQL.tb hc e3 (fun b hb => h3 b (List.mem_cons_of_mem _ hb)) (fun j => ?_)
    obtain ⟨a, b, hl⟩ := h3 k List.mem_cons_self
    unfold zput
    split
    · exact zTb1_lc hc hl
    · exact h2 j
