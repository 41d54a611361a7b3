/-! PLACEMENTS AS LISTS -/
def zQA (S h : Nat) : List Nat → (Nat → Nat) → List Nat → (Nat → Nat) → Prop
  | [], T, P, T' => P = [] ∧ T' = T
  | a :: l, T, P, T' => ∃ s P2, zafr S T = some s ∧ P = 16 * s :: P2 ∧ zQA S h l (zputA h s a T) P2 T'
def zQL (S h : Nat) : List Nat → (Nat → Nat) → List Nat → (Nat → Nat) → Prop
  | [], T, P, T' => P = [] ∧ T' = T
  | k :: l, T, P, T' => ∃ s ch P2, zlfr S h T k = some s ∧ zfnd (zfrc T s) h 0 = some ch ∧ P = (16 * s + ch) :: P2 ∧ zQL S h l (zput (4 * s + ch) k T) P2 T'
theorem zQA.snoc {S h s a : Nat} : ∀ {D : List Nat} {T T' : Nat → Nat} {P : List Nat}, zQA S h D T P T' → zafr S T' = some s → zQA S h (D ++ [a]) T (P ++ [16 * s]) (zputA h s a T')
  | [], T, T', P, h1, h2 => by
    obtain ⟨rfl, rfl⟩ := h1
    exact ⟨s, [], h2, rfl, rfl, rfl⟩
  | b :: D, T, T', P, h1, h2 => by
    obtain ⟨s2, P2, e1, rfl, e3⟩ := h1
    exact ⟨s2, P2 ++ [16 * s], e1, rfl, zQA.snoc e3 h2⟩
theorem zQA.req {S h : Nat} {E : List Nat} : ∀ {D : List Nat} {T T' : Nat → Nat} {P : List Nat}, zQA S h D T P T' → zreqA S h (D ++ E) T = zreqA S h E T'
  | [], T, T', P, h1 => by obtain ⟨rfl, rfl⟩ := h1; rfl
  | b :: D, T, T', P, h1 => by
    obtain ⟨s2, P2, e1, rfl, e3⟩ := h1
    show (match zafr S T with | none => none | some s => zreqA S h (D ++ E) (zputA h s b T)) = _
    rw [e1]
    exact zQA.req e3
theorem zQL.snoc {S h s ch k : Nat} : ∀ {D : List Nat} {T T' : Nat → Nat} {P : List Nat}, zQL S h D T P T' → zlfr S h T' k = some s → zfnd (zfrc T' s) h 0 = some ch → zQL S h (D ++ [k]) T (P ++ [16 * s + ch]) (zput (4 * s + ch) k T')
  | [], T, T', P, h1, h2, h3 => by
    obtain ⟨rfl, rfl⟩ := h1
    exact ⟨s, ch, [], h2, h3, rfl, rfl, rfl⟩
  | b :: D, T, T', P, h1, h2, h3 => by
    obtain ⟨s2, c2, P2, e1, e2, rfl, e3⟩ := h1
    exact ⟨s2, c2, P2 ++ [16 * s + ch], e1, e2, rfl, zQL.snoc e3 h2 h3⟩
theorem zQL.req {S h : Nat} {E : List Nat} : ∀ {D : List Nat} {T T' : Nat → Nat} {P : List Nat}, zQL S h D T P T' → zreqL S h (D ++ E) T = zreqL S h E T'
  | [], T, T', P, h1 => by obtain ⟨rfl, rfl⟩ := h1; rfl
  | b :: D, T, T', P, h1 => by
    obtain ⟨s2, c2, P2, e1, e2, rfl, e3⟩ := h1
    show (match zlfr S h T b with | none => none | some s => match zfnd (zfrc T s) h 0 with | none => none | some ch => zreqL S h (D ++ E) (zput (4 * s + ch) b T)) = _
    rw [e1]
    dsimp only
    rw [e2]
    exact zQL.req e3
theorem zQA.len {S h : Nat} : ∀ {D : List Nat} {T T' : Nat → Nat} {P : List Nat}, zQA S h D T P T' → P.length = D.length
  | [], T, T', P, h1 => by obtain ⟨rfl, rfl⟩ := h1; rfl
  | b :: D, T, T', P, h1 => by
    obtain ⟨s2, P2, e1, rfl, e3⟩ := h1
    simp only [List.length_cons, zQA.len e3]
theorem zQL.len {S h : Nat} : ∀ {D : List Nat} {T T' : Nat → Nat} {P : List Nat}, zQL S h D T P T' → P.length = D.length
  | [], T, T', P, h1 => by obtain ⟨rfl, rfl⟩ := h1; rfl
  | b :: D, T, T', P, h1 => by
    obtain ⟨s2, c2, P2, e1, e2, rfl, e3⟩ := h1
    simp only [List.length_cons, zQL.len e3]
/-- a node other than the gateway has a parent -/
theorem zpl_ne {c v : Nat} {f : Nat → Int32} {x : Nat → Nat} (h : zLs c f x) (hsy : zsym c f) (hv : v < c) (h0 : 0 < x v) : ∃ u, u < c ∧ u ∈ zpl c f x c v := by
  obtain ⟨h1, h2, h3⟩ := h v hv
  obtain ⟨d, hd⟩ : ∃ d, x v = d + 1 := ⟨x v - 1, by omega⟩
  rw [hd] at h2
  obtain ⟨u, hu, hw, hf⟩ := h2
  have a1 := (h u hu).2.2 d hw
  have a2 := h3 (x u + 1) ⟨u, hu, (h u hu).2.1, hf⟩
  refine ⟨u, hu, ?_⟩
  unfold zpl
  rw [List.mem_filter]
  refine ⟨List.mem_range.mpr hu, ?_⟩
  rw [hsy v u hv hu]
  simp
  exact ⟨hf, by omega⟩
theorem zpl_mem2 {c v u : Nat} {f : Nat → Int32} {x : Nat → Nat} (h : u ∈ zpl c f x c v) : u < c ∧ x u + 1 = x v := by
  unfold zpl at h
  rw [List.mem_filter] at h
  refine ⟨List.mem_range.mp h.1, ?_⟩
  have := h.2
  simp at this
  exact this.2
