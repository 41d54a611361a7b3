/-! THE COMPONENT'S SEARCH, in plain terms -/
theorem zpig : ∀ (c : Nat) (L : List Nat), L.Nodup → (∀ x ∈ L, x < c) → L.length ≤ c
  | 0, [], _, _ => Nat.le_refl _
  | 0, x :: L, _, h => absurd (h x List.mem_cons_self) (by omega)
  | c + 1, L, hn, h => by
    by_cases hm : c ∈ L
    · have h1 : (L.erase c).length = L.length - 1 := List.length_erase_of_mem hm
      have h2 := zpig c (L.erase c) (hn.erase c) (fun x hx => by
        have := h x (List.mem_of_mem_erase hx)
        have hne : x ≠ c := fun e => by subst e; exact absurd hx (by rw [List.Nodup.mem_erase_iff hn]; simp)
        omega)
      omega
    · have := zpig c L hn (fun x hx => by
        have := h x hx
        have hne : x ≠ c := fun e => hm (e ▸ hx)
        omega)
      omega
theorem zpig2 {c : Nat} {L : List Nat} (hn : L.Nodup) (h : ∀ x ∈ L, x < c) (hl : L.length = c) {v : Nat} (hv : v < c) : v ∈ L := Classical.byContradiction fun hm => by
  have := zpig c (v :: L) (List.nodup_cons.mpr ⟨hm, hn⟩) (fun x hx => by
    rcases List.mem_cons.mp hx with e | e
    · rw [e]; exact hv
    · exact h x e)
  simp at this
  omega
def ru (r : Nat → Nat) (w v : Nat) : Nat → Nat := fun x => if x = w then v else r x
theorem ru_s {r : Nat → Nat} {w v : Nat} : ru r w v w = v := if_pos rfl
theorem ru_n {r : Nat → Nat} {w v x : Nat} (h : x ≠ w) : ru r w v x = r x := if_neg h
def zBI (c : Nat) (f : Nat → Int32) (L : List Nat) (r : Nat → Nat) (a w : Nat) : Prop :=
  L.Nodup ∧ (∀ x ∈ L, x < c) ∧ L[0]? = some 0 ∧ r 0 = 0 ∧ (∀ v ∈ L, zWk c f (r v) v) ∧ (∀ i j u v : Nat, i ≤ j → L[i]? = some u → L[j]? = some v → r u ≤ r v) ∧ (∀ j v : Nat, L[j]? = some v → r v ≤ j) ∧ (∀ i u : Nat, i < a → L[i]? = some u → ∀ v, v < c → f (6 * u + v) ≠ 0 → v ∈ L ∧ r v ≤ r u + 1) ∧ ∀ u : Nat, L[a]? = some u → (∀ v ∈ L, r v ≤ r u + 1) ∧ ∀ v, v < w → v < c → f (6 * u + v) ≠ 0 → v ∈ L
theorem zBI.init {c : Nat} {f : Nat → Int32} (hc : 0 < c) : zBI c f [0] (fun _ => 0) 0 0 := by
  refine ⟨by simp, fun x hx => by simp at hx; omega, rfl, rfl, fun v hv => by simp at hv; subst hv; rfl, fun _ _ _ _ _ _ _ => Nat.le_refl _, fun _ _ _ => Nat.zero_le _, fun i u hi => by omega, fun u hu => ⟨fun _ _ => Nat.zero_le _, fun v hv => by omega⟩⟩
theorem zBI.skip {c a w u : Nat} {f : Nat → Int32} {L : List Nat} {r : Nat → Nat} (h : zBI c f L r a w) (hu : L[a]? = some u) (hs : f (6 * u + w) = 0 ∨ w ∈ L) : zBI c f L r a (w + 1) := by
  obtain ⟨p1, p2, p3, p4, p5, p6, p7, p8, p9⟩ := h
  refine ⟨p1, p2, p3, p4, p5, p6, p7, p8, fun u2 hu2 => ⟨(p9 u2 hu2).1, fun v hv hvc hf => ?_⟩⟩
  rw [hu] at hu2
  cases hu2
  by_cases e : v = w
  · subst e
    exact hs.resolve_left hf
  · exact (p9 u hu).2 v (by omega) hvc hf
theorem zBI.add {c a w u : Nat} {f : Nat → Int32} {L : List Nat} {r : Nat → Nat} (h : zBI c f L r a w) (hu : L[a]? = some u) (hw : w < c) (hm : w ∉ L) (hf : f (6 * u + w) ≠ 0) : zBI c f (L ++ [w]) (ru r w (r u + 1)) a (w + 1) := by
  obtain ⟨p1, p2, p3, p4, p5, p6, p7, p8, p9⟩ := h
  have hal : a < L.length := (List.getElem?_eq_some_iff.mp hu).1
  have huL : u ∈ L := List.mem_of_getElem? hu
  have hne : ∀ x ∈ L, x ≠ w := fun x hx e => hm (e ▸ hx)
  have hr : ∀ x ∈ L, ru r w (r u + 1) x = r x := fun x hx => ru_n (hne x hx)
  have h0 : 0 ∈ L := List.mem_of_getElem? p3
  have hget : ∀ j v : Nat, (L ++ [w])[j]? = some v → (j < L.length ∧ L[j]? = some v) ∨ (j = L.length ∧ v = w) := fun j v hj => by
    rcases Nat.lt_or_ge j L.length with hl | hl
    · rw [List.getElem?_append_left hl] at hj
      exact Or.inl ⟨hl, hj⟩
    · rw [List.getElem?_append_right hl] at hj
      have h1 := (List.getElem?_eq_some_iff.mp hj).1
      simp at h1
      have e : j = L.length := by omega
      subst e
      simp at hj
      exact Or.inr ⟨rfl, hj.symm⟩
  refine ⟨List.nodup_append.mpr ⟨p1, by simp, fun x hx y hy => by simp at hy; rw [hy]; exact hne x hx⟩, fun x hx => ?_, by rw [List.getElem?_append_left (by omega)]; exact p3, by rw [hr 0 h0]; exact p4, fun v hv => ?_, fun i j u2 v2 hij hi hj => ?_, fun j v hj => ?_, fun i u2 hi hu2 v hv hfv => ?_, fun u2 hu2 => ?_⟩
  · rcases List.mem_append.mp hx with e | e
    · exact p2 x e
    · simp at e; omega
  · rcases List.mem_append.mp hv with e | e
    · rw [hr v e]; exact p5 v e
    · simp at e
      subst e
      rw [ru_s]
      exact ⟨u, p2 u huL, p5 u huL, hf⟩
  · rcases hget i u2 hi with ⟨i1, i2⟩ | ⟨i1, i2⟩
    · rw [hr u2 (List.mem_of_getElem? i2)]
      rcases hget j v2 hj with ⟨j1, j2⟩ | ⟨j1, j2⟩
      · rw [hr v2 (List.mem_of_getElem? j2)]; exact p6 i j u2 v2 hij i2 j2
      · subst j2; rw [ru_s]; exact (p9 u hu).1 u2 (List.mem_of_getElem? i2)
    · rcases hget j v2 hj with ⟨j1, j2⟩ | ⟨j1, j2⟩
      · omega
      · rw [i2, j2]; exact Nat.le_refl _
  · rcases hget j v hj with ⟨j1, j2⟩ | ⟨j1, j2⟩
    · rw [hr v (List.mem_of_getElem? j2)]; exact p7 j v j2
    · subst j2; rw [ru_s]
      have := p7 a u hu
      omega
  · rw [List.getElem?_append_left (by omega)] at hu2
    obtain ⟨q1, q2⟩ := p8 i u2 hi hu2 v hv hfv
    exact ⟨List.mem_append_left _ q1, by rw [hr v q1, hr u2 (List.mem_of_getElem? hu2)]; exact q2⟩
  · rw [List.getElem?_append_left hal, hu] at hu2
    cases hu2
    refine ⟨fun v hv => ?_, fun v hv hvc hfv => ?_⟩
    · rw [hr u huL]
      rcases List.mem_append.mp hv with e | e
      · rw [hr v e]; exact (p9 u hu).1 v e
      · simp at e; subst e; rw [ru_s]; exact Nat.le_refl _
    · by_cases e : v = w
      · subst e; simp
      · exact List.mem_append_left _ ((p9 u hu).2 v (by omega) hvc hfv)
theorem zBI.next {c a u : Nat} {f : Nat → Int32} {L : List Nat} {r : Nat → Nat} (h : zBI c f L r a c) (hu : L[a]? = some u) : zBI c f L r (a + 1) 0 := by
  obtain ⟨p1, p2, p3, p4, p5, p6, p7, p8, p9⟩ := h
  refine ⟨p1, p2, p3, p4, p5, p6, p7, fun i u2 hi hu2 v hv hf => ?_, fun u2 hu2 => ⟨fun v hv => ?_, fun v hv => by omega⟩⟩
  · by_cases e : i = a
    · subst e
      rw [hu] at hu2
      cases hu2
      have := (p9 u hu).2 v hv hv hf
      exact ⟨this, (p9 u hu).1 v this⟩
    · exact p8 i u2 (by omega) hu2 v hv hf
  · have h1 := (p9 u hu).1 v hv
    have h2 := p6 a (a + 1) u u2 (by omega) hu hu2
    omega
/-- at the end all walks stay in L, and its ranks are least -/
theorem zBI.walk {c : Nat} {f : Nat → Int32} {L : List Nat} {r : Nat → Nat} {w : Nat} (h : zBI c f L r L.length w) : ∀ k v, v < c → zWk c f k v → v ∈ L ∧ r v ≤ k
  | 0, v, _, hw => by
    have hw : v = 0 := hw
    subst hw
    exact ⟨List.mem_of_getElem? h.2.2.1, by rw [h.2.2.2.1]; exact Nat.le_refl _⟩
  | k + 1, v, hv, hw => by
    obtain ⟨u, hu, hwu, hf⟩ := hw
    obtain ⟨q1, q2⟩ := zBI.walk h k u hu hwu
    obtain ⟨i, hi⟩ := List.getElem?_of_mem q1
    have hil := (List.getElem?_eq_some_iff.mp hi).1
    obtain ⟨s1, s2⟩ := h.2.2.2.2.2.2.2.1 i u hil hi v hv hf
    exact ⟨s1, by omega⟩
theorem zBI.len {c a w : Nat} {f : Nat → Int32} {L : List Nat} {r : Nat → Nat} (h : zBI c f L r a w) : 1 ≤ L.length ∧ L.length ≤ c := ⟨by
  have := (List.getElem?_eq_some_iff.mp h.2.2.1).1
  omega, zpig c L h.1 h.2.1⟩
theorem zBI.room {c a w : Nat} {f : Nat → Int32} {L : List Nat} {r : Nat → Nat} (h : zBI c f L r a w) {v : Nat} (hv : v < c) (hm : v ∉ L) : L.length < c := by
  have := zpig c (v :: L) (List.nodup_cons.mpr ⟨hm, h.1⟩) (fun x hx => by
    rcases List.mem_cons.mp hx with e | e
    · rw [e]; exact hv
    · exact h.2.1 x e)
  simp at this
  omega
theorem zBI.lt {c a w : Nat} {f : Nat → Int32} {L : List Nat} {r : Nat → Nat} (h : zBI c f L r a w) {v : Nat} (hv : v ∈ L) : r v < c := by
  obtain ⟨i, hi⟩ := List.getElem?_of_mem hv
  have h1 := h.2.2.2.2.2.2.1 i v hi
  have h2 := (List.getElem?_eq_some_iff.mp hi).1
  have := h.len.2
  omega
/-- ranks by walks: each is the least -/
def zLs (c : Nat) (f : Nat → Int32) (r : Nat → Nat) : Prop := ∀ v, v < c → r v < c ∧ zWk c f (r v) v ∧ ∀ k, zWk c f k v → r v ≤ k
theorem zLs.x {c : Nat} {f : Nat → Int32} {r x : Nat → Nat} (hc : c ≤ 6) (h : zLs c f r) (hx : zX c f x) : ∀ a, a < c → x a = r a := fun a ha => by
  obtain ⟨h1, h2, h3⟩ := h a ha
  have a1 := hx.2 (r a) (by omega) a ha h2
  have a2 := hx.1 a (by omega)
  rcases a2.2 with e | e
  · omega
  · have := h3 _ e; omega
