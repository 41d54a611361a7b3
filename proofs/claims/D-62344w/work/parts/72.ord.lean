/-! THE ORDER OF THE NODES, AND THE BITS OF A SLOT, in plain terms -/
theorem zord_snoc (c : Nat) (x : Nat → Nat) : ∀ k r, zord c x (k + 1) r = zord c x k r ++ zrow c x (r + k)
  | 0, r => by simp [zord]
  | k + 1, r => by
    show zrow c x r ++ zord c x (k + 1) (r + 1) = (zrow c x r ++ zord c x k (r + 1)) ++ zrow c x (r + (k + 1))
    rw [zord_snoc c x k (r + 1), List.append_assoc, show r + 1 + k = r + (k + 1) by omega]
theorem zrow_nil {c : Nat} {x : Nat → Nat} {r : Nat} (h : ∀ a, a < c → x a < r) : zrow c x r = [] := by
  unfold zrow
  rw [List.filter_eq_nil_iff]
  intro a ha
  have := h a (List.mem_range.mp ha)
  simp
  omega
theorem zord_ext {c : Nat} {x : Nat → Nat} (h : ∀ a, a < c → x a < c) : ∀ d, zord c x (c + d) 0 = zord c x c 0
  | 0 => rfl
  | d + 1 => by
    rw [← Nat.add_assoc, zord_snoc, zord_ext h d, zrow_nil (fun a ha => by have := h a ha; omega), List.append_nil]
theorem zpl_congr {c b a : Nat} {f : Nat → Int32} {x y : Nat → Nat} (hb : b ≤ c) (h : ∀ u, u < c → x u = y u) (ha : a < c) : zpl c f x b a = zpl c f y b a := by
  unfold zpl
  refine List.filter_congr (fun u hu => ?_)
  rw [h u (by have := List.mem_range.mp hu; omega), h a ha]
theorem zrow_congr {c r : Nat} {x y : Nat → Nat} (h : ∀ u, u < c → x u = y u) : zrow c x r = zrow c y r := by
  unfold zrow
  refine List.filter_congr (fun u hu => ?_)
  rw [h u (List.mem_range.mp hu)]
theorem zord_congr {c : Nat} {x y : Nat → Nat} (h : ∀ u, u < c → x u = y u) : ∀ k r, zord c x k r = zord c y k r
  | 0, _ => rfl
  | k + 1, r => by
    show zrow c x r ++ zord c x k (r + 1) = zrow c y r ++ zord c y k (r + 1)
    rw [zrow_congr h, zord_congr h k (r + 1)]
theorem zrow_mem {c r a : Nat} {x : Nat → Nat} : a ∈ zrow c x r ↔ a < c ∧ x a = r := by
  unfold zrow
  simp
theorem zord_mem {c : Nat} {x : Nat → Nat} : ∀ {k r a : Nat}, a ∈ zord c x k r ↔ a < c ∧ r ≤ x a ∧ x a < r + k
  | 0, r, a => by simp [zord]
  | k + 1, r, a => by
    show a ∈ zrow c x r ++ zord c x k (r + 1) ↔ _
    rw [List.mem_append, zrow_mem, zord_mem]
    omega
theorem zlks_congr {c a : Nat} {f : Nat → Int32} {x y : Nat → Nat} (h : ∀ u, u < c → x u = y u) (ha : a < c) : zlks c f x a = zlks c f y a := by
  unfold zlks
  rw [zpl_congr (Nat.le_refl _) h ha]
theorem zplan_congr {c S h : Nat} {f : Nat → Int32} {x y : Nat → Nat} (e : ∀ u, u < c → x u = y u) : zplan c S h f x = zplan c S h f y := by
  unfold zplan
  rw [zord_congr e, zord_congr e]
  have : (zord c y 5 1).flatMap (zlks c f x) = (zord c y 5 1).flatMap (zlks c f y) := by
    have key : ∀ l : List Nat, (∀ a ∈ l, a < c) → l.flatMap (zlks c f x) = l.flatMap (zlks c f y) := by
      intro l hl
      induction l with
      | nil => rfl
      | cons a l ih =>
        rw [List.flatMap_cons, List.flatMap_cons, zlks_congr e (hl a List.mem_cons_self), ih (fun b hb => hl b (List.mem_cons_of_mem _ hb))]
    exact key _ (fun a ha => (zord_mem.mp ha).1)
  rw [this]
theorem zrow_nodup {c r : Nat} {x : Nat → Nat} : (zrow c x r).Nodup := List.Pairwise.filter _ List.nodup_range
theorem zord_nodup {c : Nat} {x : Nat → Nat} : ∀ k r, (zord c x k r).Nodup
  | 0, _ => by simp [zord]
  | k + 1, r => by
    show (zrow c x r ++ zord c x k (r + 1)).Nodup
    refine List.nodup_append.mpr ⟨zrow_nodup, zord_nodup k (r + 1), fun a ha b hb e => ?_⟩
    have h1 := (zrow_mem.mp ha).2
    have h2 := (zord_mem.mp hb).2.1
    rw [← e] at h2
    omega
theorem zord_len {c : Nat} {x : Nat → Nat} (h : ∀ a, a < c → x a < c) : (zord c x c 0).length = c := by
  refine Nat.le_antisymm (zpig c _ (zord_nodup _ _) (fun a ha => (zord_mem.mp ha).1)) ?_
  have := zsubl (List.range c) (zord c x c 0) List.nodup_range (fun a ha => zord_mem.mpr ⟨List.mem_range.mp ha, Nat.zero_le _, by have := h a (List.mem_range.mp ha); omega⟩)
  simpa using this
/-- the gateway comes first -/
theorem zord_hd {c : Nat} {f : Nat → Int32} {x : Nat → Nat} (hc : 2 ≤ c ∧ c ≤ 6) (h : zLs c f x) : zord c x c 0 = 0 :: zord c x 5 1 ∧ zord c x 6 0 = zord c x c 0 := by
  have hx : ∀ a, a < c → x a < c := fun a ha => (h a ha).1
  have e6 : zord c x 6 0 = zord c x c 0 := by
    have := zord_ext hx (6 - c)
    rw [show c + (6 - c) = 6 by omega] at this
    exact this
  refine ⟨?_, e6⟩
  rw [← e6]
  show zrow c x 0 ++ zord c x 5 1 = _
  have e0 : zrow c x 0 = [0] := by
    unfold zrow
    obtain ⟨d, rfl⟩ : ∃ d, c = d + 1 := ⟨c - 1, by omega⟩
    rw [List.range_succ_eq_map, List.filter_cons]
    have x0 : x 0 = 0 := Nat.le_zero.mp ((h 0 (by omega)).2.2 0 rfl)
    rw [if_pos (by simp [x0])]
    congr 1
    rw [List.filter_eq_nil_iff]
    intro a ha
    obtain ⟨b, hb, rfl⟩ := List.mem_map.mp ha
    have hb := List.mem_range.mp hb
    simp
    intro z
    have hw := (h (b + 1) (by omega)).2.1
    rw [z] at hw
    have hw : b + 1 = 0 := hw
    omega
  rw [e0]
  rfl
