/-! THE CELLS OF A SLOT, from the last channel down and from the first up -/
def zasc (f : Nat → zAQ → zAQ) : Nat → zAQ → zAQ
  | 0, s => s
  | m + 1, s => f m (zasc f m s)
def zdes (f : Nat → zAQ → zAQ) : Nat → zAQ → zAQ
  | 0, s => s
  | m + 1, s => zdes f m (f m s)
theorem zasc_E {f : Nat → zAQ → zAQ} {m : Nat} (h1 : ∀ x, x < m → ∀ s, zE6 s → zE6 (f x s)) : ∀ j, j ≤ m → ∀ s, zE6 s → zE6 (zasc f j s)
  | 0, _, _, h => h
  | j + 1, hj, s, h => h1 j (by omega) _ (zasc_E h1 j (by omega) s h)
theorem zasc_push {f : Nat → zAQ → zAQ} {m : Nat} (h1 : ∀ x, x < m + 1 → ∀ s, zE6 s → zE6 (f x s)) (h2 : ∀ x y, x < y → y < m + 1 → ∀ s, zE6 s → f x (f y s) = f y (f x s)) : ∀ j, j ≤ m → ∀ s, zE6 s → zasc f j (f m s) = f m (zasc f j s)
  | 0, _, _, _ => rfl
  | j + 1, hj, s, h => by
    show f j (zasc f j (f m s)) = f m (f j (zasc f j s))
    rw [zasc_push h1 h2 j (by omega) s h]
    exact h2 j m (by omega) (by omega) _ (zasc_E h1 j (by omega) s h)
theorem zdes_asc {f : Nat → zAQ → zAQ} : ∀ m, (∀ x, x < m → ∀ s, zE6 s → zE6 (f x s)) → (∀ x y, x < y → y < m → ∀ s, zE6 s → f x (f y s) = f y (f x s)) → ∀ s, zE6 s → zdes f m s = zasc f m s
  | 0, _, _, _, _ => rfl
  | m + 1, h1, h2, s, h => by
    show zdes f m (f m s) = f m (zasc f m s)
    rw [zdes_asc m (fun x hx => h1 x (by omega)) (fun x y hx hy => h2 x y hx (by omega)) _ (h1 m (by omega) s h)]
    exact zasc_push h1 h2 m (Nat.le_refl _) s h
theorem zasc_id {f : Nat → zAQ → zAQ} {m : Nat} {a : zAQ} : ∀ d, (∀ y, m ≤ y → y < m + d → ∀ s, f y s = s) → zasc f (m + d) a = zasc f m a
  | 0, _ => rfl
  | d + 1, h => by
    show f (m + d) (zasc f (m + d) a) = _
    rw [h (m + d) (by omega) (by omega)]
    exact zasc_id d (fun y h1 h2 => h y h1 (by omega))
def zst (pf tb : Nat → Nat) (J : zJ) (h t x : Nat) (s : zAQ) : zAQ := zcell pf (tb x) (zbit (J 35 0 ((x + t) % h)) t) (zbit (J 36 0 ((x + t) % h)) t) s.1 s.2
theorem zchL_asc {pf tb : Nat → Nat} {J : zJ} {h t : Nat} {a : zAQ} : ∀ s x, zchL pf tb J h t s x (zasc (zst pf tb J h t) x a).1 (zasc (zst pf tb J h t) x a).2 = zasc (zst pf tb J h t) (x + s) a
  | 0, _ => rfl
  | s + 1, x => by
    have := zchL_asc (pf := pf) (tb := tb) (J := J) (h := h) (t := t) (a := a) s (x + 1)
    rw [show x + 1 + s = x + (s + 1) by omega] at this
    exact this
theorem zcell_up {pf : Nat → Nat} {k a b : Nat} {hb cb : Bool} (hk : k = 200 + 10 * a + b) (ha : a < 10) (hb2 : b < 10) : zcell pf k hb cb = zup a b hb cb := by
  subst hk
  unfold zcell
  funext A q
  rw [if_neg (by omega), if_pos (by omega), show (200 + 10 * a + b) / 10 % 10 = a by omega, show (200 + 10 * a + b) % 10 = b by omega]
theorem zcell_dn {pf : Nat → Nat} {k a b : Nat} {hb cb : Bool} (hk : k = 300 + 10 * a + b) (ha : a < 10) (hb2 : b < 10) : zcell pf k hb cb = zdow pf a b hb cb := by
  subst hk
  unfold zcell
  funext A q
  rw [if_pos (by omega), show (300 + 10 * a + b) / 10 % 10 = a by omega, show (300 + 10 * a + b) % 10 = b by omega]
theorem zcell_0 {pf : Nat → Nat} {hb cb : Bool} {s : zAQ} : zcell pf 0 hb cb s.1 s.2 = s := rfl
/-- a code of a link -/
def zlc (c k a b : Nat) : Prop := a < c ∧ b < c ∧ a ≠ b ∧ (k = 200 + 10 * a + b ∨ k = 300 + 10 * a + b)
theorem zcell_loc {pf : Nat → Nat} {c k a b : Nat} {hb cb : Bool} (hc : c ≤ 6) (h : zlc c k a b) : zLoc a b (fun s => zcell pf k hb cb s.1 s.2) := by
  obtain ⟨h1, h2, h3, h4 | h4⟩ := h
  · rw [zcell_up h4 (by omega) (by omega)]; exact zup_loc
  · rw [zcell_dn h4 (by omega) (by omega)]; exact zdow_loc
def zdj (a b a2 b2 : Nat) : Prop := a ≠ a2 ∧ a ≠ b2 ∧ b ≠ a2 ∧ b ≠ b2
/-- the chain of a slot's links: m of them, the last channel first -/
def zlk (c : Nat) (pf tb : Nat → Nat) (I : zI) (R : zR) : Nat → Option Nat → Prop
  | 0, o => o = none
  | m + 1, o => ∃ x a b, o = some x ∧ a < c ∧ b < c ∧ a ≠ b ∧ R 4 x 0 = some a ∧ R 4 x 3 = some b ∧ I 4 x 1 = nI m ∧ ((6 ≤ x ∧ x < 16 ∧ 0 < a ∧ tb m = 200 + 10 * a + b) ∨ (16 ≤ x ∧ x < 21 ∧ 0 < b ∧ pf b = a ∧ tb m = 300 + 10 * a + b)) ∧ zlk c pf tb I R m (R 4 x 2)
theorem zlk.of {c : Nat} {pf tb : Nat → Nat} {I I2 : zI} {R R2 : zR} (hI : ∀ x, I2 4 x 1 = I 4 x 1) (hR : ∀ x j, R2 4 x j = R 4 x j) : ∀ {m : Nat} {o : Option Nat}, zlk c pf tb I R m o → zlk c pf tb I2 R2 m o
  | 0, _, h => h
  | m + 1, _, h => by
    obtain ⟨x, a, b, h1, h2, h3, h4, h5, h6, h7, h8, h9⟩ := h
    exact ⟨x, a, b, h1, h2, h3, h4, by rw [hR]; exact h5, by rw [hR]; exact h6, by rw [hI]; exact h7, h8, by rw [hR]; exact zlk.of hI hR h9⟩
theorem zlk.lc {c : Nat} {pf tb : Nat → Nat} {I : zI} {R : zR} : ∀ {m : Nat} {o : Option Nat}, zlk c pf tb I R m o → ∀ x, x < m → ∃ a b, zlc c (tb x) a b
  | 0, _, _, x, hx => by omega
  | m + 1, _, h, x, hx => by
    obtain ⟨y, a, b, h1, h2, h3, h4, h5, h6, h7, h8, h9⟩ := h
    by_cases e : x = m
    · subst e
      exact ⟨a, b, h2, h3, h4, h8.elim (fun z => Or.inl z.2.2.2) (fun z => Or.inr z.2.2.2.2)⟩
    · exact zlk.lc h9 x (by omega)
/-- a slot of the component and a row of the table -/
def zSl (c h : Nat) (pf tb : Nat → Nat) (I : zI) (R : zR) (o : Option Nat) : Prop :=
  (∃ x u, o = some x ∧ x < c ∧ R 4 x 2 = none ∧ R 4 x 0 = some u ∧ u < c ∧ ∀ ch, ch < h → tb ch = 100 + 10 * u)
  ∨ ∃ m, m ≤ h ∧ zlk c pf tb I R m o ∧ (∀ ch, m ≤ ch → ch < h → tb ch = 0) ∧ ∀ x y a b a2 b2, x < y → y < m → zlc c (tb x) a b → zlc c (tb y) a2 b2 → zdj a b a2 b2
theorem zSl.of {c h : Nat} {pf tb : Nat → Nat} {I I2 : zI} {R R2 : zR} {o : Option Nat} (hs : zSl c h pf tb I R o) (hI : ∀ x, I2 4 x 1 = I 4 x 1) (hR : ∀ x j, R2 4 x j = R 4 x j) : zSl c h pf tb I2 R2 o := by
  rcases hs with ⟨x, u, h1, h2, h3, h4, h5, h6⟩ | ⟨m, h1, h2, h3⟩
  · exact Or.inl ⟨x, u, h1, h2, by rw [hR]; exact h3, by rw [hR]; exact h4, h5, h6⟩
  · exact Or.inr ⟨m, h1, h2.of hI hR, h3⟩
/-- the work of a slot of links is what the component does from the last channel down -/
theorem zwork_links {c h m t : Nat} {pf tb : Nat → Nat} {J : zJ} {I : zI} {R : zR} {o : Option Nat} {s : zAQ} (hc : c ≤ 6) (hh : 1 ≤ h) (hm : m ≤ h) (hl : zlk c pf tb I R m o) (hz : ∀ ch, m ≤ ch → ch < h → tb ch = 0) (hd : ∀ x y a b a2 b2, x < y → y < m → zlc c (tb x) a b → zlc c (tb y) a2 b2 → zdj a b a2 b2) (h6 : zE6 s) : zwork c pf tb J h t s.1 s.2 = zdes (zst pf tb J h t) m s := by
  have hlc := hl.lc
  have h0 : ¬ (100 ≤ tb 0 ∧ tb 0 < 200) := by
    rcases Nat.eq_zero_or_pos m with e | e
    · have := hz 0 (by omega) (by omega); omega
    · obtain ⟨a, b, -, -, -, z⟩ := hlc 0 e; omega
  unfold zwork
  rw [if_neg h0]
  have h1 := zchL_asc (pf := pf) (tb := tb) (J := J) (h := h) (t := t) (a := s) h 0
  rw [Nat.zero_add] at h1
  refine h1.trans ?_
  obtain ⟨d, rfl⟩ : ∃ d, h = m + d := ⟨h - m, by omega⟩
  rw [zasc_id (m := m) d (fun y h1 h2 s => by unfold zst; rw [hz y h1 h2]; exact zcell_0)]
  refine (zdes_asc m (fun x hx s hs => ?_) (fun x y hx hy s hs => ?_) s h6).symm
  · obtain ⟨a, b, z⟩ := hlc x hx
    obtain ⟨d2, hd2⟩ := zcell_loc (pf := pf) (hb := zbit (J 35 0 ((x + t) % (m + d))) t) (cb := zbit (J 36 0 ((x + t) % (m + d))) t) hc z
    exact (hd2 s hs).1
  · obtain ⟨a, b, z⟩ := hlc x (by omega)
    obtain ⟨a2, b2, z2⟩ := hlc y hy
    obtain ⟨e1, e2, e3, e4⟩ := hd x y a b a2 b2 hx hy z z2
    exact zLoc.comm (by have := z.1; omega) (by have := z.2.1; omega) (by have := z2.1; omega) (by have := z2.2.1; omega) e1 e2 e3 e4 (zcell_loc hc z) (zcell_loc hc z2) s hs
theorem zwork_adv {c h t u : Nat} {pf tb : Nat → Nat} {J : zJ} {s : zAQ} (hc : c ≤ 6) (hu : u < c) (h0 : tb 0 = 100 + 10 * u) : zwork c pf tb J h t s.1 s.2 = (zadv c u (zbit (J 35 0 (t % h)) t) s.1, s.2) := by
  unfold zwork
  rw [if_pos (by omega), show tb 0 / 10 % 10 = u by omega]
