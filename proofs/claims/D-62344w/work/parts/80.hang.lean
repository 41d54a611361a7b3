/-! HANGING CELLS: the slots against the table so far -/
def zchn (U : Nat → Prop) (R : zR) : Nat → Option Nat → Prop
  | 0, _ => True
  | m + 1, o => ∃ x, o = some x ∧ U x ∧ zchn U R m (R 4 x 2)
def zSU (c h : Nat) (pf tb : Nat → Nat) (I : zI) (R : zR) (o : Option Nat) (U : Nat → Prop) : Prop :=
  (∃ x u, o = some x ∧ x < c ∧ R 4 x 2 = none ∧ R 4 x 0 = some u ∧ u < c ∧ (∀ ch, ch < h → tb ch = 100 + 10 * u) ∧ U x)
  ∨ ∃ m, m ≤ h ∧ zlk c pf tb I R m o ∧ zchn U R m o ∧ (∀ ch, m ≤ ch → ch < h → tb ch = 0) ∧ ∀ x y a b a2 b2, x < y → y < m → zlc c (tb x) a b → zlc c (tb y) a2 b2 → zdj a b a2 b2
theorem zSU.sl {c h : Nat} {pf tb : Nat → Nat} {I : zI} {R : zR} {o : Option Nat} {U : Nat → Prop} (h1 : zSU c h pf tb I R o U) : zSl c h pf tb I R o := by
  rcases h1 with ⟨x, u, a1, a2, a3, a4, a5, a6, -⟩ | ⟨m, a1, a2, -, a4⟩
  · exact Or.inl ⟨x, u, a1, a2, a3, a4, a5, a6⟩
  · exact Or.inr ⟨m, a1, a2, a4⟩
theorem zlk.keep {c : Nat} {pf tb tb2 : Nat → Nat} {I I2 : zI} {R R2 : zR} {U U2 : Nat → Prop} (hR : ∀ x, U x → ∀ j, R2 4 x j = R 4 x j) (hI : ∀ x, U x → I2 4 x 1 = I 4 x 1) (hU : ∀ x, U x → U2 x) : ∀ {m : Nat} {o : Option Nat}, zlk c pf tb I R m o → zchn U R m o → (∀ j, j < m → tb2 j = tb j) → zlk c pf tb2 I2 R2 m o ∧ zchn U2 R2 m o
  | 0, _, h, _, _ => ⟨h, trivial⟩
  | m + 1, o, h, hc, ht => by
    obtain ⟨x, a, b, rfl, h2, h3, h4, h5, h6, h7, h8, h9⟩ := h
    obtain ⟨x', e, u1, u2⟩ := hc
    cases e
    obtain ⟨k1, k2⟩ := zlk.keep hR hI hU h9 u2 (fun j hj => ht j (by omega))
    exact ⟨⟨x, a, b, rfl, h2, h3, h4, by rw [hR x u1]; exact h5, by rw [hR x u1]; exact h6, by rw [hI x u1]; exact h7, by rw [ht m (by omega)]; exact h8, by rw [hR x u1]; exact k1⟩, x, rfl, hU x u1, by rw [hR x u1]; exact k2⟩
theorem zSU.keep {c h : Nat} {pf tb tb2 : Nat → Nat} {I I2 : zI} {R R2 : zR} {o : Option Nat} {U U2 : Nat → Prop} (hR : ∀ x, U x → ∀ j, R2 4 x j = R 4 x j) (hI : ∀ x, U x → I2 4 x 1 = I 4 x 1) (hU : ∀ x, U x → U2 x) (ht : ∀ j, j < h → tb2 j = tb j) (hs : zSU c h pf tb I R o U) : zSU c h pf tb2 I2 R2 o U2 := by
  rcases hs with ⟨x, u, a1, a2, a3, a4, a5, a6, a7⟩ | ⟨m, a1, a2, a3, a4, a5⟩
  · exact Or.inl ⟨x, u, a1, a2, by rw [hR x a7]; exact a3, by rw [hR x a7]; exact a4, a5, fun ch hch => (ht ch hch).trans (a6 ch hch), hU x a7⟩
  · obtain ⟨k1, k2⟩ := a2.keep (tb2 := tb2) hR hI hU a3 (fun j hj => ht j (by omega))
    exact Or.inr ⟨m, a1, k1, k2, fun ch c1 c2 => (ht ch c2).trans (a4 ch c1 c2), fun x y a b a2 b2 c1 c2 c3 c4 => a5 x y a b a2 b2 c1 c2 (by rw [← ht x (by omega)]; exact c3) (by rw [← ht y (by omega)]; exact c4)⟩
/-- a cell of a link -/
def zck (pf : Nat → Nat) (y a b k : Nat) : Prop := (6 ≤ y ∧ y < 16 ∧ 0 < a ∧ k = 200 + 10 * a + b) ∨ (16 ≤ y ∧ y < 21 ∧ 0 < b ∧ pf b = a ∧ k = 300 + 10 * a + b)
theorem zhg_n {R : zR} {x a b s y : Nat} (h : y ≠ x) (j : Nat) : zhgR (zu R 4 x 3 (some b)) x a s 4 y j = R 4 y j := by
  unfold zhgR
  rw [zu_k (by decide), zu_i h, zu_i h, zu_i h]
theorem zhg_n0 {R : zR} {x a s y : Nat} (h : y ≠ x) (j : Nat) : zhgR R x a s 4 y j = R 4 y j := by
  unfold zhgR
  rw [zu_k (by decide), zu_i h, zu_i h]
theorem zhg_0 {R : zR} {x a s : Nat} : zhgR R x a s 4 x 0 = some a := by
  unfold zhgR
  rw [zu_k (by decide), zu_j (by decide), zu_s]
theorem zhg_2 {R : zR} {x a s : Nat} : zhgR R x a s 4 x 2 = R 11 0 s := by
  unfold zhgR
  rw [zu_k (by decide), zu_s]
theorem zhg_3 {R : zR} {x a s : Nat} : zhgR R x a s 4 x 3 = R 4 x 3 := by
  unfold zhgR
  rw [zu_k (by decide), zu_j (by decide), zu_j (by decide)]
theorem zhg_s {R : zR} {x a s : Nat} : zhgR R x a s 11 0 s = some x := zu_s
theorem zhg_t {R : zR} {x a s s2 : Nat} (h : s2 ≠ s) : zhgR R x a s 11 0 s2 = R 11 0 s2 := by
  unfold zhgR
  rw [zu_j h, zu_k (by decide), zu_k (by decide)]
def zAS (c h S : Nat) (pf T : Nat → Nat) (I : zI) (R : zR) (U : Nat → Prop) : Prop := ∀ s, s < S → zSU c h pf (fun j => T (4 * s + j)) I R (R 11 0 s) U
theorem zAS.link {c h S s ch k y a b : Nat} {pf T : Nat → Nat} {I : zI} {R : zR} {U : Nat → Prop} (hc : c ≤ 6) (hh : 1 ≤ h ∧ h ≤ 4) (hA : zAS c h S pf T I R U) (hy : ¬ U y) (hk : zlc c k a b) (hck : zck pf y a b k) (hf : zlfr S h T k = some s) (hz : zfnd (zfrc T s) h 0 = some ch) : zAS c h S pf (zput (4 * s + ch) k T) (zu I 4 y 1 (nI ch)) (zhgR (zu R 4 y 3 (some b)) y a s) (fun x => U x ∨ x = y) := by
  obtain ⟨f1, f2, f3, -⟩ := zfnd_some hf
  obtain ⟨z1, z2, z3, z4⟩ := zfnd_some hz
  have hne : ∀ x, U x → x ≠ y := fun x hx e => hy (e ▸ hx)
  have kR : ∀ x, U x → ∀ j, zhgR (zu R 4 y 3 (some b)) y a s 4 x j = R 4 x j := fun x hx j => zhg_n (hne x hx) j
  have kI : ∀ x, U x → zu I 4 y 1 (nI ch) 4 x 1 = I 4 x 1 := fun x hx => zu_i (hne x hx)
  have tn : ∀ s2 j, ¬ (s2 = s ∧ j = ch) → j < 4 → zput (4 * s + ch) k T (4 * s2 + j) = T (4 * s2 + j) := fun s2 j hn hj => by unfold zput; rw [if_neg (by omega)]
  intro s2 hs2
  by_cases es : s2 = s
  · subst es
    rw [zhg_s]
    unfold zfit at f3
    simp only [Bool.and_eq_true] at f3
    rcases hA s2 hs2 with ⟨x, u, a1, a2, a3, a4, a5, a6, a7⟩ | ⟨m, a1, a2, a3, a4, a5⟩
    · exfalso
      have h0 : T (4 * s2) = 100 + 10 * u := a6 0 (by omega)
      have := f3.1
      unfold zlone at this
      rw [h0] at this
      simp at this
      omega
    · have hlc := a2.lc
      have em : ch = m := by
        unfold zfrc at z3 z4
        simp at z3
        rcases Nat.lt_or_ge ch m with e | e
        · obtain ⟨p, q, hl⟩ := hlc ch e
          have := (zlc_k hc hl).2.2.1
          omega
        · rcases Nat.lt_or_ge m ch with e2 | e2
          · have h5 := z4 m (Nat.zero_le _) e2
            have h6 : T (4 * s2 + m) = 0 := a4 m (Nat.le_refl _) (by omega)
            rw [h6] at h5
            cases h5
          · omega
      subst em
      have hput : zput (4 * s2 + ch) k T (4 * s2 + ch) = k := by unfold zput; rw [if_pos rfl]
      have e11 : (zu R 4 y 3 (some b)) 11 0 s2 = R 11 0 s2 := zu_k (by decide)
      obtain ⟨k1, k2⟩ := a2.keep (tb2 := fun j => zput (4 * s2 + ch) k T (4 * s2 + j)) (U2 := fun x => U x ∨ x = y) kR kI (fun x hx => Or.inl hx) a3 (fun j hj => tn s2 j (by omega) (by omega))
      refine Or.inr ⟨ch + 1, by omega, ⟨y, a, b, rfl, hk.1, hk.2.1, hk.2.2.1, zhg_0, by rw [zhg_3]; exact zu_s, zu_s, ?_, by rw [zhg_2, e11]; exact k1⟩, ⟨y, rfl, Or.inr rfl, by rw [zhg_2, e11]; exact k2⟩, fun j j1 j2 => ?_, fun x x2 p q p2 q2 c1 c2 c3 c4 => ?_⟩
      · rcases hck with ⟨d1, d2, d3, d4⟩ | ⟨d1, d2, d3, d4, d5⟩
        · exact Or.inl ⟨d1, d2, d3, hput.trans d4⟩
        · exact Or.inr ⟨d1, d2, d3, d4, hput.trans d5⟩
      · show zput (4 * s2 + ch) k T (4 * s2 + j) = 0
        rw [tn s2 j (by omega) (by omega)]
        exact a4 j (by omega) j2
      · have c3' : zlc c (T (4 * s2 + x)) p q := by rw [← tn s2 x (by omega) (by omega)]; exact c3
        by_cases ex : x2 = ch
        · subst ex
          have c4' : zlc c k p2 q2 := by have c4 : zlc c (zput (4 * s2 + x2) k T (4 * s2 + x2)) p2 q2 := c4; rw [hput] at c4; exact c4
          have hok := (zall_iff.mp f3.2.1) x (Nat.zero_le _) (by omega)
          unfold zokc at hok
          obtain ⟨r1, r2, r3, r4⟩ := zlc_k hc c3'
          obtain ⟨t1, t2, t3, t4⟩ := zlc_k hc c4'
          have hcl : zclash (T (4 * s2 + x)) k = false := by
            simp at hok
            rcases hok with z | z
            · omega
            · exact z
          unfold zclash at hcl
          rw [r1, r2, t1, t2] at hcl
          simp at hcl
          exact ⟨hcl.1, hcl.2.1, hcl.2.2.1, hcl.2.2.2⟩
        · exact a5 x x2 p q p2 q2 c1 (by omega) c3' (by show zlc c (T (4 * s2 + x2)) p2 q2; rw [← tn s2 x2 (by omega) (by omega)]; exact c4)
  · rw [zhg_t es, show (zu R 4 y 3 (some b)) 11 0 s2 = R 11 0 s2 from zu_k (by decide)]
    exact (hA s2 hs2).keep kR kI (fun x hx => Or.inl hx) (fun j hj => tn s2 j (by omega) (by omega))
theorem zAS.adv {c h S s y u : Nat} {pf T : Nat → Nat} {I : zI} {R : zR} {U : Nat → Prop} {w : Int32} (hc : c ≤ 6) (hh : 1 ≤ h ∧ h ≤ 4) (hA : zAS c h S pf T I R U) (hy : ¬ U y) (hyc : y < c) (hu : u < c) (hf : zafr S T = some s) : zAS c h S pf (zputA h s u T) (zu I 4 y 1 w) (zhgR R y u s) (fun x => U x ∨ x = y) := by
  obtain ⟨f1, f2, f3, -⟩ := zfnd_some hf
  simp at f3
  have hne : ∀ x, U x → x ≠ y := fun x hx e => hy (e ▸ hx)
  have kR : ∀ x, U x → ∀ j, zhgR R y u s 4 x j = R 4 x j := fun x hx j => zhg_n0 (hne x hx) j
  have kI : ∀ x, U x → zu I 4 y 1 w 4 x 1 = I 4 x 1 := fun x hx => zu_i (hne x hx)
  intro s2 hs2
  by_cases es : s2 = s
  · subst es
    rw [zhg_s]
    have hn : R 11 0 s2 = none := by
      rcases hA s2 hs2 with ⟨x, u, a1, a2, a3, a4, a5, a6, a7⟩ | ⟨m, a1, a2, a3, a4, a5⟩
      · have : T (4 * s2) = 100 + 10 * u := a6 0 (by omega)
        omega
      · rcases Nat.eq_zero_or_pos m with e | e
        · subst e; exact a2
        · obtain ⟨p, q, hl⟩ := a2.lc 0 e
          have : 200 ≤ T (4 * s2) := (zlc_k hc hl).2.2.1
          omega
    exact Or.inl ⟨y, u, rfl, hyc, by rw [zhg_2]; exact hn, zhg_0, hu, fun ch hch => by show zputA h s2 u T (4 * s2 + ch) = _; unfold zputA; rw [if_pos (by omega)], Or.inr rfl⟩
  · rw [zhg_t es]
    exact (hA s2 hs2).keep kR kI (fun x hx => Or.inl hx) (fun j hj => by show zputA h s u T (4 * s2 + j) = _; unfold zputA; rw [if_neg (by omega)])
