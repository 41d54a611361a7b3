/-! THE BITS OF A SLOT AND THE TABLE'S ROW -/
theorem zb_and : ∀ bb, bb < 64 → ∀ a, a < 6 → ∀ b, b < 6 → ((bb &&& (2 ^ a ||| 2 ^ b)) = 0 ↔ bb.testBit a = false ∧ bb.testBit b = false) := by decide +kernel
theorem zb_or1 : ∀ bb, bb < 64 → ∀ a, a < 6 → ∀ b, b < 6 → (bb ||| (2 ^ a ||| 2 ^ b)) < 64 := by decide +kernel
theorem zb_or2 (bb a b x : Nat) : (bb ||| (2 ^ a ||| 2 ^ b)).testBit x = true ↔ bb.testBit x = true ∨ x = a ∨ x = b := by
  rw [Nat.testBit_or, Nat.testBit_or, Nat.testBit_two_pow, Nat.testBit_two_pow]
  simp only [Bool.or_eq_true, decide_eq_true_eq]
  constructor
  · rintro (h | h | h)
    · exact Or.inl h
    · exact Or.inr (Or.inl h.symm)
    · exact Or.inr (Or.inr h.symm)
  · rintro (h | h | h)
    · exact Or.inl h
    · exact Or.inr (Or.inl h.symm)
    · exact Or.inr (Or.inr h.symm)
theorem zb_andI : ∀ bb, bb < 64 → ∀ cc, cc < 64 → nI bb &&& nI cc = nI (bb &&& cc) := by decide +kernel
theorem zb_0 : ∀ bb, bb < 64 → (∀ x, x < 6 → bb.testBit x = false) → bb = 0 := by decide +kernel
theorem zb_63 : ∀ a, a < 6 → ∀ b, b < 6 → ¬ (63 &&& (2 ^ a ||| 2 ^ b)) = 0 := by decide +kernel
theorem zb_both : ∀ a, a < 6 → ∀ b, b < 6 → ((nI 1 <<< (nI a &&& 31)) ||| (nI 1 <<< (nI b &&& 31))) = nI (2 ^ a ||| 2 ^ b) := by decide +kernel
theorem zb_all : ∀ h, h < 5 → (nI 1 <<< (nI h &&& 31)) - nI 1 = nI (2 ^ h - 1) := by decide +kernel
theorem zb_open : ∀ h, h < 5 → ∀ m, m ≤ h → nI (2 ^ h - 1) &&& (nI (2 ^ m - 1) ^^^ -1) = nI (2 ^ h - 2 ^ m) := by decide +kernel
theorem zb_open15 : ∀ h, h < 5 → nI (2 ^ h - 1) &&& (nI 15 ^^^ -1) = nI 0 := by decide +kernel
theorem zb_used : ∀ m, m < 4 → nI (2 ^ m - 1) ||| (nI 1 <<< (nI m &&& 31)) = nI (2 ^ (m + 1) - 1) := by decide +kernel
theorem zb_orI : ∀ bb, bb < 64 → ∀ cc, cc < 64 → nI bb ||| nI cc = nI (bb ||| cc) := by decide +kernel
theorem zb_lt : ∀ a, a < 6 → ∀ b, b < 6 → (2 ^ a ||| 2 ^ b) < 64 := by decide +kernel
theorem zb_op0 : ∀ h, h < 5 → ∀ m, m ≤ h → (nI (2 ^ h - 2 ^ m) = 0 ↔ m = h) := by decide +kernel
def zBu (c h : Nat) (T : Nat → Nat) (s : Nat) (B U : Int32) : Prop :=
  (∃ a, a < c ∧ (∀ ch, ch < h → T (4 * s + ch) = 100 + 10 * a) ∧ B = nI 63 ∧ U = nI 15)
  ∨ ∃ m bb, m ≤ h ∧ (∀ ch, ch < m → ∃ a b, zlc c (T (4 * s + ch)) a b) ∧ (∀ ch, m ≤ ch → ch < h → T (4 * s + ch) = 0) ∧ U = nI (2 ^ m - 1) ∧ B = nI bb ∧ bb < 64 ∧ (∀ x, x < 6 → (bb.testBit x = true ↔ ∃ ch, ch < m ∧ (zk1 (T (4 * s + ch)) = x ∨ zk2 (T (4 * s + ch)) = x))) ∧ ∀ x y, x < y → y < m → zclash (T (4 * s + x)) (T (4 * s + y)) = false
theorem zlc_k {c k a b : Nat} (hc : c ≤ 6) (h : zlc c k a b) : zk1 k = a ∧ zk2 k = b ∧ 200 ≤ k ∧ k < 400 := by
  obtain ⟨h1, h2, h3, h4⟩ := h
  unfold zk1 zk2
  rcases h4 with rfl | rfl
  · rw [if_neg (by omega), if_neg (by omega)]; omega
  · rw [if_neg (by omega), if_neg (by omega)]; omega
theorem zBu.new {c h s : Nat} (hh : 1 ≤ h) : zBu c h (fun _ => 0) s (nI 0) (nI 0) := Or.inr ⟨0, 0, Nat.zero_le _, fun ch hc => by omega, fun _ _ _ => rfl, rfl, rfl, by decide, fun x hx => by simp, fun x y h1 h2 => by omega⟩
theorem zBu.busy0 {c h s : Nat} {T : Nat → Nat} {B U : Int32} (hc : c ≤ 6) (hh : 1 ≤ h) (h2 : zBu c h T s B U) : B = 0 ↔ T (4 * s) = 0 := by
  rcases h2 with ⟨a, ha, h3, rfl, rfl⟩ | ⟨m, bb, hm, h3, h4, rfl, rfl, h5, h6, h7⟩
  · have := h3 0 (by omega)
    rw [Nat.add_zero] at this
    rw [this]
    exact ⟨fun z => absurd z (by decide), fun z => by omega⟩
  · rcases Nat.eq_zero_or_pos m with e | e
    · subst e
      have e0 : bb = 0 := zb_0 bb h5 (fun x hx => by
        have := h6 x hx
        cases hb : bb.testBit x with
        | false => rfl
        | true => obtain ⟨ch, hch, -⟩ := this.mp hb; omega)
      subst e0
      exact ⟨fun _ => h4 0 (Nat.zero_le _) (by omega), fun _ => rfl⟩
    · obtain ⟨a, b, hl⟩ := h3 0 e
      obtain ⟨k1, k2, k3, k4⟩ := zlc_k hc hl
      rw [Nat.add_zero] at k1 k3
      refine ⟨fun z => ?_, fun z => by omega⟩
      have hb0 := nI_inj (b := 0) (by omega) (by omega) z
      have := (h6 a (by have := hl.1; omega)).mpr ⟨0, e, Or.inl (by rw [Nat.add_zero]; exact k1)⟩
      rw [hb0] at this
      simp at this
theorem zBu.adv {c h s a : Nat} {T : Nat → Nat} (ha : a < c) : zBu c h (zputA h s a T) s (nI 63) (nI 15) := Or.inl ⟨a, ha, fun ch hch => by unfold zputA; rw [if_pos (by omega)], rfl, rfl⟩
theorem zBu.congr {c h s : Nat} {T T2 : Nat → Nat} {B U : Int32} (h2 : zBu c h T s B U) (e : ∀ ch, ch < h → T2 (4 * s + ch) = T (4 * s + ch)) : zBu c h T2 s B U := by
  rcases h2 with ⟨a, ha, h3, h4⟩ | ⟨m, bb, hm, h3, h4, h5, h6, h7, h8, h9⟩
  · exact Or.inl ⟨a, ha, fun ch hch => (e ch hch).trans (h3 ch hch), h4⟩
  · refine Or.inr ⟨m, bb, hm, fun ch hch => by rw [e ch (by omega)]; exact h3 ch hch, fun ch h1 h2 => by rw [e ch h2]; exact h4 ch h1 h2, h5, h6, h7, fun x hx => ?_, fun x y h1 h2 => by rw [e x (by omega), e y (by omega)]; exact h9 x y h1 h2⟩
    rw [h8 x hx]
    constructor
    · rintro ⟨ch, h1, h2⟩
      exact ⟨ch, h1, by rw [e ch (by omega)]; exact h2⟩
    · rintro ⟨ch, h1, h2⟩
      rw [e ch (by omega)] at h2
      exact ⟨ch, h1, h2⟩
/-- a link fits: the bits say what the table says -/
theorem zBu.fit {c h s k a b : Nat} {T : Nat → Nat} {B U : Int32} (hc : c ≤ 6) (hh : 1 ≤ h ∧ h ≤ 4) (h2 : zBu c h T s B U) (hk : zlc c k a b) :
    (zfit h T k s = false ∧ (¬ B &&& nI (2 ^ a ||| 2 ^ b) = 0 ∨ (nI (2 ^ h - 1) &&& (U ^^^ -1)) = 0))
    ∨ ∃ m, m < h ∧ zfit h T k s = true ∧ B &&& nI (2 ^ a ||| 2 ^ b) = 0 ∧ (nI (2 ^ h - 1) &&& (U ^^^ -1)) = nI (2 ^ h - 2 ^ m) ∧ ¬ nI (2 ^ h - 2 ^ m) = 0 ∧ zfnd (zfrc T s) h 0 = some m ∧ zBu c h (zput (4 * s + m) k T) s (B ||| nI (2 ^ a ||| 2 ^ b)) (U ||| (nI 1 <<< (nI m &&& 31))) := by
  obtain ⟨k1, k2, k3, k4⟩ := zlc_k hc hk
  have ha : a < 6 := by have := hk.1; omega
  have hb : b < 6 := by have := hk.2.1; omega
  rcases h2 with ⟨u, hu, h3, rfl, rfl⟩ | ⟨m, bb, hm, h3, h4, rfl, rfl, h5, h6, h7⟩
  · refine Or.inl ⟨?_, Or.inl ?_⟩
    · have := h3 0 (by omega)
      rw [Nat.add_zero] at this
      unfold zfit zlone
      rw [this]
      simp
      intro z
      omega
    · rw [zb_andI 63 (by decide) _ (zb_lt a ha b hb)]
      exact fun z => zb_63 a ha b hb (nI_inj (b := 0) (by have := Nat.and_le_left (n := 63) (m := 2 ^ a ||| 2 ^ b); omega) (by omega) z)
  · have hlone : zlone T s = true := by
      unfold zlone
      rcases Nat.eq_zero_or_pos m with e | e
      · have := h4 0 (by omega) (by omega)
        rw [Nat.add_zero] at this
        rw [this]; rfl
      · obtain ⟨a2, b2, hl⟩ := h3 0 e
        have := (zlc_k hc hl).2.2.1
        rw [Nat.add_zero] at this
        simp
        omega
    have hand : (nI bb &&& nI (2 ^ a ||| 2 ^ b) = 0) ↔ (bb.testBit a = false ∧ bb.testBit b = false) := by
      rw [zb_andI bb h5 _ (zb_lt a ha b hb), ← zb_and bb h5 a ha b hb]
      constructor
      · intro z
        exact nI_inj (b := 0) (by have := Nat.and_le_left (n := bb) (m := 2 ^ a ||| 2 ^ b); omega) (by omega) z
      · intro z; rw [z]; rfl
    have hall : zall (zokc T k s) h 0 = true ↔ (bb.testBit a = false ∧ bb.testBit b = false) := by
      rw [zall_iff]
      constructor
      · intro z
        refine ⟨?_, ?_⟩
        · cases hbit : bb.testBit a with
          | false => rfl
          | true =>
            obtain ⟨ch, hch, hz⟩ := (h6 a ha).mp hbit
            have := z ch (Nat.zero_le _) (by omega)
            obtain ⟨a2, b2, hl⟩ := h3 ch hch
            have := (zlc_k hc hl).2.2.1
            unfold zokc zclash at *
            rcases hz with e | e <;> simp_all <;> omega
        · cases hbit : bb.testBit b with
          | false => rfl
          | true =>
            obtain ⟨ch, hch, hz⟩ := (h6 b hb).mp hbit
            have := z ch (Nat.zero_le _) (by omega)
            obtain ⟨a2, b2, hl⟩ := h3 ch hch
            have := (zlc_k hc hl).2.2.1
            unfold zokc zclash at *
            rcases hz with e | e <;> simp_all <;> omega
      · rintro ⟨za, zb⟩ ch - hch
        unfold zokc
        rcases Nat.lt_or_ge ch m with hl | hl
        · have na : ¬ (zk1 (T (4 * s + ch)) = a ∨ zk2 (T (4 * s + ch)) = a) := fun q => by
            have := (h6 a ha).mpr ⟨ch, hl, q⟩; rw [za] at this; cases this
          have nb : ¬ (zk1 (T (4 * s + ch)) = b ∨ zk2 (T (4 * s + ch)) = b) := fun q => by
            have := (h6 b hb).mpr ⟨ch, hl, q⟩; rw [zb] at this; cases this
          have : zclash (T (4 * s + ch)) k = false := by
            unfold zclash
            rw [k1, k2]
            simp
            exact ⟨fun q => na (Or.inl q), fun q => nb (Or.inl q), fun q => na (Or.inr q), fun q => nb (Or.inr q)⟩
          rw [this]; simp
        · rw [h4 ch hl (by omega)]; rfl
    have hopen := zb_open h (by omega) m hm
    rcases Nat.lt_or_ge m h with hmh | hmh
    · have hfnd : zfnd (zfrc T s) h 0 = some m := by
        cases hz : zfnd (zfrc T s) h 0 with
        | none =>
          have := zfnd_none hz m (Nat.zero_le _) (by omega)
          unfold zfrc at this
          rw [h4 m (Nat.le_refl _) hmh] at this
          cases this
        | some j =>
          obtain ⟨q1, q2, q3, q4⟩ := zfnd_some hz
          unfold zfrc at q3 q4
          simp at q3
          rcases Nat.lt_or_ge j m with e | e
          · obtain ⟨a2, b2, hl⟩ := h3 j e
            have := (zlc_k hc hl).2.2.1
            omega
          · rcases Nat.lt_or_ge m j with e2 | e2
            · have := q4 m (Nat.zero_le _) e2
              rw [h4 m (Nat.le_refl _) hmh] at this
              cases this
            · rw [show j = m by omega]
      by_cases hbits : bb.testBit a = false ∧ bb.testBit b = false
      · refine Or.inr ⟨m, hmh, ?_, hand.mpr hbits, hopen, fun z => by have := (zb_op0 h (by omega) m hm).mp z; omega, hfnd, ?_⟩
        · unfold zfit
          rw [hlone, hall.mpr hbits, hfnd]; rfl
        · rw [zb_used m (by omega), zb_orI bb h5 _ (zb_lt a ha b hb)]
          have o1 := zb_or1 bb h5 a ha b hb
          have o2 := fun x (_ : x < 6) => zb_or2 bb a b x
          have tn : ∀ ch, ch ≠ m → zput (4 * s + m) k T (4 * s + ch) = T (4 * s + ch) := fun ch hne => by unfold zput; rw [if_neg (by omega)]
          have ts : zput (4 * s + m) k T (4 * s + m) = k := by unfold zput; rw [if_pos rfl]
          refine Or.inr ⟨m + 1, _, by omega, fun ch hch => ?_, fun ch h1 h2 => by rw [tn ch (by omega)]; exact h4 ch (by omega) h2, rfl, rfl, o1, fun x hx => ?_, fun x y h1 h2 => ?_⟩
          · by_cases e : ch = m
            · subst e; rw [ts]; exact ⟨a, b, hk⟩
            · rw [tn ch e]; exact h3 ch (by omega)
          · rw [o2 x hx, h6 x hx]
            constructor
            · rintro (⟨ch, q1, q2⟩ | q | q)
              · exact ⟨ch, by omega, by rw [tn ch (by omega)]; exact q2⟩
              · exact ⟨m, by omega, by rw [ts, k1]; exact Or.inl q.symm⟩
              · exact ⟨m, by omega, by rw [ts, k2]; exact Or.inr q.symm⟩
            · rintro ⟨ch, q1, q2⟩
              by_cases e : ch = m
              · subst e
                rw [ts, k1, k2] at q2
                exact Or.inr (q2.imp Eq.symm Eq.symm)
              · rw [tn ch e] at q2
                exact Or.inl ⟨ch, by omega, q2⟩
          · by_cases e : y = m
            · subst e
              rw [ts, tn x (by omega)]
              have := (zall_iff.mp (hall.mpr hbits)) x (Nat.zero_le _) (by omega)
              unfold zokc at this
              obtain ⟨a2, b2, hl⟩ := h3 x h1
              have h200 := (zlc_k hc hl).2.2.1
              simp at this
              rcases this with z | z
              · omega
              · exact z
            · rw [tn x (by omega), tn y e]; exact h7 x y h1 (by omega)
      · refine Or.inl ⟨?_, Or.inl (fun z => hbits (hand.mp z))⟩
        unfold zfit
        have : zall (zokc T k s) h 0 = false := by
          cases hz : zall (zokc T k s) h 0 with
          | false => rfl
          | true => exact absurd (hall.mp hz) hbits
        rw [this]; simp
    · have hme : m = h := by omega
      subst hme
      refine Or.inl ⟨?_, Or.inr (by rw [hopen]; exact (zb_op0 m (by omega) m hm).mpr rfl)⟩
      have : zfnd (zfrc T s) m 0 = none := by
        cases hz : zfnd (zfrc T s) m 0 with
        | none => rfl
        | some j =>
          obtain ⟨q1, q2, q3, q4⟩ := zfnd_some hz
          unfold zfrc at q3
          simp at q3
          obtain ⟨a2, b2, hl⟩ := h3 j (by omega)
          have := (zlc_k hc hl).2.2.1
          omega
      unfold zfit
      rw [this]; simp
