/-! LINK STEPS ARE LOCAL -/
theorem p30 {a b : Nat} : zFp a b 30 (6 * a + b) := Or.inl ⟨rfl, rfl⟩
theorem p32a {a b : Nat} : zFp a b 32 a := Or.inr (Or.inl ⟨rfl, Or.inl rfl⟩)
theorem p32b {a b : Nat} : zFp a b 32 b := Or.inr (Or.inl ⟨rfl, Or.inr rfl⟩)
theorem p33a {a b : Nat} : zFp a b 33 a := Or.inr (Or.inr (Or.inl ⟨rfl, Or.inl rfl⟩))
theorem p33b {a b : Nat} : zFp a b 33 b := Or.inr (Or.inr (Or.inl ⟨rfl, Or.inr rfl⟩))
theorem p38 {a b : Nat} : zFp a b 38 (2 * a) := Or.inr (Or.inr (Or.inr (Or.inl ⟨rfl, rfl⟩)))
theorem p47 {a b : Nat} : zFp a b 47 a := Or.inr (Or.inr (Or.inr (Or.inr (Or.inl ⟨rfl, rfl⟩))))
theorem p48 {a b : Nat} : zFp a b 48 a := Or.inr (Or.inr (Or.inr (Or.inr (Or.inr (Or.inl ⟨rfl, rfl⟩)))))
theorem p57 {a b : Nat} : zFp a b 57 b := Or.inr (Or.inr (Or.inr (Or.inr (Or.inr (Or.inr (Or.inl ⟨rfl, rfl⟩))))))
theorem p49 {a b e : Nat} (he : e < 6) : zFp a b 49 (6 * b + e) := Or.inr (Or.inr (Or.inr (Or.inr (Or.inr (Or.inr (Or.inr (Or.inl ⟨rfl, Or.inl (by omega)⟩)))))))
theorem p49d {a b e : Nat} (he : e < 6) : zFp a b 49 (36 + 6 * b + e) := Or.inr (Or.inr (Or.inr (Or.inr (Or.inr (Or.inr (Or.inr (Or.inl ⟨rfl, Or.inr (by omega)⟩)))))))
theorem p5 {a k j : Nat} (h1 : 51 ≤ k) (h2 : k ≤ 56) : zFp a 0 k j := Or.inr (Or.inr (Or.inr (Or.inr (Or.inr (Or.inr (Or.inr (Or.inr ⟨rfl, h1, h2⟩)))))))
theorem zu_out {a b k j k2 i2 j2 : Nat} {A : zI} {v : Int32} (hp : zFp a b k j) (h : ¬ (i2 = 0 ∧ zFp a b k2 j2)) : zu A k 0 j v k2 i2 j2 = A k2 i2 j2 := zu_oth (fun z => h ⟨z.2.1, by rw [z.1, z.2.2]; exact hp⟩)
theorem zcaA_out {a e : Nat} {v : Int32} {A : zI} {k i j : Nat} (h : ¬ (i = 0 ∧ zFp a 0 k j)) : zcaA A e v k i j = A k i j := by
  unfold zcaA
  rw [zu_out (p5 (by decide) (by decide)) h, zu_out (p5 (by decide) (by decide)) h, zu_out (p5 (by decide) (by decide)) h, zu_out (p5 (by decide) (by decide)) h, zu_out (p5 (by decide) (by decide)) h]
theorem zcaA_ag {a e : Nat} {v : Int32} {A A' : zI} {q q' : zq} (h : zAg a 0 (A, q) (A', q')) : zAg a 0 (zcaA A e v, q) (zcaA A' e v, q') := by
  have r : ∀ k j, 51 ≤ k → k ≤ 56 → A' k 0 j = A k 0 j := fun k j h1 h2 => (h.1 k j (p5 h1 h2)).symm
  unfold zcaA
  rw [r 51 (3 * e + 1) (by decide) (by decide), r 51 (3 * e) (by decide) (by decide), r 52 e (by decide) (by decide), r 53 e (by decide) (by decide), r 56 e (by decide) (by decide)]
  exact h.put.put.put.put.put
theorem zcaC_ag {a e : Nat} {v : Int32} {A A' : zI} {q q' : zq} (h : zAg a 0 (A, q) (A', q')) : zcaC A' e v = zcaC A e v := by
  have r : ∀ k j, 51 ≤ k → k ≤ 56 → A' k 0 j = A k 0 j := fun k j h1 h2 => (h.1 k j (p5 h1 h2)).symm
  unfold zcaC
  rw [r 53 e (by decide) (by decide), r 54 e (by decide) (by decide), r 55 e (by decide) (by decide), r 56 e (by decide) (by decide)]
theorem zcaQ_ag {a e : Nat} {k v : Int32} {A A' A2 A2' : zI} {q q' : zq} (h : zAg a 0 (A, q) (A', q')) (h2 : zAg a 0 (A2, q) (A2', q')) : zAg a 0 (A2, zcaQ A q e k v) (A2', zcaQ A' q' e k v) := by
  have hq : q' 6 = q 6 := (h.2 6 (Or.inr (Or.inr (Or.inr rfl)))).symm
  unfold zcaQ
  rw [hq, zcaC_ag h]
  split
  · exact h2.q
  · exact h2
theorem zhears_ag {a b : Nat} {hb : Bool} {A A' : zI} {q q' : zq} (h : zAg a b (A, q) (A', q')) : zhears A' a b hb = zhears A a b hb := by
  unfold zhears
  rw [show A' 32 0 b = A 32 0 b from (h.1 _ _ p32b).symm, show A' 30 0 (6 * a + b) = A 30 0 (6 * a + b) from (h.1 _ _ p30).symm, show A' 33 0 a = A 33 0 a from (h.1 _ _ p33a).symm, show A' 33 0 b = A 33 0 b from (h.1 _ _ p33b).symm]
theorem zsend_ag {a b : Nat} {A A' : zI} {q q' : zq} (h : zAg a b (A, q) (A', q')) : zAg a b (zsend A, q) (zsend A', q') := by
  refine ⟨fun k j hk => ?_, h.2⟩
  show zsend A k 0 j = zsend A' k 0 j
  unfold zsend
  rw [zu_k (zFp_k hk), zu_k (zFp_k hk)]
  exact h.1 k j hk
/-! up -/
theorem zupR_all {a b e : Nat} {kk v : Int32} {A : zI} {q : zq} (he : e < 6) (h6 : zE6 (A, q)) : zE6 (zupR b e kk v A q).1 ∧ (zupR b e kk v A q).1.1 29 0 4 = A 29 0 4 ∧ (∀ k i j, ¬ (i = 0 ∧ zFp a b k j) → (zupR b e kk v A q).1.1 k i j = A k i j) ∧ (∀ r, ¬ zFq a b r → (zupR b e kk v A q).1.2 r = q r) ∧ ∀ A' q', zAg a b (A, q) (A', q') → (zupR b e kk v A' q').2 = (zupR b e kk v A q).2 ∧ zAg a b (zupR b e kk v A q).1 (zupR b e kk v A' q').1 := by
  have r49 : ∀ A' q', zAg a b (A, q) (A', q') → A' 49 0 (6 * b + e) = A 49 0 (6 * b + e) := fun A' q' h => (h.1 _ _ (p49 he)).symm
  have rq : ∀ A' q', zAg a b (A, q) (A', q') → q' b = q b := fun A' q' h => (h.2 b (Or.inr (Or.inl rfl))).symm
  by_cases h1 : kk ≤ A 49 0 (6 * b + e)
  · have e1 : zupR b e kk v A q = ((A, q), true) := if_pos h1
    rw [e1]
    refine ⟨h6, rfl, fun _ _ _ _ => rfl, fun _ _ => rfl, fun A' q' h => ?_⟩
    rw [show zupR b e kk v A' q' = ((A', q'), true) from if_pos (by rw [r49 A' q' h]; exact h1)]
    exact ⟨rfl, h⟩
  · by_cases h2 : b = 0
    · subst h2
      have e1 : ∀ A' q', ¬ kk ≤ A' 49 0 (6 * 0 + e) → zupR 0 e kk v A' q' = ((zcaA (zu A' 49 0 (6 * 0 + e) kk) e v, zcaQ (zu A' 49 0 (6 * 0 + e) kk) q' e kk v), true) := fun A' q' h => by unfold zupR; rw [if_neg h, if_pos rfl]
      rw [e1 A q h1]
      refine ⟨?_, ?_, fun k i j hk => ?_, fun r hr => ?_, fun A' q' h => ?_⟩
      · show zE6 (_, zcaQ _ q e kk v)
        unfold zcaQ
        split
        · exact h6.ap he
        · exact h6
      · rfl
      · show zcaA _ e v k i j = _
        rw [zcaA_out hk, zu_out (p49 he) hk]
      · show zcaQ _ q e kk v r = q r
        unfold zcaQ
        split
        · exact qu_n (fun z => hr (Or.inr (Or.inr (Or.inr z))))
        · rfl
      · rw [e1 A' q' (by rw [r49 A' q' h]; exact h1)]
        exact ⟨rfl, zcaQ_ag h.put (zcaA_ag h.put)⟩
    · by_cases h3 : (q b).length < 4
      · have e1 : ∀ A' q', ¬ kk ≤ A' 49 0 (6 * b + e) → (q' b).length < 4 → zupR b e kk v A' q' = ((zu A' 49 0 (6 * b + e) kk, qu q' b (q' b ++ [(e, kk, v)])), true) := fun A' q' h h' => by unfold zupR; rw [if_neg h, if_neg h2, if_pos h']
        rw [e1 A q h1 h3]
        refine ⟨h6.ap he, rfl, fun k i j hk => zu_out (p49 he) hk, fun r hr => qu_n (fun z => hr (Or.inr (Or.inl z))), fun A' q' h => ?_⟩
        rw [e1 A' q' (by rw [r49 A' q' h]; exact h1) (by rw [rq A' q' h]; exact h3), rq A' q' h]
        exact ⟨rfl, h.put.q⟩
      · have e1 : ∀ A' q', ¬ kk ≤ A' 49 0 (6 * b + e) → ¬ (q' b).length < 4 → zupR b e kk v A' q' = ((A', q'), false) := fun A' q' h h' => by unfold zupR; rw [if_neg h, if_neg h2, if_neg h']
        rw [e1 A q h1 h3]
        refine ⟨h6, rfl, fun _ _ _ _ => rfl, fun _ _ => rfl, fun A' q' h => ?_⟩
        rw [e1 A' q' (by rw [r49 A' q' h]; exact h1) (by rw [rq A' q' h]; exact h3)]
        exact ⟨rfl, h⟩
theorem zupE_all {a b : Nat} {ok : Bool} {A : zI} {q : zq} (h6 : zE6 (A, q)) : zE6 (zupE a b ok A q) ∧ (zupE a b ok A q).1 29 0 4 = A 29 0 4 ∧ (∀ k i j, ¬ (i = 0 ∧ zFp a b k j) → (zupE a b ok A q).1 k i j = A k i j) ∧ (∀ r, ¬ zFq a b r → (zupE a b ok A q).2 r = q r) ∧ ∀ A' q', zAg a b (A, q) (A', q') → zAg a b (zupE a b ok A q) (zupE a b ok A' q') := by
  cases ok with
  | true =>
    have e1 : ∀ A' q', zupE a b true A' q' = (zu (zu A' 47 0 a (nI 0)) 33 0 a (if A' 38 0 (2 * a) = nI b then A' 33 0 b else A' 33 0 a), qu q' a (q' a).tail) := fun _ _ => if_pos rfl
    rw [e1 A q]
    refine ⟨h6.tl, rfl, fun k i j hk => (zu_out p33a hk).trans (zu_out p47 hk), fun r hr => qu_n (fun z => hr (Or.inl z)), fun A' q' h => ?_⟩
    rw [e1 A' q', show A' 38 0 (2 * a) = A 38 0 (2 * a) from (h.1 _ _ p38).symm, show A' 33 0 a = A 33 0 a from (h.1 _ _ p33a).symm, show A' 33 0 b = A 33 0 b from (h.1 _ _ p33b).symm, show q' a = q a from (h.2 a (Or.inl rfl)).symm]
    exact h.put.put.q
  | false =>
    have r47 : ∀ A' q', zAg a b (A, q) (A', q') → A' 47 0 a = A 47 0 a := fun A' q' h => (h.1 _ _ p47).symm
    by_cases h4 : A 47 0 a + nI 1 = nI 4
    · have e1 : ∀ A' q', A' 47 0 a + nI 1 = nI 4 → zupE a b false A' q' = (zu (zu A' 47 0 a (nI 0)) 32 0 a (nI 0), q') := fun A' q' h => by unfold zupE; rw [if_neg (by decide), if_pos h]
      rw [e1 A q h4]
      refine ⟨h6, rfl, fun k i j hk => (zu_out p32a hk).trans (zu_out p47 hk), fun _ _ => rfl, fun A' q' h => ?_⟩
      rw [e1 A' q' (by rw [r47 A' q' h]; exact h4)]
      exact h.put.put
    · have e1 : ∀ A' q', ¬ A' 47 0 a + nI 1 = nI 4 → zupE a b false A' q' = (zu A' 47 0 a (A' 47 0 a + nI 1), q') := fun A' q' h => by unfold zupE; rw [if_neg (by decide), if_neg h]
      rw [e1 A q h4]
      refine ⟨h6, rfl, fun k i j hk => zu_out p47 hk, fun _ _ => rfl, fun A' q' h => ?_⟩
      rw [e1 A' q' (by rw [r47 A' q' h]; exact h4), r47 A' q' h]
      exact h.put
theorem zsend_out {a b : Nat} {A : zI} {k i j : Nat} (h2 : ¬ (k = 29 ∧ i = 0 ∧ j = 4)) : zsend A k i j = A k i j := zu_oth h2
theorem zup_loc {a b : Nat} {hb cb : Bool} : zLoc a b (fun s => zup a b hb cb s.1 s.2) := by
  refine ⟨fun s => if s.1 32 0 a = 0 then 0 else match s.2 a with | [] => 0 | _ :: _ => nI 1, fun s h6 => ?_⟩
  obtain ⟨A, q⟩ := s
  by_cases h1 : A 32 0 a = 0
  · have e1 : ∀ A' q', A' 32 0 a = 0 → zup a b hb cb A' q' = (A', q') := fun A' q' h => if_pos h
    dsimp only
    rw [e1 A q h1, if_pos h1]
    refine ⟨h6, by simp, fun _ _ _ _ _ => rfl, fun _ _ => rfl, fun s' h6' h => ?_⟩
    have h1' : s'.1 32 0 a = 0 := (h.1 _ _ p32a).symm.trans h1
    rw [if_pos h1', e1 _ _ h1']
    exact ⟨rfl, h⟩
  · cases hq : q a with
    | nil =>
      have e1 : ∀ A' q', ¬ A' 32 0 a = 0 → q' a = [] → zup a b hb cb A' q' = (A', q') := fun A' q' h h' => by unfold zup; rw [if_neg h, h']
      dsimp only
      rw [e1 A q h1 hq, if_neg h1, hq]
      refine ⟨h6, by simp, fun _ _ _ _ _ => rfl, fun _ _ => rfl, fun s' h6' h => ?_⟩
      have h1' : ¬ s'.1 32 0 a = 0 := by rw [← h.1 _ _ p32a]; exact h1
      have hq' : s'.2 a = [] := (h.2 a (Or.inl rfl)).symm.trans hq
      rw [if_neg h1', hq', e1 _ _ h1' hq']
      exact ⟨rfl, h⟩
    | cons x t =>
      obtain ⟨e, kk, v⟩ := x
      have he : e < 6 := h6 a (e, kk, v) (by show _ ∈ q a; rw [hq]; exact List.mem_cons_self)
      have e1 : ∀ A' q', ¬ A' 32 0 a = 0 → q' a = (e, kk, v) :: t → zup a b hb cb A' q' = if zhears (zsend A') a b hb = true then zupE a b ((zupR b e kk v (zsend A') q').2 && cb) (zupR b e kk v (zsend A') q').1.1 (zupR b e kk v (zsend A') q').1.2 else zupE a b false (zsend A') q' := fun A' q' h h' => by unfold zup; rw [if_neg h, h']
      dsimp only
      rw [e1 A q h1 hq, if_neg h1, hq]
      have hs6 : zE6 (zsend A, q) := h6
      obtain ⟨r1, r2, r3, r4, r5⟩ := zupR_all (a := a) (b := b) (kk := kk) (v := v) he hs6
      have hsd : zsend A 29 0 4 = A 29 0 4 + nI 1 := zu_s
      by_cases hh : zhears (zsend A) a b hb = true
      · rw [if_pos hh]
        obtain ⟨x1, x2, x3, x4, x5⟩ := zupE_all (a := a) (b := b) (ok := (zupR b e kk v (zsend A) q).2 && cb) r1
        refine ⟨x1, by rw [x2, r2, hsd], fun k i j hk h2 => by rw [x3 k i j hk, r3 k i j hk, zsend_out (a := a) (b := b) h2], fun r hr => (x4 r hr).trans (r4 r hr), fun s' h6' h => ?_⟩
        have h1' : ¬ s'.1 32 0 a = 0 := by rw [← h.1 _ _ p32a]; exact h1
        have hq' : s'.2 a = (e, kk, v) :: t := (h.2 a (Or.inl rfl)).symm.trans hq
        have hsa := zsend_ag (A' := s'.1) (q' := s'.2) h
        obtain ⟨y1, y2⟩ := r5 _ _ hsa
        rw [if_neg h1', hq', e1 _ _ h1' hq', if_pos (by rw [zhears_ag hsa]; exact hh), y1]
        exact ⟨rfl, x5 _ _ y2⟩
      · rw [if_neg hh]
        obtain ⟨x1, x2, x3, x4, x5⟩ := zupE_all (a := a) (b := b) (ok := false) hs6
        refine ⟨x1, by rw [x2, hsd], fun k i j hk h2 => by rw [x3 k i j hk, zsend_out (a := a) (b := b) h2], fun r hr => x4 r hr, fun s' h6' h => ?_⟩
        have h1' : ¬ s'.1 32 0 a = 0 := by rw [← h.1 _ _ p32a]; exact h1
        have hq' : s'.2 a = (e, kk, v) :: t := (h.2 a (Or.inl rfl)).symm.trans hq
        have hsa := zsend_ag (A' := s'.1) (q' := s'.2) h
        rw [if_neg h1', hq', e1 _ _ h1' hq', if_neg (by rw [zhears_ag hsa]; exact hh)]
        exact ⟨rfl, x5 _ _ hsa⟩
/-! down -/
theorem zdnR_all {a b e : Nat} {kk v : Int32} {A : zI} {q : zq} (he : e < 6) (h6 : zE6 (A, q)) : zE6 (zdnR a b e kk v A q).1 ∧ (zdnR a b e kk v A q).1.1 29 0 4 = A 29 0 4 ∧ (∀ k i j, ¬ (i = 0 ∧ zFp a b k j) → (zdnR a b e kk v A q).1.1 k i j = A k i j) ∧ (∀ r, ¬ zFq a b r → (zdnR a b e kk v A q).1.2 r = q r) ∧ ∀ A' q', zAg a b (A, q) (A', q') → (zdnR a b e kk v A' q').2 = (zdnR a b e kk v A q).2 ∧ zAg a b (zdnR a b e kk v A q).1 (zdnR a b e kk v A' q').1 := by
  have r49 : ∀ A' q', zAg a b (A, q) (A', q') → A' 49 0 (36 + 6 * b + e) = A 49 0 (36 + 6 * b + e) := fun A' q' h => (h.1 _ _ (p49d he)).symm
  have r33 : ∀ A' q', zAg a b (A, q) (A', q') → A' 33 0 a = A 33 0 a := fun A' q' h => (h.1 _ _ p33a).symm
  have rq : ∀ A' q', zAg a b (A, q) (A', q') → q' (6 + b) = q (6 + b) := fun A' q' h => (h.2 (6 + b) (Or.inr (Or.inr (Or.inr rfl)))).symm
  by_cases h1 : kk ≤ A 49 0 (36 + 6 * b + e)
  · have e1 : ∀ A' q', kk ≤ A' 49 0 (36 + 6 * b + e) → zdnR a b e kk v A' q' = ((zu A' 33 0 b (A' 33 0 a), q'), true) := fun A' q' h => if_pos h
    rw [e1 A q h1]
    refine ⟨h6, rfl, fun k i j hk => zu_out p33b hk, fun _ _ => rfl, fun A' q' h => ?_⟩
    rw [e1 A' q' (by rw [r49 A' q' h]; exact h1), r33 A' q' h]
    exact ⟨rfl, h.put⟩
  · by_cases h2 : e = b
    · have e1 : ∀ A' q', ¬ kk ≤ A' 49 0 (36 + 6 * b + e) → zdnR a b e kk v A' q' = ((zu (zu (zu A' 33 0 b (A' 33 0 a)) 49 0 (36 + 6 * b + e) kk) 57 0 b v, q'), true) := fun A' q' h => by unfold zdnR; rw [if_neg h, if_pos h2]
      rw [e1 A q h1]
      refine ⟨h6, rfl, fun k i j hk => (zu_out p57 hk).trans ((zu_out (p49d he) hk).trans (zu_out p33b hk)), fun _ _ => rfl, fun A' q' h => ?_⟩
      rw [e1 A' q' (by rw [r49 A' q' h]; exact h1), r33 A' q' h]
      exact ⟨rfl, h.put.put.put⟩
    · by_cases h3 : (q (6 + b)).length < 4
      · have e1 : ∀ A' q', ¬ kk ≤ A' 49 0 (36 + 6 * b + e) → (q' (6 + b)).length < 4 → zdnR a b e kk v A' q' = ((zu (zu A' 33 0 b (A' 33 0 a)) 49 0 (36 + 6 * b + e) kk, qu q' (6 + b) (q' (6 + b) ++ [(e, kk, v)])), true) := fun A' q' h h' => by unfold zdnR; rw [if_neg h, if_neg h2, if_pos h']
        rw [e1 A q h1 h3]
        refine ⟨h6.ap he, rfl, fun k i j hk => (zu_out (p49d he) hk).trans (zu_out p33b hk), fun r hr => qu_n (fun z => hr (Or.inr (Or.inr (Or.inr z)))), fun A' q' h => ?_⟩
        rw [e1 A' q' (by rw [r49 A' q' h]; exact h1) (by rw [rq A' q' h]; exact h3), rq A' q' h, r33 A' q' h]
        exact ⟨rfl, h.put.put.q⟩
      · have e1 : ∀ A' q', ¬ kk ≤ A' 49 0 (36 + 6 * b + e) → ¬ (q' (6 + b)).length < 4 → zdnR a b e kk v A' q' = ((zu A' 33 0 b (A' 33 0 a), q'), false) := fun A' q' h h' => by unfold zdnR; rw [if_neg h, if_neg h2, if_neg h']
        rw [e1 A q h1 h3]
        refine ⟨h6, rfl, fun k i j hk => zu_out p33b hk, fun _ _ => rfl, fun A' q' h => ?_⟩
        rw [e1 A' q' (by rw [r49 A' q' h]; exact h1) (by rw [rq A' q' h]; exact h3), r33 A' q' h]
        exact ⟨rfl, h.put⟩
theorem zdnE_all {a b : Nat} {ok : Bool} {A : zI} {q : zq} (h6 : zE6 (A, q)) : zE6 (zdnE a ok A q) ∧ (zdnE a ok A q).1 29 0 4 = A 29 0 4 ∧ (∀ k i j, ¬ (i = 0 ∧ zFp a b k j) → (zdnE a ok A q).1 k i j = A k i j) ∧ (∀ r, ¬ zFq a b r → (zdnE a ok A q).2 r = q r) ∧ ∀ A' q', zAg a b (A, q) (A', q') → zAg a b (zdnE a ok A q) (zdnE a ok A' q') := by
  have r48 : ∀ A' q', zAg a b (A, q) (A', q') → A' 48 0 a = A 48 0 a := fun A' q' h => (h.1 _ _ p48).symm
  have rq : ∀ A' q', zAg a b (A, q) (A', q') → q' (6 + a) = q (6 + a) := fun A' q' h => (h.2 (6 + a) (Or.inr (Or.inr (Or.inl rfl)))).symm
  by_cases h0 : ok = true ∨ A 48 0 a + nI 1 = nI 6
  · have e1 : ∀ A' q', (ok = true ∨ A' 48 0 a + nI 1 = nI 6) → zdnE a ok A' q' = (zu A' 48 0 a (nI 0), qu q' (6 + a) (q' (6 + a)).tail) := fun A' q' h => by
      unfold zdnE
      rcases h with h | h
      · rw [if_pos h]
      · rw [if_pos h]; split <;> rfl
    rw [e1 A q h0]
    refine ⟨h6.tl, rfl, fun k i j hk => zu_out p48 hk, fun r hr => qu_n (fun z => hr (Or.inr (Or.inr (Or.inl z)))), fun A' q' h => ?_⟩
    rw [e1 A' q' (by rw [r48 A' q' h]; exact h0), rq A' q' h]
    exact h.put.q
  · have e1 : ∀ A' q', ¬ (ok = true ∨ A' 48 0 a + nI 1 = nI 6) → zdnE a ok A' q' = (zu A' 48 0 a (A' 48 0 a + nI 1), q') := fun A' q' h => by
      unfold zdnE
      rw [if_neg (fun z => h (Or.inl z)), if_neg (fun z => h (Or.inr z))]
    rw [e1 A q h0]
    refine ⟨h6, rfl, fun k i j hk => zu_out p48 hk, fun _ _ => rfl, fun A' q' h => ?_⟩
    rw [e1 A' q' (by rw [r48 A' q' h]; exact h0), r48 A' q' h]
    exact h.put
theorem zdow_loc {pf : Nat → Nat} {a b : Nat} {hb cb : Bool} : zLoc a b (fun s => zdow pf a b hb cb s.1 s.2) := by
  refine ⟨fun s => if s.1 32 0 a = 0 then 0 else match s.2 (6 + a) with | [] => 0 | (e, _, _) :: _ => if zbl pf b 6 e = b then nI 1 else 0, fun s h6 => ?_⟩
  obtain ⟨A, q⟩ := s
  by_cases h1 : A 32 0 a = 0
  · have e1 : ∀ A' q', A' 32 0 a = 0 → zdow pf a b hb cb A' q' = (A', q') := fun A' q' h => if_pos h
    dsimp only
    rw [e1 A q h1, if_pos h1]
    refine ⟨h6, by simp, fun _ _ _ _ _ => rfl, fun _ _ => rfl, fun s' h6' h => ?_⟩
    have h1' : s'.1 32 0 a = 0 := (h.1 _ _ p32a).symm.trans h1
    rw [if_pos h1', e1 _ _ h1']
    exact ⟨rfl, h⟩
  · cases hq : q (6 + a) with
    | nil =>
      have e1 : ∀ A' q', ¬ A' 32 0 a = 0 → q' (6 + a) = [] → zdow pf a b hb cb A' q' = (A', q') := fun A' q' h h' => by unfold zdow; rw [if_neg h, h']
      dsimp only
      rw [e1 A q h1 hq, if_neg h1, hq]
      refine ⟨h6, by simp, fun _ _ _ _ _ => rfl, fun _ _ => rfl, fun s' h6' h => ?_⟩
      have h1' : ¬ s'.1 32 0 a = 0 := by rw [← h.1 _ _ p32a]; exact h1
      have hq' : s'.2 (6 + a) = [] := (h.2 (6 + a) (Or.inr (Or.inr (Or.inl rfl)))).symm.trans hq
      rw [if_neg h1', hq', e1 _ _ h1' hq']
      exact ⟨rfl, h⟩
    | cons x t =>
      obtain ⟨e, kk, v⟩ := x
      have he : e < 6 := h6 (6 + a) (e, kk, v) (by show _ ∈ q (6 + a); rw [hq]; exact List.mem_cons_self)
      by_cases hbl : zbl pf b 6 e = b
      · have e1 : ∀ A' q', ¬ A' 32 0 a = 0 → q' (6 + a) = (e, kk, v) :: t → zdow pf a b hb cb A' q' = if zhears (zsend A') a b hb = true then zdnE a ((zdnR a b e kk v (zsend A') q').2 && cb) (zdnR a b e kk v (zsend A') q').1.1 (zdnR a b e kk v (zsend A') q').1.2 else zdnE a false (zsend A') q' := fun A' q' h h' => by unfold zdow; rw [if_neg h, h']; dsimp only; rw [if_pos hbl]
        dsimp only
        rw [e1 A q h1 hq, if_neg h1, hq]
        dsimp only
        rw [if_pos hbl]
        have hs6 : zE6 (zsend A, q) := h6
        obtain ⟨r1, r2, r3, r4, r5⟩ := zdnR_all (a := a) (b := b) (kk := kk) (v := v) he hs6
        have hsd : zsend A 29 0 4 = A 29 0 4 + nI 1 := zu_s
        by_cases hh : zhears (zsend A) a b hb = true
        · rw [if_pos hh]
          obtain ⟨x1, x2, x3, x4, x5⟩ := zdnE_all (a := a) (b := b) (ok := (zdnR a b e kk v (zsend A) q).2 && cb) r1
          refine ⟨x1, by rw [x2, r2, hsd], fun k i j hk h2 => by rw [x3 k i j hk, r3 k i j hk, zsend_out (a := a) (b := b) h2], fun r hr => (x4 r hr).trans (r4 r hr), fun s' h6' h => ?_⟩
          have h1' : ¬ s'.1 32 0 a = 0 := by rw [← h.1 _ _ p32a]; exact h1
          have hq' : s'.2 (6 + a) = (e, kk, v) :: t := (h.2 (6 + a) (Or.inr (Or.inr (Or.inl rfl)))).symm.trans hq
          have hsa := zsend_ag (A' := s'.1) (q' := s'.2) h
          obtain ⟨y1, y2⟩ := r5 _ _ hsa
          rw [if_neg h1', hq', e1 _ _ h1' hq', if_pos (by rw [zhears_ag hsa]; exact hh), y1]
          exact ⟨(if_pos hbl).symm, x5 _ _ y2⟩
        · rw [if_neg hh]
          obtain ⟨x1, x2, x3, x4, x5⟩ := zdnE_all (a := a) (b := b) (ok := false) hs6
          refine ⟨x1, by rw [x2, hsd], fun k i j hk h2 => by rw [x3 k i j hk, zsend_out (a := a) (b := b) h2], fun r hr => x4 r hr, fun s' h6' h => ?_⟩
          have h1' : ¬ s'.1 32 0 a = 0 := by rw [← h.1 _ _ p32a]; exact h1
          have hq' : s'.2 (6 + a) = (e, kk, v) :: t := (h.2 (6 + a) (Or.inr (Or.inr (Or.inl rfl)))).symm.trans hq
          have hsa := zsend_ag (A' := s'.1) (q' := s'.2) h
          rw [if_neg h1', hq', e1 _ _ h1' hq', if_neg (by rw [zhears_ag hsa]; exact hh)]
          exact ⟨(if_pos hbl).symm, x5 _ _ hsa⟩
      · have e1 : ∀ A' q', ¬ A' 32 0 a = 0 → q' (6 + a) = (e, kk, v) :: t → zdow pf a b hb cb A' q' = (A', q') := fun A' q' h h' => by unfold zdow; rw [if_neg h, h']; dsimp only; rw [if_neg hbl]
        dsimp only
        rw [e1 A q h1 hq, if_neg h1, hq]
        dsimp only
        rw [if_neg hbl]
        refine ⟨h6, by simp, fun _ _ _ _ _ => rfl, fun _ _ => rfl, fun s' h6' h => ?_⟩
        have h1' : ¬ s'.1 32 0 a = 0 := by rw [← h.1 _ _ p32a]; exact h1
        have hq' : s'.2 (6 + a) = (e, kk, v) :: t := (h.2 (6 + a) (Or.inr (Or.inr (Or.inl rfl)))).symm.trans hq
        rw [if_neg h1', hq', e1 _ _ h1' hq']
        exact ⟨(if_neg hbl).symm, h⟩
