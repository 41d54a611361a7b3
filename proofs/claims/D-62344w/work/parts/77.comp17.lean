/-! THE COMPONENT: place -/
theorem zplan_noneA {c S h a : Nat} {f : Nat → Int32} {x : Nat → Nat} {D E P : List Nat} {T : Nat → Nat} (hA : zQA S h D (fun _ => 0) P T) (e : zord c x 6 0 = D ++ a :: E) (hn : zafr S T = none) : zplan c S h f x = none := by
  unfold zplan
  rw [e, hA.req]
  show (match (match zafr S T with | none => none | some s => zreqA S h E (zputA h s a T)) with | none => none | some T => _) = _
  rw [hn]
theorem zplan_noneL {c S h k : Nat} {f : Nat → Int32} {x : Nat → Nat} {D E PA PL : List Nat} {T1 T : Nat → Nat} (hA : zQA S h (zord c x 6 0) (fun _ => 0) PA T1) (hL : zQL S h D T1 PL T) (e : (zord c x 5 1).flatMap (zlks c f x) = D ++ k :: E) (hn : zlfr S h T k = none) : zplan c S h f x = none := by
  unfold zplan
  have h1 := hA.req (E := [])
  rw [List.append_nil] at h1
  rw [h1]
  show zreqL S h ((zord c x 5 1).flatMap (zlks c f x)) T1 = none
  rw [e, hL.req]
  show (match zlfr S h T k with | none => none | some s => _) = _
  rw [hn]
def zPS (g : zG) (S h : Nat) (I0 I2 : zI) (T : Nat → Nat) (P : List Nat) : Prop := zBT g.2.2.2 h S T I2 ∧ I2 0 0 21 = nI P.length ∧ (∀ j v : Nat, P[j]? = some v → I2 21 0 j = nI v) ∧ zKq I0 I2
theorem zPS.add {g : zG} {S h pl : Nat} {I0 I2 I3 : zI} {T T2 : Nat → Nat} {P : List Nat} (hp : zPS g S h I0 I2 T P) (hB : zBT g.2.2.2 h S T2 I3) (hd : zPd I2 I3 P.length pl) : zPS g S h I0 I3 T2 (P ++ [pl]) := by
  obtain ⟨a1, a2, a3, a4⟩ := hp
  obtain ⟨d1, d2, d3, d4⟩ := hd
  refine ⟨hB, by rw [d1, List.length_append]; rfl, fun j v hj => ?_, a4.tr d4⟩
  rcases Nat.lt_or_ge j P.length with hl | hl
  · rw [List.getElem?_append_left hl] at hj
    rw [d3 j hl]
    exact a3 j v hj
  · rw [List.getElem?_append_right hl] at hj
    have h1 := (List.getElem?_eq_some_iff.mp hj).1
    simp at h1
    have e : j = P.length := by omega
    subst e
    simp at hj
    rw [d2, hj]
theorem c_SM_place (l : Launch) (g : zG) {S h n : Nat} {I : zI} {J : zJ} {R : zR} (hW : zW g S h n I R) (f : Nat → Int32) (x : Nat → Nat) (hL : zLs g.2.2.2 f x) (hsy : zsym g.2.2.2 f) (h18 : ∀ j v : Nat, (zord g.2.2.2 x g.2.2.2 0)[j]? = some v → I 18 0 j = nI v) (h16 : ∀ v, v < g.2.2.2 → I 16 0 v = zo1 (zpl g.2.2.2 f x g.2.2.2 v)[0]? ∧ I 17 0 v = zo1 (zpl g.2.2.2 f x g.2.2.2 v)[1]?) : zMet l g y_SM_place b_SM_place 4 (some .boolean) 2 49 0 0 (zPc g [.ref (zad g 0 0)] n I J R) (zQi g (fun r u => ∃ I2, u = (n, I2, J, R) ∧ zKq I I2 ∧ ((r = nI 1 ∧ ∃ T1 T2 PA PL, zQA S h (zord g.2.2.2 x g.2.2.2 0) (fun _ => 0) PA T1 ∧ zQL S h ((zord g.2.2.2 x 5 1).flatMap (zlks g.2.2.2 f x)) T1 PL T2 ∧ zPS g S h I I2 T2 (PA ++ PL)) ∨ (r = nI 0 ∧ zplan g.2.2.2 S h f x = none)))) := by
  have hc := hW.2.1.2
  have h2c := hW.2.1.1
  have hS := hW.2.2.1
  have hh := hW.2.2.2.1
  have hWW := hW
  obtain ⟨ehd, e6⟩ := zord_hd hW.2.1 hL
  have hol := zord_len (fun a ha => (hL a ha).1)
  refine zMet.of (by decide) [some (.ref (zad g 0 0)), none, none, none] rfl (Nat.le_of_ble_eq_true rfl) ?_
  intro pP eE sS mM aA bB mE cC X hret hnm
  have X : zC pP sS mM aA mE cC b_SM_place "SlottedMesh" 4 g := X
  have hret : mE.sig.returnType = (some .boolean) := hret
  -- no place
  have fail64 : ∀ (I2 : zI) (k : Nat) (v3 : Option Value), zKq I I2 → zplan g.2.2.2 S h f x = none → zV pP l eE (zrm 2 49 0 0) sS mM aA bB mE cC g 4 (MQ bB (zQi g (fun r u => ∃ I2, u = (n, I2, J, R) ∧ zKq I I2 ∧ ((r = nI 1 ∧ ∃ T1 T2 PA PL, zQA S h (zord g.2.2.2 x g.2.2.2 0) (fun _ => 0) PA T1 ∧ zQL S h ((zord g.2.2.2 x 5 1).flatMap (zlks g.2.2.2 f x)) T1 PL T2 ∧ zPS g S h I I2 T2 (PA ++ PL)) ∨ (r = nI 0 ∧ zplan g.2.2.2 S h f x = none)))) aA sS 0 0 (zA g)) 0 0 64 [some (.ref (zad g 0 0)), some (.int (nI 0)), some (.int (nI k)), none] [] n I2 J R := by
    intro I2 k v3 hK hn
    have hW := hK.W hWW
    refine z_iload_n X d_SM_place_64 rfl ?_
    refine z_aload_n X d_SM_place_65 rfl ?_
    refine gf_SM_104 X (zo_s rfl hW.1) d_SM_place_66 ?_
    refine z_top (congrArg Value.int (hW.2.2.2.2.2.1)) ?_
    refine z_icmp_ge (tgt := 147) X d_SM_place_69 (by decide) (fun h69 => ?_) (fun h69 => ?_)
    · refine z_iload_n X d_SM_place_147 rfl ?_
      exact z_iret X hret rfl (Nat.zero_le _) (Nat.zero_le _) ⟨I2, rfl, hK, Or.inr ⟨rfl, hn⟩⟩ d_SM_place_148
    · refine z_iload_n X d_SM_place_72 rfl ?_
      refine z_if_eq (tgt := 147) X d_SM_place_73 (by decide) (fun _ => ?_) (fun hq => absurd hq (by decide))
      refine z_iload_n X d_SM_place_147 rfl ?_
      exact z_iret X hret rfl (Nat.zero_le _) (Nat.zero_le _) ⟨I2, rfl, hK, Or.inr ⟨rfl, hn⟩⟩ d_SM_place_148
  have fail39 : ∀ (I2 : zI) (k : Nat), zKq I I2 → zplan g.2.2.2 S h f x = none → zV pP l eE (zrm 2 49 0 0) sS mM aA bB mE cC g 4 (MQ bB (zQi g (fun r u => ∃ I2, u = (n, I2, J, R) ∧ zKq I I2 ∧ ((r = nI 1 ∧ ∃ T1 T2 PA PL, zQA S h (zord g.2.2.2 x g.2.2.2 0) (fun _ => 0) PA T1 ∧ zQL S h ((zord g.2.2.2 x 5 1).flatMap (zlks g.2.2.2 f x)) T1 PL T2 ∧ zPS g S h I I2 T2 (PA ++ PL)) ∨ (r = nI 0 ∧ zplan g.2.2.2 S h f x = none)))) aA sS 0 0 (zA g)) 0 0 39 [some (.ref (zad g 0 0)), some (.int (nI 0)), some (.int (nI k)), none] [] n I2 J R := by
    intro I2 k hK hn
    have hW := hK.W hWW
    refine z_iload_n X d_SM_place_39 rfl ?_
    refine z_aload_n X d_SM_place_40 rfl ?_
    refine gf_SM_104 X (zo_s rfl hW.1) d_SM_place_41 ?_
    refine z_top (congrArg Value.int (hW.2.2.2.2.2.1)) ?_
    refine z_icmp_ge (tgt := 62) X d_SM_place_44 (by decide) (fun h44 => ?_) (fun h44 => ?_)
    · refine z_iconst (v := nI 1) X d_SM_place_62 rfl ?_
      refine z_istore_n X d_SM_place_63 (by decide) rfl ?_
      exact fail64 I2 1 none hK hn
    · refine z_iload_n X d_SM_place_47 rfl ?_
      refine z_if_eq (tgt := 62) X d_SM_place_48 (by decide) (fun _ => ?_) (fun hq => absurd hq (by decide))
      refine z_iconst (v := nI 1) X d_SM_place_62 rfl ?_
      refine z_istore_n X d_SM_place_63 (by decide) rfl ?_
      exact fail64 I2 1 none hK hn
  -- links
  have LNK : ∀ (PA : List Nat) (T1 : Nat → Nat), zQA S h (zord g.2.2.2 x g.2.2.2 0) (fun _ => 0) PA T1 → ∀ (N2 N1 PL : List Nat) (T : Nat → Nat) (I2 : zI), zord g.2.2.2 x 5 1 = N1 ++ N2 → zQL S h (N1.flatMap (zlks g.2.2.2 f x)) T1 PL T → PL.length ≤ 3 * N1.length → zPS g S h I I2 T (PA ++ PL) → zV pP l eE (zrm 2 49 0 0) sS mM aA bB mE cC g 4 (MQ bB (zQi g (fun r u => ∃ I2, u = (n, I2, J, R) ∧ zKq I I2 ∧ ((r = nI 1 ∧ ∃ T1 T2 PA PL, zQA S h (zord g.2.2.2 x g.2.2.2 0) (fun _ => 0) PA T1 ∧ zQL S h ((zord g.2.2.2 x 5 1).flatMap (zlks g.2.2.2 f x)) T1 PL T2 ∧ zPS g S h I I2 T2 (PA ++ PL)) ∨ (r = nI 0 ∧ zplan g.2.2.2 S h f x = none)))) aA sS 0 0 (zA g)) 0 0 64 [some (.ref (zad g 0 0)), some (.int (nI 1)), some (.int (nI (N1.length + 1))), none] [] n I2 J R := by
    intro PA T1 hQA N2
    have hpa := hQA.len
    rw [hol] at hpa
    have hnl : (zord g.2.2.2 x 5 1).length + 1 = g.2.2.2 := by have h9 := congrArg List.length ehd; rw [hol, List.length_cons] at h9; omega
    induction N2 with
    | nil =>
      intro N1 PL T I2 hN hQ hlen hP
      have hW := hP.2.2.2.W hWW
      rw [List.append_nil] at hN
      have hk : N1.length + 1 = g.2.2.2 := by rw [← hN]; exact hnl
      refine z_iload_n X d_SM_place_64 rfl ?_
      refine z_aload_n X d_SM_place_65 rfl ?_
      refine gf_SM_104 X (zo_s rfl hW.1) d_SM_place_66 ?_
      refine z_top (congrArg Value.int (hW.2.2.2.2.2.1)) ?_
      refine z_icmp_ge (tgt := 147) X d_SM_place_69 (by decide) (fun _ => ?_) (fun hq => absurd hq (fun z => z (nI_le (by omega) (by omega))))
      refine z_iload_n X d_SM_place_147 rfl ?_
      exact z_iret X hret rfl (Nat.zero_le _) (Nat.zero_le _) ⟨I2, rfl, hP.2.2.2, Or.inl ⟨rfl, T1, T, PA, PL, hQA, by rw [hN]; exact hQ, hP⟩⟩ d_SM_place_148
    | cons v N2 ih =>
      intro N1 PL T I2 hN hQ hlen hP
      have hW := hP.2.2.2.W hWW
      have hK := hP.2.2.2
      have hl1 : N1.length + 1 + N2.length + 1 = g.2.2.2 := by rw [← hnl, hN]; simp; omega
      have hvm : v ∈ zord g.2.2.2 x 5 1 := by rw [hN]; simp
      obtain ⟨hvc, hv1, hv2⟩ := zord_mem.mp hvm
      have hov : I2 18 0 (N1.length + 1) = nI v := (hK 18 0 _ (by decide) (by decide) (by decide) (fun z => by cases z.1)).trans (h18 _ v (by rw [ehd, List.getElem?_cons_succ, hN, List.getElem?_append_right (Nat.le_refl _)]; simp))
      obtain ⟨u0, hu0, hum⟩ := zpl_ne hL hsy hvc (by omega)
      have h16v : ∀ {I3 : zI}, zKq I I3 → I3 16 0 v = zo1 (zpl g.2.2.2 f x g.2.2.2 v)[0]? ∧ I3 17 0 v = zo1 (zpl g.2.2.2 f x g.2.2.2 v)[1]? := fun hK3 => ⟨(hK3 16 0 v (by decide) (by decide) (by decide) (fun z => by cases z.1)).trans (h16 v hvc).1, (hK3 17 0 v (by decide) (by decide) (by decide) (fun z => by cases z.1)).trans (h16 v hvc).2⟩
      have hlt : ∀ u, u ∈ zpl g.2.2.2 f x g.2.2.2 v → u < g.2.2.2 ∧ v ≠ u := fun u hu => ⟨(zpl_mem2 hu).1, fun e => by have := (zpl_mem2 hu).2; rw [e] at this; omega⟩
      have hfm : ∀ (E : List Nat), (zord g.2.2.2 x 5 1).flatMap (zlks g.2.2.2 f x) = N1.flatMap (zlks g.2.2.2 f x) ++ (zlks g.2.2.2 f x v ++ N2.flatMap (zlks g.2.2.2 f x)) := fun _ => by rw [hN, List.flatMap_append, List.flatMap_cons]
      have good : ∀ (PL3 : List Nat) (T3 : Nat → Nat) (I3 : zI), zQL S h (N1.flatMap (zlks g.2.2.2 f x) ++ zlks g.2.2.2 f x v) T1 PL3 T3 → PL3.length ≤ PL.length + 3 → zPS g S h I I3 T3 (PA ++ PL3) → zV pP l eE (zrm 2 49 0 0) sS mM aA bB mE cC g 4 (MQ bB (zQi g (fun r u => ∃ I2, u = (n, I2, J, R) ∧ zKq I I2 ∧ ((r = nI 1 ∧ ∃ T1 T2 PA PL, zQA S h (zord g.2.2.2 x g.2.2.2 0) (fun _ => 0) PA T1 ∧ zQL S h ((zord g.2.2.2 x 5 1).flatMap (zlks g.2.2.2 f x)) T1 PL T2 ∧ zPS g S h I I2 T2 (PA ++ PL)) ∨ (r = nI 0 ∧ zplan g.2.2.2 S h f x = none)))) aA sS 0 0 (zA g)) 0 0 64 [some (.ref (zad g 0 0)), some (.int (nI 1)), some (.int (nI (N1.length + 1 + 1))), none] [] n I3 J R := fun PL3 T3 I3 q1 q2 q3 => by
        have := ih (N1 ++ [v]) PL3 T3 I3 (by rw [hN]; simp) (by rw [List.flatMap_append]; simpa using q1) (by simp; omega) q3
        rw [List.length_append] at this
        exact this
      have e6' : zQA S h (zord g.2.2.2 x 6 0) (fun _ => 0) PA T1 := by rw [e6]; exact hQA
      refine z_iload_n X d_SM_place_64 rfl ?_
      refine z_aload_n X d_SM_place_65 rfl ?_
      refine gf_SM_104 X (zo_s rfl hW.1) d_SM_place_66 ?_
      refine z_top (congrArg Value.int (hW.2.2.2.2.2.1)) ?_
      refine z_icmp_ge (tgt := 147) X d_SM_place_69 (by decide) (fun hq => absurd hq (nI_ge (by omega) (by omega))) (fun _ => ?_)
      refine z_iload_n X d_SM_place_72 rfl ?_
      refine z_if_eq (tgt := 147) X d_SM_place_73 (by decide) (fun hq => absurd hq (by decide)) (fun _ => ?_)
      refine z_aload_n X d_SM_place_76 rfl ?_
      refine gr_SM_63 (hW.c (k := 0) (f := 17) rfl rfl (by decide) rfl) X (zo_s rfl hW.1) d_SM_place_77 ?_
      refine z_iload_n X d_SM_place_80 rfl ?_
      refine al_18 (j := (N1.length + 1)) X (zo_s rfl hW.1) rfl (by omega) d_SM_place_81 ?_
      refine z_top (v2 := .int (nI v)) (congrArg Value.int hov) ?_
      refine z_istore_n X d_SM_place_82 (by decide) rfl ?_
      refine z_aload_n X d_SM_place_83 rfl ?_
      refine z_iload_n X d_SM_place_84 rfl ?_
      refine z_aload_n X d_SM_place_85 rfl ?_
      refine gr_SM_57 (hW.c (k := 0) (f := 15) rfl rfl (by decide) rfl) X (zo_s rfl hW.1) d_SM_place_86 ?_
      refine z_iload_n X d_SM_place_89 rfl ?_
      cases hzp : zpl g.2.2.2 f x g.2.2.2 v with
      | nil => rw [hzp] at hum; cases hum
      | cons p rest =>
        have hp := hlt p (by rw [hzp]; exact List.mem_cons_self)
        have l1 : zlc g.2.2.2 (200 + 10 * v + p) v p := ⟨hvc, hp.1, hp.2, Or.inl rfl⟩
        have l3 : zlc g.2.2.2 (300 + 10 * p + v) p v := ⟨hp.1, hvc, fun e => hp.2 e.symm, Or.inr rfl⟩
        have f16 : ∀ {I3 : zI}, zKq I I3 → I3 16 0 v = nI p := fun hK3 => by rw [(h16v hK3).1, hzp]; rfl
        have hkl : ∃ mid, zlks g.2.2.2 f x v = (200 + 10 * v + p) :: (mid ++ [300 + 10 * p + v]) := by
          unfold zlks
          rw [hzp]
          cases rest with
          | nil => exact ⟨[], rfl⟩
          | cons q r2 => exact ⟨[200 + 10 * v + q], rfl⟩
        refine al_16 X (zo_s rfl hW.1) rfl (by omega) d_SM_place_90 ?_
        refine z_top (v2 := .int (nI p)) (congrArg Value.int (f16 hK)) ?_
        refine z_ci (z_rV X cs_SM_183 rfl rfl (zo_s rfl hW.1).1 (zo_s rfl hW.1).2 (c_SM_placeLink l g hW T hP.1 (PA ++ PL).length (by rw [List.length_append]; omega) hP.2.1 (200 + 10 * v + p) v p l1) ⟨Nat.le_of_ble_eq_true rfl, Nat.le_of_ble_eq_true rfl⟩ rfl rfl (Nat.le_of_ble_eq_true rfl) ⟨Nat.le_of_ble_eq_true rfl, Nat.le_of_ble_eq_true rfl⟩ d_SM_place_91) (fun r n3 I3 J3 R3 h9 => ?_)
        rcases h9 with ⟨s, ch, z1, z2, z3, z4, rfl, Ix, ex, z5, z6⟩ | ⟨z1, rfl, ex⟩
        · cases ex
          have hP3 := hP.add z5 z6
          rw [List.append_assoc] at hP3
          have hQ3 := hQ.snoc z1 z2
          have hW := hP3.2.2.2.W hWW
          -- the last link
          have last : ∀ (D PL4 : List Nat) (T4 : Nat → Nat) (I4 : zI), zQL S h D T1 PL4 T4 → D ++ [300 + 10 * p + v] = N1.flatMap (zlks g.2.2.2 f x) ++ zlks g.2.2.2 f x v → PL4.length ≤ PL.length + 2 → zPS g S h I I4 T4 (PA ++ PL4) → zV pP l eE (zrm 2 49 0 0) sS mM aA bB mE cC g 4 (MQ bB (zQi g (fun r u => ∃ I2, u = (n, I2, J, R) ∧ zKq I I2 ∧ ((r = nI 1 ∧ ∃ T1 T2 PA PL, zQA S h (zord g.2.2.2 x g.2.2.2 0) (fun _ => 0) PA T1 ∧ zQL S h ((zord g.2.2.2 x 5 1).flatMap (zlks g.2.2.2 f x)) T1 PL T2 ∧ zPS g S h I I2 T2 (PA ++ PL)) ∨ (r = nI 0 ∧ zplan g.2.2.2 S h f x = none)))) aA sS 0 0 (zA g)) 0 0 121 [some (.ref (zad g 0 0)), some (.int (nI 1)), some (.int (nI (N1.length + 1))), some (.int (nI v))] [] n I4 J R := by
            intro D PL4 T4 I4 q1 q2 q3 q4
            have hW := q4.2.2.2.W hWW
            refine z_aload_n X d_SM_place_121 rfl ?_
            refine z_aload_n X d_SM_place_122 rfl ?_
            refine gr_SM_57 (hW.c (k := 0) (f := 15) rfl rfl (by decide) rfl) X (zo_s rfl hW.1) d_SM_place_123 ?_
            refine z_iload_n X d_SM_place_126 rfl ?_
            refine al_16 X (zo_s rfl hW.1) rfl (by omega) d_SM_place_127 ?_
            refine z_top (v2 := .int (nI p)) (congrArg Value.int (f16 q4.2.2.2)) ?_
            refine z_iload_n X d_SM_place_128 rfl ?_
            refine z_ci (z_rV X cs_SM_183 rfl rfl (zo_s rfl hW.1).1 (zo_s rfl hW.1).2 (c_SM_placeLink l g hW T4 q4.1 (PA ++ PL4).length (by rw [List.length_append]; omega) q4.2.1 (300 + 10 * p + v) p v l3) ⟨Nat.le_of_ble_eq_true rfl, Nat.le_of_ble_eq_true rfl⟩ rfl rfl (Nat.le_of_ble_eq_true rfl) ⟨Nat.le_of_ble_eq_true rfl, Nat.le_of_ble_eq_true rfl⟩ d_SM_place_129) (fun r n5 I5 J5 R5 h8 => ?_)
            rcases h8 with ⟨s, ch, y1, y2, y3, y4, rfl, Ix, ex, y5, y6⟩ | ⟨y1, rfl, ex⟩
            · cases ex
              have hP5 := q4.add y5 y6
              rw [List.append_assoc] at hP5
              have hQ5 := q1.snoc y1 y2
              rw [q2] at hQ5
              refine z_if_eq (tgt := 139) X d_SM_place_132 (by decide) (fun hq => absurd hq (by decide)) (fun _ => ?_)
              refine z_iconst (v := nI 1) X d_SM_place_135 rfl ?_
              refine z_goto (tgt := 140) X d_SM_place_136 (by decide) ?_
              refine z_istore_n X d_SM_place_140 (by decide) rfl ?_
              refine z_iinc X d_SM_place_141 rfl (zinc _) (by decide) rfl ?_
              refine z_goto (tgt := 64) X d_SM_place_144 (by decide) ?_
              refine z_wk (ls2 := [some (.ref (zad g 0 0)), some (.int (nI 1)), some (.int (nI (N1.length + 1 + 1))), none]) ⟨rfl, rfl, rfl, trivial⟩ ?_
              exact good _ _ _ hQ5 (by simp; omega) hP5
            · cases ex
              refine z_if_eq (tgt := 139) X d_SM_place_132 (by decide) (fun _ => ?_) (fun hq => absurd hq (by decide))
              refine z_iconst (v := nI 0) X d_SM_place_139 rfl ?_
              refine z_istore_n X d_SM_place_140 (by decide) rfl ?_
              refine z_iinc X d_SM_place_141 rfl (zinc _) (by decide) rfl ?_
              refine z_goto (tgt := 64) X d_SM_place_144 (by decide) ?_
              refine z_wk (ls2 := [some (.ref (zad g 0 0)), some (.int (nI 0)), some (.int (nI (N1.length + 1 + 1))), none]) ⟨rfl, rfl, rfl, trivial⟩ ?_
              refine fail64 _ _ none q4.2.2.2 (zplan_noneL e6' q1 (E := N2.flatMap (zlks g.2.2.2 f x)) ?_ y1)
              rw [hfm [], ← List.append_assoc, ← q2, List.append_assoc]
              rfl
          refine z_if_eq (tgt := 139) X d_SM_place_94 (by decide) (fun hq => absurd hq (by decide)) (fun _ => ?_)
          refine z_aload_n X d_SM_place_97 rfl ?_
          refine gr_SM_60 (hW.c (k := 0) (f := 16) rfl rfl (by decide) rfl) X (zo_s rfl hW.1) d_SM_place_98 ?_
          refine z_iload_n X d_SM_place_101 rfl ?_
          cases rest with
          | nil =>
            have ek : zlks g.2.2.2 f x v = [200 + 10 * v + p, 300 + 10 * p + v] := by unfold zlks; rw [hzp]
            refine al_17 X (zo_s rfl hW.1) rfl (by omega) d_SM_place_102 ?_
            refine z_top (v2 := .int (-1)) (congrArg Value.int (by rw [(h16v hP3.2.2.2).2, hzp]; rfl)) ?_
            refine z_iconst (v := -1) X d_SM_place_103 rfl ?_
            refine z_icmp_eq (tgt := 121) X d_SM_place_104 (by decide) (fun _ => ?_) (fun hq => absurd hq (fun z => z rfl))
            exact last _ _ _ _ hQ3 (by rw [ek]; simp) (by simp) hP3
          | cons q r2 =>
            have ek : zlks g.2.2.2 f x v = [200 + 10 * v + p, 200 + 10 * v + q, 300 + 10 * p + v] := by unfold zlks; rw [hzp]
            have hq := hlt q (by rw [hzp]; simp)
            have hqm : ¬ nI q = -1 := by rcases (show q = 0 ∨ q = 1 ∨ q = 2 ∨ q = 3 ∨ q = 4 ∨ q = 5 by have := hq.1; omega) with e | e | e | e | e | e <;> rw [e] <;> decide
            have f17 : I3 17 0 v = nI q := by rw [(h16v hP3.2.2.2).2, hzp]; rfl
            refine al_17 X (zo_s rfl hW.1) rfl (by omega) d_SM_place_102 ?_
            refine z_top (v2 := .int (nI q)) (congrArg Value.int f17) ?_
            refine z_iconst (v := -1) X d_SM_place_103 rfl ?_
            refine z_icmp_eq (tgt := 121) X d_SM_place_104 (by decide) (fun hq => absurd hq hqm) (fun _ => ?_)
            refine z_aload_n X d_SM_place_107 rfl ?_
            refine z_iload_n X d_SM_place_108 rfl ?_
            refine z_aload_n X d_SM_place_109 rfl ?_
            refine gr_SM_60 (hW.c (k := 0) (f := 16) rfl rfl (by decide) rfl) X (zo_s rfl hW.1) d_SM_place_110 ?_
            refine z_iload_n X d_SM_place_113 rfl ?_
            refine al_17 X (zo_s rfl hW.1) rfl (by omega) d_SM_place_114 ?_
            refine z_top (v2 := .int (nI q)) (congrArg Value.int f17) ?_
            refine z_ci (z_rV X cs_SM_183 rfl rfl (zo_s rfl hW.1).1 (zo_s rfl hW.1).2 (c_SM_placeLink l g hW _ hP3.1 _ (by simp; omega) hP3.2.1 (200 + 10 * v + q) v q ⟨hvc, hq.1, hq.2, Or.inl rfl⟩) ⟨Nat.le_of_ble_eq_true rfl, Nat.le_of_ble_eq_true rfl⟩ rfl rfl (Nat.le_of_ble_eq_true rfl) ⟨Nat.le_of_ble_eq_true rfl, Nat.le_of_ble_eq_true rfl⟩ d_SM_place_115) (fun r n5 I5 J5 R5 h8 => ?_)
            rcases h8 with ⟨s2, ch2, y1, y2, y3, y4, rfl, Ix, ex, y5, y6⟩ | ⟨y1, rfl, ex⟩
            · cases ex
              have hP5 := hP3.add y5 y6
              rw [List.append_assoc] at hP5
              have hQ5 := hQ3.snoc y1 y2
              refine z_if_eq (tgt := 139) X d_SM_place_118 (by decide) (fun hq => absurd hq (by decide)) (fun _ => ?_)
              exact last _ _ _ _ hQ5 (by rw [ek]; simp) (by simp) hP5
            · cases ex
              refine z_if_eq (tgt := 139) X d_SM_place_118 (by decide) (fun _ => ?_) (fun hq => absurd hq (by decide))
              refine z_iconst (v := nI 0) X d_SM_place_139 rfl ?_
              refine z_istore_n X d_SM_place_140 (by decide) rfl ?_
              refine z_iinc X d_SM_place_141 rfl (zinc _) (by decide) rfl ?_
              refine z_goto (tgt := 64) X d_SM_place_144 (by decide) ?_
              refine z_wk (ls2 := [some (.ref (zad g 0 0)), some (.int (nI 0)), some (.int (nI (N1.length + 1 + 1))), none]) ⟨rfl, rfl, rfl, trivial⟩ ?_
              refine fail64 _ _ none hP3.2.2.2 (zplan_noneL e6' hQ3 (E := (300 + 10 * p + v) :: N2.flatMap (zlks g.2.2.2 f x)) ?_ y1)
              rw [hfm [], ek]
              simp
        · cases ex
          obtain ⟨mid, hkl⟩ := hkl
          refine z_if_eq (tgt := 139) X d_SM_place_94 (by decide) (fun _ => ?_) (fun hq => absurd hq (by decide))
          refine z_iconst (v := nI 0) X d_SM_place_139 rfl ?_
          refine z_istore_n X d_SM_place_140 (by decide) rfl ?_
          refine z_iinc X d_SM_place_141 rfl (zinc _) (by decide) rfl ?_
          refine z_goto (tgt := 64) X d_SM_place_144 (by decide) ?_
          refine z_wk (ls2 := [some (.ref (zad g 0 0)), some (.int (nI 0)), some (.int (nI (N1.length + 1 + 1))), none]) ⟨rfl, rfl, rfl, trivial⟩ ?_
          refine fail64 _ _ none hK (zplan_noneL e6' hQ (E := mid ++ [300 + 10 * p + v] ++ N2.flatMap (zlks g.2.2.2 f x)) ?_ z1)
          rw [hfm [], hkl]
          simp
  -- adverts
  have ADV : ∀ (E D P : List Nat) (T : Nat → Nat) (I2 : zI), zord g.2.2.2 x g.2.2.2 0 = D ++ E → zQA S h D (fun _ => 0) P T → zPS g S h I I2 T P → zV pP l eE (zrm 2 49 0 0) sS mM aA bB mE cC g 4 (MQ bB (zQi g (fun r u => ∃ I2, u = (n, I2, J, R) ∧ zKq I I2 ∧ ((r = nI 1 ∧ ∃ T1 T2 PA PL, zQA S h (zord g.2.2.2 x g.2.2.2 0) (fun _ => 0) PA T1 ∧ zQL S h ((zord g.2.2.2 x 5 1).flatMap (zlks g.2.2.2 f x)) T1 PL T2 ∧ zPS g S h I I2 T2 (PA ++ PL)) ∨ (r = nI 0 ∧ zplan g.2.2.2 S h f x = none)))) aA sS 0 0 (zA g)) 0 0 39 [some (.ref (zad g 0 0)), some (.int (nI 1)), some (.int (nI D.length)), none] [] n I2 J R := by
    intro E
    induction E with
    | nil =>
      intro D P T I2 hE hQ hP
      have hW := hP.2.2.2.W hWW
      rw [List.append_nil] at hE
      have hk : D.length = g.2.2.2 := by rw [← hE]; exact hol
      refine z_iload_n X d_SM_place_39 rfl ?_
      refine z_aload_n X d_SM_place_40 rfl ?_
      refine gf_SM_104 X (zo_s rfl hW.1) d_SM_place_41 ?_
      refine z_top (congrArg Value.int (hW.2.2.2.2.2.1)) ?_
      refine z_icmp_ge (tgt := 62) X d_SM_place_44 (by decide) (fun _ => ?_) (fun hq => absurd hq (fun z => z (nI_le (by omega) (by omega))))
      refine z_iconst (v := nI 1) X d_SM_place_62 rfl ?_
      refine z_istore_n X d_SM_place_63 (by decide) rfl ?_
      exact LNK P T (by rw [hE]; exact hQ) (zord g.2.2.2 x 5 1) [] [] T I2 rfl ⟨rfl, rfl⟩ (Nat.le_refl _) (by rw [List.append_nil]; exact hP)
    | cons a E ih =>
      intro D P T I2 hE hQ hP
      have hW := hP.2.2.2.W hWW
      have hk : D.length + E.length + 1 = g.2.2.2 := by rw [← hol, hE]; simp; omega
      have hpl := hQ.len
      have hac : a < g.2.2.2 := (zord_mem.mp (by rw [hE]; simp : a ∈ zord g.2.2.2 x g.2.2.2 0)).1
      refine z_iload_n X d_SM_place_39 rfl ?_
      refine z_aload_n X d_SM_place_40 rfl ?_
      refine gf_SM_104 X (zo_s rfl hW.1) d_SM_place_41 ?_
      refine z_top (congrArg Value.int (hW.2.2.2.2.2.1)) ?_
      refine z_icmp_ge (tgt := 62) X d_SM_place_44 (by decide) (fun hq => absurd hq (nI_ge (by omega) (by omega))) (fun _ => ?_)
      refine z_iload_n X d_SM_place_47 rfl ?_
      refine z_if_eq (tgt := 62) X d_SM_place_48 (by decide) (fun hq => absurd hq (by decide)) (fun _ => ?_)
      refine z_aload_n X d_SM_place_51 rfl ?_
      refine z_ci (z_rV X cs_SM_179 rfl rfl (zo_s rfl hW.1).1 (zo_s rfl hW.1).2 (c_SM_placeAdvert l g hW T hP.1 P.length (by omega) hP.2.1 a hac) ⟨Nat.le_of_ble_eq_true rfl, Nat.le_of_ble_eq_true rfl⟩ rfl rfl (Nat.le_of_ble_eq_true rfl) ⟨Nat.le_of_ble_eq_true rfl, Nat.le_of_ble_eq_true rfl⟩ d_SM_place_52) (fun r n3 I3 J3 R3 h9 => ?_)
      rcases h9 with ⟨s, z1, z2, rfl, Ix, ex, z5, z6⟩ | ⟨z1, rfl, ex⟩
      · cases ex
        refine z_istore_n X d_SM_place_55 (by decide) rfl ?_
        refine z_iinc X d_SM_place_56 rfl (zinc _) (by decide) rfl ?_
        refine z_goto (tgt := 39) X d_SM_place_59 (by decide) ?_
        have := ih (D ++ [a]) (P ++ [16 * s]) _ I3 (by rw [hE]; simp) (hQ.snoc z1) (hP.add z5 z6)
        rw [List.length_append] at this
        exact this
      · cases ex
        refine z_istore_n X d_SM_place_55 (by decide) rfl ?_
        refine z_iinc X d_SM_place_56 rfl (zinc _) (by decide) rfl ?_
        refine z_goto (tgt := 39) X d_SM_place_59 (by decide) ?_
        exact fail39 _ (D.length + 1) hP.2.2.2 (zplan_noneA hQ (by rw [e6, hE]) z1)
  -- the start
  have INI : ∀ (w s : Nat) (I2 : zI), s + w = S → I2 0 0 21 = nI 0 → zKq I I2 → (∀ s2, s2 < s → I2 19 0 s2 = nI 0 ∧ I2 20 0 s2 = nI 0) → zV pP l eE (zrm 2 49 0 0) sS mM aA bB mE cC g 4 (MQ bB (zQi g (fun r u => ∃ I2, u = (n, I2, J, R) ∧ zKq I I2 ∧ ((r = nI 1 ∧ ∃ T1 T2 PA PL, zQA S h (zord g.2.2.2 x g.2.2.2 0) (fun _ => 0) PA T1 ∧ zQL S h ((zord g.2.2.2 x 5 1).flatMap (zlks g.2.2.2 f x)) T1 PL T2 ∧ zPS g S h I I2 T2 (PA ++ PL)) ∨ (r = nI 0 ∧ zplan g.2.2.2 S h f x = none)))) aA sS 0 0 (zA g)) 0 0 7 [some (.ref (zad g 0 0)), some (.int (nI s)), none, none] [] n I2 J R := by
    intro w
    induction w with
    | zero =>
      intro s I2 hs h21 hK hz
      have hW := hK.W hWW
      have hs : s = S := by omega
      subst hs
      refine z_iload_n X d_SM_place_7 rfl ?_
      refine z_aload_n X d_SM_place_8 rfl ?_
      refine gf_SM_108 X (zo_s rfl hW.1) d_SM_place_9 ?_
      refine z_top (congrArg Value.int (hW.2.2.2.2.2.2.1)) ?_
      refine z_icmp_ge (tgt := 35) X d_SM_place_12 (by decide) (fun _ => ?_) (fun hq => absurd hq (fun z => z (Int32.le_refl _)))
      refine z_iconst (v := nI 1) X d_SM_place_35 rfl ?_
      refine z_istore_n X d_SM_place_36 (by decide) rfl ?_
      refine z_iconst (v := nI 0) X d_SM_place_37 rfl ?_
      refine z_istore_n X d_SM_place_38 (by decide) rfl ?_
      refine ADV (zord g.2.2.2 x g.2.2.2 0) [] [] (fun _ => 0) I2 rfl ⟨rfl, rfl⟩ ⟨fun s2 h2 => ?_, h21, fun j v hj => by simp at hj, hK⟩
      rw [(hz s2 h2).1, (hz s2 h2).2]
      exact zBu.new hh.1
    | succ w ih =>
      intro s I2 hs h21 hK hz
      have hW := hK.W hWW
      refine z_iload_n X d_SM_place_7 rfl ?_
      refine z_aload_n X d_SM_place_8 rfl ?_
      refine gf_SM_108 X (zo_s rfl hW.1) d_SM_place_9 ?_
      refine z_top (congrArg Value.int (hW.2.2.2.2.2.2.1)) ?_
      refine z_icmp_ge (tgt := 35) X d_SM_place_12 (by decide) (fun hq => absurd hq (nI_ge (by omega) (by omega))) (fun _ => ?_)
      refine z_aload_n X d_SM_place_15 rfl ?_
      refine gr_SM_66 (hW.c (k := 0) (f := 18) rfl rfl (by decide) rfl) X (zo_s rfl hW.1) d_SM_place_16 ?_
      refine z_iload_n X d_SM_place_19 rfl ?_
      refine z_iconst (v := nI 0) X d_SM_place_20 rfl ?_
      refine as_19 X (zo_s rfl hW.1) rfl (by omega) d_SM_place_21 ?_
      refine z_aload_n X d_SM_place_22 rfl ?_
      refine gr_SM_69 (hW.c (k := 0) (f := 19) rfl rfl (by decide) rfl) X (zo_s rfl hW.1) d_SM_place_23 ?_
      refine z_iload_n X d_SM_place_26 rfl ?_
      refine z_iconst (v := nI 0) X d_SM_place_27 rfl ?_
      refine as_20 X (zo_s rfl hW.1) rfl (by omega) d_SM_place_28 ?_
      refine z_iinc X d_SM_place_29 rfl (zinc _) (by decide) rfl ?_
      refine z_goto (tgt := 7) X d_SM_place_32 (by decide) ?_
      refine ih (s + 1) _ (by omega) h21 (hK.tr (fun k i j a b c d => (zu_k b).trans (zu_k a))) (fun s2 h2 => ?_)
      by_cases e : s2 = s
      · subst e; exact ⟨(zu_k (by decide)).trans zu_s, zu_s⟩
      · obtain ⟨b1, b2⟩ := hz s2 (by omega)
        exact ⟨(zu_k (by decide)).trans ((zu_j e).trans b1), (zu_j e).trans ((zu_k (by decide)).trans b2)⟩
  refine z_aload_n X d_SM_place_0 rfl ?_
  refine z_iconst (v := nI 0) X d_SM_place_1 rfl ?_
  refine pf_SM_166 X (zo_s rfl hW.1) d_SM_place_2 ?_
  refine z_iconst (v := nI 0) X d_SM_place_5 rfl ?_
  refine z_istore_n X d_SM_place_6 (by decide) rfl ?_
  exact INI S 0 _ (by omega) zu_s (fun k i j a b c d => zu_oth (fun e => d ⟨e.1, e.2.2⟩)) (fun s2 h2 => by omega)

