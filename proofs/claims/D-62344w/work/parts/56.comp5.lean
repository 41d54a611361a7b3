/-! THE COMPONENT'S LINKS: down -/
theorem dn_1 {g : zG} {n N : Nat} {I I2 : zI} {J : zJ} {R : zR} {fl : zfl} {A : zI} {q : zq} {a b e : Nat} {k v : Int32} (hC : zRC g.2.2.2 n N I2 R fl (zu A 33 0 b (A 33 0 a)) q) (h : k ≤ A 49 0 (36 + 6 * b + e)) (hI : zIk I I2) : nI 1 = (if (zdnR a b e k v A q).2 = true then nI 1 else nI 0) ∧ zSt g n N I J R (zdnR a b e k v A q).1.1 (zdnR a b e k v A q).1.2 (n, I2, J, R) := by
  have e1 : zdnR a b e k v A q = ((zu A 33 0 b (A 33 0 a), q), true) := if_pos h
  rw [e1]
  exact ⟨rfl, n, I2, R, fl, rfl, Nat.le_refl _, Nat.le_succ _, hC.N1, hI, zRk2.rf⟩
theorem dn_2 {g : zG} {n N : Nat} {I I2 : zI} {J : zJ} {R : zR} {fl : zfl} {A : zI} {q : zq} {a b e : Nat} {k v : Int32} (hC : zRC g.2.2.2 n N I2 R fl (zu A 33 0 b (A 33 0 a)) q) (h : A 49 0 (36 + 6 * b + e) < k) (hb : ¬ e = b) (h4 : ¬ (q (6 + b)).length < 4) (hI : zIk I I2) : nI 0 = (if (zdnR a b e k v A q).2 = true then nI 1 else nI 0) ∧ zSt g n N I J R (zdnR a b e k v A q).1.1 (zdnR a b e k v A q).1.2 (n, I2, J, R) := by
  have e1 : zdnR a b e k v A q = ((zu A 33 0 b (A 33 0 a), q), false) := by unfold zdnR; rw [if_neg (Int32.not_le.mpr h), if_neg hb, if_neg h4]
  rw [e1]
  exact ⟨rfl, n, I2, R, fl, rfl, Nat.le_refl _, Nat.le_succ _, hC.N1, hI, zRk2.rf⟩
theorem dn_3 {g : zG} {n N : Nat} {I I2 : zI} {J : zJ} {R : zR} {fl : zfl} {A : zI} {q : zq} {a b : Nat} {k v : Int32} (hC : zRC g.2.2.2 n N I2 R fl (zu (zu (zu A 33 0 b (A 33 0 a)) 49 0 (36 + 6 * b + b) k) 57 0 b v) q) (h : A 49 0 (36 + 6 * b + b) < k) (hI : zIk I I2) : nI 1 = (if (zdnR a b b k v A q).2 = true then nI 1 else nI 0) ∧ zSt g n N I J R (zdnR a b b k v A q).1.1 (zdnR a b b k v A q).1.2 (n, I2, J, R) := by
  have e1 : zdnR a b b k v A q = ((zu (zu (zu A 33 0 b (A 33 0 a)) 49 0 (36 + 6 * b + b) k) 57 0 b v, q), true) := by unfold zdnR; rw [if_neg (Int32.not_le.mpr h), if_pos rfl]
  rw [e1]
  exact ⟨rfl, n, I2, R, fl, rfl, Nat.le_refl _, Nat.le_succ _, hC.N1, hI, zRk2.rf⟩
theorem dn_4 {g : zG} {n N : Nat} {I : zI} {J : zJ} {R : zR} {A : zI} {q : zq} {a b e : Nat} {k v : Int32} {u : zS} (h : A 49 0 (36 + 6 * b + e) < k) (hb : ¬ e = b) (h4 : (q (6 + b)).length < 4) (hs : zSt g n N I J R (zu (zu A 33 0 b (A 33 0 a)) 49 0 (36 + 6 * b + e) k) (qu q (6 + b) (q (6 + b) ++ [(e, k, v)])) u) : nI 1 = (if (zdnR a b e k v A q).2 = true then nI 1 else nI 0) ∧ zSt g n N I J R (zdnR a b e k v A q).1.1 (zdnR a b e k v A q).1.2 u := by
  have e1 : zdnR a b e k v A q = ((zu (zu A 33 0 b (A 33 0 a)) 49 0 (36 + 6 * b + e) k, qu q (6 + b) (q (6 + b) ++ [(e, k, v)])), true) := by unfold zdnR; rw [if_neg (Int32.not_le.mpr h), if_neg hb, if_pos h4]
  rw [e1]
  exact ⟨rfl, hs⟩
theorem zco.tkd {c b s : Nat} (hr : zrv c (6 + b)) (hs : s < 6) : zco c 5 (6 + b) s 49 (36 + 6 * b + s) := by
  have := zco.tk hr hs
  rw [show 6 * (6 + b) + s = 36 + 6 * b + s by omega] at this
  exact this
theorem c_Down_arrives (l : Launch) (g : zG) {S h n N : Nat} {I : zI} {J : zJ} {R : zR} {fl : zfl} {A : zI} {q : zq} {f e : Nat} {k v : Int32} (hW : zW g S h n I R) (hC : zRC g.2.2.2 n N I R fl A q) {x a b : Nat} (hx : 16 ≤ x ∧ x < 21) (ha : a < g.2.2.2) (hb : b < g.2.2.2) (h0 : R 4 x 0 = some a) (h3 : R 4 x 3 = some b) (he : 1 ≤ e ∧ e < g.2.2.2) (hf : 78 + 6 * g.2.2.2 + f < n) (f0 : I 3 f 0 = nI e) (f1 : I 3 f 1 = k) (f2 : I 3 f 2 = v) : zMet l g y_Down_arrives b_Down_arrives 4 (some .boolean) 3 56 1 4 (zPc g [.ref (zad g 4 x), .ref (zad g 0 0), .ref (zad g 3 f)] n I J R) (zQi g (fun r u => r = (if (zdnR a b e k v A q).2 = true then nI 1 else nI 0) ∧ zSt g n N I J R (zdnR a b e k v A q).1.1 (zdnR a b e k v A q).1.2 u)) := by
  have hc := hW.2.1.2
  have he6 : e < 6 := by omega
  have hr : zrv g.2.2.2 (6 + b) := Or.inr ⟨by omega, by omega⟩
  have hid : I 1 b 0 = nI b := hW.2.2.2.2.2.2.2.2.1 b hb
  have hsz : I 2 (6 + b) 2 = nI (q (6 + b)).length := by rw [← hC.2.2.1.len hr]; exact (hC.2.2.1.1 (6 + b) hr).2.2.1
  have hl4 := (hC.2.2.2 (6 + b) hr).1
  have hl52 : ¬ nI (q (6 + b)).length = nI 4 → (q (6 + b)).length < 4 := fun z => by
    rcases Nat.lt_or_ge (q (6 + b)).length 4 with z2 | z2
    · exact z2
    · exact absurd (by rw [show (q (6 + b)).length = 4 by omega]) z
  have hC0 := hC.put (v := A 33 0 a) (zco.n hb (j := 3) (k' := 33) (by decide))
  have hC1 := hC0.put (v := k) (zco.tkd hr he6)
  have hC2 := hC1.put (v := v) (zco.n hb (j := 8) (k' := 57) (by decide))
  have hW1 : zW g S h n (zu (zu I 1 b 3 (A 33 0 a)) 5 (6 + b) e k) R := (hW.upI rfl).upI rfl
  refine zMet.of (by decide) [some (.ref (zad g 4 x)), some (.ref (zad g 0 0)), some (.ref (zad g 3 f)), none] rfl (Nat.le_of_ble_eq_true rfl) ?_
  intro pP eE sS mM aA bB mE cC X hret hnm
  have X : zC pP sS mM aA mE cC b_Down_arrives "SlottedMesh$Down" 4 g := X
  have hret : mE.sig.returnType = (some .boolean) := hret
  refine z_aload_n X d_Down_arrives_0 rfl ?_
  refine gr_Down_21 h3 X (zo_c hW.2.1.2 (by omega) hW.1) hx.1 d_Down_arrives_1 ?_
  refine z_aload_n X d_Down_arrives_4 rfl ?_
  refine gr_Down_9 h0 X (zo_c hW.2.1.2 (by omega) hW.1) hx.1 d_Down_arrives_5 ?_
  refine gf_Down_47 X (zo_n (by omega) hW.1) d_Down_arrives_8 ?_
  refine z_top (congrArg Value.int ((hC.1.nd ha).2.2.1)) ?_
  refine pf_Down_47 X (zo_n (by omega) hW.1) d_Down_arrives_11 ?_
  refine z_aload_n X d_Down_arrives_14 rfl ?_
  refine gf_Down_50 X (zo_f hf) d_Down_arrives_15 ?_
  refine z_top (v2 := .int k) (congrArg Value.int f1) ?_
  refine z_aload_n X d_Down_arrives_18 rfl ?_
  refine gr_Down_21 h3 X (zo_c hW.2.1.2 (by omega) hW.1) hx.1 d_Down_arrives_19 ?_
  refine gr_Down_53 (hW.up (by omega)).2.2.2 X (zo_n (by omega) hW.1) d_Down_arrives_22 ?_
  refine z_aload_n X d_Down_arrives_25 rfl ?_
  refine gf_Down_38 X (zo_f hf) d_Down_arrives_26 ?_
  refine z_top (v2 := .int (nI e)) (congrArg Value.int f0) ?_
  refine al_5 X (zo_t hr hW.1) rfl (by omega) d_Down_arrives_29 ?_
  refine z_top (v2 := .int (A 49 0 (36 + 6 * b + e))) (congrArg Value.int (hC.1 _ _ _ _ _ (zco.tkd hr he6))) ?_
  refine z_icmp_gt (tgt := 35) X d_Down_arrives_30 (by decide) (fun h30 => ?_) (fun h30 => ?_)
  · refine z_aload_n X d_Down_arrives_35 rfl ?_
    refine gf_Down_38 X (zo_f hf) d_Down_arrives_36 ?_
    refine z_top (v2 := .int (nI e)) (congrArg Value.int f0) ?_
    refine z_aload_n X d_Down_arrives_39 rfl ?_
    refine gr_Down_21 h3 X (zo_c hW.2.1.2 (by omega) hW.1) hx.1 d_Down_arrives_40 ?_
    refine gf_Down_15 X (zo_n (by omega) hW.1) d_Down_arrives_43 ?_
    refine z_top (v2 := .int (nI b)) (congrArg Value.int hid) ?_
    by_cases hb0 : e = b
    · subst hb0
      refine z_icmp_ne (tgt := 53) X d_Down_arrives_46 (by decide) (fun hq => absurd hq (fun z => z rfl)) (fun _ => ?_)
      refine z_iconst (v := nI 1) X d_Down_arrives_49 rfl ?_
      refine z_goto (tgt := 54) X d_Down_arrives_50 (by decide) ?_
      refine z_istore_n X d_Down_arrives_54 (by decide) rfl ?_
      refine z_iload_n X d_Down_arrives_55 rfl ?_
      refine z_if_ne (tgt := 75) X d_Down_arrives_56 (by decide) (fun _ => ?_) (fun hq => absurd hq (by decide))
      refine z_aload_n X d_Down_arrives_75 rfl ?_
      refine gr_Down_21 h3 X (zo_c hW.2.1.2 (by omega) hW.1) hx.1 d_Down_arrives_76 ?_
      refine gr_Down_53 (hW.up (by omega)).2.2.2 X (zo_n (by omega) hW.1) d_Down_arrives_79 ?_
      refine z_aload_n X d_Down_arrives_82 rfl ?_
      refine gf_Down_38 X (zo_f hf) d_Down_arrives_83 ?_
      refine z_top (v2 := .int (nI e)) (congrArg Value.int f0) ?_
      refine z_aload_n X d_Down_arrives_86 rfl ?_
      refine gf_Down_50 X (zo_f hf) d_Down_arrives_87 ?_
      refine z_top (v2 := .int k) (congrArg Value.int f1) ?_
      refine as_5 X (zo_t hr hW.1) rfl (by omega) d_Down_arrives_90 ?_
      refine z_iload_n X d_Down_arrives_91 rfl ?_
      refine z_if_eq (tgt := 109) X d_Down_arrives_92 (by decide) (fun hq => absurd hq (by decide)) (fun _ => ?_)
      refine z_aload_n X d_Down_arrives_95 rfl ?_
      refine gr_Down_21 h3 X (zo_c hW.2.1.2 (by omega) hW.1) hx.1 d_Down_arrives_96 ?_
      refine z_aload_n X d_Down_arrives_99 rfl ?_
      refine gf_Down_60 X (zo_f hf) d_Down_arrives_100 ?_
      refine z_top (v2 := .int v) (congrArg Value.int f2) ?_
      refine pf_Down_63 X (zo_n (by omega) hW.1) d_Down_arrives_103 ?_
      refine z_goto (tgt := 135) X d_Down_arrives_106 (by decide) ?_
      refine z_iconst (v := nI 1) X d_Down_arrives_135 rfl ?_
      exact z_iret X hret rfl (Nat.zero_le _) (Nat.zero_le _) (dn_3 hC2 h30 (((zIk.put rfl).tr (zIk.put rfl)).tr (zIk.put rfl))) d_Down_arrives_136
    · refine z_icmp_ne (tgt := 53) X d_Down_arrives_46 (by decide) (fun _ => ?_) (fun hq => absurd hq (fun z => hb0 (nI_inj (by omega) (by omega) z)))
      refine z_iconst (v := nI 0) X d_Down_arrives_53 rfl ?_
      refine z_istore_n X d_Down_arrives_54 (by decide) rfl ?_
      refine z_iload_n X d_Down_arrives_55 rfl ?_
      refine z_if_ne (tgt := 75) X d_Down_arrives_56 (by decide) (fun hq => absurd hq (by decide)) (fun _ => ?_)
      refine z_aload_n X d_Down_arrives_59 rfl ?_
      refine gr_Down_21 h3 X (zo_c hW.2.1.2 (by omega) hW.1) hx.1 d_Down_arrives_60 ?_
      refine gr_Down_24 (hW.up (by omega)).2.1 X (zo_n (by omega) hW.1) d_Down_arrives_63 ?_
      refine gf_Down_57 X (zo_r hr hW.1) d_Down_arrives_66 ?_
      refine z_top (v2 := .int (nI (q (6 + b)).length)) (congrArg Value.int hsz) ?_
      refine z_iconst (v := nI 4) X d_Down_arrives_69 rfl ?_
      refine z_icmp_ne (tgt := 75) X d_Down_arrives_70 (by decide) (fun h70 => ?_) (fun h70 => ?_)
      · refine z_aload_n X d_Down_arrives_75 rfl ?_
        refine gr_Down_21 h3 X (zo_c hW.2.1.2 (by omega) hW.1) hx.1 d_Down_arrives_76 ?_
        refine gr_Down_53 (hW.up (by omega)).2.2.2 X (zo_n (by omega) hW.1) d_Down_arrives_79 ?_
        refine z_aload_n X d_Down_arrives_82 rfl ?_
        refine gf_Down_38 X (zo_f hf) d_Down_arrives_83 ?_
        refine z_top (v2 := .int (nI e)) (congrArg Value.int f0) ?_
        refine z_aload_n X d_Down_arrives_86 rfl ?_
        refine gf_Down_50 X (zo_f hf) d_Down_arrives_87 ?_
        refine z_top (v2 := .int k) (congrArg Value.int f1) ?_
        refine as_5 X (zo_t hr hW.1) rfl (by omega) d_Down_arrives_90 ?_
        refine z_iload_n X d_Down_arrives_91 rfl ?_
        refine z_if_eq (tgt := 109) X d_Down_arrives_92 (by decide) (fun _ => ?_) (fun hq => absurd hq (by decide))
        refine z_aload_n X d_Down_arrives_109 rfl ?_
        refine gr_Down_21 h3 X (zo_c hW.2.1.2 (by omega) hW.1) hx.1 d_Down_arrives_110 ?_
        refine gr_Down_24 (hW.up (by omega)).2.1 X (zo_n (by omega) hW.1) d_Down_arrives_113 ?_
        refine z_aload_n X d_Down_arrives_116 rfl ?_
        refine z_aload_n X d_Down_arrives_117 rfl ?_
        refine gf_Down_38 X (zo_f hf) d_Down_arrives_118 ?_
        refine z_top (v2 := .int (nI e)) (congrArg Value.int f0) ?_
        refine z_aload_n X d_Down_arrives_121 rfl ?_
        refine gf_Down_50 X (zo_f hf) d_Down_arrives_122 ?_
        refine z_top (v2 := .int k) (congrArg Value.int f1) ?_
        refine z_aload_n X d_Down_arrives_125 rfl ?_
        refine gf_Down_60 X (zo_f hf) d_Down_arrives_126 ?_
        refine z_top (v2 := .int v) (congrArg Value.int f2) ?_
        refine z_cq (z_rN X cs_Down_66 rfl rfl (zo_s rfl hW.1).1 (zo_s rfl hW.1).2 (c_SM_frame l g hW1 (fun j hj => zo_f (hC.2.2.1.spare j hj)) _ _ _) ⟨Nat.le_of_ble_eq_true rfl, Nat.le_of_ble_eq_true rfl⟩ rfl rfl (Nat.le_of_ble_eq_true rfl) ⟨Nat.le_of_ble_eq_true rfl, Nat.le_of_ble_eq_true rfl⟩ d_Down_arrives_129) (fun r n1 I1 J1 R1 h9 => ?_)
        obtain ⟨f9, nx, Ix, Rx, fl1, rfl, e2, e3, e4, e5, e6, e7, e8, e9⟩ := zFr.push hc hC1 hr (hl52 h70) he h9
        cases e2
        refine z_cv (z_rV X cs_Down_70 rfl rfl (zo_r hr (Nat.le_trans hW.1 e3)).1 (zo_r hr (Nat.le_trans hW.1 e3)).2 (c_Row_add l g (zo_r hr (Nat.le_trans hW.1 e3)) (zo_f e7) (fun j hj => zo_f (e8 j hj))) ⟨Nat.le_of_ble_eq_true rfl, Nat.le_of_ble_eq_true rfl⟩ rfl rfl (Nat.le_of_ble_eq_true rfl) ⟨Nat.le_of_ble_eq_true rfl, Nat.le_of_ble_eq_true rfl⟩ d_Down_arrives_132) (fun n2 I2 J2 R2 h => ?_)
        cases h
        refine z_iconst (v := nI 1) X d_Down_arrives_135 rfl ?_
        exact z_iret X hret rfl (Nat.le_of_ble_eq_true rfl) (Nat.le_of_ble_eq_true rfl) (dn_4 h30 hb0 (hl52 h70) ⟨_, _, _, fl1, rfl, e3, e4, e9.N1, ((zIk.put rfl).tr (zIk.put rfl)).tr (e5.ik.tr zIf.sz.ik), e6.tr zRk2.add⟩) d_Down_arrives_136
      · refine z_iconst (v := nI 0) X d_Down_arrives_73 rfl ?_
        exact z_iret X hret rfl (Nat.zero_le _) (Nat.zero_le _) (dn_2 hC0 h30 hb0 (by have := nI_inj (by omega) (by omega) h70; omega) (zIk.put rfl)) d_Down_arrives_74
  · refine z_iconst (v := nI 1) X d_Down_arrives_33 rfl ?_
    exact z_iret X hret rfl (Nat.zero_le _) (Nat.zero_le _) (dn_1 hC0 (Int32.not_lt.mp h30) (zIk.put rfl)) d_Down_arrives_34
theorem c_Down_done (l : Launch) (g : zG) {S h n N : Nat} {I : zI} {J : zJ} {R : zR} {fl : zfl} {A : zI} {q : zq} (hW : zW g S h n I R) (hC : zRC g.2.2.2 n N I R fl A q) {x a : Nat} (hx : 16 ≤ x ∧ x < 21) (ha : a < g.2.2.2) (h0 : R 4 x 0 = some a) (hq : q (6 + a) ≠ []) : zMet l g y_Down_done b_Down_done 2 none 1 21 0 0 (zPc g [.ref (zad g 4 x), .ref (zad g 0 0)] n I J R) (zQv g (zS0 g n N I J R (zdnE a true A q).1 (zdnE a true A q).2)) := by
  have hc := hW.2.1.2
  have hr : zrv g.2.2.2 (6 + a) := Or.inr ⟨by omega, by omega⟩
  rcases hC.2.2.1.hd hr with ⟨e0, -, -⟩ | ⟨f, t, e, k, v, tq, e1, e2, e3, e4, -⟩
  · exact absurd e0 hq
  have hC1 := hC.take hc hr e2 e1
  have hC2 := hC1.put (v := nI 0) (zco.n ha (j := 6) (k' := 48) (by decide))
  have hR1 := (zRk2.take (R := R) (r := 6 + a) (f := f)).tr (zRk2.rel (f := f) (v := ztakeR R (6 + a) f 0 0 9) (w := some f))
  refine zMet.of (by decide) [some (.ref (zad g 4 x)), some (.ref (zad g 0 0))] rfl (Nat.le_of_ble_eq_true rfl) ?_
  intro pP eE sS mM aA bB mE cC X hret hnm
  have X : zC pP sS mM aA mE cC b_Down_done "SlottedMesh$Down" 2 g := X
  have hret : mE.sig.returnType = none := hret
  refine z_aload_n X d_Down_done_0 rfl ?_
  refine z_aload_n X d_Down_done_1 rfl ?_
  refine gr_Down_9 h0 X (zo_c hW.2.1.2 (by omega) hW.1) hx.1 d_Down_done_2 ?_
  refine gr_Down_24 (hW.up (by omega)).2.1 X (zo_n (by omega) hW.1) d_Down_done_5 ?_
  refine z_cq (z_rV X cs_Down_74 rfl rfl (zo_r hr hW.1).1 (zo_r hr hW.1).2 (c_Row_take l g (zo_r hr hW.1) (zo_f e4) e3) ⟨Nat.le_of_ble_eq_true rfl, Nat.le_of_ble_eq_true rfl⟩ rfl rfl (Nat.le_of_ble_eq_true rfl) ⟨Nat.le_of_ble_eq_true rfl, Nat.le_of_ble_eq_true rfl⟩ d_Down_done_8) (fun r n2 I2 J2 R2 h => ?_)
  obtain ⟨rfl, e⟩ := h
  cases e
  refine z_cv (z_rN X cs_Down_78 rfl rfl (zo_s rfl hW.1).1 (zo_s rfl hW.1).2 (c_SM_release l g (hW.step (Nat.le_refl _) zIf.sz.ik zRk2.take) (zo_f e4)) ⟨Nat.le_of_ble_eq_true rfl, Nat.le_of_ble_eq_true rfl⟩ rfl rfl (Nat.le_of_ble_eq_true rfl) ⟨Nat.le_of_ble_eq_true rfl, Nat.le_of_ble_eq_true rfl⟩ d_Down_done_11) (fun n2 I2 J2 R2 h => ?_)
  cases h
  refine z_aload_n X d_Down_done_14 rfl ?_
  refine gr_Down_9 ((hR1.k (k := 4) (i := x) (j := 0) rfl).trans h0) X (zo_c hW.2.1.2 (by omega) hW.1) hx.1 d_Down_done_15 ?_
  refine z_iconst (v := nI 0) X d_Down_done_18 rfl ?_
  refine pf_Down_81 X (zo_n (by omega) hW.1) d_Down_done_19 ?_
  exact z_vret X hret (Nat.zero_le _) (Nat.zero_le _) ⟨_, _, _, rfl, hC2, zIf.sz.ik.tr (zIk.put rfl), hR1⟩ d_Down_done_22
theorem dn_f1 {g : zG} {n N : Nat} {I : zI} {J : zJ} {R : zR} {A : zI} {q : zq} {a : Nat} {w x : Int32} {u : zS} (hs : zS0 g n N (zu I 1 a 6 x) J R (zdnE a true (zu A 48 0 a w) q).1 (zdnE a true (zu A 48 0 a w) q).2 u) (h : A 48 0 a + nI 1 = nI 6) : zS0 g n N I J R (zdnE a false A q).1 (zdnE a false A q).2 u := by
  unfold zdnE at hs ⊢
  rw [if_pos rfl] at hs
  rw [if_neg (by decide), if_pos h]
  obtain ⟨I1, R1, fl1, a1, a2, a3, a4⟩ := hs
  dsimp only at a2
  rw [zu_zu] at a2
  exact ⟨I1, R1, fl1, a1, a2, (zIk.put rfl).tr a3, a4⟩
theorem dn_f2 {g : zG} {n N : Nat} {I I2 : zI} {J : zJ} {R : zR} {fl : zfl} {A : zI} {q : zq} {a : Nat} (hC : zRC g.2.2.2 n N I2 R fl (zu A 48 0 a (A 48 0 a + nI 1)) q) (h : ¬ A 48 0 a + nI 1 = nI 6) (hI : zIk I I2) : zS0 g n N I J R (zdnE a false A q).1 (zdnE a false A q).2 (n, I2, J, R) := by
  unfold zdnE
  rw [if_neg (by decide), if_neg h]
  exact ⟨I2, R, fl, rfl, hC, hI, zRk2.rf⟩
theorem c_Down_failed (l : Launch) (g : zG) {S h n N : Nat} {I : zI} {J : zJ} {R : zR} {fl : zfl} {A : zI} {q : zq} (hW : zW g S h n I R) (hC : zRC g.2.2.2 n N I R fl A q) {x a : Nat} (hx : 16 ≤ x ∧ x < 21) (ha : a < g.2.2.2) (h0 : R 4 x 0 = some a) (hq : q (6 + a) ≠ []) : zMet l g y_Down_failed b_Down_failed 2 none 2 42 0 0 (zPc g [.ref (zad g 4 x), .ref (zad g 0 0)] n I J R) (zQv g (zS0 g n N I J R (zdnE a false A q).1 (zdnE a false A q).2)) := by
  have hC1 := hC.put (v := A 48 0 a + nI 1) (zco.n ha (j := 6) (k' := 48) (by decide))
  refine zMet.of (by decide) [some (.ref (zad g 4 x)), some (.ref (zad g 0 0))] rfl (Nat.le_of_ble_eq_true rfl) ?_
  intro pP eE sS mM aA bB mE cC X hret hnm
  have X : zC pP sS mM aA mE cC b_Down_failed "SlottedMesh$Down" 2 g := X
  have hret : mE.sig.returnType = none := hret
  refine z_aload_n X d_Down_failed_0 rfl ?_
  refine gr_Down_9 h0 X (zo_c hW.2.1.2 (by omega) hW.1) hx.1 d_Down_failed_1 ?_
  refine z_dup X d_Down_failed_4 rfl ?_
  refine gf_Down_81 X (zo_n (by omega) hW.1) d_Down_failed_5 ?_
  refine z_top (v2 := .int (A 48 0 a)) (congrArg Value.int (hC.1.nd ha).2.2.2.2.2.1) ?_
  refine z_iconst (v := nI 1) X d_Down_failed_8 rfl ?_
  refine z_iadd X d_Down_failed_9 ?_
  refine pf_Down_81 X (zo_n (by omega) hW.1) d_Down_failed_10 ?_
  refine z_aload_n X d_Down_failed_13 rfl ?_
  refine gr_Down_9 h0 X (zo_c hW.2.1.2 (by omega) hW.1) hx.1 d_Down_failed_14 ?_
  refine gf_Down_81 X (zo_n (by omega) hW.1) d_Down_failed_17 ?_
  refine z_top (congrArg Value.int zu_s) ?_
  refine z_bipush (v := nI 6) X d_Down_failed_20 rfl ?_
  refine z_icmp_ne (tgt := 30) X d_Down_failed_22 (by decide) (fun h22 => ?_) (fun h22 => ?_)
  · exact z_vret X hret (Nat.zero_le _) (Nat.zero_le _) (dn_f2 hC1 h22 (zIk.put rfl)) d_Down_failed_30
  · refine z_aload_n X d_Down_failed_25 rfl ?_
    refine z_aload_n X d_Down_failed_26 rfl ?_
    refine z_cv (z_rV X cs_Down_84 rfl (zsh4d hx.1) (zo_c hW.2.1.2 (by omega) hW.1).1 (zo_c hW.2.1.2 (by omega) hW.1).2 (c_Down_done l g (hW.upI rfl) hC1 hx ha h0 hq) ⟨Nat.le_of_ble_eq_true rfl, Nat.le_of_ble_eq_true rfl⟩ rfl rfl (Nat.le_of_ble_eq_true rfl) ⟨Nat.le_of_ble_eq_true rfl, Nat.le_of_ble_eq_true rfl⟩ d_Down_failed_27) (fun n1 I1 J1 R1 h9 => ?_)
    exact z_vret X hret (Nat.zero_le _) (Nat.zero_le _) (dn_f1 h9 h22) d_Down_failed_30
theorem c_Down_due (l : Launch) (g : zG) {S h n N : Nat} {I : zI} {J : zJ} {R : zR} {fl : zfl} {A : zI} {q : zq} (hW : zW g S h n I R) (hC : zRC g.2.2.2 n N I R fl A q) {pf rk : Nat → Nat} (hn0 : R 1 0 14 = none) (hp : ∀ k, 0 < k → k < g.2.2.2 → pf k < g.2.2.2 ∧ rk (pf k) < rk k ∧ R 1 k 14 = some (pf k)) {x a b : Nat} (hx : 16 ≤ x ∧ x < 21) (ha : a < g.2.2.2) (hb0 : 0 < b) (hb : b < g.2.2.2) (hab : pf b = a) (h0 : R 4 x 0 = some a) (h3 : R 4 x 3 = some b) : zMet l g y_Down_due b_Down_due 3 (some (.object "SlottedMesh$Frame")) 1 23 0 0 (zPc g [.ref (zad g 4 x), .ref (zad g 0 0)] n I J R) (zQq g 3 (fun r u => r = (match q (6 + a) with | [] => none | (e, _, _) :: _ => if zbl pf b 6 e = b then R 2 (6 + a) 0 else none) ∧ u = (n, I, J, R))) := by
  have hc := hW.2.1.2
  have hr : zrv g.2.2.2 (6 + a) := Or.inr ⟨by omega, by omega⟩
  have hp2 : ∀ i y, i < g.2.2.2 → R 1 i 14 = some y → y < g.2.2.2 := fun i y hi hy => by
    rcases Nat.eq_zero_or_pos i with z | z
    · subst z; rw [hn0] at hy; cases hy
    · obtain ⟨p1, -, p3⟩ := hp i z hi; rw [p3] at hy; cases hy; exact p1
  refine zMet.of (by decide) [some (.ref (zad g 4 x)), some (.ref (zad g 0 0)), none] rfl (Nat.le_of_ble_eq_true rfl) ?_
  intro pP eE sS mM aA bB mE cC X hret hnm
  have X : zC pP sS mM aA mE cC b_Down_due "SlottedMesh$Down" 3 g := X
  have hret : mE.sig.returnType = (some (.object "SlottedMesh$Frame")) := hret
  refine z_aload_n X d_Down_due_0 rfl ?_
  refine gr_Down_9 h0 X (zo_c hW.2.1.2 (by omega) hW.1) hx.1 d_Down_due_1 ?_
  refine gr_Down_24 (hW.up (by omega)).2.1 X (zo_n (by omega) hW.1) d_Down_due_4 ?_
  rcases hC.2.2.1.hd hr with ⟨e0, -, e1⟩ | ⟨f, t, e, k, v, tq, e1, e2, e3, e4, e5, -⟩
  · refine gn_Down_28 e1 X (zo_r hr hW.1) d_Down_due_7 ?_
    refine z_astore_nN X d_Down_due_10 (by decide) rfl ?_
    refine z_aload_nN X d_Down_due_11 rfl ?_
    refine z_ifnullN (tgt := 42) X d_Down_due_12 (by decide) ?_
    refine z_null X d_Down_due_42 ?_
    exact z_aret none X hret rfl (Nat.zero_le _) (Nat.zero_le _) ⟨by rw [e0], rfl⟩ d_Down_due_43
  · have he := (hC.2.2.2 (6 + a) hr).2 _ (by rw [e1]; exact List.mem_cons_self)
    have he : 1 ≤ e ∧ e < g.2.2.2 := he
    have hbt := zbl_tw (po := fun i => R 1 i 14) hn0 hp hb0 hb 6 e he.2
    rw [hab] at hbt
    refine gr_Down_28 e3 X (zo_r hr hW.1) d_Down_due_7 ?_
    refine z_astore_n X d_Down_due_10 (by decide) rfl ?_
    refine z_aload_n X d_Down_due_11 rfl ?_
    refine z_ifnull (tgt := 42) X d_Down_due_12 (by decide) ?_
    refine z_aload_n X d_Down_due_15 rfl ?_
    refine gr_Down_9 h0 X (zo_c hW.2.1.2 (by omega) hW.1) hx.1 d_Down_due_16 ?_
    refine z_aload_n X d_Down_due_19 rfl ?_
    refine gr_Down_34 (hW.c (k := 0) (f := 3) rfl rfl (by decide) rfl) X (zo_s rfl hW.1) d_Down_due_20 ?_
    refine z_aload_n X d_Down_due_23 rfl ?_
    refine gf_Down_38 X (zo_f e4) d_Down_due_24 ?_
    refine z_top (congrArg Value.int (e5)) ?_
    refine ar_6 X (zo_s rfl hW.1) rfl (by omega) (hW.nd (by omega)) d_Down_due_27 ?_
    refine z_cq (z_rV X cs_Down_43 rfl rfl (zo_n (by omega) hW.1).1 (zo_n (by omega) hW.1).2 (c_Node_towards l g hW hp2 a e ha he.2) ⟨Nat.le_of_ble_eq_true rfl, Nat.le_of_ble_eq_true rfl⟩ rfl rfl (Nat.le_of_ble_eq_true rfl) ⟨Nat.le_of_ble_eq_true rfl, Nat.le_of_ble_eq_true rfl⟩ d_Down_due_28) (fun r n2 I2 J2 R2 h => ?_)
    obtain ⟨rfl, e⟩ := h
    cases e
    refine z_aload_n X d_Down_due_31 rfl ?_
    refine gr_Down_21 h3 X (zo_c hW.2.1.2 (by omega) hW.1) hx.1 d_Down_due_32 ?_
    refine z_acmp_ne (tgt := 42) (rx := ((if R 1 (ztw (fun i => R 1 i 14) a 6 e) 14 = some a then some (ztw (fun i => R 1 i 14) a 6 e) else none).map (zad g 1))) (ry := (some (zad g 1 b))) X rfl rfl d_Down_due_35 (by decide) (fun h35 => ?_) (fun h35 => ?_)
    · refine z_null X d_Down_due_42 ?_
      exact z_aret none X hret rfl (Nat.zero_le _) (Nat.zero_le _) ⟨by rw [e1]; dsimp only; rw [if_neg (fun z => h35 (by rw [hbt.mp z, if_pos (by rw [← hab]; exact (hp b hb0 hb).2.2)]; rfl))], rfl⟩ d_Down_due_43
    · refine z_aload_n X d_Down_due_38 rfl ?_
      refine z_goto (tgt := 43) X d_Down_due_39 (by decide) ?_
      have h36 := zadNo h35
      have h37 : ztw (fun i => R 1 i 14) a 6 e = b := by
        split at h36
        · exact Option.some.inj h36
        · cases h36
      exact z_aret (some f) X hret rfl (Nat.zero_le _) (Nat.zero_le _) ⟨by rw [e1]; dsimp only; rw [if_pos (hbt.mpr h37), e3], rfl⟩ d_Down_due_43

