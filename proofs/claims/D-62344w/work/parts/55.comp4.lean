/-! THE COMPONENT'S LINKS: up -/
theorem zu_zu {α : Type} {f : Nat → Nat → Nat → α} {k i j : Nat} {v w : α} : zu (zu f k i j v) k i j w = zu f k i j w := by
  funext k' i' j'
  rw [zu_if, zu_if, zu_if]
  by_cases e : k' = k ∧ i' = i ∧ j' = j
  · rw [if_pos e, if_pos e]
  · rw [if_neg e, if_neg e, if_neg e]
theorem zu_id {α : Type} {f : Nat → Nat → Nat → α} {k i j : Nat} : zu f k i j (f k i j) = f := by
  funext k' i' j'
  rw [zu_if]
  by_cases e : k' = k ∧ i' = i ∧ j' = j
  · rw [if_pos e, e.1, e.2.1, e.2.2]
  · rw [if_neg e]
theorem zRk2.k {R R2 : zR} {k i j : Nat} (h : zRk2 R R2) (hk : (k == 0 || (k == 2 || k == 3)) = false) : R2 k i j = R k i j := by
  simp at hk
  exact h k i j hk.2.1 hk.2.2 (fun z => hk.1 z.1)
def zpo : Option Nat → Int32 | none => -1 | some u => nI u
def zPr (c : Nat) (R : zR) (A : zI) : Prop := ∀ v, v < c → A 38 0 (2 * v) = zpo (R 1 v 14) ∧ ∀ u, R 1 v 14 = some u → u < c
theorem zPr.iff {c : Nat} {R : zR} {A : zI} (h : zPr c R A) {v u : Nat} (hc : c ≤ 6) (hv : v < c) (hu : u < c) : A 38 0 (2 * v) = nI u ↔ R 1 v 14 = some u := by
  obtain ⟨h1, h2⟩ := h v hv
  rw [h1]
  cases hr : R 1 v 14 with
  | none =>
    refine ⟨fun z => ?_, fun z => by cases z⟩
    exact absurd z (by rcases (show u = 0 ∨ u = 1 ∨ u = 2 ∨ u = 3 ∨ u = 4 ∨ u = 5 by omega) with rfl | rfl | rfl | rfl | rfl | rfl <;> decide)
  | some w =>
    have hw := h2 w hr
    exact ⟨fun z => by rw [nI_inj (by omega) (by omega) z], fun z => by cases z; rfl⟩
/-- like zSt, without a new frame -/
def zS0 (g : zG) (n N : Nat) (I : zI) (J : zJ) (R : zR) (A : zI) (q : zq) (u : zS) : Prop := ∃ I1 R1 fl1, u = (n, I1, J, R1) ∧ zRC g.2.2.2 n N I1 R1 fl1 A q ∧ zIk I I1 ∧ zRk2 R R1
theorem zRC.take {c n N : Nat} {I : zI} {R : zR} {fl : zfl} {A : zI} {q : zq} {r f : Nat} {t : List Nat} {x : Nat × Int32 × Int32} {tq : List (Nat × Int32 × Int32)} (hc : c ≤ 6) (h : zRC c n N I R fl A q) (hr : zrv c r) (hl : fl r = f :: t) (hq : q r = x :: tq) : zRC c n N (zu I 2 r 2 (I 2 r 2 - nI 1)) (zu (zu (ztakeR R r f) 3 f 3 (ztakeR R r f 0 0 9)) 0 0 9 (some f)) (fu (fu fl r t) 12 (f :: fu fl r t 12)) A (qu q r (q r).tail) := by
  obtain ⟨t1, t2, t3⟩ := h.2.2.1.take hc hr hl hq
  have hk := h.2.2.2.tail (r := r)
  rw [hq] at hk ⊢
  exact h.fr (t1.release hc t2) zIf.sz hk
theorem c_Up_due (l : Launch) (g : zG) {S h n : Nat} {I : zI} {J : zJ} {R : zR} (hW : zW g S h n I R) {x a : Nat} (hx : 6 ≤ x ∧ x < 16) (ha : a < g.2.2.2) (h0 : R 4 x 0 = some a) : zMet l g y_Up_due b_Up_due 2 (some (.object "SlottedMesh$Frame")) 0 0 0 0 (zPc g [.ref (zad g 4 x), .ref (zad g 0 0)] n I J R) (zQq g 3 (fun r u => r = R 2 a 0 ∧ u = (n, I, J, R))) := by
  refine zMet.of (by decide) [some (.ref (zad g 4 x)), some (.ref (zad g 0 0))] rfl (Nat.le_of_ble_eq_true rfl) ?_
  intro pP eE sS mM aA bB mE cC X hret hnm
  have X : zC pP sS mM aA mE cC b_Up_due "SlottedMesh$Up" 2 g := X
  have hret : mE.sig.returnType = (some (.object "SlottedMesh$Frame")) := hret
  refine z_aload_n X d_Up_due_0 rfl ?_
  refine gr_Up_9 h0 X (zo_c hW.2.1.2 (by omega) hW.1) hx d_Up_due_1 ?_
  refine gr_Up_24 (hW.up (by omega)).1 X (zo_n (by omega) hW.1) d_Up_due_4 ?_
  refine gf_Up_28 X (zo_r (by omega) hW.1) d_Up_due_7 ?_
  exact z_aret (R 2 a 0) X hret rfl (Nat.zero_le _) (Nat.zero_le _) ⟨rfl, rfl⟩ d_Up_due_10
theorem up_1 {g : zG} {n N : Nat} {I : zI} {J : zJ} {R : zR} {fl : zfl} {A : zI} {q : zq} {b e : Nat} {k v : Int32} (hC : zRC g.2.2.2 n N I R fl A q) (h : k ≤ A 49 0 (6 * b + e)) : nI 1 = (if (zupR b e k v A q).2 = true then nI 1 else nI 0) ∧ zSt g n N I J R (zupR b e k v A q).1.1 (zupR b e k v A q).1.2 (n, I, J, R) := by
  have e1 : zupR b e k v A q = ((A, q), true) := if_pos h
  rw [e1]
  exact ⟨rfl, n, I, R, fl, rfl, Nat.le_refl _, Nat.le_succ _, hC.N1, zIk.rf, zRk2.rf⟩
theorem up_2 {g : zG} {n N : Nat} {I : zI} {J : zJ} {R : zR} {fl : zfl} {A : zI} {q : zq} {b e : Nat} {k v : Int32} (hC : zRC g.2.2.2 n N I R fl A q) (h : A 49 0 (6 * b + e) < k) (hb : ¬ b = 0) (h4 : ¬ (q b).length < 4) : nI 0 = (if (zupR b e k v A q).2 = true then nI 1 else nI 0) ∧ zSt g n N I J R (zupR b e k v A q).1.1 (zupR b e k v A q).1.2 (n, I, J, R) := by
  have e1 : zupR b e k v A q = ((A, q), false) := by unfold zupR; rw [if_neg (Int32.not_le.mpr h), if_neg hb, if_neg h4]
  rw [e1]
  exact ⟨rfl, n, I, R, fl, rfl, Nat.le_refl _, Nat.le_succ _, hC.N1, zIk.rf, zRk2.rf⟩
theorem up_3 {g : zG} {n N : Nat} {I : zI} {J : zJ} {R : zR} {A : zI} {q : zq} {e : Nat} {k v w : Int32} {u : zS} (h : A 49 0 (6 * 0 + e) < k) (hs : zSt g n N (zu I 5 0 e w) J R (zcaA (zu A 49 0 (6 * 0 + e) k) e v) (zcaQ (zu A 49 0 (6 * 0 + e) k) q e k v) u) : nI 1 = (if (zupR 0 e k v A q).2 = true then nI 1 else nI 0) ∧ zSt g n N I J R (zupR 0 e k v A q).1.1 (zupR 0 e k v A q).1.2 u := by
  have e1 : zupR 0 e k v A q = ((zcaA (zu A 49 0 (6 * 0 + e) k) e v, zcaQ (zu A 49 0 (6 * 0 + e) k) q e k v), true) := by unfold zupR; rw [if_neg (Int32.not_le.mpr h), if_pos rfl]
  rw [e1]
  obtain ⟨n1, I1, R1, fl1, a1, a2, a3, a4, a5, a6⟩ := hs
  exact ⟨rfl, n1, I1, R1, fl1, a1, a2, a3, a4, (zIk.put rfl).tr a5, a6⟩
theorem up_4 {g : zG} {n N : Nat} {I : zI} {J : zJ} {R : zR} {A : zI} {q : zq} {b e : Nat} {k v : Int32} {u : zS} (h : A 49 0 (6 * b + e) < k) (hb : ¬ b = 0) (h4 : (q b).length < 4) (hs : zSt g n N I J R (zu A 49 0 (6 * b + e) k) (qu q b (q b ++ [(e, k, v)])) u) : nI 1 = (if (zupR b e k v A q).2 = true then nI 1 else nI 0) ∧ zSt g n N I J R (zupR b e k v A q).1.1 (zupR b e k v A q).1.2 u := by
  have e1 : zupR b e k v A q = ((zu A 49 0 (6 * b + e) k, qu q b (q b ++ [(e, k, v)])), true) := by unfold zupR; rw [if_neg (Int32.not_le.mpr h), if_neg hb, if_pos h4]
  rw [e1]
  exact ⟨rfl, hs⟩
theorem c_Up_arrives (l : Launch) (g : zG) {S h n N : Nat} {I : zI} {J : zJ} {R : zR} {fl : zfl} {A : zI} {q : zq} {f e : Nat} {k v : Int32} (hW : zW g S h n I R) (hC : zRC g.2.2.2 n N I R fl A q) (hN : N < 2 ^ 30) {x b : Nat} (hx : 6 ≤ x ∧ x < 16) (hb : b < g.2.2.2) (h3 : R 4 x 3 = some b) (he : 1 ≤ e ∧ e < g.2.2.2) (hf : 78 + 6 * g.2.2.2 + f < n) (f0 : I 3 f 0 = nI e) (f1 : I 3 f 1 = k) (f2 : I 3 f 2 = v) : zMet l g y_Up_arrives b_Up_arrives 4 (some .boolean) 4 81 1 4 (zPc g [.ref (zad g 4 x), .ref (zad g 0 0), .ref (zad g 3 f)] n I J R) (zQi g (fun r u => r = (if (zupR b e k v A q).2 = true then nI 1 else nI 0) ∧ zSt g n N I J R (zupR b e k v A q).1.1 (zupR b e k v A q).1.2 u)) := by
  have hc := hW.2.1.2
  have he6 : e < 6 := by omega
  have hr : zrv g.2.2.2 b := Or.inl hb
  have hid : I 1 b 0 = nI b := hW.2.2.2.2.2.2.2.2.1 b hb
  have hsz : I 2 b 2 = nI (q b).length := by rw [← hC.2.2.1.len hr]; exact (hC.2.2.1.1 b hr).2.2.1
  have hl4 := (hC.2.2.2 b hr).1
  have hl52 : ¬ nI (q b).length = nI 4 → (q b).length < 4 := fun z => by
    rcases Nat.lt_or_ge (q b).length 4 with z2 | z2
    · exact z2
    · exact absurd (by rw [show (q b).length = 4 by omega]) z
  have hC1 := hC.put (v := k) (zco.tk hr he6)
  have hW1 : zW g S h n (zu I 5 b e k) R := hW.upI rfl
  refine zMet.of (by decide) [some (.ref (zad g 4 x)), some (.ref (zad g 0 0)), some (.ref (zad g 3 f)), none] rfl (Nat.le_of_ble_eq_true rfl) ?_
  intro pP eE sS mM aA bB mE cC X hret hnm
  have X : zC pP sS mM aA mE cC b_Up_arrives "SlottedMesh$Up" 4 g := X
  have hret : mE.sig.returnType = (some .boolean) := hret
  refine z_aload_n X d_Up_arrives_0 rfl ?_
  refine gf_Up_34 X (zo_f hf) d_Up_arrives_1 ?_
  refine z_top (congrArg Value.int (f1)) ?_
  refine z_aload_n X d_Up_arrives_4 rfl ?_
  refine gr_Up_21 h3 X (zo_c hW.2.1.2 (by omega) hW.1) hx d_Up_arrives_5 ?_
  refine gr_Up_39 (hW.up (by omega)).2.2.1 X (zo_n (by omega) hW.1) d_Up_arrives_8 ?_
  refine z_aload_n X d_Up_arrives_11 rfl ?_
  refine gf_Up_43 X (zo_f hf) d_Up_arrives_12 ?_
  refine z_top (congrArg Value.int (f0)) ?_
  refine al_5 X (zo_t hr hW.1) rfl (by omega) d_Up_arrives_15 ?_
  refine z_top (v2 := .int (A 49 0 (6 * b + e))) (congrArg Value.int (hC.1.tk hr he6)) ?_
  refine z_icmp_gt (tgt := 21) X d_Up_arrives_16 (by decide) (fun h16 => ?_) (fun h16 => ?_)
  · refine z_aload_n X d_Up_arrives_21 rfl ?_
    refine gr_Up_21 h3 X (zo_c hW.2.1.2 (by omega) hW.1) hx d_Up_arrives_22 ?_
    refine gf_Up_15 X (zo_n (by omega) hW.1) d_Up_arrives_25 ?_
    refine z_top (congrArg Value.int (hid)) ?_
    by_cases hb0 : b = 0
    · subst hb0
      refine z_if_ne (tgt := 35) X d_Up_arrives_28 (by decide) (fun hq => absurd hq (by decide)) (fun _ => ?_)
      refine z_iconst (v := nI 1) X d_Up_arrives_31 rfl ?_
      refine z_goto (tgt := 36) X d_Up_arrives_32 (by decide) ?_
      refine z_istore_n X d_Up_arrives_36 (by decide) rfl ?_
      refine z_iload_n X d_Up_arrives_37 rfl ?_
      refine z_if_ne (tgt := 57) X d_Up_arrives_38 (by decide) (fun _ => ?_) (fun hq => absurd hq (by decide))
      refine z_aload_n X d_Up_arrives_57 rfl ?_
      refine gr_Up_21 h3 X (zo_c hW.2.1.2 (by omega) hW.1) hx d_Up_arrives_58 ?_
      refine gr_Up_39 (hW.up (by omega)).2.2.1 X (zo_n (by omega) hW.1) d_Up_arrives_61 ?_
      refine z_aload_n X d_Up_arrives_64 rfl ?_
      refine gf_Up_43 X (zo_f hf) d_Up_arrives_65 ?_
      refine z_top (congrArg Value.int (f0)) ?_
      refine z_aload_n X d_Up_arrives_68 rfl ?_
      refine gf_Up_34 X (zo_f hf) d_Up_arrives_69 ?_
      refine z_top (congrArg Value.int (f1)) ?_
      refine as_5 X (zo_t hr hW.1) rfl (by omega) d_Up_arrives_72 ?_
      refine z_iload_n X d_Up_arrives_73 rfl ?_
      refine z_if_eq (tgt := 85) X d_Up_arrives_74 (by decide) (fun hq => absurd hq (by decide)) (fun _ => ?_)
      refine z_aload_n X d_Up_arrives_77 rfl ?_
      refine z_aload_n X d_Up_arrives_78 rfl ?_
      refine z_cv (z_rN X cs_Up_49 rfl rfl (zo_s rfl hW.1).1 (zo_s rfl hW.1).2 (c_SM_cache l g hW1 hC1 hN he hf (by exact f0) (by exact f1) (by exact f2)) ⟨Nat.le_of_ble_eq_true rfl, Nat.le_of_ble_eq_true rfl⟩ rfl rfl (Nat.le_of_ble_eq_true rfl) ⟨Nat.le_of_ble_eq_true rfl, Nat.le_of_ble_eq_true rfl⟩ d_Up_arrives_79) (fun n1 I1 J1 R1 h9 => ?_)
      refine z_goto (tgt := 111) X d_Up_arrives_82 (by decide) ?_
      refine z_iconst (v := nI 1) X d_Up_arrives_111 rfl ?_
      exact z_iret X hret rfl (Nat.le_of_ble_eq_true rfl) (Nat.le_of_ble_eq_true rfl) (up_3 h16 h9) d_Up_arrives_112
    · refine z_if_ne (tgt := 35) X d_Up_arrives_28 (by decide) (fun _ => ?_) (fun hq => absurd hq (nI_ne0 (by omega) (by omega)))
      refine z_iconst (v := nI 0) X d_Up_arrives_35 rfl ?_
      refine z_istore_n X d_Up_arrives_36 (by decide) rfl ?_
      refine z_iload_n X d_Up_arrives_37 rfl ?_
      refine z_if_ne (tgt := 57) X d_Up_arrives_38 (by decide) (fun hq => absurd hq (by decide)) (fun _ => ?_)
      refine z_aload_n X d_Up_arrives_41 rfl ?_
      refine gr_Up_21 h3 X (zo_c hW.2.1.2 (by omega) hW.1) hx d_Up_arrives_42 ?_
      refine gr_Up_24 (hW.up (by omega)).1 X (zo_n (by omega) hW.1) d_Up_arrives_45 ?_
      refine gf_Up_46 X (zo_r hr hW.1) d_Up_arrives_48 ?_
      refine z_top (congrArg Value.int (hsz)) ?_
      refine z_iconst (v := nI 4) X d_Up_arrives_51 rfl ?_
      refine z_icmp_ne (tgt := 57) X d_Up_arrives_52 (by decide) (fun h52 => ?_) (fun h52 => ?_)
      · refine z_aload_n X d_Up_arrives_57 rfl ?_
        refine gr_Up_21 h3 X (zo_c hW.2.1.2 (by omega) hW.1) hx d_Up_arrives_58 ?_
        refine gr_Up_39 (hW.up (by omega)).2.2.1 X (zo_n (by omega) hW.1) d_Up_arrives_61 ?_
        refine z_aload_n X d_Up_arrives_64 rfl ?_
        refine gf_Up_43 X (zo_f hf) d_Up_arrives_65 ?_
        refine z_top (congrArg Value.int (f0)) ?_
        refine z_aload_n X d_Up_arrives_68 rfl ?_
        refine gf_Up_34 X (zo_f hf) d_Up_arrives_69 ?_
        refine z_top (congrArg Value.int (f1)) ?_
        refine as_5 X (zo_t hr hW.1) rfl (by omega) d_Up_arrives_72 ?_
        refine z_iload_n X d_Up_arrives_73 rfl ?_
        refine z_if_eq (tgt := 85) X d_Up_arrives_74 (by decide) (fun _ => ?_) (fun hq => absurd hq (by decide))
        refine z_aload_n X d_Up_arrives_85 rfl ?_
        refine gr_Up_21 h3 X (zo_c hW.2.1.2 (by omega) hW.1) hx d_Up_arrives_86 ?_
        refine gr_Up_24 (hW.up (by omega)).1 X (zo_n (by omega) hW.1) d_Up_arrives_89 ?_
        refine z_aload_n X d_Up_arrives_92 rfl ?_
        refine z_aload_n X d_Up_arrives_93 rfl ?_
        refine gf_Up_43 X (zo_f hf) d_Up_arrives_94 ?_
        refine z_top (congrArg Value.int (f0)) ?_
        refine z_aload_n X d_Up_arrives_97 rfl ?_
        refine gf_Up_34 X (zo_f hf) d_Up_arrives_98 ?_
        refine z_top (congrArg Value.int (f1)) ?_
        refine z_aload_n X d_Up_arrives_101 rfl ?_
        refine gf_Up_53 X (zo_f hf) d_Up_arrives_102 ?_
        refine z_top (congrArg Value.int (f2)) ?_
        refine z_cq (z_rN X cs_Up_56 rfl rfl (zo_s rfl hW.1).1 (zo_s rfl hW.1).2 (c_SM_frame l g hW1 (fun j hj => zo_f (hC.2.2.1.spare j hj)) _ _ _) ⟨Nat.le_of_ble_eq_true rfl, Nat.le_of_ble_eq_true rfl⟩ rfl rfl (Nat.le_of_ble_eq_true rfl) ⟨Nat.le_of_ble_eq_true rfl, Nat.le_of_ble_eq_true rfl⟩ d_Up_arrives_105) (fun r n1 I1 J1 R1 h9 => ?_)
        obtain ⟨f9, nx, Ix, Rx, fl1, rfl, e2, e3, e4, e5, e6, e7, e8, e9⟩ := zFr.push hc hC1 hr (hl52 h52) he h9
        cases e2
        refine z_cv (z_rV X cs_Up_60 rfl rfl (zo_r hr (Nat.le_trans hW.1 e3)).1 (zo_r hr (Nat.le_trans hW.1 e3)).2 (c_Row_add l g (zo_r hr (Nat.le_trans hW.1 e3)) (zo_f e7) (fun j hj => zo_f (e8 j hj))) ⟨Nat.le_of_ble_eq_true rfl, Nat.le_of_ble_eq_true rfl⟩ rfl rfl (Nat.le_of_ble_eq_true rfl) ⟨Nat.le_of_ble_eq_true rfl, Nat.le_of_ble_eq_true rfl⟩ d_Up_arrives_108) (fun n2 I2 J2 R2 h => ?_)
        cases h
        refine z_iconst (v := nI 1) X d_Up_arrives_111 rfl ?_
        exact z_iret X hret rfl (Nat.le_of_ble_eq_true rfl) (Nat.le_of_ble_eq_true rfl) (up_4 h16 hb0 (hl52 h52) ⟨_, _, _, fl1, rfl, e3, e4, e9.N1, (zIk.put rfl).tr (e5.ik.tr zIf.sz.ik), e6.tr zRk2.add⟩) d_Up_arrives_112
      · refine z_iconst (v := nI 0) X d_Up_arrives_55 rfl ?_
        exact z_iret X hret rfl (Nat.zero_le _) (Nat.zero_le _) (up_2 hC h16 hb0 (by have := nI_inj (by omega) (by omega) h52; omega)) d_Up_arrives_56
  · refine z_iconst (v := nI 1) X d_Up_arrives_19 rfl ?_
    exact z_iret X hret rfl (Nat.zero_le _) (Nat.zero_le _) (up_1 hC (Int32.not_lt.mp h16)) d_Up_arrives_20
theorem up_d1 {g : zG} {n N : Nat} {I I2 : zI} {J : zJ} {R R2 : zR} {fl : zfl} {A : zI} {q : zq} {a b : Nat} (hC : zRC g.2.2.2 n N I2 R2 fl (zu (zu A 47 0 a (nI 0)) 33 0 a (A 33 0 b)) (qu q a (q a).tail)) (h : A 38 0 (2 * a) = nI b) (hI : zIk I I2) (hR : zRk2 R R2) : zS0 g n N I J R (zupE a b true A q).1 (zupE a b true A q).2 (n, I2, J, R2) := by
  unfold zupE
  rw [if_pos rfl, if_pos h]
  exact ⟨I2, R2, fl, rfl, hC, hI, hR⟩
theorem up_d2 {g : zG} {n N : Nat} {I I2 : zI} {J : zJ} {R R2 : zR} {fl : zfl} {A : zI} {q : zq} {a b : Nat} (hC : zRC g.2.2.2 n N I2 R2 fl (zu A 47 0 a (nI 0)) (qu q a (q a).tail)) (h : ¬ A 38 0 (2 * a) = nI b) (hI : zIk I I2) (hR : zRk2 R R2) : zS0 g n N I J R (zupE a b true A q).1 (zupE a b true A q).2 (n, I2, J, R2) := by
  unfold zupE
  rw [if_pos rfl, if_neg h, show A 33 0 a = zu A 47 0 a (nI 0) 33 0 a from (zu_k (by decide)).symm, zu_id]
  exact ⟨I2, R2, fl, rfl, hC, hI, hR⟩
theorem up_f1 {g : zG} {n N : Nat} {I I2 : zI} {J : zJ} {R : zR} {fl : zfl} {A : zI} {q : zq} {a b : Nat} {w : Int32} (hC : zRC g.2.2.2 n N I2 R fl (zu (zu (zu A 47 0 a w) 47 0 a (nI 0)) 32 0 a (nI 0)) q) (h : A 47 0 a + nI 1 = nI 4) (hI : zIk I I2) : zS0 g n N I J R (zupE a b false A q).1 (zupE a b false A q).2 (n, I2, J, R) := by
  unfold zupE
  rw [if_neg (by decide), if_pos h]
  rw [zu_zu] at hC
  exact ⟨I2, R, fl, rfl, hC, hI, zRk2.rf⟩
theorem up_f2 {g : zG} {n N : Nat} {I I2 : zI} {J : zJ} {R : zR} {fl : zfl} {A : zI} {q : zq} {a b : Nat} (hC : zRC g.2.2.2 n N I2 R fl (zu A 47 0 a (A 47 0 a + nI 1)) q) (h : ¬ A 47 0 a + nI 1 = nI 4) (hI : zIk I I2) : zS0 g n N I J R (zupE a b false A q).1 (zupE a b false A q).2 (n, I2, J, R) := by
  unfold zupE
  rw [if_neg (by decide), if_neg h]
  exact ⟨I2, R, fl, rfl, hC, hI, zRk2.rf⟩
theorem c_Up_done (l : Launch) (g : zG) {S h n N : Nat} {I : zI} {J : zJ} {R : zR} {fl : zfl} {A : zI} {q : zq} (hW : zW g S h n I R) (hC : zRC g.2.2.2 n N I R fl A q) (hP : zPr g.2.2.2 R A) {x a b : Nat} (hx : 6 ≤ x ∧ x < 16) (ha : a < g.2.2.2) (hb : b < g.2.2.2) (h0 : R 4 x 0 = some a) (h3 : R 4 x 3 = some b) (hq : q a ≠ []) : zMet l g y_Up_done b_Up_done 2 none 1 21 0 0 (zPc g [.ref (zad g 4 x), .ref (zad g 0 0)] n I J R) (zQv g (zS0 g n N I J R (zupE a b true A q).1 (zupE a b true A q).2)) := by
  have hc := hW.2.1.2
  have hr : zrv g.2.2.2 a := Or.inl ha
  rcases hC.2.2.1.hd hr with ⟨e0, -, -⟩ | ⟨f, t, e, k, v, tq, e1, e2, e3, e4, -⟩
  · exact absurd e0 hq
  have hC1 := hC.take hc hr e2 e1
  have hC2 := hC1.put (v := nI 0) (zco.n ha (j := 5) (k' := 47) (by decide))
  have hC3 := hC2.put (v := A 33 0 b) (zco.n ha (j := 3) (k' := 33) (by decide))
  have hR1 := (zRk2.take (R := R) (r := a) (f := f)).tr (zRk2.rel (f := f) (v := ztakeR R a f 0 0 9) (w := some f))
  refine zMet.of (by decide) [some (.ref (zad g 4 x)), some (.ref (zad g 0 0))] rfl (Nat.le_of_ble_eq_true rfl) ?_
  intro pP eE sS mM aA bB mE cC X hret hnm
  have X : zC pP sS mM aA mE cC b_Up_done "SlottedMesh$Up" 2 g := X
  have hret : mE.sig.returnType = none := hret
  refine z_aload_n X d_Up_done_0 rfl ?_
  refine z_aload_n X d_Up_done_1 rfl ?_
  refine gr_Up_9 h0 X (zo_c hW.2.1.2 (by omega) hW.1) hx d_Up_done_2 ?_
  refine gr_Up_24 (hW.up (by omega)).1 X (zo_n (by omega) hW.1) d_Up_done_5 ?_
  refine z_cq (z_rV X cs_Up_63 rfl rfl (zo_r hr hW.1).1 (zo_r hr hW.1).2 (c_Row_take l g (zo_r hr hW.1) (zo_f e4) e3) ⟨Nat.le_of_ble_eq_true rfl, Nat.le_of_ble_eq_true rfl⟩ rfl rfl (Nat.le_of_ble_eq_true rfl) ⟨Nat.le_of_ble_eq_true rfl, Nat.le_of_ble_eq_true rfl⟩ d_Up_done_8) (fun r n2 I2 J2 R2 h => ?_)
  obtain ⟨rfl, e⟩ := h
  cases e
  refine z_cv (z_rN X cs_Up_67 rfl rfl (zo_s rfl hW.1).1 (zo_s rfl hW.1).2 (c_SM_release l g (hW.step (Nat.le_refl _) zIf.sz.ik zRk2.take) (zo_f e4)) ⟨Nat.le_of_ble_eq_true rfl, Nat.le_of_ble_eq_true rfl⟩ rfl rfl (Nat.le_of_ble_eq_true rfl) ⟨Nat.le_of_ble_eq_true rfl, Nat.le_of_ble_eq_true rfl⟩ d_Up_done_11) (fun n2 I2 J2 R2 h => ?_)
  cases h
  refine z_aload_n X d_Up_done_14 rfl ?_
  refine gr_Up_9 ((hR1.k (k := 4) (i := x) (j := 0) rfl).trans h0) X (zo_c hW.2.1.2 (by omega) hW.1) hx d_Up_done_15 ?_
  refine z_iconst (v := nI 0) X d_Up_done_18 rfl ?_
  refine pf_Up_70 X (zo_n (by omega) hW.1) d_Up_done_19 ?_
  refine z_aload_n X d_Up_done_22 rfl ?_
  refine gr_Up_9 ((hR1.k (k := 4) (i := x) (j := 0) rfl).trans h0) X (zo_c hW.2.1.2 (by omega) hW.1) hx d_Up_done_23 ?_
  refine gf_Up_73 X (zo_n (by omega) hW.1) d_Up_done_26 ?_
  refine z_top (v2 := va_rf ((R 1 a 14).map (zad g 1))) (by rw [hR1.k (k := 1) (i := a) (j := 14) rfl]) ?_
  refine z_aload_n X d_Up_done_29 rfl ?_
  refine gr_Up_21 ((hR1.k (k := 4) (i := x) (j := 3) rfl).trans h3) X (zo_c hW.2.1.2 (by omega) hW.1) hx d_Up_done_30 ?_
  refine z_acmp_ne (tgt := 50) (rx := ((R 1 a 14).map (zad g 1))) (ry := (some (zad g 1 b))) X rfl rfl d_Up_done_33 (by decide) (fun h33 => ?_) (fun h33 => ?_)
  · exact z_vret X hret (Nat.zero_le _) (Nat.zero_le _) (up_d2 hC2 (fun z => h33 (by rw [(hP.iff hc ha hb).mp z]; rfl)) (zIf.sz.ik.tr (zIk.put rfl)) hR1) d_Up_done_50
  · refine z_aload_n X d_Up_done_36 rfl ?_
    refine gr_Up_9 ((hR1.k (k := 4) (i := x) (j := 0) rfl).trans h0) X (zo_c hW.2.1.2 (by omega) hW.1) hx d_Up_done_37 ?_
    refine z_aload_n X d_Up_done_40 rfl ?_
    refine gr_Up_21 ((hR1.k (k := 4) (i := x) (j := 3) rfl).trans h3) X (zo_c hW.2.1.2 (by omega) hW.1) hx d_Up_done_41 ?_
    refine gf_Up_75 X (zo_n (by omega) hW.1) d_Up_done_44 ?_
    refine z_top (v2 := .int (A 33 0 b)) (congrArg Value.int (hC.1.nd hb).2.2.1) ?_
    refine pf_Up_75 X (zo_n (by omega) hW.1) d_Up_done_47 ?_
    exact z_vret X hret (Nat.zero_le _) (Nat.zero_le _) (up_d1 hC3 ((hP.iff hc ha hb).mpr (zadNo h33)) ((zIf.sz.ik.tr (zIk.put rfl)).tr (zIk.put rfl)) hR1) d_Up_done_50
theorem c_Up_failed (l : Launch) (g : zG) {S h n N : Nat} {I : zI} {J : zJ} {R : zR} {fl : zfl} {A : zI} {q : zq} (hW : zW g S h n I R) (hC : zRC g.2.2.2 n N I R fl A q) {x a : Nat} (b : Nat) (hx : 6 ≤ x ∧ x < 16) (ha : a < g.2.2.2) (h0 : R 4 x 0 = some a) : zMet l g y_Up_failed b_Up_failed 2 none 0 0 0 0 (zPc g [.ref (zad g 4 x), .ref (zad g 0 0)] n I J R) (zQv g (zS0 g n N I J R (zupE a b false A q).1 (zupE a b false A q).2)) := by
  have hC1 := hC.put (v := A 47 0 a + nI 1) (zco.n ha (j := 5) (k' := 47) (by decide))
  have hC2 := hC1.put (v := nI 0) (zco.n ha (j := 5) (k' := 47) (by decide))
  have hC3 := hC2.put (v := nI 0) (zco.n ha (j := 2) (k' := 32) (by decide))
  refine zMet.of (by decide) [some (.ref (zad g 4 x)), some (.ref (zad g 0 0))] rfl (Nat.le_of_ble_eq_true rfl) ?_
  intro pP eE sS mM aA bB mE cC X hret hnm
  have X : zC pP sS mM aA mE cC b_Up_failed "SlottedMesh$Up" 2 g := X
  have hret : mE.sig.returnType = none := hret
  refine z_aload_n X d_Up_failed_0 rfl ?_
  refine gr_Up_9 h0 X (zo_c hW.2.1.2 (by omega) hW.1) hx d_Up_failed_1 ?_
  refine z_dup X d_Up_failed_4 rfl ?_
  refine gf_Up_70 X (zo_n (by omega) hW.1) d_Up_failed_5 ?_
  refine z_top (v2 := .int (A 47 0 a)) (congrArg Value.int (hC.1.nd ha).2.2.2.2.1) ?_
  refine z_iconst (v := nI 1) X d_Up_failed_8 rfl ?_
  refine z_iadd X d_Up_failed_9 ?_
  refine pf_Up_70 X (zo_n (by omega) hW.1) d_Up_failed_10 ?_
  refine z_aload_n X d_Up_failed_13 rfl ?_
  refine gr_Up_9 h0 X (zo_c hW.2.1.2 (by omega) hW.1) hx d_Up_failed_14 ?_
  refine gf_Up_70 X (zo_n (by omega) hW.1) d_Up_failed_17 ?_
  refine z_top (congrArg Value.int zu_s) ?_
  refine z_iconst (v := nI 4) X d_Up_failed_20 rfl ?_
  refine z_icmp_ne (tgt := 40) X d_Up_failed_21 (by decide) (fun h21 => ?_) (fun h21 => ?_)
  · exact z_vret X hret (Nat.zero_le _) (Nat.zero_le _) (up_f2 hC1 h21 (zIk.put rfl)) d_Up_failed_40
  · refine z_aload_n X d_Up_failed_24 rfl ?_
    refine gr_Up_9 h0 X (zo_c hW.2.1.2 (by omega) hW.1) hx d_Up_failed_25 ?_
    refine z_iconst (v := nI 0) X d_Up_failed_28 rfl ?_
    refine pf_Up_70 X (zo_n (by omega) hW.1) d_Up_failed_29 ?_
    refine z_aload_n X d_Up_failed_32 rfl ?_
    refine gr_Up_9 h0 X (zo_c hW.2.1.2 (by omega) hW.1) hx d_Up_failed_33 ?_
    refine z_iconst (v := nI 0) X d_Up_failed_36 rfl ?_
    refine pf_Up_78 X (zo_n (by omega) hW.1) (by decide) d_Up_failed_37 ?_
    exact z_vret X hret (Nat.zero_le _) (Nat.zero_le _) (up_f1 hC3 h21 (((zIk.put rfl).tr (zIk.put rfl)).tr (zIk.put rfl))) d_Up_failed_40

