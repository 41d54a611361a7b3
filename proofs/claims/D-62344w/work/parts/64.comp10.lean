/-! THE COMPONENT'S SMALL METHODS -/
theorem znf_some {c j : Nat} {x : Int32} (hc : c ≤ 6) (h : znf c x = some j) : j < c ∧ x = nI j ∧ j ≠ 0 := by
  unfold znf at h
  split at h
  · cases h
  · rename_i h0
    obtain ⟨h1, h2⟩ := znd_some hc h
    exact ⟨h1, h2, fun e => h0 (by rw [h2, e]; rfl)⟩
theorem znf_not {c i : Nat} {x : Int32} (hz : znf c x = none) (hi : i < c) (hc : c ≤ 6) (h0 : i ≠ 0) (e : x = nI i) : False := by
  unfold znf at hz
  rw [if_neg (by rw [e]; exact nI_ne0 (by omega) (by omega)), e, znd_nI hi hc] at hz
  cases hz
/-- the ints of the component that a call may change, a plan apart -/
def zmd (k j : Nat) : Bool := zmc k j || (k == 8 || (k == 25 || (k == 26 || (k == 27 || ((k == 1 && (j == 1 || (j == 4 || j == 7))) || (k == 0 && j == 7))))))
def zId (I I2 : zI) : Prop := ∀ k i j, zmd k j = false → I2 k i j = I k i j
theorem zId.rf {I : zI} : zId I I := fun _ _ _ _ => rfl
theorem zId.tr {I I2 I3 : zI} (h : zId I I2) (h2 : zId I2 I3) : zId I I3 := fun k i j a => (h2 k i j a).trans (h k i j a)
theorem zId.put {I : zI} {k i j : Nat} {v : Int32} (h : zmd k j = true) : zId I (zu I k i j v) := fun k2 i2 j2 h2 => zu_oth (fun e => by rw [e.1, e.2.2, h] at h2; cases h2)
theorem zIk.id {I I2 : zI} (h : zIk I I2) : zId I I2 := fun k i j hm => h k i j (by unfold zmd at hm; simp only [Bool.or_eq_false_iff] at hm; exact hm.1)
theorem zIr.id {I I2 : zI} (h : zIr I I2) : zId I I2 := fun k i j hm => h k i j (by unfold zmd at hm; simp only [Bool.or_eq_false_iff] at hm; exact hm.1) (fun z => by rw [z.1, z.2] at hm; cases hm)
theorem zW.id {g : zG} {S h n n2 : Nat} {I I2 : zI} {R R2 : zR} (hW : zW g S h n I R) (hn : n ≤ n2) (hI : zId I I2) (hR : zRk2 R R2) : zW g S h n2 I2 R2 := by
  obtain ⟨a1, a2, a3, a4, a5, a6⟩ := hW
  refine ⟨Nat.le_trans a1 hn, a2, a3, a4, fun k i f h1 h2 h3 => ?_, a6.of (fun k i f hc => hI k i f ?_)⟩
  · rw [hR k i f (fun e => by subst e; cases h1) (fun e => by subst e; cases h1) (fun e => by rw [e.1, e.2.2] at h1; cases h1)]
    exact a5 k i f h1 h2 h3
  · unfold zci at hc
    unfold zmd zmc
    split at hc <;> simp_all <;> omega
def zOp (g : zG) (n N : Nat) (I : zI) (R : zR) (J : zJ) (A : zI) (q : zq) (u : zS) : Prop := ∃ n1 I1 R1 fl1, u = (n1, I1, J, R1) ∧ n ≤ n1 ∧ n1 ≤ n + 256 ∧ zRC g.2.2.2 n1 (N + 256) I1 R1 fl1 A q ∧ zId I I1 ∧ zRk2 R R1
theorem zRC.mono {c n N N2 : Nat} {I : zI} {R : zR} {fl : zfl} {A : zI} {q : zq} (h : zRC c n N I R fl A q) (hn : N ≤ N2) : zRC c n N2 I R fl A q := ⟨h.1, h.2.1.of hn (fun _ => rfl) (fun _ => rfl), h.2.2⟩
theorem zOp.of {g : zG} {n N : Nat} {I I1 : zI} {R : zR} {J : zJ} {fl : zfl} {A : zI} {q : zq} (h : zRC g.2.2.2 n N I1 R fl A q) (hI : zId I I1) : zOp g n N I R J A q (n, I1, J, R) := ⟨n, I1, R, fl, rfl, Nat.le_refl _, by omega, h.mono (by omega), hI, zRk2.rf⟩
theorem zRC.ofA {c n N : Nat} {I : zI} {R : zR} {fl : zfl} {A A2 : zI} {q : zq} (h : zRC c n N I R fl A q) (hA : ∀ k j, A2 k 0 j = A k 0 j) : zRC c n N I R fl A2 q := ⟨h.1.of (fun _ _ _ _ _ _ => rfl) (fun _ _ _ a b _ => hA a b), h.2.1.of (Nat.le_refl _) (fun _ => rfl) (fun s => hA 52 s), h.2.2⟩
theorem zFr.sz {c n : Nat} {I : zI} {R : zR} {fl : zfl} {q : zq} (h : zFr c n I R fl q) {r : Nat} (hr : zrv c r) : I 2 r 2 = nI (q r).length := by rw [← h.len hr]; exact (h.1 r hr).2.2.1
theorem c_SM_pair (l : Launch) (g : zG) {S h n N : Nat} {I : zI} {J : zJ} {R : zR} {fl : zfl} {A : zI} {q : zq} (hW : zW g S h n I R) (hC : zRC g.2.2.2 n N I R fl A q) (a b y : Int32) (hy : y = 0 ∨ y = 1) : zMet l g y_SM_pair b_SM_pair 4 (some .boolean) 1 21 0 0 (zPc g [.ref (zad g 0 0), .int a, .int b, .int y] n I J R) (zQi g (fun r u => (∃ i j, zgPair g.2.2.2 (A 30 0) a b y i j ∧ r = 1 ∧ zOp g n N I R J (zu (zu A 30 0 (6 * i + j) y) 30 0 (6 * j + i) y) q u) ∨ ((¬ ∃ i j, zgPair g.2.2.2 (A 30 0) a b y i j) ∧ r = 0 ∧ u = (n, I, J, R)))) := by
  have hc := hW.2.1.2
  refine zMet.of (by decide) [some (.ref (zad g 0 0)), some (.int a), some (.int b), some (.int y)] rfl (Nat.le_of_ble_eq_true rfl) ?_
  intro pP eE sS mM aA bB mE cC X hret hnm
  have X : zC pP sS mM aA mE cC b_SM_pair "SlottedMesh" 4 g := X
  have hret : mE.sig.returnType = (some .boolean) := hret
  refine z_aload_n X d_SM_pair_0 rfl ?_
  refine z_iload_n X d_SM_pair_1 rfl ?_
  rcases hz_i : znd g.2.2.2 a with _ | i
  · refine z_cq (z_rV X cs_SM_162 rfl rfl (zo_s rfl hW.1).1 (zo_s rfl hW.1).2 (c_SM_node l g hW _) ⟨Nat.le_of_ble_eq_true rfl, Nat.le_of_ble_eq_true rfl⟩ rfl rfl (Nat.le_of_ble_eq_true rfl) ⟨Nat.le_of_ble_eq_true rfl, Nat.le_of_ble_eq_true rfl⟩ d_SM_pair_2) (fun r n2 I2 J2 R2 h => ?_)
    obtain ⟨rfl, e⟩ := h
    cases e
    refine z_top (v2 := .null) (by rw [hz_i]; rfl) ?_
    refine z_ifnullN (tgt := 33) X d_SM_pair_5 (by decide) ?_
    refine z_iconst (v := nI 0) X d_SM_pair_33 rfl ?_
    exact z_iret X hret rfl (Nat.zero_le _) (Nat.zero_le _) (Or.inr ⟨fun ⟨i, j, q⟩ => znd_not hz_i q.1 hc q.2.2.1, rfl, rfl⟩) d_SM_pair_34
  · obtain ⟨hi_i, rfl⟩ := znd_some hc hz_i
    refine z_cq (z_rV X cs_SM_162 rfl rfl (zo_s rfl hW.1).1 (zo_s rfl hW.1).2 (c_SM_node l g hW _) ⟨Nat.le_of_ble_eq_true rfl, Nat.le_of_ble_eq_true rfl⟩ rfl rfl (Nat.le_of_ble_eq_true rfl) ⟨Nat.le_of_ble_eq_true rfl, Nat.le_of_ble_eq_true rfl⟩ d_SM_pair_2) (fun r n2 I2 J2 R2 h => ?_)
    obtain ⟨rfl, e⟩ := h
    cases e
    refine z_top (v2 := .ref (zad g 1 i)) (by rw [hz_i]; rfl) ?_
    refine z_ifnull (tgt := 33) X d_SM_pair_5 (by decide) ?_
    refine z_aload_n X d_SM_pair_8 rfl ?_
    refine z_iload_n X d_SM_pair_9 rfl ?_
    rcases hz_j : znd g.2.2.2 b with _ | j
    · refine z_cq (z_rV X cs_SM_162 rfl rfl (zo_s rfl hW.1).1 (zo_s rfl hW.1).2 (c_SM_node l g hW _) ⟨Nat.le_of_ble_eq_true rfl, Nat.le_of_ble_eq_true rfl⟩ rfl rfl (Nat.le_of_ble_eq_true rfl) ⟨Nat.le_of_ble_eq_true rfl, Nat.le_of_ble_eq_true rfl⟩ d_SM_pair_10) (fun r n2 I2 J2 R2 h => ?_)
      obtain ⟨rfl, e⟩ := h
      cases e
      refine z_top (v2 := .null) (by rw [hz_j]; rfl) ?_
      refine z_ifnullN (tgt := 33) X d_SM_pair_13 (by decide) ?_
      refine z_iconst (v := nI 0) X d_SM_pair_33 rfl ?_
      exact z_iret X hret rfl (Nat.zero_le _) (Nat.zero_le _) (Or.inr ⟨fun ⟨i, j, q⟩ => znd_not hz_j q.2.1 hc q.2.2.2.1, rfl, rfl⟩) d_SM_pair_34
    · obtain ⟨hi_j, rfl⟩ := znd_some hc hz_j
      refine z_cq (z_rV X cs_SM_162 rfl rfl (zo_s rfl hW.1).1 (zo_s rfl hW.1).2 (c_SM_node l g hW _) ⟨Nat.le_of_ble_eq_true rfl, Nat.le_of_ble_eq_true rfl⟩ rfl rfl (Nat.le_of_ble_eq_true rfl) ⟨Nat.le_of_ble_eq_true rfl, Nat.le_of_ble_eq_true rfl⟩ d_SM_pair_10) (fun r n2 I2 J2 R2 h => ?_)
      obtain ⟨rfl, e⟩ := h
      cases e
      refine z_top (v2 := .ref (zad g 1 j)) (by rw [hz_j]; rfl) ?_
      refine z_ifnull (tgt := 33) X d_SM_pair_13 (by decide) ?_
      refine z_iload_n X d_SM_pair_16 rfl ?_
      refine z_iload_n X d_SM_pair_17 rfl ?_
      refine z_icmpN_eq (tgt := 33) X d_SM_pair_18 (by decide) (by omega) (by omega) (fun h18 => ?_) (fun h18 => ?_)
      · refine z_iconst (v := nI 0) X d_SM_pair_33 rfl ?_
        exact z_iret X hret rfl (Nat.zero_le _) (Nat.zero_le _) (Or.inr ⟨fun ⟨i2, j2, q1, q2, q3, q4, q5, q6⟩ => by rw [nI_eq (by omega) (by omega)] at q3 q4; subst q3; subst q4; exact q5 h18, rfl, rfl⟩) d_SM_pair_34
      · refine z_aload_n X d_SM_pair_21 rfl ?_
        refine gr_SM_17 (hW.c (k := 0) (f := 4) rfl rfl (by decide) rfl) X (zo_s rfl hW.1) d_SM_pair_22 ?_
        refine z_iload_n X d_SM_pair_25 rfl ?_
        refine ar_7 X (zo_s rfl hW.1) rfl (by omega) (hW.nr (by omega)) d_SM_pair_26 ?_
        refine z_iload_n X d_SM_pair_27 rfl ?_
        refine al_8 X (zo_z (by omega) hW.1) rfl (by omega) d_SM_pair_28 ?_
        refine z_top (v2 := .int (A 30 0 (6 * i + j))) (congrArg Value.int (hC.1.nr (by omega) (by omega))) ?_
        refine z_iload_n X d_SM_pair_29 rfl ?_
        refine z_icmp_ne (tgt := 35) X d_SM_pair_30 (by decide) (fun h30 => ?_) (fun h30 => ?_)
        · refine z_aload_n X d_SM_pair_35 rfl ?_
          refine gr_SM_17 (hW.c (k := 0) (f := 4) rfl rfl (by decide) rfl) X (zo_s rfl hW.1) d_SM_pair_36 ?_
          refine z_iload_n X d_SM_pair_39 rfl ?_
          refine ar_7 X (zo_s rfl hW.1) rfl (by omega) (hW.nr (by omega)) d_SM_pair_40 ?_
          refine z_iload_n X d_SM_pair_41 rfl ?_
          refine z_iload_n X d_SM_pair_42 rfl ?_
          refine as_8 X (zo_z (by omega) hW.1) rfl (by omega) hy d_SM_pair_43 ?_
          refine z_aload_n X d_SM_pair_44 rfl ?_
          refine gr_SM_17 (hW.c (k := 0) (f := 4) rfl rfl (by decide) rfl) X (zo_s rfl hW.1) d_SM_pair_45 ?_
          refine z_iload_n X d_SM_pair_48 rfl ?_
          refine ar_7 X (zo_s rfl hW.1) rfl (by omega) (hW.nr (by omega)) d_SM_pair_49 ?_
          refine z_iload_n X d_SM_pair_50 rfl ?_
          refine z_iload_n X d_SM_pair_51 rfl ?_
          refine as_8 X (zo_z (by omega) hW.1) rfl (by omega) hy d_SM_pair_52 ?_
          refine z_iconst (v := nI 1) X d_SM_pair_53 rfl ?_
          exact z_iret X hret rfl (Nat.zero_le _) (Nat.zero_le _) (Or.inl ⟨i, j, ⟨hi_i, hi_j, rfl, rfl, h18, h30⟩, rfl, zOp.of ((hC.put (v := y) (zco.nr (a := i) (b := j) (by omega) (by omega))).put (v := y) (zco.nr (a := j) (b := i) (by omega) (by omega))) ((zId.put rfl).tr (zId.put rfl))⟩) d_SM_pair_54
        · refine z_iconst (v := nI 0) X d_SM_pair_33 rfl ?_
          exact z_iret X hret rfl (Nat.zero_le _) (Nat.zero_le _) (Or.inr ⟨fun ⟨i2, j2, q1, q2, q3, q4, q5, q6⟩ => by rw [nI_eq (by omega) (by omega)] at q3 q4; subst q3; subst q4; exact q6 h30, rfl, rfl⟩) d_SM_pair_34
theorem c_SM_start (l : Launch) (g : zG) {S h n N : Nat} {I : zI} {J : zJ} {R : zR} {fl : zfl} {A : zI} {q : zq} (hW : zW g S h n I R) (hC : zRC g.2.2.2 n N I R fl A q) (a : Int32) : zMet l g y_SM_start b_SM_start 3 (some .boolean) 1 21 0 0 (zPc g [.ref (zad g 0 0), .int a] n I J R) (zQi g (fun r u => (∃ i, zgStart g.2.2.2 (A 31 0) a i ∧ r = 1 ∧ zOp g n N I R J (zu A 31 0 i (nI 1)) q u) ∨ ((¬ ∃ i, zgStart g.2.2.2 (A 31 0) a i) ∧ r = 0 ∧ u = (n, I, J, R)))) := by
  have hc := hW.2.1.2
  refine zMet.of (by decide) [some (.ref (zad g 0 0)), some (.int a), none] rfl (Nat.le_of_ble_eq_true rfl) ?_
  intro pP eE sS mM aA bB mE cC X hret hnm
  have X : zC pP sS mM aA mE cC b_SM_start "SlottedMesh" 3 g := X
  have hret : mE.sig.returnType = (some .boolean) := hret
  refine z_aload_n X d_SM_start_0 rfl ?_
  refine z_iload_n X d_SM_start_1 rfl ?_
  rcases hz_i : znd g.2.2.2 a with _ | i
  · refine z_cq (z_rV X cs_SM_162 rfl rfl (zo_s rfl hW.1).1 (zo_s rfl hW.1).2 (c_SM_node l g hW _) ⟨Nat.le_of_ble_eq_true rfl, Nat.le_of_ble_eq_true rfl⟩ rfl rfl (Nat.le_of_ble_eq_true rfl) ⟨Nat.le_of_ble_eq_true rfl, Nat.le_of_ble_eq_true rfl⟩ d_SM_start_2) (fun r n2 I2 J2 R2 h => ?_)
    obtain ⟨rfl, e⟩ := h
    cases e
    refine z_top (v2 := .null) (by rw [hz_i]; rfl) ?_
    refine z_astore_nN X d_SM_start_5 (by decide) rfl ?_
    refine z_aload_nN X d_SM_start_6 rfl ?_
    refine z_ifnullN (tgt := 17) X d_SM_start_7 (by decide) ?_
    refine z_iconst (v := nI 0) X d_SM_start_17 rfl ?_
    exact z_iret X hret rfl (Nat.zero_le _) (Nat.zero_le _) (Or.inr ⟨fun ⟨i, q⟩ => znd_not hz_i q.1 hc q.2.1, rfl, rfl⟩) d_SM_start_18
  · obtain ⟨hi_i, rfl⟩ := znd_some hc hz_i
    refine z_cq (z_rV X cs_SM_162 rfl rfl (zo_s rfl hW.1).1 (zo_s rfl hW.1).2 (c_SM_node l g hW _) ⟨Nat.le_of_ble_eq_true rfl, Nat.le_of_ble_eq_true rfl⟩ rfl rfl (Nat.le_of_ble_eq_true rfl) ⟨Nat.le_of_ble_eq_true rfl, Nat.le_of_ble_eq_true rfl⟩ d_SM_start_2) (fun r n2 I2 J2 R2 h => ?_)
    obtain ⟨rfl, e⟩ := h
    cases e
    refine z_top (v2 := .ref (zad g 1 i)) (by rw [hz_i]; rfl) ?_
    refine z_astore_n X d_SM_start_5 (by decide) rfl ?_
    refine z_aload_n X d_SM_start_6 rfl ?_
    refine z_ifnull (tgt := 17) X d_SM_start_7 (by decide) ?_
    refine z_aload_n X d_SM_start_10 rfl ?_
    refine gf_SM_120 X (zo_n (by omega) hW.1) d_SM_start_11 ?_
    refine z_top (congrArg Value.int ((hC.1.nd hi_i).1)) ?_
    refine z_if_eq (tgt := 19) X d_SM_start_14 (by decide) (fun h14 => ?_) (fun h14 => ?_)
    · refine z_aload_n X d_SM_start_19 rfl ?_
      refine z_iconst (v := nI 1) X d_SM_start_20 rfl ?_
      refine pf_SM_120 X (zo_n (by omega) hW.1) (by decide) d_SM_start_21 ?_
      refine z_iconst (v := nI 1) X d_SM_start_24 rfl ?_
      exact z_iret X hret rfl (Nat.zero_le _) (Nat.zero_le _) (Or.inl ⟨i, ⟨hi_i, rfl, h14⟩, rfl, zOp.of (hC.put (zco.n hi_i (by decide))) (zId.put rfl)⟩) d_SM_start_25
    · refine z_iconst (v := nI 0) X d_SM_start_17 rfl ?_
      exact z_iret X hret rfl (Nat.zero_le _) (Nat.zero_le _) (Or.inr ⟨fun ⟨i2, q1, q2, q3⟩ => by rw [nI_eq (by omega) (by omega)] at q2; subst q2; exact h14 q3, rfl, rfl⟩) d_SM_start_18
theorem c_SM_drift (l : Launch) (g : zG) {S h n N : Nat} {I : zI} {J : zJ} {R : zR} {fl : zfl} {A : zI} {q : zq} (hW : zW g S h n I R) (hC : zRC g.2.2.2 n N I R fl A q) (a d : Int32) : zMet l g y_SM_drift b_SM_drift 4 (some .boolean) 2 42 0 0 (zPc g [.ref (zad g 0 0), .int a, .int d] n I J R) (zQi g (fun r u => (∃ i, zgDrift g.2.2.2 a d i ∧ r = 1 ∧ zOp g n N I R J (zu A 34 0 i d) q u) ∨ ((¬ ∃ i, zgDrift g.2.2.2 a d i) ∧ r = 0 ∧ u = (n, I, J, R)))) := by
  have hc := hW.2.1.2
  refine zMet.of (by decide) [some (.ref (zad g 0 0)), some (.int a), some (.int d), none] rfl (Nat.le_of_ble_eq_true rfl) ?_
  intro pP eE sS mM aA bB mE cC X hret hnm
  have X : zC pP sS mM aA mE cC b_SM_drift "SlottedMesh" 4 g := X
  have hret : mE.sig.returnType = (some .boolean) := hret
  refine z_aload_n X d_SM_drift_0 rfl ?_
  refine z_iload_n X d_SM_drift_1 rfl ?_
  rcases hz_i : znf g.2.2.2 a with _ | i
  · refine z_cq (z_rV X cs_SM_245 rfl rfl (zo_s rfl hW.1).1 (zo_s rfl hW.1).2 (c_SM_field l g hW _) ⟨Nat.le_of_ble_eq_true rfl, Nat.le_of_ble_eq_true rfl⟩ rfl rfl (Nat.le_of_ble_eq_true rfl) ⟨Nat.le_of_ble_eq_true rfl, Nat.le_of_ble_eq_true rfl⟩ d_SM_drift_2) (fun r n2 I2 J2 R2 h => ?_)
    obtain ⟨rfl, e⟩ := h
    cases e
    refine z_top (v2 := .null) (by rw [hz_i]; rfl) ?_
    refine z_astore_nN X d_SM_drift_5 (by decide) rfl ?_
    refine z_aload_nN X d_SM_drift_6 rfl ?_
    refine z_ifnullN (tgt := 21) X d_SM_drift_7 (by decide) ?_
    refine z_iconst (v := nI 0) X d_SM_drift_21 rfl ?_
    exact z_iret X hret rfl (Nat.zero_le _) (Nat.zero_le _) (Or.inr ⟨fun ⟨i, q⟩ => znf_not hz_i q.1 hc q.2.2.1 q.2.1, rfl, rfl⟩) d_SM_drift_22
  · obtain ⟨hi_i, rfl, h0_i⟩ := znf_some hc hz_i
    refine z_cq (z_rV X cs_SM_245 rfl rfl (zo_s rfl hW.1).1 (zo_s rfl hW.1).2 (c_SM_field l g hW _) ⟨Nat.le_of_ble_eq_true rfl, Nat.le_of_ble_eq_true rfl⟩ rfl rfl (Nat.le_of_ble_eq_true rfl) ⟨Nat.le_of_ble_eq_true rfl, Nat.le_of_ble_eq_true rfl⟩ d_SM_drift_2) (fun r n2 I2 J2 R2 h => ?_)
    obtain ⟨rfl, e⟩ := h
    cases e
    refine z_top (v2 := .ref (zad g 1 i)) (by rw [hz_i]; rfl) ?_
    refine z_astore_n X d_SM_drift_5 (by decide) rfl ?_
    refine z_aload_n X d_SM_drift_6 rfl ?_
    refine z_ifnull (tgt := 21) X d_SM_drift_7 (by decide) ?_
    refine z_iload_n X d_SM_drift_10 rfl ?_
    refine z_bipush (v := -3) X d_SM_drift_11 rfl ?_
    refine z_icmp_lt (tgt := 21) X d_SM_drift_13 (by decide) (fun h13 => ?_) (fun h13 => ?_)
    · refine z_iconst (v := nI 0) X d_SM_drift_21 rfl ?_
      exact z_iret X hret rfl (Nat.zero_le _) (Nat.zero_le _) (Or.inr ⟨fun ⟨i2, q1, q2, q3, q4, q5⟩ => q4 h13, rfl, rfl⟩) d_SM_drift_22
    · refine z_iload_n X d_SM_drift_16 rfl ?_
      refine z_iconst (v := nI 3) X d_SM_drift_17 rfl ?_
      refine z_icmp_le (tgt := 23) X d_SM_drift_18 (by decide) (fun h18 => ?_) (fun h18 => ?_)
      · refine z_aload_n X d_SM_drift_23 rfl ?_
        refine z_iload_n X d_SM_drift_24 rfl ?_
        refine pf_SM_260 X (zo_n (by omega) hW.1) d_SM_drift_25 ?_
        refine z_iconst (v := nI 1) X d_SM_drift_28 rfl ?_
        exact z_iret X hret rfl (Nat.zero_le _) (Nat.zero_le _) (Or.inl ⟨i, ⟨hi_i, rfl, h0_i, h13, h18⟩, rfl, zOp.of (hC.put (zco.n hi_i (by decide))) (zId.put rfl)⟩) d_SM_drift_29
      · refine z_iconst (v := nI 0) X d_SM_drift_21 rfl ?_
        exact z_iret X hret rfl (Nat.zero_le _) (Nat.zero_le _) (Or.inr ⟨fun ⟨i2, q1, q2, q3, q4, q5⟩ => h18 q5, rfl, rfl⟩) d_SM_drift_22
theorem c_SM_radio (l : Launch) (g : zG) {S h n : Nat} {I : zI} {J : zJ} {R : zR} (hW : zW g S h n I R) (a : Int32) (f k : Int64) : zMet l g y_SM_radio b_SM_radio 6 (some .boolean) 0 0 0 0 (zPc g [.ref (zad g 0 0), .int a, .long f, .long k] n I J R) (zQi g (fun r u => (∃ i, zgRadio h a i ∧ r = 1 ∧ u = (n, I, zu (zu J 9 0 i f) 10 0 i k, R)) ∨ ((¬ ∃ i, zgRadio h a i) ∧ r = 0 ∧ u = (n, I, J, R)))) := by
  have hh := hW.2.2.2.1.2
  refine zMet.of (by decide) [some (.ref (zad g 0 0)), some (.int a), some (.long f), none, some (.long k), none] rfl (Nat.le_of_ble_eq_true rfl) ?_
  intro pP eE sS mM aA bB mE cC X hret hnm
  have X : zC pP sS mM aA mE cC b_SM_radio "SlottedMesh" 6 g := X
  have hret : mE.sig.returnType = (some .boolean) := hret
  refine z_iload_n X d_SM_radio_0 rfl ?_
  refine z_if_lt (tgt := 12) X d_SM_radio_1 (by decide) (fun h1 => ?_) (fun h1 => ?_)
  · refine z_iconst (v := nI 0) X d_SM_radio_12 rfl ?_
    exact z_iret X hret rfl (Nat.zero_le _) (Nat.zero_le _) (Or.inr ⟨fun ⟨i, q1, q2⟩ => by rw [q2] at h1; exact absurd (nI_le (Nat.zero_le i) (by omega)) (Int32.not_le.mpr h1), rfl, rfl⟩) d_SM_radio_13
  · refine z_iload_n X d_SM_radio_4 rfl ?_
    refine z_aload_n X d_SM_radio_5 rfl ?_
    refine gf_SM_111 X (zo_s rfl hW.1) d_SM_radio_6 ?_
    refine z_top (congrArg Value.int (hW.2.2.2.2.2.2.2.1)) ?_
    refine z_icmp_lt (tgt := 14) X d_SM_radio_9 (by decide) (fun h9 => ?_) (fun h9 => ?_)
    · obtain ⟨i, hi, rfl⟩ := zget h1 h9 (by omega)
      refine z_aload_n X d_SM_radio_14 rfl ?_
      refine gr_SM_22 (hW.c (k := 0) (f := 5) rfl rfl (by decide) rfl) X (zo_s rfl hW.1) d_SM_radio_15 ?_
      refine z_iload_n X d_SM_radio_18 rfl ?_
      refine z_lload_n X d_SM_radio_19 rfl ?_
      refine as_9 X (zo_s rfl hW.1) rfl (by omega) d_SM_radio_20 ?_
      refine z_aload_n X d_SM_radio_21 rfl ?_
      refine gr_SM_26 (hW.c (k := 0) (f := 6) rfl rfl (by decide) rfl) X (zo_s rfl hW.1) d_SM_radio_22 ?_
      refine z_iload_n X d_SM_radio_25 rfl ?_
      refine z_lload X d_SM_radio_26 rfl ?_
      refine as_10 X (zo_s rfl hW.1) rfl (by omega) d_SM_radio_28 ?_
      refine z_iconst (v := nI 1) X d_SM_radio_29 rfl ?_
      exact z_iret X hret rfl (Nat.zero_le _) (Nat.zero_le _) (Or.inl ⟨i, ⟨hi, rfl⟩, rfl, rfl⟩) d_SM_radio_30
    · refine z_iconst (v := nI 0) X d_SM_radio_12 rfl ?_
      exact z_iret X hret rfl (Nat.zero_le _) (Nat.zero_le _) (Or.inr ⟨fun ⟨i, q1, q2⟩ => by rw [q2] at h9; exact h9 (nI_lt q1 (by omega)), rfl, rfl⟩) d_SM_radio_13
theorem c_SM_control (l : Launch) (g : zG) {S h n N : Nat} {I : zI} {J : zJ} {R : zR} {fl : zfl} {A : zI} {q : zq} (hW : zW g S h n I R) (hC : zRC g.2.2.2 n N I R fl A q) (a t p i : Int32) : zMet l g y_SM_control b_SM_control 5 (some .boolean) 2 42 0 0 (zPc g [.ref (zad g 0 0), .int a, .int t, .int p, .int i] n I J R) (zQi g (fun r u => (∃ k, zgControl g.2.2.2 a t p i k ∧ r = 1 ∧ zOp g n N I R J (zu (zu (zu A 53 0 k t) 54 0 k p) 55 0 k i) q u) ∨ ((¬ ∃ k, zgControl g.2.2.2 a t p i k) ∧ r = 0 ∧ u = (n, I, J, R)))) := by
  have hc := hW.2.1.2
  refine zMet.of (by decide) [some (.ref (zad g 0 0)), some (.int a), some (.int t), some (.int p), some (.int i)] rfl (Nat.le_of_ble_eq_true rfl) ?_
  intro pP eE sS mM aA bB mE cC X hret hnm
  have X : zC pP sS mM aA mE cC b_SM_control "SlottedMesh" 5 g := X
  have hret : mE.sig.returnType = (some .boolean) := hret
  refine z_aload_n X d_SM_control_0 rfl ?_
  refine z_iload_n X d_SM_control_1 rfl ?_
  rcases hz_k : znf g.2.2.2 a with _ | k
  · refine z_cq (z_rV X cs_SM_245 rfl rfl (zo_s rfl hW.1).1 (zo_s rfl hW.1).2 (c_SM_field l g hW _) ⟨Nat.le_of_ble_eq_true rfl, Nat.le_of_ble_eq_true rfl⟩ rfl rfl (Nat.le_of_ble_eq_true rfl) ⟨Nat.le_of_ble_eq_true rfl, Nat.le_of_ble_eq_true rfl⟩ d_SM_control_2) (fun r n2 I2 J2 R2 h => ?_)
    obtain ⟨rfl, e⟩ := h
    cases e
    refine z_top (v2 := .null) (by rw [hz_k]; rfl) ?_
    refine z_ifnullN (tgt := 37) X d_SM_control_5 (by decide) ?_
    refine z_iconst (v := nI 0) X d_SM_control_37 rfl ?_
    exact z_iret X hret rfl (Nat.zero_le _) (Nat.zero_le _) (Or.inr ⟨fun ⟨k, q⟩ => znf_not hz_k q.1 hc q.2.2.1 q.2.1, rfl, rfl⟩) d_SM_control_38
  · obtain ⟨hi_k, rfl, h0_k⟩ := znf_some hc hz_k
    refine z_cq (z_rV X cs_SM_245 rfl rfl (zo_s rfl hW.1).1 (zo_s rfl hW.1).2 (c_SM_field l g hW _) ⟨Nat.le_of_ble_eq_true rfl, Nat.le_of_ble_eq_true rfl⟩ rfl rfl (Nat.le_of_ble_eq_true rfl) ⟨Nat.le_of_ble_eq_true rfl, Nat.le_of_ble_eq_true rfl⟩ d_SM_control_2) (fun r n2 I2 J2 R2 h => ?_)
    obtain ⟨rfl, e⟩ := h
    cases e
    refine z_top (v2 := .ref (zad g 1 k)) (by rw [hz_k]; rfl) ?_
    refine z_ifnull (tgt := 37) X d_SM_control_5 (by decide) ?_
    refine z_iload_n X d_SM_control_8 rfl ?_
    refine z_ci (z_rS X cs_SM_263 (c_SM_wide l g _) ⟨Nat.le_of_ble_eq_true rfl, Nat.le_of_ble_eq_true rfl⟩ rfl rfl (Nat.le_of_ble_eq_true rfl) ⟨Nat.le_of_ble_eq_true rfl, Nat.le_of_ble_eq_true rfl⟩ d_SM_control_9) (fun r n2 I2 J2 R2 h => ?_)
    obtain ⟨rfl, e⟩ := h
    cases e
    refine z_if_ne (tgt := 37) X d_SM_control_12 (by decide) (fun h12 => ?_) (fun h12 => ?_)
    · refine z_iconst (v := nI 0) X d_SM_control_37 rfl ?_
      exact z_iret X hret rfl (Nat.zero_le _) (Nat.zero_le _) (Or.inr ⟨fun ⟨k2, q1, q2, q3, q4, q5, q6⟩ => h12 (if_neg (fun z => z.elim q4 q5)), rfl, rfl⟩) d_SM_control_38
    · refine z_iload_n X d_SM_control_15 rfl ?_
      refine z_if_lt (tgt := 37) X d_SM_control_16 (by decide) (fun h16 => ?_) (fun h16 => ?_)
      · refine z_iconst (v := nI 0) X d_SM_control_37 rfl ?_
        exact z_iret X hret rfl (Nat.zero_le _) (Nat.zero_le _) (Or.inr ⟨fun ⟨k2, q1, q2, q3, q4, q5, q6, q7, q8, q9⟩ => q6 h16, rfl, rfl⟩) d_SM_control_38
      · refine z_iload_n X d_SM_control_19 rfl ?_
        refine z_bipush (v := nI 16) X d_SM_control_20 rfl ?_
        refine z_icmp_gt (tgt := 37) X d_SM_control_22 (by decide) (fun h22 => ?_) (fun h22 => ?_)
        · refine z_iconst (v := nI 0) X d_SM_control_37 rfl ?_
          exact z_iret X hret rfl (Nat.zero_le _) (Nat.zero_le _) (Or.inr ⟨fun ⟨k2, q1, q2, q3, q4, q5, q6, q7, q8, q9⟩ => q7 h22, rfl, rfl⟩) d_SM_control_38
        · refine z_iload X d_SM_control_25 rfl ?_
          refine z_if_lt (tgt := 37) X d_SM_control_27 (by decide) (fun h27 => ?_) (fun h27 => ?_)
          · refine z_iconst (v := nI 0) X d_SM_control_37 rfl ?_
            exact z_iret X hret rfl (Nat.zero_le _) (Nat.zero_le _) (Or.inr ⟨fun ⟨k2, q1, q2, q3, q4, q5, q6, q7, q8, q9⟩ => q8 h27, rfl, rfl⟩) d_SM_control_38
          · refine z_iload X d_SM_control_30 rfl ?_
            refine z_bipush (v := nI 16) X d_SM_control_32 rfl ?_
            refine z_icmp_le (tgt := 39) X d_SM_control_34 (by decide) (fun h34 => ?_) (fun h34 => ?_)
            · have hw : ¬ (t < -1000 ∨ nI 1000 < t) := fun z => by rw [if_pos z] at h12; exact absurd h12 (by decide)
              refine z_aload_n X d_SM_control_39 rfl ?_
              refine gr_SM_83 (hW.c (k := 0) (f := 24) rfl rfl (by decide) rfl) X (zo_s rfl hW.1) d_SM_control_40 ?_
              refine z_iload_n X d_SM_control_43 rfl ?_
              refine z_iload_n X d_SM_control_44 rfl ?_
              refine as_25 X (zo_s rfl hW.1) rfl (by omega) d_SM_control_45 ?_
              refine z_aload_n X d_SM_control_46 rfl ?_
              refine gr_SM_86 (hW.c (k := 0) (f := 25) rfl rfl (by decide) rfl) X (zo_s rfl hW.1) d_SM_control_47 ?_
              refine z_iload_n X d_SM_control_50 rfl ?_
              refine z_iload_n X d_SM_control_51 rfl ?_
              refine as_26 X (zo_s rfl hW.1) rfl (by omega) d_SM_control_52 ?_
              refine z_aload_n X d_SM_control_53 rfl ?_
              refine gr_SM_89 (hW.c (k := 0) (f := 26) rfl rfl (by decide) rfl) X (zo_s rfl hW.1) d_SM_control_54 ?_
              refine z_iload_n X d_SM_control_57 rfl ?_
              refine z_iload X d_SM_control_58 rfl ?_
              refine as_27 X (zo_s rfl hW.1) rfl (by omega) d_SM_control_60 ?_
              refine z_iconst (v := nI 1) X d_SM_control_61 rfl ?_
              exact z_iret X hret rfl (Nat.zero_le _) (Nat.zero_le _) (Or.inl ⟨k, ⟨hi_k, rfl, h0_k, fun z => hw (Or.inl z), fun z => hw (Or.inr z), h16, h22, h27, h34⟩, rfl, zOp.of (((hC.put (v := t) (zco.lp (k := 25) (k' := 53) (by decide) (by decide) (by omega) rfl)).put (v := p) (zco.lp (k := 26) (k' := 54) (by decide) (by decide) (by omega) rfl)).put (v := i) (zco.lp (k := 27) (k' := 55) (by decide) (by decide) (by omega) rfl)) (((zId.put rfl).tr (zId.put rfl)).tr (zId.put rfl))⟩) d_SM_control_62
            · refine z_iconst (v := nI 0) X d_SM_control_37 rfl ?_
              exact z_iret X hret rfl (Nat.zero_le _) (Nat.zero_le _) (Or.inr ⟨fun ⟨k2, q1, q2, q3, q4, q5, q6, q7, q8, q9⟩ => h34 q9, rfl, rfl⟩) d_SM_control_38
theorem c_SM_sample (l : Launch) (g : zG) {S h n N : Nat} {I : zI} {J : zJ} {R : zR} {fl : zfl} {A : zI} {q : zq} (hW : zW g S h n I R) (hC : zRC g.2.2.2 n N I R fl A q) (a v : Int32) : zMet l g y_SM_sample b_SM_sample 4 (some .int) 3 56 1 4 (zPc g [.ref (zad g 0 0), .int a, .int v] n I J R) (zQi g (fun r u => (∃ i, zgSample g.2.2.2 (A 31 0) q a v i ∧ r = A 50 0 i + nI 1 ∧ zOp g n N I R J (zu A 50 0 i (A 50 0 i + nI 1)) (qu q i (q i ++ [(i, A 50 0 i + nI 1, v)])) u) ∨ ((¬ ∃ i, zgSample g.2.2.2 (A 31 0) q a v i) ∧ r = -1 ∧ u = (n, I, J, R)))) := by
  have hc := hW.2.1.2
  refine zMet.of (by decide) [some (.ref (zad g 0 0)), some (.int a), some (.int v), none] rfl (Nat.le_of_ble_eq_true rfl) ?_
  intro pP eE sS mM aA bB mE cC X hret hnm
  have X : zC pP sS mM aA mE cC b_SM_sample "SlottedMesh" 4 g := X
  have hret : mE.sig.returnType = (some .int) := hret
  refine z_aload_n X d_SM_sample_0 rfl ?_
  refine z_iload_n X d_SM_sample_1 rfl ?_
  rcases hz_i : znf g.2.2.2 a with _ | i
  · refine z_cq (z_rV X cs_SM_245 rfl rfl (zo_s rfl hW.1).1 (zo_s rfl hW.1).2 (c_SM_field l g hW _) ⟨Nat.le_of_ble_eq_true rfl, Nat.le_of_ble_eq_true rfl⟩ rfl rfl (Nat.le_of_ble_eq_true rfl) ⟨Nat.le_of_ble_eq_true rfl, Nat.le_of_ble_eq_true rfl⟩ d_SM_sample_2) (fun r n2 I2 J2 R2 h => ?_)
    obtain ⟨rfl, e⟩ := h
    cases e
    refine z_top (v2 := .null) (by rw [hz_i]; rfl) ?_
    refine z_astore_nN X d_SM_sample_5 (by decide) rfl ?_
    refine z_aload_nN X d_SM_sample_6 rfl ?_
    refine z_ifnullN (tgt := 35) X d_SM_sample_7 (by decide) ?_
    refine z_iconst (v := -1) X d_SM_sample_35 rfl ?_
    exact z_iret X hret rfl (Nat.zero_le _) (Nat.zero_le _) (Or.inr ⟨fun ⟨i, q⟩ => znf_not hz_i q.1 hc q.2.2.1 q.2.1, rfl, rfl⟩) d_SM_sample_36
  · obtain ⟨hi_i, rfl, h0_i⟩ := znf_some hc hz_i
    refine z_cq (z_rV X cs_SM_245 rfl rfl (zo_s rfl hW.1).1 (zo_s rfl hW.1).2 (c_SM_field l g hW _) ⟨Nat.le_of_ble_eq_true rfl, Nat.le_of_ble_eq_true rfl⟩ rfl rfl (Nat.le_of_ble_eq_true rfl) ⟨Nat.le_of_ble_eq_true rfl, Nat.le_of_ble_eq_true rfl⟩ d_SM_sample_2) (fun r n2 I2 J2 R2 h => ?_)
    obtain ⟨rfl, e⟩ := h
    cases e
    refine z_top (v2 := .ref (zad g 1 i)) (by rw [hz_i]; rfl) ?_
    refine z_astore_n X d_SM_sample_5 (by decide) rfl ?_
    refine z_aload_n X d_SM_sample_6 rfl ?_
    refine z_ifnull (tgt := 35) X d_SM_sample_7 (by decide) ?_
    refine z_aload_n X d_SM_sample_10 rfl ?_
    refine gf_SM_120 X (zo_n (by omega) hW.1) d_SM_sample_11 ?_
    refine z_top (congrArg Value.int ((hC.1.nd hi_i).1)) ?_
    refine z_if_eq (tgt := 35) X d_SM_sample_14 (by decide) (fun h14 => ?_) (fun h14 => ?_)
    · refine z_iconst (v := -1) X d_SM_sample_35 rfl ?_
      exact z_iret X hret rfl (Nat.zero_le _) (Nat.zero_le _) (Or.inr ⟨fun ⟨i2, q1, q2, q3, q4, q5⟩ => by rw [nI_eq (by omega) (by omega)] at q2; subst q2; exact q4 h14, rfl, rfl⟩) d_SM_sample_36
    · refine z_iload_n X d_SM_sample_17 rfl ?_
      refine z_ci (z_rS X cs_SM_263 (c_SM_wide l g _) ⟨Nat.le_of_ble_eq_true rfl, Nat.le_of_ble_eq_true rfl⟩ rfl rfl (Nat.le_of_ble_eq_true rfl) ⟨Nat.le_of_ble_eq_true rfl, Nat.le_of_ble_eq_true rfl⟩ d_SM_sample_18) (fun r n2 I2 J2 R2 h => ?_)
      obtain ⟨rfl, e⟩ := h
      cases e
      refine z_if_ne (tgt := 35) X d_SM_sample_21 (by decide) (fun h21 => ?_) (fun h21 => ?_)
      · refine z_iconst (v := -1) X d_SM_sample_35 rfl ?_
        exact z_iret X hret rfl (Nat.zero_le _) (Nat.zero_le _) (Or.inr ⟨fun ⟨i2, q1, q2, q3, q4, q5, q6, q7⟩ => h21 (if_neg (fun z => z.elim q5 q6)), rfl, rfl⟩) d_SM_sample_36
      · refine z_aload_n X d_SM_sample_24 rfl ?_
        refine gr_SM_251 (hW.up (by omega)).1 X (zo_n (by omega) hW.1) d_SM_sample_25 ?_
        refine gf_SM_149 X (zo_r (Or.inl hi_i) hW.1) d_SM_sample_28 ?_
        refine z_top (congrArg Value.int (hC.2.2.1.sz (Or.inl hi_i))) ?_
        refine z_iconst (v := nI 4) X d_SM_sample_31 rfl ?_
        refine z_icmp_ne (tgt := 37) X d_SM_sample_32 (by decide) (fun h32 => ?_) (fun h32 => ?_)
        · have hw : ¬ (v < -1000 ∨ nI 1000 < v) := fun z => by rw [if_pos z] at h21; exact absurd h21 (by decide)
          have hl4 : (q i).length < 4 := by have h1 := (hC.2.2.2 i (Or.inl hi_i)).1; have h2 : (q i).length ≠ 4 := fun z => h32 (by rw [z]); omega
          have hC1 := hC.put (v := A 50 0 i + nI 1) (zco.n hi_i (j := 7) (k' := 50) (by decide))
          refine z_aload_n X d_SM_sample_37 rfl ?_
          refine z_dup X d_SM_sample_38 rfl ?_
          refine gf_SM_267 X (zo_n (by omega) hW.1) d_SM_sample_39 ?_
          refine z_top (congrArg Value.int ((hC.1.nd hi_i).2.2.2.2.2.2.1)) ?_
          refine z_iconst (v := nI 1) X d_SM_sample_42 rfl ?_
          refine z_iadd X d_SM_sample_43 ?_
          refine pf_SM_267 X (zo_n (by omega) hW.1) d_SM_sample_44 ?_
          refine z_aload_n X d_SM_sample_47 rfl ?_
          refine gr_SM_251 (hW.up (by omega)).1 X (zo_n (by omega) hW.1) d_SM_sample_48 ?_
          refine z_aload_n X d_SM_sample_51 rfl ?_
          refine z_iload_n X d_SM_sample_52 rfl ?_
          refine z_aload_n X d_SM_sample_53 rfl ?_
          refine gf_SM_267 X (zo_n (by omega) hW.1) d_SM_sample_54 ?_
          refine z_top (congrArg Value.int zu_s) ?_
          refine z_iload_n X d_SM_sample_57 rfl ?_
          refine z_cq (z_rV X cs_SM_270 rfl rfl (zo_s rfl hW.1).1 (zo_s rfl hW.1).2 (c_SM_frame l g (hW.upI rfl) (fun j hj => zo_f (hC.2.2.1.spare j hj)) _ _ _) ⟨Nat.le_of_ble_eq_true rfl, Nat.le_of_ble_eq_true rfl⟩ rfl rfl (Nat.le_of_ble_eq_true rfl) ⟨Nat.le_of_ble_eq_true rfl, Nat.le_of_ble_eq_true rfl⟩ d_SM_sample_58) (fun r n1 I1 J1 R1 h9 => ?_)
          obtain ⟨f9, nx, Ix, Rx, fl1, rfl, e2, e3, e4, e5, e6, e7, e8, e9⟩ := zFr.push hc hC1 (Or.inl hi_i) hl4 ⟨by omega, hi_i⟩ h9
          cases e2
          refine z_cv (z_rV X cs_SM_274 rfl rfl (zo_r (Or.inl hi_i) (Nat.le_trans hW.1 e3)).1 (zo_r (Or.inl hi_i) (Nat.le_trans hW.1 e3)).2 (c_Row_add l g (zo_r (Or.inl hi_i) (Nat.le_trans hW.1 e3)) (zo_f e7) (fun j hj => zo_f (e8 j hj))) ⟨Nat.le_of_ble_eq_true rfl, Nat.le_of_ble_eq_true rfl⟩ rfl rfl (Nat.le_of_ble_eq_true rfl) ⟨Nat.le_of_ble_eq_true rfl, Nat.le_of_ble_eq_true rfl⟩ d_SM_sample_61) (fun n2 I2 J2 R2 h => ?_)
          cases h
          refine z_aload_n X d_SM_sample_64 rfl ?_
          refine gf_SM_267 X (zo_n hi_i (Nat.le_trans hW.1 e3)) d_SM_sample_65 ?_
          refine z_top (v2 := .int (A 50 0 i + nI 1)) (congrArg Value.int ((zu_k (by decide)).trans ((e5 1 i 7 (by decide) (by decide)).trans zu_s))) ?_
          exact z_iret X hret rfl (Nat.le_of_ble_eq_true rfl) (Nat.le_of_ble_eq_true rfl) (Or.inl ⟨i, ⟨hi_i, rfl, h0_i, h14, fun z => hw (Or.inl z), fun z => hw (Or.inr z), by omega⟩, rfl, _, _, _, fl1, rfl, e3, by omega, e9.mono (by omega), (zId.put rfl).tr (e5.ik.id.tr zIf.sz.ik.id), e6.tr zRk2.add⟩) d_SM_sample_68
        · refine z_iconst (v := -1) X d_SM_sample_35 rfl ?_
          exact z_iret X hret rfl (Nat.zero_le _) (Nat.zero_le _) (Or.inr ⟨fun ⟨i2, q1, q2, q3, q4, q5, q6, q7⟩ => by rw [nI_eq (by omega) (by omega)] at q2; subst q2; exact q7 (nI_inj (by have := (hC.2.2.2 i (Or.inl hi_i)).1; omega) (by omega) h32), rfl, rfl⟩) d_SM_sample_36

