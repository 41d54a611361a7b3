/-! THE TWIN'S SMALL METHODS -/
def znn (c : Nat) (x : Int32) : Int32 := match znd c x with | none => nI 1 | some _ => nI 0
theorem znn_no {c : Nat} {x : Int32} (h : znd c x = none) : znn c x = nI 1 := by unfold znn; rw [h]
theorem znn_yes {c i : Nat} (h : i < c) (hc : c ≤ 6) : znn c (nI i) = nI 0 := by unfold znn; rw [znd_nI h hc]
theorem znd_not {c i : Nat} {x : Int32} (hz : znd c x = none) (hi : i < c) (hc : c ≤ 6) (e : x = nI i) : False := by rw [e, znd_nI hi hc] at hz; cases hz
theorem nI_inj {a b : Nat} (ha : a < 2 ^ 31) (hb : b < 2 ^ 31) (h : nI a = nI b) : a = b := (nI_eq ha hb).mp h
theorem nI_ne00 {i : Nat} (h : nI i = 0) (hi : i ≤ 6) : i = 0 := nI_inj (b := 0) (by omega) (by omega) h
theorem c_Model_noNode (l : Launch) (g : zG) {S h n : Nat} {I : zI} {J : zJ} {R : zR} (hW : zW g S h n I R) (x : Int32) : zMet l g y_Model_noNode b_Model_noNode 2 (some .boolean) 0 0 0 0 (zPc g [.ref (zad g 29 0), .int x] n I J R) (zQi g (fun r u => r = znn g.2.2.2 x ∧ u = (n, I, J, R))) := by
  refine zMet.of (by decide) [some (.ref (zad g 29 0)), some (.int x)] rfl (Nat.le_of_ble_eq_true rfl) ?_
  intro pP eE sS mM aA bB mE cC X hret hnm
  have X : zC pP sS mM aA mE cC b_Model_noNode "SlottedMeshModel" 2 g := X
  have hret : mE.sig.returnType = (some .boolean) := hret
  refine z_iload_n X d_Model_noNode_0 rfl ?_
  refine z_if_lt (tgt := 12) X d_Model_noNode_1 (by decide) (fun h1 => ?_) (fun h1 => ?_)
  · refine z_iconst (v := nI 1) X d_Model_noNode_12 rfl ?_
    refine z_goto (tgt := 17) X d_Model_noNode_13 (by decide) ?_
    exact z_iret X hret rfl (Nat.zero_le _) (Nat.zero_le _) ⟨(znn_no (by first | exact znd_lo h1 | exact znd_hi hW.2.1.2 h9)).symm, rfl⟩ d_Model_noNode_17
  · refine z_iload_n X d_Model_noNode_4 rfl ?_
    refine z_aload_n X d_Model_noNode_5 rfl ?_
    refine gf_Model_96 X (zo_s rfl hW.1) d_Model_noNode_6 ?_
    refine z_top (congrArg Value.int (hW.2.2.2.2.2.2.2.2.2.1)) ?_
    refine z_icmp_lt (tgt := 16) X d_Model_noNode_9 (by decide) (fun h9 => ?_) (fun h9 => ?_)
    · obtain ⟨j, hj, rfl⟩ := zget h1 h9 hW.2.1.2
      refine z_iconst (v := nI 0) X d_Model_noNode_16 rfl ?_
      exact z_iret X hret rfl (Nat.zero_le _) (Nat.zero_le _) ⟨(znn_yes hj hW.2.1.2).symm, rfl⟩ d_Model_noNode_17
    · refine z_iconst (v := nI 1) X d_Model_noNode_12 rfl ?_
      refine z_goto (tgt := 17) X d_Model_noNode_13 (by decide) ?_
      exact z_iret X hret rfl (Nat.zero_le _) (Nat.zero_le _) ⟨(znn_no (by first | exact znd_lo h1 | exact znd_hi hW.2.1.2 h9)).symm, rfl⟩ d_Model_noNode_17
theorem zidx (a b : Nat) : nI 6 * nI a + nI b = nI (6 * a + b) := by rw [pk_mul, nI_add]
theorem zidx4 (a b : Nat) : nI 4 * nI a + nI b = nI (4 * a + b) := by rw [pk_mul, nI_add]
/-- pair: when the answer is true -/
def zgPair (c : Nat) (f : Nat → Int32) (a b y : Int32) (i j : Nat) : Prop := i < c ∧ j < c ∧ a = nI i ∧ b = nI j ∧ i ≠ j ∧ f (6 * i + j) ≠ y
theorem c_Model_pair (l : Launch) (g : zG) {S h n : Nat} {I : zI} {J : zJ} {R : zR} (hW : zW g S h n I R) (a b y : Int32) (hy : y = 0 ∨ y = 1) : zMet l g y_Model_pair b_Model_pair 4 (some .boolean) 1 21 0 0 (zPc g [.ref (zad g 29 0), .int a, .int b, .int y] n I J R) (zQi g (fun r u => (∃ i j, zgPair g.2.2.2 (I 30 0) a b y i j ∧ r = 1 ∧ u = (n, zu (zu I 30 0 (6 * i + j) y) 30 0 (6 * j + i) y, J, R)) ∨ ((¬ ∃ i j, zgPair g.2.2.2 (I 30 0) a b y i j) ∧ r = 0 ∧ u = (n, I, J, R)))) := by
  have hc := hW.2.1.2
  refine zMet.of (by decide) [some (.ref (zad g 29 0)), some (.int a), some (.int b), some (.int y)] rfl (Nat.le_of_ble_eq_true rfl) ?_
  intro pP eE sS mM aA bB mE cC X hret hnm
  have X : zC pP sS mM aA mE cC b_Model_pair "SlottedMeshModel" 4 g := X
  have hret : mE.sig.returnType = (some .boolean) := hret
  rcases hz_i : znd g.2.2.2 a with _ | i
  · refine z_aload_n X d_Model_pair_0 rfl ?_
    refine z_iload_n X d_Model_pair_1 rfl ?_
    refine z_ci (z_rV X cs_Model_108 rfl rfl (zo_s rfl hW.1).1 (zo_s rfl hW.1).2 (c_Model_noNode l g hW _) ⟨Nat.le_of_ble_eq_true rfl, Nat.le_of_ble_eq_true rfl⟩ rfl rfl (Nat.le_of_ble_eq_true rfl) ⟨Nat.le_of_ble_eq_true rfl, Nat.le_of_ble_eq_true rfl⟩ d_Model_pair_2) (fun r n2 I2 J2 R2 h => ?_)
    obtain ⟨rfl, e⟩ := h
    cases e
    refine z_top (congrArg Value.int (znn_no hz_i)) ?_
    refine z_if_ne (tgt := 36) X d_Model_pair_5 (by decide) (fun _ => ?_) (fun hq => absurd hq (by decide))
    refine z_iconst (v := nI 0) X d_Model_pair_36 rfl ?_
    exact z_iret X hret rfl (Nat.zero_le _) (Nat.zero_le _) (Or.inr ⟨fun ⟨i, j, q⟩ => znd_not hz_i q.1 hc q.2.2.1, rfl, rfl⟩) d_Model_pair_37
  · obtain ⟨hi_i, rfl⟩ := znd_some hc hz_i
    refine z_aload_n X d_Model_pair_0 rfl ?_
    refine z_iload_n X d_Model_pair_1 rfl ?_
    refine z_ci (z_rV X cs_Model_108 rfl rfl (zo_s rfl hW.1).1 (zo_s rfl hW.1).2 (c_Model_noNode l g hW _) ⟨Nat.le_of_ble_eq_true rfl, Nat.le_of_ble_eq_true rfl⟩ rfl rfl (Nat.le_of_ble_eq_true rfl) ⟨Nat.le_of_ble_eq_true rfl, Nat.le_of_ble_eq_true rfl⟩ d_Model_pair_2) (fun r n2 I2 J2 R2 h => ?_)
    obtain ⟨rfl, e⟩ := h
    cases e
    refine z_top (congrArg Value.int (znn_yes hi_i hc)) ?_
    refine z_if_ne (tgt := 36) X d_Model_pair_5 (by decide) (fun hq => absurd hq (by decide)) (fun _ => ?_)
    refine z_aload_n X d_Model_pair_8 rfl ?_
    rcases hz_j : znd g.2.2.2 b with _ | j
    · refine z_iload_n X d_Model_pair_9 rfl ?_
      refine z_ci (z_rV X cs_Model_108 rfl rfl (zo_s rfl hW.1).1 (zo_s rfl hW.1).2 (c_Model_noNode l g hW _) ⟨Nat.le_of_ble_eq_true rfl, Nat.le_of_ble_eq_true rfl⟩ rfl rfl (Nat.le_of_ble_eq_true rfl) ⟨Nat.le_of_ble_eq_true rfl, Nat.le_of_ble_eq_true rfl⟩ d_Model_pair_10) (fun r n2 I2 J2 R2 h => ?_)
      obtain ⟨rfl, e⟩ := h
      cases e
      refine z_top (congrArg Value.int (znn_no hz_j)) ?_
      refine z_if_ne (tgt := 36) X d_Model_pair_13 (by decide) (fun _ => ?_) (fun hq => absurd hq (by decide))
      refine z_iconst (v := nI 0) X d_Model_pair_36 rfl ?_
      exact z_iret X hret rfl (Nat.zero_le _) (Nat.zero_le _) (Or.inr ⟨fun ⟨i, j, q⟩ => znd_not hz_j q.2.1 hc q.2.2.2.1, rfl, rfl⟩) d_Model_pair_37
    · obtain ⟨hi_j, rfl⟩ := znd_some hc hz_j
      refine z_iload_n X d_Model_pair_9 rfl ?_
      refine z_ci (z_rV X cs_Model_108 rfl rfl (zo_s rfl hW.1).1 (zo_s rfl hW.1).2 (c_Model_noNode l g hW _) ⟨Nat.le_of_ble_eq_true rfl, Nat.le_of_ble_eq_true rfl⟩ rfl rfl (Nat.le_of_ble_eq_true rfl) ⟨Nat.le_of_ble_eq_true rfl, Nat.le_of_ble_eq_true rfl⟩ d_Model_pair_10) (fun r n2 I2 J2 R2 h => ?_)
      obtain ⟨rfl, e⟩ := h
      cases e
      refine z_top (congrArg Value.int (znn_yes hi_j hc)) ?_
      refine z_if_ne (tgt := 36) X d_Model_pair_13 (by decide) (fun hq => absurd hq (by decide)) (fun _ => ?_)
      refine z_iload_n X d_Model_pair_16 rfl ?_
      refine z_iload_n X d_Model_pair_17 rfl ?_
      refine z_icmpN_eq (tgt := 36) X d_Model_pair_18 (by decide) (by omega) (by omega) (fun h18 => ?_) (fun h18 => ?_)
      · refine z_iconst (v := nI 0) X d_Model_pair_36 rfl ?_
        exact z_iret X hret rfl (Nat.zero_le _) (Nat.zero_le _) (Or.inr ⟨fun ⟨i2, j2, q1, q2, q3, q4, q5, q6⟩ => by rw [nI_eq (by omega) (by omega)] at q3 q4; subst q3; subst q4; first | exact q5 h18 | exact q6 h33, rfl, rfl⟩) d_Model_pair_37
      · refine z_aload_n X d_Model_pair_21 rfl ?_
        refine gr_Model_7 (hW.c (k := 29) (f := 5) rfl rfl (by decide) rfl) X (zo_s rfl hW.1) d_Model_pair_22 ?_
        refine z_bipush (v := nI 6) X d_Model_pair_25 rfl ?_
        refine z_iload_n X d_Model_pair_27 rfl ?_
        refine z_imul X d_Model_pair_28 ?_
        refine z_iload_n X d_Model_pair_29 rfl ?_
        refine z_iadd X d_Model_pair_30 ?_
        refine al_30 (j := 6 * i + j) X (zo_s rfl hW.1) (zidx i j) (by omega) d_Model_pair_31 ?_
        refine z_iload_n X d_Model_pair_32 rfl ?_
        refine z_icmp_ne (tgt := 38) X d_Model_pair_33 (by decide) (fun h33 => ?_) (fun h33 => ?_)
        · refine z_aload_n X d_Model_pair_38 rfl ?_
          refine gr_Model_7 (hW.c (k := 29) (f := 5) rfl rfl (by decide) rfl) X (zo_s rfl hW.1) d_Model_pair_39 ?_
          refine z_bipush (v := nI 6) X d_Model_pair_42 rfl ?_
          refine z_iload_n X d_Model_pair_44 rfl ?_
          refine z_imul X d_Model_pair_45 ?_
          refine z_iload_n X d_Model_pair_46 rfl ?_
          refine z_iadd X d_Model_pair_47 ?_
          refine z_iload_n X d_Model_pair_48 rfl ?_
          refine as_30 (j := 6 * i + j) X (zo_s rfl hW.1) (zidx i j) (by omega) hy d_Model_pair_49 ?_
          refine z_aload_n X d_Model_pair_50 rfl ?_
          refine gr_Model_7 (hW.c (k := 29) (f := 5) rfl rfl (by decide) rfl) X (zo_s rfl hW.1) d_Model_pair_51 ?_
          refine z_bipush (v := nI 6) X d_Model_pair_54 rfl ?_
          refine z_iload_n X d_Model_pair_56 rfl ?_
          refine z_imul X d_Model_pair_57 ?_
          refine z_iload_n X d_Model_pair_58 rfl ?_
          refine z_iadd X d_Model_pair_59 ?_
          refine z_iload_n X d_Model_pair_60 rfl ?_
          refine as_30 (j := 6 * j + i) X (zo_s rfl hW.1) (zidx j i) (by omega) hy d_Model_pair_61 ?_
          refine z_iconst (v := nI 1) X d_Model_pair_62 rfl ?_
          exact z_iret X hret rfl (Nat.zero_le _) (Nat.zero_le _) (Or.inl ⟨i, j, ⟨hi_i, hi_j, rfl, rfl, h18, h33⟩, rfl, rfl⟩) d_Model_pair_63
        · refine z_iconst (v := nI 0) X d_Model_pair_36 rfl ?_
          exact z_iret X hret rfl (Nat.zero_le _) (Nat.zero_le _) (Or.inr ⟨fun ⟨i2, j2, q1, q2, q3, q4, q5, q6⟩ => by rw [nI_eq (by omega) (by omega)] at q3 q4; subst q3; subst q4; first | exact q5 h18 | exact q6 h33, rfl, rfl⟩) d_Model_pair_37
def zgStart (c : Nat) (f : Nat → Int32) (a : Int32) (i : Nat) : Prop := i < c ∧ a = nI i ∧ f i = 0
theorem c_Model_start (l : Launch) (g : zG) {S h n : Nat} {I : zI} {J : zJ} {R : zR} (hW : zW g S h n I R) (a : Int32) : zMet l g y_Model_start b_Model_start 2 (some .boolean) 1 21 0 0 (zPc g [.ref (zad g 29 0), .int a] n I J R) (zQi g (fun r u => (∃ i, zgStart g.2.2.2 (I 31 0) a i ∧ r = 1 ∧ u = (n, zu I 31 0 i (nI 1), J, R)) ∨ ((¬ ∃ i, zgStart g.2.2.2 (I 31 0) a i) ∧ r = 0 ∧ u = (n, I, J, R)))) := by
  have hc := hW.2.1.2
  refine zMet.of (by decide) [some (.ref (zad g 29 0)), some (.int a)] rfl (Nat.le_of_ble_eq_true rfl) ?_
  intro pP eE sS mM aA bB mE cC X hret hnm
  have X : zC pP sS mM aA mE cC b_Model_start "SlottedMeshModel" 2 g := X
  have hret : mE.sig.returnType = (some .boolean) := hret
  rcases hz_i : znd g.2.2.2 a with _ | i
  · refine z_aload_n X d_Model_start_0 rfl ?_
    refine z_iload_n X d_Model_start_1 rfl ?_
    refine z_ci (z_rV X cs_Model_108 rfl rfl (zo_s rfl hW.1).1 (zo_s rfl hW.1).2 (c_Model_noNode l g hW _) ⟨Nat.le_of_ble_eq_true rfl, Nat.le_of_ble_eq_true rfl⟩ rfl rfl (Nat.le_of_ble_eq_true rfl) ⟨Nat.le_of_ble_eq_true rfl, Nat.le_of_ble_eq_true rfl⟩ d_Model_start_2) (fun r n2 I2 J2 R2 h => ?_)
    obtain ⟨rfl, e⟩ := h
    cases e
    refine z_top (congrArg Value.int (znn_no hz_i)) ?_
    refine z_if_ne (tgt := 17) X d_Model_start_5 (by decide) (fun _ => ?_) (fun hq => absurd hq (by decide))
    refine z_iconst (v := nI 0) X d_Model_start_17 rfl ?_
    exact z_iret X hret rfl (Nat.zero_le _) (Nat.zero_le _) (Or.inr ⟨fun ⟨i, q⟩ => znd_not hz_i q.1 hc q.2.1, rfl, rfl⟩) d_Model_start_18
  · obtain ⟨hi_i, rfl⟩ := znd_some hc hz_i
    refine z_aload_n X d_Model_start_0 rfl ?_
    refine z_iload_n X d_Model_start_1 rfl ?_
    refine z_ci (z_rV X cs_Model_108 rfl rfl (zo_s rfl hW.1).1 (zo_s rfl hW.1).2 (c_Model_noNode l g hW _) ⟨Nat.le_of_ble_eq_true rfl, Nat.le_of_ble_eq_true rfl⟩ rfl rfl (Nat.le_of_ble_eq_true rfl) ⟨Nat.le_of_ble_eq_true rfl, Nat.le_of_ble_eq_true rfl⟩ d_Model_start_2) (fun r n2 I2 J2 R2 h => ?_)
    obtain ⟨rfl, e⟩ := h
    cases e
    refine z_top (congrArg Value.int (znn_yes hi_i hc)) ?_
    refine z_if_ne (tgt := 17) X d_Model_start_5 (by decide) (fun hq => absurd hq (by decide)) (fun _ => ?_)
    refine z_aload_n X d_Model_start_8 rfl ?_
    refine gr_Model_13 (hW.c (k := 29) (f := 6) rfl rfl (by decide) rfl) X (zo_s rfl hW.1) d_Model_start_9 ?_
    refine z_iload_n X d_Model_start_12 rfl ?_
    refine al_31 X (zo_s rfl hW.1) rfl (by omega) d_Model_start_13 ?_
    refine z_if_eq (tgt := 19) X d_Model_start_14 (by decide) (fun h14 => ?_) (fun h14 => ?_)
    · refine z_aload_n X d_Model_start_19 rfl ?_
      refine gr_Model_13 (hW.c (k := 29) (f := 6) rfl rfl (by decide) rfl) X (zo_s rfl hW.1) d_Model_start_20 ?_
      refine z_iload_n X d_Model_start_23 rfl ?_
      refine z_iconst (v := nI 1) X d_Model_start_24 rfl ?_
      refine as_31 X (zo_s rfl hW.1) rfl (by omega) (by decide) d_Model_start_25 ?_
      refine z_iconst (v := nI 1) X d_Model_start_26 rfl ?_
      exact z_iret X hret rfl (Nat.zero_le _) (Nat.zero_le _) (Or.inl ⟨i, ⟨hi_i, rfl, h14⟩, rfl, rfl⟩) d_Model_start_27
    · refine z_iconst (v := nI 0) X d_Model_start_17 rfl ?_
      exact z_iret X hret rfl (Nat.zero_le _) (Nat.zero_le _) (Or.inr ⟨fun ⟨i2, q1, q2, q3⟩ => by rw [nI_eq (by omega) (by omega)] at q2; subst q2; exact h14 q3, rfl, rfl⟩) d_Model_start_18
def zgDrift (c : Nat) (a d : Int32) (i : Nat) : Prop := i < c ∧ a = nI i ∧ i ≠ 0 ∧ ¬ d < -3 ∧ d ≤ nI 3
theorem c_Model_drift (l : Launch) (g : zG) {S h n : Nat} {I : zI} {J : zJ} {R : zR} (hW : zW g S h n I R) (a d : Int32) : zMet l g y_Model_drift b_Model_drift 3 (some .boolean) 1 21 0 0 (zPc g [.ref (zad g 29 0), .int a, .int d] n I J R) (zQi g (fun r u => (∃ i, zgDrift g.2.2.2 a d i ∧ r = 1 ∧ u = (n, zu I 34 0 i d, J, R)) ∨ ((¬ ∃ i, zgDrift g.2.2.2 a d i) ∧ r = 0 ∧ u = (n, I, J, R)))) := by
  have hc := hW.2.1.2
  refine zMet.of (by decide) [some (.ref (zad g 29 0)), some (.int a), some (.int d)] rfl (Nat.le_of_ble_eq_true rfl) ?_
  intro pP eE sS mM aA bB mE cC X hret hnm
  have X : zC pP sS mM aA mE cC b_Model_drift "SlottedMeshModel" 3 g := X
  have hret : mE.sig.returnType = (some .boolean) := hret
  rcases hz_i : znd g.2.2.2 a with _ | i
  · refine z_aload_n X d_Model_drift_0 rfl ?_
    refine z_iload_n X d_Model_drift_1 rfl ?_
    refine z_ci (z_rV X cs_Model_108 rfl rfl (zo_s rfl hW.1).1 (zo_s rfl hW.1).2 (c_Model_noNode l g hW _) ⟨Nat.le_of_ble_eq_true rfl, Nat.le_of_ble_eq_true rfl⟩ rfl rfl (Nat.le_of_ble_eq_true rfl) ⟨Nat.le_of_ble_eq_true rfl, Nat.le_of_ble_eq_true rfl⟩ d_Model_drift_2) (fun r n2 I2 J2 R2 h => ?_)
    obtain ⟨rfl, e⟩ := h
    cases e
    refine z_top (congrArg Value.int (znn_no hz_i)) ?_
    refine z_if_ne (tgt := 23) X d_Model_drift_5 (by decide) (fun _ => ?_) (fun hq => absurd hq (by decide))
    refine z_iconst (v := nI 0) X d_Model_drift_23 rfl ?_
    exact z_iret X hret rfl (Nat.zero_le _) (Nat.zero_le _) (Or.inr ⟨fun ⟨i, q⟩ => znd_not hz_i q.1 hc q.2.1, rfl, rfl⟩) d_Model_drift_24
  · obtain ⟨hi_i, rfl⟩ := znd_some hc hz_i
    refine z_aload_n X d_Model_drift_0 rfl ?_
    refine z_iload_n X d_Model_drift_1 rfl ?_
    refine z_ci (z_rV X cs_Model_108 rfl rfl (zo_s rfl hW.1).1 (zo_s rfl hW.1).2 (c_Model_noNode l g hW _) ⟨Nat.le_of_ble_eq_true rfl, Nat.le_of_ble_eq_true rfl⟩ rfl rfl (Nat.le_of_ble_eq_true rfl) ⟨Nat.le_of_ble_eq_true rfl, Nat.le_of_ble_eq_true rfl⟩ d_Model_drift_2) (fun r n2 I2 J2 R2 h => ?_)
    obtain ⟨rfl, e⟩ := h
    cases e
    refine z_top (congrArg Value.int (znn_yes hi_i hc)) ?_
    refine z_if_ne (tgt := 23) X d_Model_drift_5 (by decide) (fun hq => absurd hq (by decide)) (fun _ => ?_)
    refine z_iload_n X d_Model_drift_8 rfl ?_
    refine z_if_eq (tgt := 23) X d_Model_drift_9 (by decide) (fun h9 => ?_) (fun h9 => ?_)
    · refine z_iconst (v := nI 0) X d_Model_drift_23 rfl ?_
      exact z_iret X hret rfl (Nat.zero_le _) (Nat.zero_le _) (Or.inr ⟨fun ⟨i2, q1, q2, q3, q4, q5⟩ => by rw [nI_eq (by omega) (by omega)] at q2; subst q2; first | exact q3 (nI_ne00 h9 (by omega)) | exact q4 h15 | exact h20 q5, rfl, rfl⟩) d_Model_drift_24
    · refine z_iload_n X d_Model_drift_12 rfl ?_
      refine z_bipush (v := -3) X d_Model_drift_13 rfl ?_
      refine z_icmp_lt (tgt := 23) X d_Model_drift_15 (by decide) (fun h15 => ?_) (fun h15 => ?_)
      · refine z_iconst (v := nI 0) X d_Model_drift_23 rfl ?_
        exact z_iret X hret rfl (Nat.zero_le _) (Nat.zero_le _) (Or.inr ⟨fun ⟨i2, q1, q2, q3, q4, q5⟩ => by rw [nI_eq (by omega) (by omega)] at q2; subst q2; first | exact q3 (nI_ne00 h9 (by omega)) | exact q4 h15 | exact h20 q5, rfl, rfl⟩) d_Model_drift_24
      · refine z_iload_n X d_Model_drift_18 rfl ?_
        refine z_iconst (v := nI 3) X d_Model_drift_19 rfl ?_
        refine z_icmp_le (tgt := 25) X d_Model_drift_20 (by decide) (fun h20 => ?_) (fun h20 => ?_)
        · refine z_aload_n X d_Model_drift_25 rfl ?_
          refine gr_Model_23 (hW.c (k := 29) (f := 9) rfl rfl (by decide) rfl) X (zo_s rfl hW.1) d_Model_drift_26 ?_
          refine z_iload_n X d_Model_drift_29 rfl ?_
          refine z_iload_n X d_Model_drift_30 rfl ?_
          refine as_34 X (zo_s rfl hW.1) rfl (by omega) d_Model_drift_31 ?_
          refine z_iconst (v := nI 1) X d_Model_drift_32 rfl ?_
          exact z_iret X hret rfl (Nat.zero_le _) (Nat.zero_le _) (Or.inl ⟨i, ⟨hi_i, rfl, fun e => h9 (by rw [e]; rfl), h15, h20⟩, rfl, rfl⟩) d_Model_drift_33
        · refine z_iconst (v := nI 0) X d_Model_drift_23 rfl ?_
          exact z_iret X hret rfl (Nat.zero_le _) (Nat.zero_le _) (Or.inr ⟨fun ⟨i2, q1, q2, q3, q4, q5⟩ => by rw [nI_eq (by omega) (by omega)] at q2; subst q2; first | exact q3 (nI_ne00 h9 (by omega)) | exact q4 h15 | exact h20 q5, rfl, rfl⟩) d_Model_drift_24
def zgRadio (hh : Nat) (a : Int32) (i : Nat) : Prop := i < hh ∧ a = nI i
theorem c_Model_radio (l : Launch) (g : zG) {S h n : Nat} {I : zI} {J : zJ} {R : zR} (hW : zW g S h n I R) (a : Int32) (f k : Int64) : zMet l g y_Model_radio b_Model_radio 6 (some .boolean) 0 0 0 0 (zPc g [.ref (zad g 29 0), .int a, .long f, .long k] n I J R) (zQi g (fun r u => (∃ i, zgRadio h a i ∧ r = 1 ∧ u = (n, I, zu (zu J 35 0 i f) 36 0 i k, R)) ∨ ((¬ ∃ i, zgRadio h a i) ∧ r = 0 ∧ u = (n, I, J, R)))) := by
  have hh := hW.2.2.2.1.2
  refine zMet.of (by decide) [some (.ref (zad g 29 0)), some (.int a), some (.long f), none, some (.long k), none] rfl (Nat.le_of_ble_eq_true rfl) ?_
  intro pP eE sS mM aA bB mE cC X hret hnm
  have X : zC pP sS mM aA mE cC b_Model_radio "SlottedMeshModel" 6 g := X
  have hret : mE.sig.returnType = (some .boolean) := hret
  refine z_iload_n X d_Model_radio_0 rfl ?_
  refine z_if_lt (tgt := 12) X d_Model_radio_1 (by decide) (fun h1 => ?_) (fun h1 => ?_)
  · refine z_iconst (v := nI 0) X d_Model_radio_12 rfl ?_
    exact z_iret X hret rfl (Nat.zero_le _) (Nat.zero_le _) (Or.inr ⟨fun ⟨i, q1, q2⟩ => by first | (rw [q2] at h1; exact nI_pos (by omega) h1) | (rw [q2] at h9; exact h9 (nI_lt q1 (by omega))), rfl, rfl⟩) d_Model_radio_13
  · refine z_iload_n X d_Model_radio_4 rfl ?_
    refine z_aload_n X d_Model_radio_5 rfl ?_
    refine gf_Model_103 X (zo_s rfl hW.1) d_Model_radio_6 ?_
    refine z_top (congrArg Value.int (hW.2.2.2.2.2.2.2.2.2.2.2)) ?_
    refine z_icmp_lt (tgt := 14) X d_Model_radio_9 (by decide) (fun h9 => ?_) (fun h9 => ?_)
    · obtain ⟨i, hi, rfl⟩ := zget h1 h9 (by omega)
      refine z_aload_n X d_Model_radio_14 rfl ?_
      refine gr_Model_26 (hW.c (k := 29) (f := 10) rfl rfl (by decide) rfl) X (zo_s rfl hW.1) d_Model_radio_15 ?_
      refine z_iload_n X d_Model_radio_18 rfl ?_
      refine z_lload_n X d_Model_radio_19 rfl ?_
      refine as_35 X (zo_s rfl hW.1) rfl (by omega) d_Model_radio_20 ?_
      refine z_aload_n X d_Model_radio_21 rfl ?_
      refine gr_Model_30 (hW.c (k := 29) (f := 11) rfl rfl (by decide) rfl) X (zo_s rfl hW.1) d_Model_radio_22 ?_
      refine z_iload_n X d_Model_radio_25 rfl ?_
      refine z_lload X d_Model_radio_26 rfl ?_
      refine as_36 X (zo_s rfl hW.1) rfl (by omega) d_Model_radio_28 ?_
      refine z_iconst (v := nI 1) X d_Model_radio_29 rfl ?_
      exact z_iret X hret rfl (Nat.zero_le _) (Nat.zero_le _) (Or.inl ⟨i, ⟨hi, rfl⟩, rfl, rfl⟩) d_Model_radio_30
    · refine z_iconst (v := nI 0) X d_Model_radio_12 rfl ?_
      exact z_iret X hret rfl (Nat.zero_le _) (Nat.zero_le _) (Or.inr ⟨fun ⟨i, q1, q2⟩ => by first | (rw [q2] at h1; exact nI_pos (by omega) h1) | (rw [q2] at h9; exact h9 (nI_lt q1 (by omega))), rfl, rfl⟩) d_Model_radio_13
def zaddT (I : zI) (r m : Nat) (e k v : Int32) : zI := zu (zu (zu (zu I 44 0 (4 * r + m) e) 45 0 (4 * r + m) k) 46 0 (4 * r + m) v) 43 0 r (nI (m + 1))
theorem c_Model_add (l : Launch) (g : zG) {S h n : Nat} {I : zI} {J : zJ} {R : zR} (hW : zW g S h n I R) (r m : Nat) (hr : r < 12) (hm : m < 4) (h0 : I 43 0 r = nI m) (e k v : Int32) : zMet l g y_Model_add b_Model_add 6 none 0 0 0 0 (zPc g [.ref (zad g 29 0), .int (nI r), .int e, .int k, .int v] n I J R) (zQv g (fun u => u = (n, zaddT I r m e k v, J, R))) := by
  refine zMet.of (by decide) [some (.ref (zad g 29 0)), some (.int (nI r)), some (.int e), some (.int k), some (.int v), none] rfl (Nat.le_of_ble_eq_true rfl) ?_
  intro pP eE sS mM aA bB mE cC X hret hnm
  have X : zC pP sS mM aA mE cC b_Model_add "SlottedMeshModel" 6 g := X
  have hret : mE.sig.returnType = none := hret
  refine z_iconst (v := nI 4) X d_Model_add_0 rfl ?_
  refine z_iload_n X d_Model_add_1 rfl ?_
  refine z_imul X d_Model_add_2 ?_
  refine z_aload_n X d_Model_add_3 rfl ?_
  refine gr_Model_51 (hW.c (k := 29) (f := 19) rfl rfl (by decide) rfl) X (zo_s rfl hW.1) d_Model_add_4 ?_
  refine z_iload_n X d_Model_add_7 rfl ?_
  refine al_43 X (zo_s rfl hW.1) rfl (by omega) d_Model_add_8 ?_
  refine z_top (congrArg Value.int h0) ?_
  refine z_iadd X d_Model_add_9 ?_
  refine z_istore X d_Model_add_10 (by decide) rfl ?_
  refine z_aload_n X d_Model_add_12 rfl ?_
  refine gr_Model_54 (hW.c (k := 29) (f := 20) rfl rfl (by decide) rfl) X (zo_s rfl hW.1) d_Model_add_13 ?_
  refine z_iload X d_Model_add_16 rfl ?_
  refine z_iload_n X d_Model_add_18 rfl ?_
  refine as_44 (j := 4 * r + m) X (zo_s rfl hW.1) (zidx4 r m) (by omega) d_Model_add_19 ?_
  refine z_aload_n X d_Model_add_20 rfl ?_
  refine gr_Model_57 (hW.c (k := 29) (f := 21) rfl rfl (by decide) rfl) X (zo_s rfl hW.1) d_Model_add_21 ?_
  refine z_iload X d_Model_add_24 rfl ?_
  refine z_iload_n X d_Model_add_26 rfl ?_
  refine as_45 (j := 4 * r + m) X (zo_s rfl hW.1) (zidx4 r m) (by omega) d_Model_add_27 ?_
  refine z_aload_n X d_Model_add_28 rfl ?_
  refine gr_Model_60 (hW.c (k := 29) (f := 22) rfl rfl (by decide) rfl) X (zo_s rfl hW.1) d_Model_add_29 ?_
  refine z_iload X d_Model_add_32 rfl ?_
  refine z_iload X d_Model_add_34 rfl ?_
  refine as_46 (j := 4 * r + m) X (zo_s rfl hW.1) (zidx4 r m) (by omega) d_Model_add_36 ?_
  refine z_aload_n X d_Model_add_37 rfl ?_
  refine gr_Model_51 (hW.c (k := 29) (f := 19) rfl rfl (by decide) rfl) X (zo_s rfl hW.1) d_Model_add_38 ?_
  refine z_iload_n X d_Model_add_41 rfl ?_
  refine z_dup2 X d_Model_add_42 rfl rfl ?_
  refine al_43 X (zo_s rfl hW.1) rfl (by omega) d_Model_add_43 ?_
  refine z_top (v2 := .int (nI m)) (congrArg Value.int h0) ?_
  refine z_iconst (v := nI 1) X d_Model_add_44 rfl ?_
  refine z_iadd X d_Model_add_45 ?_
  refine z_top (v2 := .int (nI (m + 1))) (congrArg Value.int (nI_add m 1)) ?_
  refine as_43 X (zo_s rfl hW.1) rfl (by omega) d_Model_add_46 ?_
  exact z_vret X hret (Nat.zero_le _) (Nat.zero_le _) rfl d_Model_add_47

