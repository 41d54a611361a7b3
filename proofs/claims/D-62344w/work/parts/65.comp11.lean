/-! THE COMPONENT'S QUESTIONS AND STOP -/
/-- ranks and parents of the component, as the twin's -/
def zRP (c : Nat) (pl : Bool) (I : zI) (R : zR) (A : zI) : Prop := A 29 0 12 = (if pl = true then nI 1 else nI 0) ∧ (pl = true → (∀ v, v < c → I 1 v 13 = A 37 0 v ∧ A 38 0 (2 * v) = zpo (R 1 v 14) ∧ A 38 0 (2 * v + 1) = zpo (R 1 v 15) ∧ (∀ u, R 1 v 14 = some u → u < c) ∧ ∀ u, R 1 v 15 = some u → u < c)) ∧ (pl = false → ∀ v, v < c → I 1 v 13 = -1 ∧ R 1 v 14 = none ∧ R 1 v 15 = none)
theorem c_SM_rank (l : Launch) (g : zG) {S h n : Nat} {I : zI} {J : zJ} {R : zR} {A : zI} (hW : zW g S h n I R) {pl : Bool} (hR : zRP g.2.2.2 pl I R A) (x : Int32) : zMet l g y_SM_rank b_SM_rank 3 (some .int) 1 21 0 0 (zPc g [.ref (zad g 0 0), .int x] n I J R) (zQi g (fun r u => r = sRank g.2.2.2 A x ∧ u = (n, I, J, R))) := by
  have hc := hW.2.1.2
  obtain ⟨r1, r2, r3⟩ := hR
  refine zMet.of (by decide) [some (.ref (zad g 0 0)), some (.int x), none] rfl (Nat.le_of_ble_eq_true rfl) ?_
  intro pP eE sS mM aA bB mE cC X hret hnm
  have X : zC pP sS mM aA mE cC b_SM_rank "SlottedMesh" 3 g := X
  have hret : mE.sig.returnType = (some .int) := hret
  refine z_aload_n X d_SM_rank_0 rfl ?_
  refine z_iload_n X d_SM_rank_1 rfl ?_
  rcases hz_i : znd g.2.2.2 x with _ | i
  · refine z_cq (z_rV X cs_SM_162 rfl rfl (zo_s rfl hW.1).1 (zo_s rfl hW.1).2 (c_SM_node l g hW _) ⟨Nat.le_of_ble_eq_true rfl, Nat.le_of_ble_eq_true rfl⟩ rfl rfl (Nat.le_of_ble_eq_true rfl) ⟨Nat.le_of_ble_eq_true rfl, Nat.le_of_ble_eq_true rfl⟩ d_SM_rank_2) (fun r n2 I2 J2 R2 h => ?_)
    obtain ⟨rfl, e⟩ := h
    cases e
    refine z_top (v2 := .null) (by rw [hz_i]; rfl) ?_
    refine z_astore_nN X d_SM_rank_5 (by decide) rfl ?_
    refine z_aload_nN X d_SM_rank_6 rfl ?_
    refine z_ifnonnullN (tgt := 14) X d_SM_rank_7 (by decide) ?_
    refine z_iconst (v := -1) X d_SM_rank_10 rfl ?_
    refine z_goto (tgt := 18) X d_SM_rank_11 (by decide) ?_
    exact z_iret X hret rfl (Nat.zero_le _) (Nat.zero_le _) ⟨by unfold sRank; rw [hz_i]; split <;> rfl, rfl⟩ d_SM_rank_18
  · obtain ⟨hi_i, rfl⟩ := znd_some hc hz_i
    refine z_cq (z_rV X cs_SM_162 rfl rfl (zo_s rfl hW.1).1 (zo_s rfl hW.1).2 (c_SM_node l g hW _) ⟨Nat.le_of_ble_eq_true rfl, Nat.le_of_ble_eq_true rfl⟩ rfl rfl (Nat.le_of_ble_eq_true rfl) ⟨Nat.le_of_ble_eq_true rfl, Nat.le_of_ble_eq_true rfl⟩ d_SM_rank_2) (fun r n2 I2 J2 R2 h => ?_)
    obtain ⟨rfl, e⟩ := h
    cases e
    refine z_top (v2 := .ref (zad g 1 i)) (by rw [hz_i]; rfl) ?_
    refine z_astore_n X d_SM_rank_5 (by decide) rfl ?_
    refine z_aload_n X d_SM_rank_6 rfl ?_
    refine z_ifnonnull (tgt := 14) X d_SM_rank_7 (by decide) ?_
    refine z_aload_n X d_SM_rank_14 rfl ?_
    refine gf_SM_206 X (zo_n (by omega) hW.1) d_SM_rank_15 ?_
    exact z_iret X hret rfl (Nat.zero_le _) (Nat.zero_le _) ⟨by unfold sRank; rw [hz_i]; cases pl with | true => rw [r1, if_neg (by decide)]; exact (r2 rfl i hi_i).1 | false => rw [r1, if_pos (by decide)]; exact (r3 rfl i hi_i).1, rfl⟩ d_SM_rank_18
theorem c_SM_current (l : Launch) (g : zG) {S h n N : Nat} {I : zI} {J : zJ} {R : zR} {fl : zfl} {A : zI} {q : zq} (hW : zW g S h n I R) (hC : zRC g.2.2.2 n N I R fl A q) (x : Int32) : zMet l g y_SM_current b_SM_current 3 (some .boolean) 1 21 0 0 (zPc g [.ref (zad g 0 0), .int x] n I J R) (zQi g (fun r u => r = sCurrent g.2.2.2 A x ∧ u = (n, I, J, R))) := by
  have hc := hW.2.1.2
  refine zMet.of (by decide) [some (.ref (zad g 0 0)), some (.int x), none] rfl (Nat.le_of_ble_eq_true rfl) ?_
  intro pP eE sS mM aA bB mE cC X hret hnm
  have X : zC pP sS mM aA mE cC b_SM_current "SlottedMesh" 3 g := X
  have hret : mE.sig.returnType = (some .boolean) := hret
  refine z_aload_n X d_SM_current_0 rfl ?_
  refine z_iload_n X d_SM_current_1 rfl ?_
  rcases hz_i : znd g.2.2.2 x with _ | i
  · refine z_cq (z_rV X cs_SM_162 rfl rfl (zo_s rfl hW.1).1 (zo_s rfl hW.1).2 (c_SM_node l g hW _) ⟨Nat.le_of_ble_eq_true rfl, Nat.le_of_ble_eq_true rfl⟩ rfl rfl (Nat.le_of_ble_eq_true rfl) ⟨Nat.le_of_ble_eq_true rfl, Nat.le_of_ble_eq_true rfl⟩ d_SM_current_2) (fun r n2 I2 J2 R2 h => ?_)
    obtain ⟨rfl, e⟩ := h
    cases e
    refine z_top (v2 := .null) (by rw [hz_i]; rfl) ?_
    refine z_astore_nN X d_SM_current_5 (by decide) rfl ?_
    refine z_aload_nN X d_SM_current_6 rfl ?_
    refine z_ifnullN (tgt := 21) X d_SM_current_7 (by decide) ?_
    refine z_iconst (v := nI 0) X d_SM_current_21 rfl ?_
    exact z_iret X hret rfl (Nat.zero_le _) (Nat.zero_le _) ⟨by unfold sCurrent; rw [hz_i], rfl⟩ d_SM_current_22
  · obtain ⟨hi_i, rfl⟩ := znd_some hc hz_i
    refine z_cq (z_rV X cs_SM_162 rfl rfl (zo_s rfl hW.1).1 (zo_s rfl hW.1).2 (c_SM_node l g hW _) ⟨Nat.le_of_ble_eq_true rfl, Nat.le_of_ble_eq_true rfl⟩ rfl rfl (Nat.le_of_ble_eq_true rfl) ⟨Nat.le_of_ble_eq_true rfl, Nat.le_of_ble_eq_true rfl⟩ d_SM_current_2) (fun r n2 I2 J2 R2 h => ?_)
    obtain ⟨rfl, e⟩ := h
    cases e
    refine z_top (v2 := .ref (zad g 1 i)) (by rw [hz_i]; rfl) ?_
    refine z_astore_n X d_SM_current_5 (by decide) rfl ?_
    refine z_aload_n X d_SM_current_6 rfl ?_
    refine z_ifnull (tgt := 21) X d_SM_current_7 (by decide) ?_
    refine z_aload_n X d_SM_current_10 rfl ?_
    refine gf_SM_124 X (zo_n (by omega) hW.1) d_SM_current_11 ?_
    refine z_top (congrArg Value.int ((hC.1.nd hi_i).2.1)) ?_
    refine z_if_eq (tgt := 21) X d_SM_current_14 (by decide) (fun h14 => ?_) (fun h14 => ?_)
    · refine z_iconst (v := nI 0) X d_SM_current_21 rfl ?_
      exact z_iret X hret rfl (Nat.zero_le _) (Nat.zero_le _) ⟨by unfold sCurrent; rw [hz_i]; exact (if_pos h14).symm, rfl⟩ d_SM_current_22
    · refine z_iconst (v := nI 1) X d_SM_current_17 rfl ?_
      refine z_goto (tgt := 22) X d_SM_current_18 (by decide) ?_
      exact z_iret X hret rfl (Nat.zero_le _) (Nat.zero_le _) ⟨by unfold sCurrent; rw [hz_i]; exact (if_neg h14).symm, rfl⟩ d_SM_current_22
theorem c_SM_offset (l : Launch) (g : zG) {S h n N : Nat} {I : zI} {J : zJ} {R : zR} {fl : zfl} {A : zI} {q : zq} (hW : zW g S h n I R) (hC : zRC g.2.2.2 n N I R fl A q) (x : Int32) : zMet l g y_SM_offset b_SM_offset 3 (some .int) 1 21 0 0 (zPc g [.ref (zad g 0 0), .int x] n I J R) (zQi g (fun r u => r = sOffset g.2.2.2 A x ∧ u = (n, I, J, R))) := by
  have hc := hW.2.1.2
  refine zMet.of (by decide) [some (.ref (zad g 0 0)), some (.int x), none] rfl (Nat.le_of_ble_eq_true rfl) ?_
  intro pP eE sS mM aA bB mE cC X hret hnm
  have X : zC pP sS mM aA mE cC b_SM_offset "SlottedMesh" 3 g := X
  have hret : mE.sig.returnType = (some .int) := hret
  refine z_aload_n X d_SM_offset_0 rfl ?_
  refine z_iload_n X d_SM_offset_1 rfl ?_
  rcases hz_i : znd g.2.2.2 x with _ | i
  · refine z_cq (z_rV X cs_SM_162 rfl rfl (zo_s rfl hW.1).1 (zo_s rfl hW.1).2 (c_SM_node l g hW _) ⟨Nat.le_of_ble_eq_true rfl, Nat.le_of_ble_eq_true rfl⟩ rfl rfl (Nat.le_of_ble_eq_true rfl) ⟨Nat.le_of_ble_eq_true rfl, Nat.le_of_ble_eq_true rfl⟩ d_SM_offset_2) (fun r n2 I2 J2 R2 h => ?_)
    obtain ⟨rfl, e⟩ := h
    cases e
    refine z_top (v2 := .null) (by rw [hz_i]; rfl) ?_
    refine z_astore_nN X d_SM_offset_5 (by decide) rfl ?_
    refine z_aload_nN X d_SM_offset_6 rfl ?_
    refine z_ifnonnullN (tgt := 16) X d_SM_offset_7 (by decide) ?_
    refine z_sipush (v := -9999) X d_SM_offset_10 rfl ?_
    refine z_goto (tgt := 20) X d_SM_offset_13 (by decide) ?_
    exact z_iret X hret rfl (Nat.zero_le _) (Nat.zero_le _) ⟨by unfold sOffset; rw [hz_i], rfl⟩ d_SM_offset_20
  · obtain ⟨hi_i, rfl⟩ := znd_some hc hz_i
    refine z_cq (z_rV X cs_SM_162 rfl rfl (zo_s rfl hW.1).1 (zo_s rfl hW.1).2 (c_SM_node l g hW _) ⟨Nat.le_of_ble_eq_true rfl, Nat.le_of_ble_eq_true rfl⟩ rfl rfl (Nat.le_of_ble_eq_true rfl) ⟨Nat.le_of_ble_eq_true rfl, Nat.le_of_ble_eq_true rfl⟩ d_SM_offset_2) (fun r n2 I2 J2 R2 h => ?_)
    obtain ⟨rfl, e⟩ := h
    cases e
    refine z_top (v2 := .ref (zad g 1 i)) (by rw [hz_i]; rfl) ?_
    refine z_astore_n X d_SM_offset_5 (by decide) rfl ?_
    refine z_aload_n X d_SM_offset_6 rfl ?_
    refine z_ifnonnull (tgt := 16) X d_SM_offset_7 (by decide) ?_
    refine z_aload_n X d_SM_offset_16 rfl ?_
    refine gf_SM_248 X (zo_n (by omega) hW.1) d_SM_offset_17 ?_
    refine z_top (congrArg Value.int ((hC.1.nd hi_i).2.2.1)) ?_
    exact z_iret X hret rfl (Nat.zero_le _) (Nat.zero_le _) ⟨by unfold sOffset; rw [hz_i], rfl⟩ d_SM_offset_20
theorem c_SM_actuator (l : Launch) (g : zG) {S h n N : Nat} {I : zI} {J : zJ} {R : zR} {fl : zfl} {A : zI} {q : zq} (hW : zW g S h n I R) (hC : zRC g.2.2.2 n N I R fl A q) (x : Int32) : zMet l g y_SM_actuator b_SM_actuator 3 (some .int) 2 42 0 0 (zPc g [.ref (zad g 0 0), .int x] n I J R) (zQi g (fun r u => r = sActuator g.2.2.2 A x ∧ u = (n, I, J, R))) := by
  have hc := hW.2.1.2
  have hfn : znf g.2.2.2 x = none → sActuator g.2.2.2 A x = -9999 := fun hz => by
    unfold sActuator
    cases h1 : znd g.2.2.2 x with
    | none => rfl
    | some i =>
      obtain ⟨h2, h3⟩ := znd_some hc h1
      dsimp only
      by_cases e : i = 0
      · rw [if_pos e]
      · exact absurd h3 (fun z => znf_not hz h2 hc e z)
  refine zMet.of (by decide) [some (.ref (zad g 0 0)), some (.int x), none] rfl (Nat.le_of_ble_eq_true rfl) ?_
  intro pP eE sS mM aA bB mE cC X hret hnm
  have X : zC pP sS mM aA mE cC b_SM_actuator "SlottedMesh" 3 g := X
  have hret : mE.sig.returnType = (some .int) := hret
  refine z_aload_n X d_SM_actuator_0 rfl ?_
  refine z_iload_n X d_SM_actuator_1 rfl ?_
  rcases hz_i : znf g.2.2.2 x with _ | i
  · refine z_cq (z_rV X cs_SM_245 rfl rfl (zo_s rfl hW.1).1 (zo_s rfl hW.1).2 (c_SM_field l g hW _) ⟨Nat.le_of_ble_eq_true rfl, Nat.le_of_ble_eq_true rfl⟩ rfl rfl (Nat.le_of_ble_eq_true rfl) ⟨Nat.le_of_ble_eq_true rfl, Nat.le_of_ble_eq_true rfl⟩ d_SM_actuator_2) (fun r n2 I2 J2 R2 h => ?_)
    obtain ⟨rfl, e⟩ := h
    cases e
    refine z_top (v2 := .null) (by rw [hz_i]; rfl) ?_
    refine z_astore_nN X d_SM_actuator_5 (by decide) rfl ?_
    refine z_aload_nN X d_SM_actuator_6 rfl ?_
    refine z_ifnonnullN (tgt := 16) X d_SM_actuator_7 (by decide) ?_
    refine z_sipush (v := -9999) X d_SM_actuator_10 rfl ?_
    refine z_goto (tgt := 20) X d_SM_actuator_13 (by decide) ?_
    exact z_iret X hret rfl (Nat.zero_le _) (Nat.zero_le _) ⟨(hfn hz_i).symm, rfl⟩ d_SM_actuator_20
  · obtain ⟨hi_i, rfl, h0_i⟩ := znf_some hc hz_i
    refine z_cq (z_rV X cs_SM_245 rfl rfl (zo_s rfl hW.1).1 (zo_s rfl hW.1).2 (c_SM_field l g hW _) ⟨Nat.le_of_ble_eq_true rfl, Nat.le_of_ble_eq_true rfl⟩ rfl rfl (Nat.le_of_ble_eq_true rfl) ⟨Nat.le_of_ble_eq_true rfl, Nat.le_of_ble_eq_true rfl⟩ d_SM_actuator_2) (fun r n2 I2 J2 R2 h => ?_)
    obtain ⟨rfl, e⟩ := h
    cases e
    refine z_top (v2 := .ref (zad g 1 i)) (by rw [hz_i]; rfl) ?_
    refine z_astore_n X d_SM_actuator_5 (by decide) rfl ?_
    refine z_aload_n X d_SM_actuator_6 rfl ?_
    refine z_ifnonnull (tgt := 16) X d_SM_actuator_7 (by decide) ?_
    refine z_aload_n X d_SM_actuator_16 rfl ?_
    refine gf_SM_291 X (zo_n (by omega) hW.1) d_SM_actuator_17 ?_
    refine z_top (congrArg Value.int ((hC.1.nd hi_i).2.2.2.2.2.2.2)) ?_
    exact z_iret X hret rfl (Nat.zero_le _) (Nat.zero_le _) ⟨by unfold sActuator; rw [znd_nI hi_i hc]; exact (if_neg h0_i).symm, rfl⟩ d_SM_actuator_20
theorem c_SM_sent (l : Launch) (g : zG) {S h n N : Nat} {I : zI} {J : zJ} {R : zR} {fl : zfl} {A : zI} {q : zq} (hW : zW g S h n I R) (hC : zRC g.2.2.2 n N I R fl A q) : zMet l g y_SM_sent b_SM_sent 1 (some .int) 0 0 0 0 (zPc g [.ref (zad g 0 0)] n I J R) (zQi g (fun r u => r = A 29 0 4 ∧ u = (n, I, J, R))) := by
  refine zMet.of (by decide) [some (.ref (zad g 0 0))] rfl (Nat.le_of_ble_eq_true rfl) ?_
  intro pP eE sS mM aA bB mE cC X hret hnm
  have X : zC pP sS mM aA mE cC b_SM_sent "SlottedMesh" 1 g := X
  have hret : mE.sig.returnType = (some .int) := hret
  refine z_aload_n X d_SM_sent_0 rfl ?_
  refine gf_SM_294 X (zo_s rfl hW.1) d_SM_sent_1 ?_
  exact z_iret X hret rfl (Nat.zero_le _) (Nat.zero_le _) ⟨hC.1.tm.2, rfl⟩ d_SM_sent_4
theorem c_SM_latest (l : Launch) (g : zG) {S h n N : Nat} {I : zI} {J : zJ} {R : zR} {fl : zfl} {A : zI} {q : zq} (hW : zW g S h n I R) (hC : zRC g.2.2.2 n N I R fl A q) (x : Int32) : zMet l g y_SM_latest b_SM_latest 3 (some .int) 1 21 0 0 (zPc g [.ref (zad g 0 0), .int x] n I J R) (zQi g (fun r u => r = sLatest g.2.2.2 A x ∧ u = (n, I, J, R))) := by
  have hc := hW.2.1.2
  have h2c := hW.2.1.1
  refine zMet.of (by decide) [some (.ref (zad g 0 0)), some (.int x), none] rfl (Nat.le_of_ble_eq_true rfl) ?_
  intro pP eE sS mM aA bB mE cC X hret hnm
  have X : zC pP sS mM aA mE cC b_SM_latest "SlottedMesh" 3 g := X
  have hret : mE.sig.returnType = (some .int) := hret
  refine z_aload_n X d_SM_latest_0 rfl ?_
  refine z_iload_n X d_SM_latest_1 rfl ?_
  rcases hz_i : znd g.2.2.2 x with _ | i
  · refine z_cq (z_rV X cs_SM_162 rfl rfl (zo_s rfl hW.1).1 (zo_s rfl hW.1).2 (c_SM_node l g hW _) ⟨Nat.le_of_ble_eq_true rfl, Nat.le_of_ble_eq_true rfl⟩ rfl rfl (Nat.le_of_ble_eq_true rfl) ⟨Nat.le_of_ble_eq_true rfl, Nat.le_of_ble_eq_true rfl⟩ d_SM_latest_2) (fun r n2 I2 J2 R2 h => ?_)
    obtain ⟨rfl, e⟩ := h
    cases e
    refine z_top (v2 := .null) (by rw [hz_i]; rfl) ?_
    refine z_astore_nN X d_SM_latest_5 (by decide) rfl ?_
    refine z_aload_nN X d_SM_latest_6 rfl ?_
    refine z_ifnonnullN (tgt := 14) X d_SM_latest_7 (by decide) ?_
    refine z_iconst (v := -1) X d_SM_latest_10 rfl ?_
    refine z_goto (tgt := 25) X d_SM_latest_11 (by decide) ?_
    exact z_iret X hret rfl (Nat.zero_le _) (Nat.zero_le _) ⟨by unfold sLatest; rw [hz_i], rfl⟩ d_SM_latest_25
  · obtain ⟨hi_i, rfl⟩ := znd_some hc hz_i
    refine z_cq (z_rV X cs_SM_162 rfl rfl (zo_s rfl hW.1).1 (zo_s rfl hW.1).2 (c_SM_node l g hW _) ⟨Nat.le_of_ble_eq_true rfl, Nat.le_of_ble_eq_true rfl⟩ rfl rfl (Nat.le_of_ble_eq_true rfl) ⟨Nat.le_of_ble_eq_true rfl, Nat.le_of_ble_eq_true rfl⟩ d_SM_latest_2) (fun r n2 I2 J2 R2 h => ?_)
    obtain ⟨rfl, e⟩ := h
    cases e
    refine z_top (v2 := .ref (zad g 1 i)) (by rw [hz_i]; rfl) ?_
    refine z_astore_n X d_SM_latest_5 (by decide) rfl ?_
    refine z_aload_n X d_SM_latest_6 rfl ?_
    refine z_ifnonnull (tgt := 14) X d_SM_latest_7 (by decide) ?_
    refine z_aload_n X d_SM_latest_14 rfl ?_
    refine gr_SM_9 (hW.c (k := 0) (f := 3) rfl rfl (by decide) rfl) X (zo_s rfl hW.1) d_SM_latest_15 ?_
    refine z_iconst (v := nI 0) X d_SM_latest_18 rfl ?_
    refine ar_6 X (zo_s rfl hW.1) rfl (by omega) (hW.nd (by omega)) d_SM_latest_19 ?_
    refine gr_SM_254 (hW.up (by omega)).2.2.1 X (zo_n (by omega) hW.1) d_SM_latest_20 ?_
    refine z_iload_n X d_SM_latest_23 rfl ?_
    refine al_5 X (zo_t (by omega) hW.1) rfl (by omega) d_SM_latest_24 ?_
    exact z_iret X hret rfl (Nat.zero_le _) (Nat.zero_le _) ⟨by unfold sLatest; rw [hz_i, hC.1.tk (r := 0) (Or.inl (by omega)) (by omega)]; congr 1; omega, rfl⟩ d_SM_latest_25
theorem c_SM_parent (l : Launch) (g : zG) {S h n : Nat} {I : zI} {J : zJ} {R : zR} {A : zI} (hW : zW g S h n I R) {pl : Bool} (hR : zRP g.2.2.2 pl I R A) (x y : Int32) : zMet l g y_SM_parent b_SM_parent 5 (some .int) 1 21 0 0 (zPc g [.ref (zad g 0 0), .int x, .int y] n I J R) (zQi g (fun r u => r = sParent g.2.2.2 A x y ∧ u = (n, I, J, R))) := by
  have hc := hW.2.1.2
  obtain ⟨r1, r2, r3⟩ := hR
  have p14 : ∀ i, i < g.2.2.2 → (∀ u, R 1 i 14 = some u → u < g.2.2.2) ∧ (y = 0 → zpo (R 1 i 14) = sParent g.2.2.2 A (nI i) y) := fun i hi => by
    unfold sParent
    rw [znd_nI hi hc]
    cases pl with
    | true =>
      obtain ⟨b1, b2, b3, b4, b5⟩ := r2 rfl i hi
      exact ⟨b4, fun e => by rw [r1, if_neg (by decide), e]; exact b2.symm⟩
    | false =>
      obtain ⟨b1, b2, b3⟩ := r3 rfl i hi
      exact ⟨fun u e => by rw [b2] at e; exact absurd e (by simp), fun e => by rw [r1, if_pos (by decide), b2]; rfl⟩
  have p15 : ∀ i, i < g.2.2.2 → (∀ u, R 1 i 15 = some u → u < g.2.2.2) ∧ (y = nI 1 → zpo (R 1 i 15) = sParent g.2.2.2 A (nI i) y) := fun i hi => by
    unfold sParent
    rw [znd_nI hi hc]
    cases pl with
    | true =>
      obtain ⟨b1, b2, b3, b4, b5⟩ := r2 rfl i hi
      exact ⟨b5, fun e => by rw [r1, if_neg (by decide), e]; exact b3.symm⟩
    | false =>
      obtain ⟨b1, b2, b3⟩ := r3 rfl i hi
      exact ⟨fun u e => by rw [b3] at e; exact absurd e (by simp), fun e => by rw [r1, if_pos (by decide), b3]; rfl⟩
  have pno : (∀ i, znd g.2.2.2 x = some i → y < 0 ∨ ¬ y ≤ nI 1) → sParent g.2.2.2 A x y = -1 := fun hz => by
    unfold sParent
    split
    · rfl
    · split
      · rfl
      · rename_i i hi
        rcases hz i hi with z | z
        · rw [if_neg (fun e => by rw [e] at z; exact absurd z (by decide)), if_neg (fun e => by rw [e] at z; exact absurd z (by decide))]
        · rw [if_neg (fun e => z (by rw [e]; decide)), if_neg (fun e => z (by rw [e]; decide))]
  refine zMet.of (by decide) [some (.ref (zad g 0 0)), some (.int x), some (.int y), none, none] rfl (Nat.le_of_ble_eq_true rfl) ?_
  intro pP eE sS mM aA bB mE cC X hret hnm
  have X : zC pP sS mM aA mE cC b_SM_parent "SlottedMesh" 5 g := X
  have hret : mE.sig.returnType = (some .int) := hret
  refine z_aload_n X d_SM_parent_0 rfl ?_
  refine z_iload_n X d_SM_parent_1 rfl ?_
  rcases hz_i : znd g.2.2.2 x with _ | i
  · refine z_cq (z_rV X cs_SM_162 rfl rfl (zo_s rfl hW.1).1 (zo_s rfl hW.1).2 (c_SM_node l g hW _) ⟨Nat.le_of_ble_eq_true rfl, Nat.le_of_ble_eq_true rfl⟩ rfl rfl (Nat.le_of_ble_eq_true rfl) ⟨Nat.le_of_ble_eq_true rfl, Nat.le_of_ble_eq_true rfl⟩ d_SM_parent_2) (fun r n2 I2 J2 R2 h => ?_)
    obtain ⟨rfl, e⟩ := h
    cases e
    refine z_top (v2 := .null) (by rw [hz_i]; rfl) ?_
    refine z_astore_nN X d_SM_parent_5 (by decide) rfl ?_
    refine z_aload_nN X d_SM_parent_6 rfl ?_
    refine z_ifnullN (tgt := 19) X d_SM_parent_7 (by decide) ?_
    refine z_null X d_SM_parent_19 ?_
    refine z_goto (tgt := 38) X d_SM_parent_20 (by decide) ?_
    refine z_astoreN X d_SM_parent_38 (by decide) rfl ?_
    refine z_aloadN X d_SM_parent_40 rfl ?_
    refine z_ifnonnullN (tgt := 49) X d_SM_parent_42 (by decide) ?_
    refine z_iconst (v := -1) X d_SM_parent_45 rfl ?_
    refine z_goto (tgt := 54) X d_SM_parent_46 (by decide) ?_
    exact z_iret X hret rfl (Nat.zero_le _) (Nat.zero_le _) ⟨(pno (fun i hi => by rw [hz_i] at hi; cases hi)).symm, rfl⟩ d_SM_parent_54
  · obtain ⟨hi_i, rfl⟩ := znd_some hc hz_i
    refine z_cq (z_rV X cs_SM_162 rfl rfl (zo_s rfl hW.1).1 (zo_s rfl hW.1).2 (c_SM_node l g hW _) ⟨Nat.le_of_ble_eq_true rfl, Nat.le_of_ble_eq_true rfl⟩ rfl rfl (Nat.le_of_ble_eq_true rfl) ⟨Nat.le_of_ble_eq_true rfl, Nat.le_of_ble_eq_true rfl⟩ d_SM_parent_2) (fun r n2 I2 J2 R2 h => ?_)
    obtain ⟨rfl, e⟩ := h
    cases e
    refine z_top (v2 := .ref (zad g 1 i)) (by rw [hz_i]; rfl) ?_
    refine z_astore_n X d_SM_parent_5 (by decide) rfl ?_
    refine z_aload_n X d_SM_parent_6 rfl ?_
    refine z_ifnull (tgt := 19) X d_SM_parent_7 (by decide) ?_
    refine z_iload_n X d_SM_parent_10 rfl ?_
    refine z_if_lt (tgt := 19) X d_SM_parent_11 (by decide) (fun h11 => ?_) (fun h11 => ?_)
    · refine z_null X d_SM_parent_19 ?_
      refine z_goto (tgt := 38) X d_SM_parent_20 (by decide) ?_
      refine z_astoreN X d_SM_parent_38 (by decide) rfl ?_
      refine z_aloadN X d_SM_parent_40 rfl ?_
      refine z_ifnonnullN (tgt := 49) X d_SM_parent_42 (by decide) ?_
      refine z_iconst (v := -1) X d_SM_parent_45 rfl ?_
      refine z_goto (tgt := 54) X d_SM_parent_46 (by decide) ?_
      exact z_iret X hret rfl (Nat.zero_le _) (Nat.zero_le _) ⟨(pno (fun i hi => Or.inl h11)).symm, rfl⟩ d_SM_parent_54
    · refine z_iload_n X d_SM_parent_14 rfl ?_
      refine z_iconst (v := nI 1) X d_SM_parent_15 rfl ?_
      refine z_icmp_le (tgt := 23) X d_SM_parent_16 (by decide) (fun h16 => ?_) (fun h16 => ?_)
      · refine z_iload_n X d_SM_parent_23 rfl ?_
        refine z_if_ne (tgt := 34) X d_SM_parent_24 (by decide) (fun h24 => ?_) (fun h24 => ?_)
        · refine z_aload_n X d_SM_parent_34 rfl ?_
          rcases ho : R 1 i 15 with _ | u
          · refine gn_SM_212 ho X (zo_n (by omega) hW.1) d_SM_parent_35 ?_
            refine z_astoreN X d_SM_parent_38 (by decide) rfl ?_
            refine z_aloadN X d_SM_parent_40 rfl ?_
            refine z_ifnonnullN (tgt := 49) X d_SM_parent_42 (by decide) ?_
            refine z_iconst (v := -1) X d_SM_parent_45 rfl ?_
            refine z_goto (tgt := 54) X d_SM_parent_46 (by decide) ?_
            exact z_iret X hret rfl (Nat.zero_le _) (Nat.zero_le _) ⟨by have := (p15 i hi_i).2 ((z_le1 h11 h16).resolve_left h24); rw [ho] at this; exact this, rfl⟩ d_SM_parent_54
          · have hu := (p15 i hi_i).1 u ho
            refine gr_SM_212 ho X (zo_n (by omega) hW.1) d_SM_parent_35 ?_
            refine z_astore X d_SM_parent_38 (by decide) rfl ?_
            refine z_aload X d_SM_parent_40 rfl ?_
            refine z_ifnonnull (tgt := 49) X d_SM_parent_42 (by decide) ?_
            refine z_aload X d_SM_parent_49 rfl ?_
            refine gf_SM_284 X (zo_n (by omega) hW.1) d_SM_parent_51 ?_
            refine z_top (congrArg Value.int ((hW.2.2.2.2.2.2.2.2.1 u hu))) ?_
            exact z_iret X hret rfl (Nat.zero_le _) (Nat.zero_le _) ⟨by have := (p15 i hi_i).2 ((z_le1 h11 h16).resolve_left h24); rw [ho] at this; exact this, rfl⟩ d_SM_parent_54
        · refine z_aload_n X d_SM_parent_27 rfl ?_
          rcases ho : R 1 i 14 with _ | u
          · refine gn_SM_209 ho X (zo_n (by omega) hW.1) d_SM_parent_28 ?_
            refine z_goto (tgt := 38) X d_SM_parent_31 (by decide) ?_
            refine z_astoreN X d_SM_parent_38 (by decide) rfl ?_
            refine z_aloadN X d_SM_parent_40 rfl ?_
            refine z_ifnonnullN (tgt := 49) X d_SM_parent_42 (by decide) ?_
            refine z_iconst (v := -1) X d_SM_parent_45 rfl ?_
            refine z_goto (tgt := 54) X d_SM_parent_46 (by decide) ?_
            exact z_iret X hret rfl (Nat.zero_le _) (Nat.zero_le _) ⟨by have := (p14 i hi_i).2 (h24); rw [ho] at this; exact this, rfl⟩ d_SM_parent_54
          · have hu := (p14 i hi_i).1 u ho
            refine gr_SM_209 ho X (zo_n (by omega) hW.1) d_SM_parent_28 ?_
            refine z_goto (tgt := 38) X d_SM_parent_31 (by decide) ?_
            refine z_astore X d_SM_parent_38 (by decide) rfl ?_
            refine z_aload X d_SM_parent_40 rfl ?_
            refine z_ifnonnull (tgt := 49) X d_SM_parent_42 (by decide) ?_
            refine z_aload X d_SM_parent_49 rfl ?_
            refine gf_SM_284 X (zo_n (by omega) hW.1) d_SM_parent_51 ?_
            refine z_top (congrArg Value.int ((hW.2.2.2.2.2.2.2.2.1 u hu))) ?_
            exact z_iret X hret rfl (Nat.zero_le _) (Nat.zero_le _) ⟨by have := (p14 i hi_i).2 (h24); rw [ho] at this; exact this, rfl⟩ d_SM_parent_54
      · refine z_null X d_SM_parent_19 ?_
        refine z_goto (tgt := 38) X d_SM_parent_20 (by decide) ?_
        refine z_astoreN X d_SM_parent_38 (by decide) rfl ?_
        refine z_aloadN X d_SM_parent_40 rfl ?_
        refine z_ifnonnullN (tgt := 49) X d_SM_parent_42 (by decide) ?_
        refine z_iconst (v := -1) X d_SM_parent_45 rfl ?_
        refine z_goto (tgt := 54) X d_SM_parent_46 (by decide) ?_
        exact z_iret X hret rfl (Nat.zero_le _) (Nat.zero_le _) ⟨(pno (fun i hi => Or.inr h16)).symm, rfl⟩ d_SM_parent_54
theorem c_SM_cached (l : Launch) (g : zG) {S h n N : Nat} {I : zI} {J : zJ} {R : zR} {fl : zfl} {A : zI} {q : zq} (hW : zW g S h n I R) (hC : zRC g.2.2.2 n N I R fl A q) (hN : N < 2 ^ 30) (x y : Int32) : zMet l g y_SM_cached b_SM_cached 3 (some .int) 1 21 0 0 (zPc g [.ref (zad g 0 0), .int x, .int y] n I J R) (zQi g (fun r u => r = sCached g.2.2.2 A x y ∧ u = (n, I, J, R))) := by
  have hc := hW.2.1.2
  refine zMet.of (by decide) [some (.ref (zad g 0 0)), some (.int x), some (.int y)] rfl (Nat.le_of_ble_eq_true rfl) ?_
  intro pP eE sS mM aA bB mE cC X hret hnm
  have X : zC pP sS mM aA mE cC b_SM_cached "SlottedMesh" 3 g := X
  have hret : mE.sig.returnType = (some .int) := hret
  have hmin : ∀ i, i < g.2.2.2 → (if I 24 0 i < nI 3 then I 24 0 i else nI 3) = A 52 0 i := fun i hi => by
    obtain ⟨m, m1, m2, m3⟩ := hC.2.1 i (by omega)
    rw [m2, m3]
    by_cases e : m < 3
    · rw [if_pos (nI_lt e (by omega)), if_pos e]
    · rw [if_neg e, if_neg (Int32.not_lt.mpr (nI_le (by omega) (by omega)))]
  have h52 : ∀ i, i < g.2.2.2 → A 52 0 i ≤ nI 3 := fun i hi => by
    obtain ⟨m, m1, m2, m3⟩ := hC.2.1 i (by omega)
    rw [m3]
    exact nI_le (by split <;> omega) (by omega)
  refine z_aload_n X d_SM_cached_0 rfl ?_
  refine z_iload_n X d_SM_cached_1 rfl ?_
  rcases hz_i : znd g.2.2.2 x with _ | i
  · refine z_cq (z_rV X cs_SM_162 rfl rfl (zo_s rfl hW.1).1 (zo_s rfl hW.1).2 (c_SM_node l g hW _) ⟨Nat.le_of_ble_eq_true rfl, Nat.le_of_ble_eq_true rfl⟩ rfl rfl (Nat.le_of_ble_eq_true rfl) ⟨Nat.le_of_ble_eq_true rfl, Nat.le_of_ble_eq_true rfl⟩ d_SM_cached_2) (fun r n2 I2 J2 R2 h => ?_)
    obtain ⟨rfl, e⟩ := h
    cases e
    refine z_top (v2 := .null) (by rw [hz_i]; rfl) ?_
    refine z_ifnullN (tgt := 26) X d_SM_cached_5 (by decide) ?_
    refine z_sipush (v := -9999) X d_SM_cached_26 rfl ?_
    refine z_goto (tgt := 40) X d_SM_cached_29 (by decide) ?_
    exact z_iret X hret rfl (Nat.zero_le _) (Nat.zero_le _) ⟨by unfold sCached; rw [hz_i], rfl⟩ d_SM_cached_40
  · obtain ⟨hi_i, rfl⟩ := znd_some hc hz_i
    refine z_cq (z_rV X cs_SM_162 rfl rfl (zo_s rfl hW.1).1 (zo_s rfl hW.1).2 (c_SM_node l g hW _) ⟨Nat.le_of_ble_eq_true rfl, Nat.le_of_ble_eq_true rfl⟩ rfl rfl (Nat.le_of_ble_eq_true rfl) ⟨Nat.le_of_ble_eq_true rfl, Nat.le_of_ble_eq_true rfl⟩ d_SM_cached_2) (fun r n2 I2 J2 R2 h => ?_)
    obtain ⟨rfl, e⟩ := h
    cases e
    refine z_top (v2 := .ref (zad g 1 i)) (by rw [hz_i]; rfl) ?_
    refine z_ifnull (tgt := 26) X d_SM_cached_5 (by decide) ?_
    refine z_iload_n X d_SM_cached_8 rfl ?_
    refine z_if_lt (tgt := 26) X d_SM_cached_9 (by decide) (fun h9 => ?_) (fun h9 => ?_)
    · refine z_sipush (v := -9999) X d_SM_cached_26 rfl ?_
      refine z_goto (tgt := 40) X d_SM_cached_29 (by decide) ?_
      exact z_iret X hret rfl (Nat.zero_le _) (Nat.zero_le _) ⟨by unfold sCached; rw [hz_i]; exact (if_pos h9).symm, rfl⟩ d_SM_cached_40
    · refine z_iload_n X d_SM_cached_12 rfl ?_
      refine z_iconst (v := nI 3) X d_SM_cached_13 rfl ?_
      refine z_aload_n X d_SM_cached_14 rfl ?_
      refine gr_SM_80 (hW.c (k := 0) (f := 23) rfl rfl (by decide) rfl) X (zo_s rfl hW.1) d_SM_cached_15 ?_
      refine z_iload_n X d_SM_cached_18 rfl ?_
      refine al_24 X (zo_s rfl hW.1) rfl (by omega) d_SM_cached_19 ?_
      refine z_ci (z_rS X cs_SM_95 (c_Math_min l g _ _) ⟨Nat.le_of_ble_eq_true rfl, Nat.le_of_ble_eq_true rfl⟩ rfl rfl (Nat.le_of_ble_eq_true rfl) ⟨Nat.le_of_ble_eq_true rfl, Nat.le_of_ble_eq_true rfl⟩ d_SM_cached_20) (fun r n2 I2 J2 R2 h => ?_)
      obtain ⟨rfl, e⟩ := h
      cases e
      refine z_top (v2 := .int (A 52 0 i)) (congrArg Value.int (hmin i hi_i)) ?_
      refine z_icmp_lt (tgt := 32) X d_SM_cached_23 (by decide) (fun h23 => ?_) (fun h23 => ?_)
      · obtain ⟨j, hj, rfl⟩ := zget (c := 3) h9 (by have := h52 i hi_i; rw [Int32.lt_iff_toInt_lt] at *; rw [Int32.le_iff_toInt_le] at this; omega) (by decide)
        refine z_aload_n X d_SM_cached_32 rfl ?_
        refine gr_SM_77 (hW.c (k := 0) (f := 22) rfl rfl (by decide) rfl) X (zo_s rfl hW.1) d_SM_cached_33 ?_
        refine z_iload_n X d_SM_cached_36 rfl ?_
        refine ar_22 X (zo_s rfl hW.1) rfl (by omega) (hW.kp (by omega)) d_SM_cached_37 ?_
        refine z_iload_n X d_SM_cached_38 rfl ?_
        refine al_23 X (zo_k (by omega) hW.1) rfl (by omega) d_SM_cached_39 ?_
        refine z_top (v2 := .int (A 51 0 (3 * i + j))) (congrArg Value.int (hC.1.kp (by omega) hj)) ?_
        exact z_iret X hret rfl (Nat.zero_le _) (Nat.zero_le _) ⟨by unfold sCached; rw [hz_i]; dsimp only; rw [if_neg h9, if_pos h23]; congr 2; rw [Int32.toNatClampNeg]; rw [nI_toInt (by omega)]; rfl, rfl⟩ d_SM_cached_40
      · refine z_sipush (v := -9999) X d_SM_cached_26 rfl ?_
        refine z_goto (tgt := 40) X d_SM_cached_29 (by decide) ?_
        exact z_iret X hret rfl (Nat.zero_le _) (Nat.zero_le _) ⟨by unfold sCached; rw [hz_i]; dsimp only; rw [if_neg h9, if_neg h23], rfl⟩ d_SM_cached_40

