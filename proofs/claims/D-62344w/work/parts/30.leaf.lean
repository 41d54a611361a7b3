/-! LEAF METHODS -/
theorem c_Math_max (l : Launch) (g : zG) {n : Nat} {I : zI} {J : zJ} {R : zR} (x y : Int32) : zMet l g y_Math_max b_Math_max 2 (some .int) 0 0 0 0 (zPc g [.int x, .int y] n I J R) (zQi g (fun r u => r = (if x < y then y else x) ∧ u = (n, I, J, R))) := by
  refine zMet.ofF (by decide +kernel) [some (.int x), some (.int y)] rfl (Nat.le_of_ble_eq_true rfl) ?_
  intro pP eE sS mM aA bB mE cC X hret hnm
  have X : zC pP sS mM aA mE cC b_Math_max "java/lang/Math" 2 g := X
  have hret : mE.sig.returnType = (some .int) := hret
  refine z_iload_n X d_Math_max_0 rfl ?_
  refine z_iload_n X d_Math_max_1 rfl ?_
  refine z_icmp_lt (tgt := 9) X d_Math_max_2 (by decide) (fun h1 => ?_) (fun h1 => ?_)
  · refine z_iload_n X d_Math_max_9 rfl ?_
    exact z_iret X hret rfl (Nat.zero_le _) (Nat.zero_le _) ⟨(if_pos h1).symm, rfl⟩ d_Math_max_10
  · refine z_iload_n X d_Math_max_5 rfl ?_
    refine z_goto (tgt := 10) X d_Math_max_6 (by decide) ?_
    exact z_iret X hret rfl (Nat.zero_le _) (Nat.zero_le _) ⟨(if_neg h1).symm, rfl⟩ d_Math_max_10
theorem c_Math_min (l : Launch) (g : zG) {n : Nat} {I : zI} {J : zJ} {R : zR} (x y : Int32) : zMet l g y_Math_min b_Math_min 2 (some .int) 0 0 0 0 (zPc g [.int x, .int y] n I J R) (zQi g (fun r u => r = (if y < x then y else x) ∧ u = (n, I, J, R))) := by
  refine zMet.ofF (by decide +kernel) [some (.int x), some (.int y)] rfl (Nat.le_of_ble_eq_true rfl) ?_
  intro pP eE sS mM aA bB mE cC X hret hnm
  have X : zC pP sS mM aA mE cC b_Math_min "java/lang/Math" 2 g := X
  have hret : mE.sig.returnType = (some .int) := hret
  refine z_iload_n X d_Math_min_0 rfl ?_
  refine z_iload_n X d_Math_min_1 rfl ?_
  refine z_icmp_gt (tgt := 9) X d_Math_min_2 (by decide) (fun h1 => ?_) (fun h1 => ?_)
  · refine z_iload_n X d_Math_min_9 rfl ?_
    exact z_iret X hret rfl (Nat.zero_le _) (Nat.zero_le _) ⟨(if_pos h1).symm, rfl⟩ d_Math_min_10
  · refine z_iload_n X d_Math_min_5 rfl ?_
    refine z_goto (tgt := 10) X d_Math_min_6 (by decide) ?_
    exact z_iret X hret rfl (Nat.zero_le _) (Nat.zero_le _) ⟨(if_neg h1).symm, rfl⟩ d_Math_min_10
theorem c_SM_node (l : Launch) (g : zG) {S h n : Nat} {I : zI} {J : zJ} {R : zR} (hW : zW g S h n I R) (x : Int32) : zMet l g y_SM_node b_SM_node 2 (some (.object "SlottedMesh$Node")) 0 0 0 0 (zPc g [.ref (zad g 0 0), .int x] n I J R) (zQq g 1 (fun r u => r = znd g.2.2.2 x ∧ u = (n, I, J, R))) := by
  refine zMet.of (by decide) [some (.ref (zad g 0 0)), some (.int x)] rfl (Nat.le_of_ble_eq_true rfl) ?_
  intro pP eE sS mM aA bB mE cC X hret hnm
  have X : zC pP sS mM aA mE cC b_SM_node "SlottedMesh" 2 g := X
  have hret : mE.sig.returnType = (some (.object "SlottedMesh$Node")) := hret
  refine z_iload_n X d_SM_node_0 rfl ?_
  refine z_if_lt (tgt := 12) X d_SM_node_1 (by decide) (fun h1 => ?_) (fun h1 => ?_)
  · refine z_null X d_SM_node_12 ?_
    refine z_goto (tgt := 22) X d_SM_node_13 (by decide) ?_
    exact z_aret none X hret rfl (Nat.zero_le _) (Nat.zero_le _) ⟨(znd_lo h1).symm, rfl⟩ d_SM_node_22
  · refine z_iload_n X d_SM_node_4 rfl ?_
    refine z_aload_n X d_SM_node_5 rfl ?_
    refine gf_SM_104 X (zo_s rfl hW.1) d_SM_node_6 ?_
    refine z_top (congrArg Value.int (hW.2.2.2.2.2.1)) ?_
    refine z_icmp_lt (tgt := 16) X d_SM_node_9 (by decide) (fun h2 => ?_) (fun h2 => ?_)
    · obtain ⟨j, hj, rfl⟩ := zget h1 h2 hW.2.1.2
      refine z_aload_n X d_SM_node_16 rfl ?_
      refine gr_SM_9 (hW.c (k := 0) (f := 3) rfl rfl (by decide) rfl) X (zo_s rfl hW.1) d_SM_node_17 ?_
      refine z_iload_n X d_SM_node_20 rfl ?_
      refine ar_6 X (zo_s rfl hW.1) rfl (by have := hW.2.1.2; omega) (hW.nd (by omega)) d_SM_node_21 ?_
      exact z_aret (some j) X hret rfl (Nat.zero_le _) (Nat.zero_le _) ⟨(znd_nI hj hW.2.1.2).symm, rfl⟩ d_SM_node_22
    · refine z_null X d_SM_node_12 ?_
      refine z_goto (tgt := 22) X d_SM_node_13 (by decide) ?_
      exact z_aret none X hret rfl (Nat.zero_le _) (Nat.zero_le _) ⟨(znd_hi hW.2.1.2 h2).symm, rfl⟩ d_SM_node_22
/-- a node other than the gateway -/
def znf (c : Nat) (x : Int32) : Option Nat := if x = 0 then none else znd c x
theorem c_SM_field (l : Launch) (g : zG) {S h n : Nat} {I : zI} {J : zJ} {R : zR} (hW : zW g S h n I R) (x : Int32) : zMet l g y_SM_field b_SM_field 2 (some (.object "SlottedMesh$Node")) 1 21 0 0 (zPc g [.ref (zad g 0 0), .int x] n I J R) (zQq g 1 (fun r u => r = znf g.2.2.2 x ∧ u = (n, I, J, R))) := by
  refine zMet.of (by decide) [some (.ref (zad g 0 0)), some (.int x)] rfl (Nat.le_of_ble_eq_true rfl) ?_
  intro pP eE sS mM aA bB mE cC X hret hnm
  have X : zC pP sS mM aA mE cC b_SM_field "SlottedMesh" 2 g := X
  have hret : mE.sig.returnType = (some (.object "SlottedMesh$Node")) := hret
  refine z_iload_n X d_SM_field_0 rfl ?_
  refine z_if_ne (tgt := 8) X d_SM_field_1 (by decide) (fun h1 => ?_) (fun h1 => ?_)
  · refine z_aload_n X d_SM_field_8 rfl ?_
    refine z_iload_n X d_SM_field_9 rfl ?_
    refine z_cq (z_rV X cs_SM_162 rfl rfl (zo_s rfl hW.1).1 (zo_s rfl hW.1).2 (c_SM_node l g hW x) ⟨Nat.le_of_ble_eq_true rfl, Nat.le_of_ble_eq_true rfl⟩ rfl rfl (Nat.le_of_ble_eq_true rfl) ⟨Nat.le_of_ble_eq_true rfl, Nat.le_of_ble_eq_true rfl⟩ d_SM_field_10) (fun r n2 I2 J2 R2 h => ?_)
    obtain ⟨rfl, e⟩ := h
    cases e
    exact z_aret (znd g.2.2.2 x) X hret rfl (Nat.zero_le _) (Nat.zero_le _) ⟨(if_neg h1).symm, rfl⟩ d_SM_field_13
  · refine z_null X d_SM_field_4 ?_
    refine z_goto (tgt := 13) X d_SM_field_5 (by decide) ?_
    exact z_aret none X hret rfl (Nat.zero_le _) (Nat.zero_le _) ⟨(if_pos h1).symm, rfl⟩ d_SM_field_13

