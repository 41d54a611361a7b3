/-! THE TWIN'S QUESTIONS, SAMPLE, CONTROL, STOP -/
def sRank (c : Nat) (A : zI) (x : Int32) : Int32 := if A 29 0 12 = 0 then -1 else match znd c x with | none => -1 | some i => A 37 0 i
def sParent (c : Nat) (A : zI) (x y : Int32) : Int32 := if A 29 0 12 = 0 then -1 else match znd c x with | none => -1 | some i => if y = 0 then A 38 0 (2 * i) else if y = 1 then A 38 0 (2 * i + 1) else -1
def sCell (S h : Nat) (A : zI) (x y : Int32) : Int32 := match znd S x with | none => -1 | some s => match znd h y with | none => -1 | some k => if A 29 0 12 = 0 then nI 0 else A 39 0 (4 * s + k)
def sCurrent (c : Nat) (A : zI) (x : Int32) : Int32 := match znd c x with | none => nI 0 | some i => if A 32 0 i = 0 then nI 0 else nI 1
def sOffset (c : Nat) (A : zI) (x : Int32) : Int32 := match znd c x with | none => -9999 | some i => A 33 0 i
def sCount (c : Nat) (A : zI) (q : zq) (x y : Int32) : Int32 := match znd c x with | none => -1 | some i => if y = 0 then nI (q i).length else if y = nI 1 then nI (q (6 + i)).length else if y = nI 2 then A 47 0 i else if y = nI 3 then A 48 0 i else -1
def sCached (c : Nat) (A : zI) (x y : Int32) : Int32 := match znd c x with | none => -9999 | some i => if y < 0 then -9999 else if y < A 52 0 i then A 51 0 (3 * i + y.toNatClampNeg) else -9999
def sLatest (c : Nat) (A : zI) (x : Int32) : Int32 := match znd c x with | none => -1 | some i => A 49 0 i
def sActuator (c : Nat) (A : zI) (x : Int32) : Int32 := match znd c x with | none => -9999 | some i => if i = 0 then -9999 else A 57 0 i
theorem znd_g {c j : Nat} (h : j < c) (hc : c < 2 ^ 31) : znd c (nI j) = some j := by
  unfold znd
  rw [nI_toInt (by omega), if_pos ⟨by omega, by omega⟩]
  simp
theorem znd_ge {c : Nat} {x : Int32} (hc : c < 2 ^ 31) (h : nI c ≤ x) : znd c x = none := by
  unfold znd
  rw [if_neg]
  rw [Int32.le_iff_toInt_le, nI_toInt hc] at h
  omega
theorem zgetg {c : Nat} {x : Int32} (h1 : ¬ x < 0) (h2 : x < nI c) (hc : c < 2 ^ 31) : ∃ j, j < c ∧ x = nI j := by
  rcases pk_ix x (n := c) hc with h | h | h
  · exact absurd h h1
  · rw [Int32.lt_iff_toInt_lt] at h2
    rw [Int32.le_iff_toInt_le] at h
    omega
  · exact h
theorem z_le1 {y : Int32} (h1 : ¬ y < 0) (h2 : y ≤ nI 1) : y = nI 0 ∨ y = nI 1 := by
  obtain ⟨j, hj, rfl⟩ := nI_of2 (M := nI 1) (n := 1) rfl h1 h2
  rcases (show j = 0 ∨ j = 1 by omega) with rfl | rfl
  · exact Or.inl rfl
  · exact Or.inr rfl
theorem c_Model_rank (l : Launch) (g : zG) {S h n : Nat} {I : zI} {J : zJ} {R : zR} (hW : zW g S h n I R) (x : Int32) : zMet l g y_Model_rank b_Model_rank 2 (some .int) 1 21 0 0 (zPc g [.ref (zad g 29 0), .int x] n I J R) (zQi g (fun r u => r = sRank g.2.2.2 (zcan I) x ∧ u = (n, I, J, R))) := by
  have hc := hW.2.1.2
  refine zMet.of (by decide) [some (.ref (zad g 29 0)), some (.int x)] rfl (Nat.le_of_ble_eq_true rfl) ?_
  intro pP eE sS mM aA bB mE cC X hret hnm
  have X : zC pP sS mM aA mE cC b_Model_rank "SlottedMeshModel" 2 g := X
  have hret : mE.sig.returnType = (some .int) := hret
  refine z_aload_n X d_Model_rank_0 rfl ?_
  refine gf_Model_135 X (zo_s rfl hW.1) d_Model_rank_1 ?_
  refine z_if_eq (tgt := 15) X d_Model_rank_4 (by decide) (fun h4 => ?_) (fun h4 => ?_)
  · refine z_iconst (v := -1) X d_Model_rank_15 rfl ?_
    refine z_goto (tgt := 25) X d_Model_rank_16 (by decide) ?_
    exact z_iret X hret rfl (Nat.zero_le _) (Nat.zero_le _) ⟨by unfold sRank; rw [if_pos (show zcan I 29 0 12 = 0 from h4)], rfl⟩ d_Model_rank_25
  · rcases hz_i : znd g.2.2.2 x with _ | i
    · refine z_aload_n X d_Model_rank_7 rfl ?_
      refine z_iload_n X d_Model_rank_8 rfl ?_
      refine z_ci (z_rV X cs_Model_108 rfl rfl (zo_s rfl hW.1).1 (zo_s rfl hW.1).2 (c_Model_noNode l g hW _) ⟨Nat.le_of_ble_eq_true rfl, Nat.le_of_ble_eq_true rfl⟩ rfl rfl (Nat.le_of_ble_eq_true rfl) ⟨Nat.le_of_ble_eq_true rfl, Nat.le_of_ble_eq_true rfl⟩ d_Model_rank_9) (fun r n2 I2 J2 R2 h => ?_)
      obtain ⟨rfl, e⟩ := h
      cases e
      refine z_top (congrArg Value.int (znn_no hz_i)) ?_
      refine z_if_eq (tgt := 19) X d_Model_rank_12 (by decide) (fun hq => absurd hq (by decide)) (fun _ => ?_)
      refine z_iconst (v := -1) X d_Model_rank_15 rfl ?_
      refine z_goto (tgt := 25) X d_Model_rank_16 (by decide) ?_
      exact z_iret X hret rfl (Nat.zero_le _) (Nat.zero_le _) ⟨by unfold sRank; rw [if_neg (show ¬ zcan I 29 0 12 = 0 from h4), hz_i], rfl⟩ d_Model_rank_25
    · obtain ⟨hi, rfl⟩ := znd_some hc hz_i
      refine z_aload_n X d_Model_rank_7 rfl ?_
      refine z_iload_n X d_Model_rank_8 rfl ?_
      refine z_ci (z_rV X cs_Model_108 rfl rfl (zo_s rfl hW.1).1 (zo_s rfl hW.1).2 (c_Model_noNode l g hW _) ⟨Nat.le_of_ble_eq_true rfl, Nat.le_of_ble_eq_true rfl⟩ rfl rfl (Nat.le_of_ble_eq_true rfl) ⟨Nat.le_of_ble_eq_true rfl, Nat.le_of_ble_eq_true rfl⟩ d_Model_rank_9) (fun r n2 I2 J2 R2 h => ?_)
      obtain ⟨rfl, e⟩ := h
      cases e
      refine z_top (congrArg Value.int (znn_yes hi hc)) ?_
      refine z_if_eq (tgt := 19) X d_Model_rank_12 (by decide) (fun _ => ?_) (fun hq => absurd hq (by decide))
      refine z_aload_n X d_Model_rank_19 rfl ?_
      refine gr_Model_33 (hW.c (k := 29) (f := 13) rfl rfl (by decide) rfl) X (zo_s rfl hW.1) d_Model_rank_20 ?_
      refine z_iload_n X d_Model_rank_23 rfl ?_
      refine al_37 X (zo_s rfl hW.1) rfl (by omega) d_Model_rank_24 ?_
      exact z_iret X hret rfl (Nat.zero_le _) (Nat.zero_le _) ⟨by unfold sRank; rw [if_neg (show ¬ zcan I 29 0 12 = 0 from h4), hz_i]; rfl, rfl⟩ d_Model_rank_25
theorem c_Model_parent (l : Launch) (g : zG) {S h n : Nat} {I : zI} {J : zJ} {R : zR} (hW : zW g S h n I R) (x y : Int32) : zMet l g y_Model_parent b_Model_parent 3 (some .int) 1 21 0 0 (zPc g [.ref (zad g 29 0), .int x, .int y] n I J R) (zQi g (fun r u => r = sParent g.2.2.2 (zcan I) x y ∧ u = (n, I, J, R))) := by
  have hc := hW.2.1.2
  refine zMet.of (by decide) [some (.ref (zad g 29 0)), some (.int x), some (.int y)] rfl (Nat.le_of_ble_eq_true rfl) ?_
  intro pP eE sS mM aA bB mE cC X hret hnm
  have X : zC pP sS mM aA mE cC b_Model_parent "SlottedMeshModel" 3 g := X
  have hret : mE.sig.returnType = (some .int) := hret
  refine z_aload_n X d_Model_parent_0 rfl ?_
  refine gf_Model_135 X (zo_s rfl hW.1) d_Model_parent_1 ?_
  refine z_if_eq (tgt := 24) X d_Model_parent_4 (by decide) (fun h4 => ?_) (fun h4 => ?_)
  · refine z_iconst (v := -1) X d_Model_parent_24 rfl ?_
    refine z_goto (tgt := 38) X d_Model_parent_25 (by decide) ?_
    exact z_iret X hret rfl (Nat.zero_le _) (Nat.zero_le _) ⟨by unfold sParent; rw [if_pos (show zcan I 29 0 12 = 0 from h4)], rfl⟩ d_Model_parent_38
  · rcases hz_i : znd g.2.2.2 x with _ | i
    · refine z_aload_n X d_Model_parent_7 rfl ?_
      refine z_iload_n X d_Model_parent_8 rfl ?_
      refine z_ci (z_rV X cs_Model_108 rfl rfl (zo_s rfl hW.1).1 (zo_s rfl hW.1).2 (c_Model_noNode l g hW _) ⟨Nat.le_of_ble_eq_true rfl, Nat.le_of_ble_eq_true rfl⟩ rfl rfl (Nat.le_of_ble_eq_true rfl) ⟨Nat.le_of_ble_eq_true rfl, Nat.le_of_ble_eq_true rfl⟩ d_Model_parent_9) (fun r n2 I2 J2 R2 h => ?_)
      obtain ⟨rfl, e⟩ := h
      cases e
      refine z_top (congrArg Value.int (znn_no hz_i)) ?_
      refine z_if_ne (tgt := 24) X d_Model_parent_12 (by decide) (fun _ => ?_) (fun hq => absurd hq (by decide))
      refine z_iconst (v := -1) X d_Model_parent_24 rfl ?_
      refine z_goto (tgt := 38) X d_Model_parent_25 (by decide) ?_
      exact z_iret X hret rfl (Nat.zero_le _) (Nat.zero_le _) ⟨by unfold sParent; rw [if_neg (show ¬ zcan I 29 0 12 = 0 from h4), hz_i], rfl⟩ d_Model_parent_38
    · obtain ⟨hi, rfl⟩ := znd_some hc hz_i
      refine z_aload_n X d_Model_parent_7 rfl ?_
      refine z_iload_n X d_Model_parent_8 rfl ?_
      refine z_ci (z_rV X cs_Model_108 rfl rfl (zo_s rfl hW.1).1 (zo_s rfl hW.1).2 (c_Model_noNode l g hW _) ⟨Nat.le_of_ble_eq_true rfl, Nat.le_of_ble_eq_true rfl⟩ rfl rfl (Nat.le_of_ble_eq_true rfl) ⟨Nat.le_of_ble_eq_true rfl, Nat.le_of_ble_eq_true rfl⟩ d_Model_parent_9) (fun r n2 I2 J2 R2 h => ?_)
      obtain ⟨rfl, e⟩ := h
      cases e
      refine z_top (congrArg Value.int (znn_yes hi hc)) ?_
      refine z_if_ne (tgt := 24) X d_Model_parent_12 (by decide) (fun hq => absurd hq (by decide)) (fun _ => ?_)
      refine z_iload_n X d_Model_parent_15 rfl ?_
      refine z_if_lt (tgt := 24) X d_Model_parent_16 (by decide) (fun h16 => ?_) (fun h16 => ?_)
      · refine z_iconst (v := -1) X d_Model_parent_24 rfl ?_
        refine z_goto (tgt := 38) X d_Model_parent_25 (by decide) ?_
        exact z_iret X hret rfl (Nat.zero_le _) (Nat.zero_le _) ⟨by unfold sParent; rw [if_neg (show ¬ zcan I 29 0 12 = 0 from h4), hz_i]; dsimp only; rw [if_neg (fun z => by subst z; first | exact absurd h16 (by decide) | exact h21 (by decide)), if_neg (fun z => by subst z; first | exact absurd h16 (by decide) | exact h21 (by decide))], rfl⟩ d_Model_parent_38
      · refine z_iload_n X d_Model_parent_19 rfl ?_
        refine z_iconst (v := nI 1) X d_Model_parent_20 rfl ?_
        refine z_icmp_le (tgt := 28) X d_Model_parent_21 (by decide) (fun h21 => ?_) (fun h21 => ?_)
        · rcases z_le1 h16 h21 with rfl | rfl
          · refine z_aload_n X d_Model_parent_28 rfl ?_
            refine gr_Model_36 (hW.c (k := 29) (f := 14) rfl rfl (by decide) rfl) X (zo_s rfl hW.1) d_Model_parent_29 ?_
            refine z_iconst (v := nI 2) X d_Model_parent_32 rfl ?_
            refine z_iload_n X d_Model_parent_33 rfl ?_
            refine z_imul X d_Model_parent_34 ?_
            refine z_iload_n X d_Model_parent_35 rfl ?_
            refine z_iadd X d_Model_parent_36 ?_
            refine al_38 (j := 2 * i) X (zo_s rfl hW.1) (by rw [pk_mul, nI_add]; rfl) (by omega) d_Model_parent_37 ?_
            exact z_iret X hret rfl (Nat.zero_le _) (Nat.zero_le _) ⟨by unfold sParent; rw [if_neg (show ¬ zcan I 29 0 12 = 0 from h4), hz_i]; rfl, rfl⟩ d_Model_parent_38
          · refine z_aload_n X d_Model_parent_28 rfl ?_
            refine gr_Model_36 (hW.c (k := 29) (f := 14) rfl rfl (by decide) rfl) X (zo_s rfl hW.1) d_Model_parent_29 ?_
            refine z_iconst (v := nI 2) X d_Model_parent_32 rfl ?_
            refine z_iload_n X d_Model_parent_33 rfl ?_
            refine z_imul X d_Model_parent_34 ?_
            refine z_iload_n X d_Model_parent_35 rfl ?_
            refine z_iadd X d_Model_parent_36 ?_
            refine al_38 (j := 2 * i + 1) X (zo_s rfl hW.1) (by rw [pk_mul, nI_add]) (by omega) d_Model_parent_37 ?_
            exact z_iret X hret rfl (Nat.zero_le _) (Nat.zero_le _) ⟨by unfold sParent; rw [if_neg (show ¬ zcan I 29 0 12 = 0 from h4), hz_i]; rfl, rfl⟩ d_Model_parent_38
        · refine z_iconst (v := -1) X d_Model_parent_24 rfl ?_
          refine z_goto (tgt := 38) X d_Model_parent_25 (by decide) ?_
          exact z_iret X hret rfl (Nat.zero_le _) (Nat.zero_le _) ⟨by unfold sParent; rw [if_neg (show ¬ zcan I 29 0 12 = 0 from h4), hz_i]; dsimp only; rw [if_neg (fun z => by subst z; first | exact absurd h16 (by decide) | exact h21 (by decide)), if_neg (fun z => by subst z; first | exact absurd h16 (by decide) | exact h21 (by decide))], rfl⟩ d_Model_parent_38
theorem c_Model_cell (l : Launch) (g : zG) {S h n : Nat} {I : zI} {J : zJ} {R : zR} (hW : zW g S h n I R) (x y : Int32) : zMet l g y_Model_cell b_Model_cell 3 (some .int) 0 0 0 0 (zPc g [.ref (zad g 29 0), .int x, .int y] n I J R) (zQi g (fun r u => r = sCell S h (zcan I) x y ∧ u = (n, I, J, R))) := by
  have hS := hW.2.2.1
  have hh := hW.2.2.2.1
  refine zMet.of (by decide) [some (.ref (zad g 29 0)), some (.int x), some (.int y)] rfl (Nat.le_of_ble_eq_true rfl) ?_
  intro pP eE sS mM aA bB mE cC X hret hnm
  have X : zC pP sS mM aA mE cC b_Model_cell "SlottedMeshModel" 3 g := X
  have hret : mE.sig.returnType = (some .int) := hret
  refine z_iload_n X d_Model_cell_0 rfl ?_
  refine z_if_lt (tgt := 24) X d_Model_cell_1 (by decide) (fun h1 => ?_) (fun h1 => ?_)
  · refine z_iconst (v := -1) X d_Model_cell_24 rfl ?_
    exact z_iret X hret rfl (Nat.zero_le _) (Nat.zero_le _) ⟨by unfold sCell; first | rw [znd_lo h1] | rw [znd_ge (by omega) h9] | (rw [znd_lo h13]; split <;> rfl) | (rw [znd_ge (by omega) (Int32.not_lt.mp h21)]; split <;> rfl), rfl⟩ d_Model_cell_25
  · refine z_iload_n X d_Model_cell_4 rfl ?_
    refine z_aload_n X d_Model_cell_5 rfl ?_
    refine gf_Model_100 X (zo_s rfl hW.1) d_Model_cell_6 ?_
    refine z_top (congrArg Value.int (hW.2.2.2.2.2.2.2.2.2.2.1)) ?_
    refine z_icmp_ge (tgt := 24) X d_Model_cell_9 (by decide) (fun h9 => ?_) (fun h9 => ?_)
    · refine z_iconst (v := -1) X d_Model_cell_24 rfl ?_
      exact z_iret X hret rfl (Nat.zero_le _) (Nat.zero_le _) ⟨by unfold sCell; first | rw [znd_lo h1] | rw [znd_ge (by omega) h9] | (rw [znd_lo h13]; split <;> rfl) | (rw [znd_ge (by omega) (Int32.not_lt.mp h21)]; split <;> rfl), rfl⟩ d_Model_cell_25
    · refine z_iload_n X d_Model_cell_12 rfl ?_
      refine z_if_lt (tgt := 24) X d_Model_cell_13 (by decide) (fun h13 => ?_) (fun h13 => ?_)
      · refine z_iconst (v := -1) X d_Model_cell_24 rfl ?_
        exact z_iret X hret rfl (Nat.zero_le _) (Nat.zero_le _) ⟨by unfold sCell; first | rw [znd_lo h1] | rw [znd_ge (by omega) h9] | (rw [znd_lo h13]; split <;> rfl) | (rw [znd_ge (by omega) (Int32.not_lt.mp h21)]; split <;> rfl), rfl⟩ d_Model_cell_25
      · refine z_iload_n X d_Model_cell_16 rfl ?_
        refine z_aload_n X d_Model_cell_17 rfl ?_
        refine gf_Model_103 X (zo_s rfl hW.1) d_Model_cell_18 ?_
        refine z_top (congrArg Value.int (hW.2.2.2.2.2.2.2.2.2.2.2)) ?_
        refine z_icmp_lt (tgt := 26) X d_Model_cell_21 (by decide) (fun h21 => ?_) (fun h21 => ?_)
        · obtain ⟨s, hs, rfl⟩ := zgetg h1 (Int32.not_le.mp h9) (by omega)
          obtain ⟨k, hk, rfl⟩ := zgetg h13 h21 (by omega)
          refine z_aload_n X d_Model_cell_26 rfl ?_
          refine gf_Model_135 X (zo_s rfl hW.1) d_Model_cell_27 ?_
          refine z_if_eq (tgt := 46) X d_Model_cell_30 (by decide) (fun h30 => ?_) (fun h30 => ?_)
          · refine z_iconst (v := nI 0) X d_Model_cell_46 rfl ?_
            exact z_iret X hret rfl (Nat.zero_le _) (Nat.zero_le _) ⟨by unfold sCell; rw [znd_g hs (by omega), znd_g hk (by omega)]; dsimp only; first | rw [if_pos (show zcan I 29 0 12 = 0 from h30)] | (rw [if_neg (show ¬ zcan I 29 0 12 = 0 from h30)]; rfl), rfl⟩ d_Model_cell_47
          · refine z_aload_n X d_Model_cell_33 rfl ?_
            refine gr_Model_39 (hW.c (k := 29) (f := 15) rfl rfl (by decide) rfl) X (zo_s rfl hW.1) d_Model_cell_34 ?_
            refine z_iconst (v := nI 4) X d_Model_cell_37 rfl ?_
            refine z_iload_n X d_Model_cell_38 rfl ?_
            refine z_imul X d_Model_cell_39 ?_
            refine z_iload_n X d_Model_cell_40 rfl ?_
            refine z_iadd X d_Model_cell_41 ?_
            refine al_39 (j := 4 * s + k) X (zo_s rfl hW.1) (zidx4 s k) (by omega) d_Model_cell_42 ?_
            refine z_goto (tgt := 47) X d_Model_cell_43 (by decide) ?_
            exact z_iret X hret rfl (Nat.zero_le _) (Nat.zero_le _) ⟨by unfold sCell; rw [znd_g hs (by omega), znd_g hk (by omega)]; dsimp only; first | rw [if_pos (show zcan I 29 0 12 = 0 from h30)] | (rw [if_neg (show ¬ zcan I 29 0 12 = 0 from h30)]; rfl), rfl⟩ d_Model_cell_47
        · refine z_iconst (v := -1) X d_Model_cell_24 rfl ?_
          exact z_iret X hret rfl (Nat.zero_le _) (Nat.zero_le _) ⟨by unfold sCell; first | rw [znd_lo h1] | rw [znd_ge (by omega) h9] | (rw [znd_lo h13]; split <;> rfl) | (rw [znd_ge (by omega) (Int32.not_lt.mp h21)]; split <;> rfl), rfl⟩ d_Model_cell_25
theorem c_Model_current (l : Launch) (g : zG) {S h n : Nat} {I : zI} {J : zJ} {R : zR} (hW : zW g S h n I R) (x : Int32) : zMet l g y_Model_current b_Model_current 2 (some .boolean) 1 21 0 0 (zPc g [.ref (zad g 29 0), .int x] n I J R) (zQi g (fun r u => r = sCurrent g.2.2.2 (zcan I) x ∧ u = (n, I, J, R))) := by
  have hc := hW.2.1.2
  refine zMet.of (by decide) [some (.ref (zad g 29 0)), some (.int x)] rfl (Nat.le_of_ble_eq_true rfl) ?_
  intro pP eE sS mM aA bB mE cC X hret hnm
  have X : zC pP sS mM aA mE cC b_Model_current "SlottedMeshModel" 2 g := X
  have hret : mE.sig.returnType = (some .boolean) := hret
  rcases hz_i : znd g.2.2.2 x with _ | i
  · refine z_aload_n X d_Model_current_0 rfl ?_
    refine z_iload_n X d_Model_current_1 rfl ?_
    refine z_ci (z_rV X cs_Model_108 rfl rfl (zo_s rfl hW.1).1 (zo_s rfl hW.1).2 (c_Model_noNode l g hW _) ⟨Nat.le_of_ble_eq_true rfl, Nat.le_of_ble_eq_true rfl⟩ rfl rfl (Nat.le_of_ble_eq_true rfl) ⟨Nat.le_of_ble_eq_true rfl, Nat.le_of_ble_eq_true rfl⟩ d_Model_current_2) (fun r n2 I2 J2 R2 h => ?_)
    obtain ⟨rfl, e⟩ := h
    cases e
    refine z_top (congrArg Value.int (znn_no hz_i)) ?_
    refine z_if_ne (tgt := 21) X d_Model_current_5 (by decide) (fun _ => ?_) (fun hq => absurd hq (by decide))
    refine z_iconst (v := nI 0) X d_Model_current_21 rfl ?_
    exact z_iret X hret rfl (Nat.zero_le _) (Nat.zero_le _) ⟨by unfold sCurrent; rw [hz_i], rfl⟩ d_Model_current_22
  · obtain ⟨hi_i, rfl⟩ := znd_some hc hz_i
    refine z_aload_n X d_Model_current_0 rfl ?_
    refine z_iload_n X d_Model_current_1 rfl ?_
    refine z_ci (z_rV X cs_Model_108 rfl rfl (zo_s rfl hW.1).1 (zo_s rfl hW.1).2 (c_Model_noNode l g hW _) ⟨Nat.le_of_ble_eq_true rfl, Nat.le_of_ble_eq_true rfl⟩ rfl rfl (Nat.le_of_ble_eq_true rfl) ⟨Nat.le_of_ble_eq_true rfl, Nat.le_of_ble_eq_true rfl⟩ d_Model_current_2) (fun r n2 I2 J2 R2 h => ?_)
    obtain ⟨rfl, e⟩ := h
    cases e
    refine z_top (congrArg Value.int (znn_yes hi_i hc)) ?_
    refine z_if_ne (tgt := 21) X d_Model_current_5 (by decide) (fun hq => absurd hq (by decide)) (fun _ => ?_)
    refine z_aload_n X d_Model_current_8 rfl ?_
    refine gr_Model_16 (hW.c (k := 29) (f := 7) rfl rfl (by decide) rfl) X (zo_s rfl hW.1) d_Model_current_9 ?_
    refine z_iload_n X d_Model_current_12 rfl ?_
    refine al_32 X (zo_s rfl hW.1) rfl (by omega) d_Model_current_13 ?_
    refine z_if_eq (tgt := 21) X d_Model_current_14 (by decide) (fun h14 => ?_) (fun h14 => ?_)
    · refine z_iconst (v := nI 0) X d_Model_current_21 rfl ?_
      exact z_iret X hret rfl (Nat.zero_le _) (Nat.zero_le _) ⟨by unfold sCurrent; rw [hz_i]; dsimp only; first | rw [if_pos (show zcan I 32 0 i = 0 from h14)] | rw [if_neg (show ¬ zcan I 32 0 i = 0 from h14)], rfl⟩ d_Model_current_22
    · refine z_iconst (v := nI 1) X d_Model_current_17 rfl ?_
      refine z_goto (tgt := 22) X d_Model_current_18 (by decide) ?_
      exact z_iret X hret rfl (Nat.zero_le _) (Nat.zero_le _) ⟨by unfold sCurrent; rw [hz_i]; dsimp only; first | rw [if_pos (show zcan I 32 0 i = 0 from h14)] | rw [if_neg (show ¬ zcan I 32 0 i = 0 from h14)], rfl⟩ d_Model_current_22
theorem c_Model_offset (l : Launch) (g : zG) {S h n : Nat} {I : zI} {J : zJ} {R : zR} (hW : zW g S h n I R) (x : Int32) : zMet l g y_Model_offset b_Model_offset 2 (some .int) 1 21 0 0 (zPc g [.ref (zad g 29 0), .int x] n I J R) (zQi g (fun r u => r = sOffset g.2.2.2 (zcan I) x ∧ u = (n, I, J, R))) := by
  have hc := hW.2.1.2
  refine zMet.of (by decide) [some (.ref (zad g 29 0)), some (.int x)] rfl (Nat.le_of_ble_eq_true rfl) ?_
  intro pP eE sS mM aA bB mE cC X hret hnm
  have X : zC pP sS mM aA mE cC b_Model_offset "SlottedMeshModel" 2 g := X
  have hret : mE.sig.returnType = (some .int) := hret
  rcases hz_i : znd g.2.2.2 x with _ | i
  · refine z_aload_n X d_Model_offset_0 rfl ?_
    refine z_iload_n X d_Model_offset_1 rfl ?_
    refine z_ci (z_rV X cs_Model_108 rfl rfl (zo_s rfl hW.1).1 (zo_s rfl hW.1).2 (c_Model_noNode l g hW _) ⟨Nat.le_of_ble_eq_true rfl, Nat.le_of_ble_eq_true rfl⟩ rfl rfl (Nat.le_of_ble_eq_true rfl) ⟨Nat.le_of_ble_eq_true rfl, Nat.le_of_ble_eq_true rfl⟩ d_Model_offset_2) (fun r n2 I2 J2 R2 h => ?_)
    obtain ⟨rfl, e⟩ := h
    cases e
    refine z_top (congrArg Value.int (znn_no hz_i)) ?_
    refine z_if_eq (tgt := 14) X d_Model_offset_5 (by decide) (fun hq => absurd hq (by decide)) (fun _ => ?_)
    refine z_sipush (v := -9999) X d_Model_offset_8 rfl ?_
    refine z_goto (tgt := 20) X d_Model_offset_11 (by decide) ?_
    exact z_iret X hret rfl (Nat.zero_le _) (Nat.zero_le _) ⟨by unfold sOffset; (rw [hz_i]) <;> rfl, rfl⟩ d_Model_offset_20
  · obtain ⟨hi, rfl⟩ := znd_some hc hz_i
    refine z_aload_n X d_Model_offset_0 rfl ?_
    refine z_iload_n X d_Model_offset_1 rfl ?_
    refine z_ci (z_rV X cs_Model_108 rfl rfl (zo_s rfl hW.1).1 (zo_s rfl hW.1).2 (c_Model_noNode l g hW _) ⟨Nat.le_of_ble_eq_true rfl, Nat.le_of_ble_eq_true rfl⟩ rfl rfl (Nat.le_of_ble_eq_true rfl) ⟨Nat.le_of_ble_eq_true rfl, Nat.le_of_ble_eq_true rfl⟩ d_Model_offset_2) (fun r n2 I2 J2 R2 h => ?_)
    obtain ⟨rfl, e⟩ := h
    cases e
    refine z_top (congrArg Value.int (znn_yes hi hc)) ?_
    refine z_if_eq (tgt := 14) X d_Model_offset_5 (by decide) (fun _ => ?_) (fun hq => absurd hq (by decide))
    refine z_aload_n X d_Model_offset_14 rfl ?_
    refine gr_Model_19 (hW.c (k := 29) (f := 8) rfl rfl (by decide) rfl) X (zo_s rfl hW.1) d_Model_offset_15 ?_
    refine z_iload_n X d_Model_offset_18 rfl ?_
    refine al_33 X (zo_s rfl hW.1) rfl (by omega) d_Model_offset_19 ?_
    exact z_iret X hret rfl (Nat.zero_le _) (Nat.zero_le _) ⟨by unfold sOffset; (rw [hz_i]) <;> rfl, rfl⟩ d_Model_offset_20
theorem c_Model_count (l : Launch) (g : zG) {S h n : Nat} {I : zI} {J : zJ} {R : zR} (hW : zW g S h n I R) (q : zq) (hq : zRT g.2.2.2 I q) (x y : Int32) : zMet l g y_Model_count b_Model_count 3 (some .int) 1 21 0 0 (zPc g [.ref (zad g 29 0), .int x, .int y] n I J R) (zQi g (fun r u => r = sCount g.2.2.2 (zcan I) q x y ∧ u = (n, I, J, R))) := by
  have hc := hW.2.1.2
  refine zMet.of (by decide) [some (.ref (zad g 29 0)), some (.int x), some (.int y)] rfl (Nat.le_of_ble_eq_true rfl) ?_
  intro pP eE sS mM aA bB mE cC X hret hnm
  have X : zC pP sS mM aA mE cC b_Model_count "SlottedMeshModel" 3 g := X
  have hret : mE.sig.returnType = (some .int) := hret
  rcases hz_i : znd g.2.2.2 x with _ | i
  · refine z_aload_n X d_Model_count_0 rfl ?_
    refine z_iload_n X d_Model_count_1 rfl ?_
    refine z_ci (z_rV X cs_Model_108 rfl rfl (zo_s rfl hW.1).1 (zo_s rfl hW.1).2 (c_Model_noNode l g hW _) ⟨Nat.le_of_ble_eq_true rfl, Nat.le_of_ble_eq_true rfl⟩ rfl rfl (Nat.le_of_ble_eq_true rfl) ⟨Nat.le_of_ble_eq_true rfl, Nat.le_of_ble_eq_true rfl⟩ d_Model_count_2) (fun r n2 I2 J2 R2 h => ?_)
    obtain ⟨rfl, e⟩ := h
    cases e
    refine z_top (congrArg Value.int (znn_no hz_i)) ?_
    refine z_if_ne (tgt := 17) X d_Model_count_5 (by decide) (fun _ => ?_) (fun hq => absurd hq (by decide))
    refine z_iconst (v := -1) X d_Model_count_17 rfl ?_
    exact z_iret X hret rfl (Nat.zero_le _) (Nat.zero_le _) ⟨by unfold sCount; rw [hz_i], rfl⟩ d_Model_count_18
  · obtain ⟨hi_i, rfl⟩ := znd_some hc hz_i
    refine z_aload_n X d_Model_count_0 rfl ?_
    refine z_iload_n X d_Model_count_1 rfl ?_
    refine z_ci (z_rV X cs_Model_108 rfl rfl (zo_s rfl hW.1).1 (zo_s rfl hW.1).2 (c_Model_noNode l g hW _) ⟨Nat.le_of_ble_eq_true rfl, Nat.le_of_ble_eq_true rfl⟩ rfl rfl (Nat.le_of_ble_eq_true rfl) ⟨Nat.le_of_ble_eq_true rfl, Nat.le_of_ble_eq_true rfl⟩ d_Model_count_2) (fun r n2 I2 J2 R2 h => ?_)
    obtain ⟨rfl, e⟩ := h
    cases e
    refine z_top (congrArg Value.int (znn_yes hi_i hc)) ?_
    refine z_if_ne (tgt := 17) X d_Model_count_5 (by decide) (fun hq => absurd hq (by decide)) (fun _ => ?_)
    have q1 := (hq i (Or.inl hi_i)).2.1
    have q2 := (hq (6 + i) (Or.inr ⟨by omega, by omega⟩)).2.1
    refine z_iload_n X d_Model_count_8 rfl ?_
    refine z_if_lt (tgt := 17) X d_Model_count_9 (by decide) (fun h9 => ?_) (fun h9 => ?_)
    · refine z_iconst (v := -1) X d_Model_count_17 rfl ?_
      exact z_iret X hret rfl (Nat.zero_le _) (Nat.zero_le _) ⟨by unfold sCount; rw [hz_i]; dsimp only; rw [if_neg (fun z => by subst z; first | exact absurd h9 (by decide) | exact h14 (by decide)), if_neg (fun z => by subst z; first | exact absurd h9 (by decide) | exact h14 (by decide)), if_neg (fun z => by subst z; first | exact absurd h9 (by decide) | exact h14 (by decide)), if_neg (fun z => by subst z; first | exact absurd h9 (by decide) | exact h14 (by decide))], rfl⟩ d_Model_count_18
    · refine z_iload_n X d_Model_count_12 rfl ?_
      refine z_iconst (v := nI 3) X d_Model_count_13 rfl ?_
      refine z_icmp_le (tgt := 19) X d_Model_count_14 (by decide) (fun h14 => ?_) (fun h14 => ?_)
      · refine z_iload_n X d_Model_count_19 rfl ?_
        refine z_if_ne (tgt := 32) X d_Model_count_20 (by decide) (fun h20 => ?_) (fun h20 => ?_)
        · refine z_iload_n X d_Model_count_32 rfl ?_
          refine z_iconst (v := nI 1) X d_Model_count_33 rfl ?_
          refine z_icmp_ne (tgt := 49) X d_Model_count_34 (by decide) (fun h34 => ?_) (fun h34 => ?_)
          · refine z_iload_n X d_Model_count_49 rfl ?_
            refine z_iconst (v := nI 2) X d_Model_count_50 rfl ?_
            refine z_icmp_ne (tgt := 63) X d_Model_count_51 (by decide) (fun h51 => ?_) (fun h51 => ?_)
            · refine z_aload_n X d_Model_count_63 rfl ?_
              refine gr_Model_66 (hW.c (k := 29) (f := 24) rfl rfl (by decide) rfl) X (zo_s rfl hW.1) d_Model_count_64 ?_
              refine z_iload_n X d_Model_count_67 rfl ?_
              refine al_48 X (zo_s rfl hW.1) rfl (by omega) d_Model_count_68 ?_
              exact z_iret X hret rfl (Nat.zero_le _) (Nat.zero_le _) ⟨by unfold sCount; rw [hz_i]; dsimp only; first | (rw [if_pos h20]; exact q1) | (rw [if_neg h20, if_pos h34]; exact q2) | (rw [if_neg h20, if_neg h34, if_pos h51]; rfl) | (rw [if_neg h20, if_neg h34, if_neg h51, if_pos (z_is3 h9 h14 h20 h34 h51)]; rfl), rfl⟩ d_Model_count_69
            · refine z_aload_n X d_Model_count_54 rfl ?_
              refine gr_Model_63 (hW.c (k := 29) (f := 23) rfl rfl (by decide) rfl) X (zo_s rfl hW.1) d_Model_count_55 ?_
              refine z_iload_n X d_Model_count_58 rfl ?_
              refine al_47 X (zo_s rfl hW.1) rfl (by omega) d_Model_count_59 ?_
              refine z_goto (tgt := 69) X d_Model_count_60 (by decide) ?_
              exact z_iret X hret rfl (Nat.zero_le _) (Nat.zero_le _) ⟨by unfold sCount; rw [hz_i]; dsimp only; first | (rw [if_pos h20]; exact q1) | (rw [if_neg h20, if_pos h34]; exact q2) | (rw [if_neg h20, if_neg h34, if_pos h51]; rfl) | (rw [if_neg h20, if_neg h34, if_neg h51, if_pos (z_is3 h9 h14 h20 h34 h51)]; rfl), rfl⟩ d_Model_count_69
          · refine z_aload_n X d_Model_count_37 rfl ?_
            refine gr_Model_51 (hW.c (k := 29) (f := 19) rfl rfl (by decide) rfl) X (zo_s rfl hW.1) d_Model_count_38 ?_
            refine z_bipush (v := nI 6) X d_Model_count_41 rfl ?_
            refine z_iload_n X d_Model_count_43 rfl ?_
            refine z_iadd X d_Model_count_44 ?_
            refine al_43 (j := 6 + i) X (zo_s rfl hW.1) (nI_add 6 i) (by omega) d_Model_count_45 ?_
            refine z_goto (tgt := 69) X d_Model_count_46 (by decide) ?_
            exact z_iret X hret rfl (Nat.zero_le _) (Nat.zero_le _) ⟨by unfold sCount; rw [hz_i]; dsimp only; first | (rw [if_pos h20]; exact q1) | (rw [if_neg h20, if_pos h34]; exact q2) | (rw [if_neg h20, if_neg h34, if_pos h51]; rfl) | (rw [if_neg h20, if_neg h34, if_neg h51, if_pos (z_is3 h9 h14 h20 h34 h51)]; rfl), rfl⟩ d_Model_count_69
        · refine z_aload_n X d_Model_count_23 rfl ?_
          refine gr_Model_51 (hW.c (k := 29) (f := 19) rfl rfl (by decide) rfl) X (zo_s rfl hW.1) d_Model_count_24 ?_
          refine z_iload_n X d_Model_count_27 rfl ?_
          refine al_43 X (zo_s rfl hW.1) rfl (by omega) d_Model_count_28 ?_
          refine z_goto (tgt := 69) X d_Model_count_29 (by decide) ?_
          exact z_iret X hret rfl (Nat.zero_le _) (Nat.zero_le _) ⟨by unfold sCount; rw [hz_i]; dsimp only; first | (rw [if_pos h20]; exact q1) | (rw [if_neg h20, if_pos h34]; exact q2) | (rw [if_neg h20, if_neg h34, if_pos h51]; rfl) | (rw [if_neg h20, if_neg h34, if_neg h51, if_pos (z_is3 h9 h14 h20 h34 h51)]; rfl), rfl⟩ d_Model_count_69
      · refine z_iconst (v := -1) X d_Model_count_17 rfl ?_
        exact z_iret X hret rfl (Nat.zero_le _) (Nat.zero_le _) ⟨by unfold sCount; rw [hz_i]; dsimp only; rw [if_neg (fun z => by subst z; first | exact absurd h9 (by decide) | exact h14 (by decide)), if_neg (fun z => by subst z; first | exact absurd h9 (by decide) | exact h14 (by decide)), if_neg (fun z => by subst z; first | exact absurd h9 (by decide) | exact h14 (by decide)), if_neg (fun z => by subst z; first | exact absurd h9 (by decide) | exact h14 (by decide))], rfl⟩ d_Model_count_18
theorem c_Model_cached (l : Launch) (g : zG) {S h n : Nat} {I : zI} {J : zJ} {R : zR} (hW : zW g S h n I R) (hk : ∀ i, i < g.2.2.2 → ∃ m, m ≤ 3 ∧ I 52 0 i = nI m) (x y : Int32) : zMet l g y_Model_cached b_Model_cached 3 (some .int) 1 21 0 0 (zPc g [.ref (zad g 29 0), .int x, .int y] n I J R) (zQi g (fun r u => r = sCached g.2.2.2 (zcan I) x y ∧ u = (n, I, J, R))) := by
  have hc := hW.2.1.2
  refine zMet.of (by decide) [some (.ref (zad g 29 0)), some (.int x), some (.int y)] rfl (Nat.le_of_ble_eq_true rfl) ?_
  intro pP eE sS mM aA bB mE cC X hret hnm
  have X : zC pP sS mM aA mE cC b_Model_cached "SlottedMeshModel" 3 g := X
  have hret : mE.sig.returnType = (some .int) := hret
  rcases hz_i : znd g.2.2.2 x with _ | i
  · refine z_aload_n X d_Model_cached_0 rfl ?_
    refine z_iload_n X d_Model_cached_1 rfl ?_
    refine z_ci (z_rV X cs_Model_108 rfl rfl (zo_s rfl hW.1).1 (zo_s rfl hW.1).2 (c_Model_noNode l g hW _) ⟨Nat.le_of_ble_eq_true rfl, Nat.le_of_ble_eq_true rfl⟩ rfl rfl (Nat.le_of_ble_eq_true rfl) ⟨Nat.le_of_ble_eq_true rfl, Nat.le_of_ble_eq_true rfl⟩ d_Model_cached_2) (fun r n2 I2 J2 R2 h => ?_)
    obtain ⟨rfl, e⟩ := h
    cases e
    refine z_top (congrArg Value.int (znn_no hz_i)) ?_
    refine z_if_ne (tgt := 22) X d_Model_cached_5 (by decide) (fun _ => ?_) (fun hq => absurd hq (by decide))
    refine z_sipush (v := -9999) X d_Model_cached_22 rfl ?_
    skip
    refine z_goto (tgt := 38) X d_Model_cached_25 (by decide) ?_
    exact z_iret X hret rfl (Nat.zero_le _) (Nat.zero_le _) ⟨by unfold sCached; rw [hz_i], rfl⟩ d_Model_cached_38
  · obtain ⟨hi_i, rfl⟩ := znd_some hc hz_i
    refine z_aload_n X d_Model_cached_0 rfl ?_
    refine z_iload_n X d_Model_cached_1 rfl ?_
    refine z_ci (z_rV X cs_Model_108 rfl rfl (zo_s rfl hW.1).1 (zo_s rfl hW.1).2 (c_Model_noNode l g hW _) ⟨Nat.le_of_ble_eq_true rfl, Nat.le_of_ble_eq_true rfl⟩ rfl rfl (Nat.le_of_ble_eq_true rfl) ⟨Nat.le_of_ble_eq_true rfl, Nat.le_of_ble_eq_true rfl⟩ d_Model_cached_2) (fun r n2 I2 J2 R2 h => ?_)
    obtain ⟨rfl, e⟩ := h
    cases e
    refine z_top (congrArg Value.int (znn_yes hi_i hc)) ?_
    refine z_if_ne (tgt := 22) X d_Model_cached_5 (by decide) (fun hq => absurd hq (by decide)) (fun _ => ?_)
    obtain ⟨m, hm, em⟩ := hk i hi_i
    refine z_iload_n X d_Model_cached_8 rfl ?_
    refine z_if_lt (tgt := 22) X d_Model_cached_9 (by decide) (fun h9 => ?_) (fun h9 => ?_)
    · refine z_sipush (v := -9999) X d_Model_cached_22 rfl ?_
      skip
      refine z_goto (tgt := 38) X d_Model_cached_25 (by decide) ?_
      exact z_iret X hret rfl (Nat.zero_le _) (Nat.zero_le _) ⟨by unfold sCached; rw [hz_i]; dsimp only; first | rw [if_pos h9] | rw [if_neg h9, if_neg (show ¬ y < zcan I 52 0 i from h19)] | (rw [if_neg h9, if_pos (show nI k < zcan I 52 0 i from h19), nI_clamp (by omega)]; rfl), rfl⟩ d_Model_cached_38
    · refine z_iload_n X d_Model_cached_12 rfl ?_
      refine z_aload_n X d_Model_cached_13 rfl ?_
      refine gr_Model_78 (hW.c (k := 29) (f := 28) rfl rfl (by decide) rfl) X (zo_s rfl hW.1) d_Model_cached_14 ?_
      refine z_iload_n X d_Model_cached_17 rfl ?_
      refine al_52 X (zo_s rfl hW.1) rfl (by omega) d_Model_cached_18 ?_
      refine z_icmp_lt (tgt := 28) X d_Model_cached_19 (by decide) (fun h19 => ?_) (fun h19 => ?_)
      · obtain ⟨k, hk2, rfl⟩ := zgetg h9 (by rw [em] at h19; exact h19) (by omega)
        refine z_aload_n X d_Model_cached_28 rfl ?_
        refine gr_Model_75 (hW.c (k := 29) (f := 27) rfl rfl (by decide) rfl) X (zo_s rfl hW.1) d_Model_cached_29 ?_
        refine z_iconst (v := nI 3) X d_Model_cached_32 rfl ?_
        refine z_iload_n X d_Model_cached_33 rfl ?_
        refine z_imul X d_Model_cached_34 ?_
        refine z_iload_n X d_Model_cached_35 rfl ?_
        refine z_iadd X d_Model_cached_36 ?_
        refine al_51 (j := 3 * i + k) X (zo_s rfl hW.1) (by rw [pk_mul, nI_add]) (by omega) d_Model_cached_37 ?_
        exact z_iret X hret rfl (Nat.zero_le _) (Nat.zero_le _) ⟨by unfold sCached; rw [hz_i]; dsimp only; first | rw [if_pos h9] | rw [if_neg h9, if_neg (show ¬ y < zcan I 52 0 i from h19)] | (rw [if_neg h9, if_pos (show nI k < zcan I 52 0 i from h19), nI_clamp (by omega)]; rfl), rfl⟩ d_Model_cached_38
      · refine z_sipush (v := -9999) X d_Model_cached_22 rfl ?_
        skip
        refine z_goto (tgt := 38) X d_Model_cached_25 (by decide) ?_
        exact z_iret X hret rfl (Nat.zero_le _) (Nat.zero_le _) ⟨by unfold sCached; rw [hz_i]; dsimp only; first | rw [if_pos h9] | rw [if_neg h9, if_neg (show ¬ y < zcan I 52 0 i from h19)] | (rw [if_neg h9, if_pos (show nI k < zcan I 52 0 i from h19), nI_clamp (by omega)]; rfl), rfl⟩ d_Model_cached_38
theorem c_Model_latest (l : Launch) (g : zG) {S h n : Nat} {I : zI} {J : zJ} {R : zR} (hW : zW g S h n I R) (x : Int32) : zMet l g y_Model_latest b_Model_latest 2 (some .int) 1 21 0 0 (zPc g [.ref (zad g 29 0), .int x] n I J R) (zQi g (fun r u => r = sLatest g.2.2.2 (zcan I) x ∧ u = (n, I, J, R))) := by
  have hc := hW.2.1.2
  refine zMet.of (by decide) [some (.ref (zad g 29 0)), some (.int x)] rfl (Nat.le_of_ble_eq_true rfl) ?_
  intro pP eE sS mM aA bB mE cC X hret hnm
  have X : zC pP sS mM aA mE cC b_Model_latest "SlottedMeshModel" 2 g := X
  have hret : mE.sig.returnType = (some .int) := hret
  rcases hz_i : znd g.2.2.2 x with _ | i
  · refine z_aload_n X d_Model_latest_0 rfl ?_
    refine z_iload_n X d_Model_latest_1 rfl ?_
    refine z_ci (z_rV X cs_Model_108 rfl rfl (zo_s rfl hW.1).1 (zo_s rfl hW.1).2 (c_Model_noNode l g hW _) ⟨Nat.le_of_ble_eq_true rfl, Nat.le_of_ble_eq_true rfl⟩ rfl rfl (Nat.le_of_ble_eq_true rfl) ⟨Nat.le_of_ble_eq_true rfl, Nat.le_of_ble_eq_true rfl⟩ d_Model_latest_2) (fun r n2 I2 J2 R2 h => ?_)
    obtain ⟨rfl, e⟩ := h
    cases e
    refine z_top (congrArg Value.int (znn_no hz_i)) ?_
    refine z_if_eq (tgt := 12) X d_Model_latest_5 (by decide) (fun hq => absurd hq (by decide)) (fun _ => ?_)
    refine z_iconst (v := -1) X d_Model_latest_8 rfl ?_
    refine z_goto (tgt := 18) X d_Model_latest_9 (by decide) ?_
    exact z_iret X hret rfl (Nat.zero_le _) (Nat.zero_le _) ⟨by unfold sLatest; (rw [hz_i]) <;> rfl, rfl⟩ d_Model_latest_18
  · obtain ⟨hi, rfl⟩ := znd_some hc hz_i
    refine z_aload_n X d_Model_latest_0 rfl ?_
    refine z_iload_n X d_Model_latest_1 rfl ?_
    refine z_ci (z_rV X cs_Model_108 rfl rfl (zo_s rfl hW.1).1 (zo_s rfl hW.1).2 (c_Model_noNode l g hW _) ⟨Nat.le_of_ble_eq_true rfl, Nat.le_of_ble_eq_true rfl⟩ rfl rfl (Nat.le_of_ble_eq_true rfl) ⟨Nat.le_of_ble_eq_true rfl, Nat.le_of_ble_eq_true rfl⟩ d_Model_latest_2) (fun r n2 I2 J2 R2 h => ?_)
    obtain ⟨rfl, e⟩ := h
    cases e
    refine z_top (congrArg Value.int (znn_yes hi hc)) ?_
    refine z_if_eq (tgt := 12) X d_Model_latest_5 (by decide) (fun _ => ?_) (fun hq => absurd hq (by decide))
    refine z_aload_n X d_Model_latest_12 rfl ?_
    refine gr_Model_69 (hW.c (k := 29) (f := 25) rfl rfl (by decide) rfl) X (zo_s rfl hW.1) d_Model_latest_13 ?_
    refine z_iload_n X d_Model_latest_16 rfl ?_
    refine al_49 X (zo_s rfl hW.1) rfl (by omega) d_Model_latest_17 ?_
    exact z_iret X hret rfl (Nat.zero_le _) (Nat.zero_le _) ⟨by unfold sLatest; (rw [hz_i]) <;> rfl, rfl⟩ d_Model_latest_18
theorem c_Model_actuator (l : Launch) (g : zG) {S h n : Nat} {I : zI} {J : zJ} {R : zR} (hW : zW g S h n I R) (x : Int32) : zMet l g y_Model_actuator b_Model_actuator 2 (some .int) 1 21 0 0 (zPc g [.ref (zad g 29 0), .int x] n I J R) (zQi g (fun r u => r = sActuator g.2.2.2 (zcan I) x ∧ u = (n, I, J, R))) := by
  have hc := hW.2.1.2
  refine zMet.of (by decide) [some (.ref (zad g 29 0)), some (.int x)] rfl (Nat.le_of_ble_eq_true rfl) ?_
  intro pP eE sS mM aA bB mE cC X hret hnm
  have X : zC pP sS mM aA mE cC b_Model_actuator "SlottedMeshModel" 2 g := X
  have hret : mE.sig.returnType = (some .int) := hret
  rcases hz_i : znd g.2.2.2 x with _ | i
  · refine z_aload_n X d_Model_actuator_0 rfl ?_
    refine z_iload_n X d_Model_actuator_1 rfl ?_
    refine z_ci (z_rV X cs_Model_108 rfl rfl (zo_s rfl hW.1).1 (zo_s rfl hW.1).2 (c_Model_noNode l g hW _) ⟨Nat.le_of_ble_eq_true rfl, Nat.le_of_ble_eq_true rfl⟩ rfl rfl (Nat.le_of_ble_eq_true rfl) ⟨Nat.le_of_ble_eq_true rfl, Nat.le_of_ble_eq_true rfl⟩ d_Model_actuator_2) (fun r n2 I2 J2 R2 h => ?_)
    obtain ⟨rfl, e⟩ := h
    cases e
    refine z_top (congrArg Value.int (znn_no hz_i)) ?_
    refine z_if_ne (tgt := 12) X d_Model_actuator_5 (by decide) (fun _ => ?_) (fun hq => absurd hq (by decide))
    refine z_sipush (v := -9999) X d_Model_actuator_12 rfl ?_
    refine z_goto (tgt := 24) X d_Model_actuator_15 (by decide) ?_
    exact z_iret X hret rfl (Nat.zero_le _) (Nat.zero_le _) ⟨by unfold sActuator; rw [hz_i], rfl⟩ d_Model_actuator_24
  · obtain ⟨hi_i, rfl⟩ := znd_some hc hz_i
    refine z_aload_n X d_Model_actuator_0 rfl ?_
    refine z_iload_n X d_Model_actuator_1 rfl ?_
    refine z_ci (z_rV X cs_Model_108 rfl rfl (zo_s rfl hW.1).1 (zo_s rfl hW.1).2 (c_Model_noNode l g hW _) ⟨Nat.le_of_ble_eq_true rfl, Nat.le_of_ble_eq_true rfl⟩ rfl rfl (Nat.le_of_ble_eq_true rfl) ⟨Nat.le_of_ble_eq_true rfl, Nat.le_of_ble_eq_true rfl⟩ d_Model_actuator_2) (fun r n2 I2 J2 R2 h => ?_)
    obtain ⟨rfl, e⟩ := h
    cases e
    refine z_top (congrArg Value.int (znn_yes hi_i hc)) ?_
    refine z_if_ne (tgt := 12) X d_Model_actuator_5 (by decide) (fun hq => absurd hq (by decide)) (fun _ => ?_)
    refine z_iload_n X d_Model_actuator_8 rfl ?_
    refine z_if_ne (tgt := 18) X d_Model_actuator_9 (by decide) (fun h9 => ?_) (fun h9 => ?_)
    · refine z_aload_n X d_Model_actuator_18 rfl ?_
      refine gr_Model_93 (hW.c (k := 29) (f := 33) rfl rfl (by decide) rfl) X (zo_s rfl hW.1) d_Model_actuator_19 ?_
      refine z_iload_n X d_Model_actuator_22 rfl ?_
      refine al_57 X (zo_s rfl hW.1) rfl (by omega) d_Model_actuator_23 ?_
      exact z_iret X hret rfl (Nat.zero_le _) (Nat.zero_le _) ⟨by unfold sActuator; rw [hz_i]; dsimp only; first | rw [if_pos (nI_ne00 h9 (by omega))] | (rw [if_neg (fun z => h9 (by rw [z]; rfl))]; rfl), rfl⟩ d_Model_actuator_24
    · refine z_sipush (v := -9999) X d_Model_actuator_12 rfl ?_
      refine z_goto (tgt := 24) X d_Model_actuator_15 (by decide) ?_
      exact z_iret X hret rfl (Nat.zero_le _) (Nat.zero_le _) ⟨by unfold sActuator; rw [hz_i]; dsimp only; first | rw [if_pos (nI_ne00 h9 (by omega))] | (rw [if_neg (fun z => h9 (by rw [z]; rfl))]; rfl), rfl⟩ d_Model_actuator_24
theorem c_Model_sent (l : Launch) (g : zG) {S h n : Nat} {I : zI} {J : zJ} {R : zR} (hW : zW g S h n I R) : zMet l g y_Model_sent b_Model_sent 1 (some .int) 0 0 0 0 (zPc g [.ref (zad g 29 0)] n I J R) (zQi g (fun r u => r = I 29 0 4 ∧ u = (n, I, J, R))) := by
  refine zMet.of (by decide) [some (.ref (zad g 29 0))] rfl (Nat.le_of_ble_eq_true rfl) ?_
  intro pP eE sS mM aA bB mE cC X hret hnm
  have X : zC pP sS mM aA mE cC b_Model_sent "SlottedMeshModel" 1 g := X
  have hret : mE.sig.returnType = (some .int) := hret
  refine z_aload_n X d_Model_sent_0 rfl ?_
  refine gf_Model_158 X (zo_s rfl hW.1) d_Model_sent_1 ?_
  exact z_iret X hret rfl (Nat.zero_le _) (Nat.zero_le _) ⟨rfl, rfl⟩ d_Model_sent_4
def zgSample (c : Nat) (st : Nat → Int32) (q : zq) (a v : Int32) (i : Nat) : Prop := i < c ∧ a = nI i ∧ i ≠ 0 ∧ st i ≠ 0 ∧ ¬ v < -1000 ∧ ¬ nI 1000 < v ∧ (q i).length ≠ 4
theorem c_Model_sample (l : Launch) (g : zG) {S h n : Nat} {I : zI} {J : zJ} {R : zR} (hW : zW g S h n I R) (q : zq) (hq : zRT g.2.2.2 I q) (a v : Int32) : zMet l g y_Model_sample b_Model_sample 3 (some .int) 1 25 0 0 (zPc g [.ref (zad g 29 0), .int a, .int v] n I J R) (zQi g (fun r u => (∃ i, zgSample g.2.2.2 (I 31 0) q a v i ∧ r = I 50 0 i + nI 1 ∧ ∃ I2, u = (n, I2, J, R) ∧ zcan I2 = zu (zcan I) 50 0 i (I 50 0 i + nI 1) ∧ zRT g.2.2.2 I2 (qu q i (q i ++ [(i, I 50 0 i + nI 1, v)])) ∧ ∀ k i j, k < 29 → I2 k i j = I k i j) ∨ ((¬ ∃ i, zgSample g.2.2.2 (I 31 0) q a v i) ∧ r = -1 ∧ u = (n, I, J, R)))) := by
  have hc := hW.2.1.2
  refine zMet.of (by decide) [some (.ref (zad g 29 0)), some (.int a), some (.int v)] rfl (Nat.le_of_ble_eq_true rfl) ?_
  intro pP eE sS mM aA bB mE cC X hret hnm
  have X : zC pP sS mM aA mE cC b_Model_sample "SlottedMeshModel" 3 g := X
  have hret : mE.sig.returnType = (some .int) := hret
  rcases hz_i : znd g.2.2.2 a with _ | i
  · refine z_aload_n X d_Model_sample_0 rfl ?_
    refine z_iload_n X d_Model_sample_1 rfl ?_
    refine z_ci (z_rV X cs_Model_108 rfl rfl (zo_s rfl hW.1).1 (zo_s rfl hW.1).2 (c_Model_noNode l g hW _) ⟨Nat.le_of_ble_eq_true rfl, Nat.le_of_ble_eq_true rfl⟩ rfl rfl (Nat.le_of_ble_eq_true rfl) ⟨Nat.le_of_ble_eq_true rfl, Nat.le_of_ble_eq_true rfl⟩ d_Model_sample_2) (fun r n2 I2 J2 R2 h => ?_)
    obtain ⟨rfl, e⟩ := h
    cases e
    refine z_top (congrArg Value.int (znn_no hz_i)) ?_
    refine z_if_ne (tgt := 45) X d_Model_sample_5 (by decide) (fun _ => ?_) (fun hq => absurd hq (by decide))
    refine z_iconst (v := -1) X d_Model_sample_45 rfl ?_
    exact z_iret X hret rfl (Nat.zero_le _) (Nat.zero_le _) (Or.inr ⟨fun ⟨i, z⟩ => znd_not hz_i z.1 hc z.2.1, rfl, rfl⟩) d_Model_sample_46
  · obtain ⟨hi_i, rfl⟩ := znd_some hc hz_i
    refine z_aload_n X d_Model_sample_0 rfl ?_
    refine z_iload_n X d_Model_sample_1 rfl ?_
    refine z_ci (z_rV X cs_Model_108 rfl rfl (zo_s rfl hW.1).1 (zo_s rfl hW.1).2 (c_Model_noNode l g hW _) ⟨Nat.le_of_ble_eq_true rfl, Nat.le_of_ble_eq_true rfl⟩ rfl rfl (Nat.le_of_ble_eq_true rfl) ⟨Nat.le_of_ble_eq_true rfl, Nat.le_of_ble_eq_true rfl⟩ d_Model_sample_2) (fun r n2 I2 J2 R2 h => ?_)
    obtain ⟨rfl, e⟩ := h
    cases e
    refine z_top (congrArg Value.int (znn_yes hi_i hc)) ?_
    refine z_if_ne (tgt := 45) X d_Model_sample_5 (by decide) (fun hq => absurd hq (by decide)) (fun _ => ?_)
    obtain ⟨q1, q2, -⟩ := hq i (Or.inl hi_i)
    refine z_iload_n X d_Model_sample_8 rfl ?_
    refine z_if_eq (tgt := 45) X d_Model_sample_9 (by decide) (fun h9 => ?_) (fun h9 => ?_)
    · refine z_iconst (v := -1) X d_Model_sample_45 rfl ?_
      exact z_iret X hret rfl (Nat.zero_le _) (Nat.zero_le _) (Or.inr ⟨fun ⟨i2, z1, z2, z3, z4, z5, z6, z7⟩ => by rw [nI_eq (by omega) (by omega)] at z2; subst z2; first | exact z3 (nI_ne00 h9 (by omega)) | exact z4 h18 | exact z5 h25 | exact z6 h32 | exact z7 h42, rfl, rfl⟩) d_Model_sample_46
    · refine z_aload_n X d_Model_sample_12 rfl ?_
      refine gr_Model_13 (hW.c (k := 29) (f := 6) rfl rfl (by decide) rfl) X (zo_s rfl hW.1) d_Model_sample_13 ?_
      refine z_iload_n X d_Model_sample_16 rfl ?_
      refine al_31 X (zo_s rfl hW.1) rfl (by omega) d_Model_sample_17 ?_
      refine z_if_eq (tgt := 45) X d_Model_sample_18 (by decide) (fun h18 => ?_) (fun h18 => ?_)
      · refine z_iconst (v := -1) X d_Model_sample_45 rfl ?_
        exact z_iret X hret rfl (Nat.zero_le _) (Nat.zero_le _) (Or.inr ⟨fun ⟨i2, z1, z2, z3, z4, z5, z6, z7⟩ => by rw [nI_eq (by omega) (by omega)] at z2; subst z2; first | exact z3 (nI_ne00 h9 (by omega)) | exact z4 h18 | exact z5 h25 | exact z6 h32 | exact z7 h42, rfl, rfl⟩) d_Model_sample_46
      · refine z_iload_n X d_Model_sample_21 rfl ?_
        refine z_sipush (v := -1000) X d_Model_sample_22 rfl ?_
        refine z_icmp_lt (tgt := 45) X d_Model_sample_25 (by decide) (fun h25 => ?_) (fun h25 => ?_)
        · refine z_iconst (v := -1) X d_Model_sample_45 rfl ?_
          exact z_iret X hret rfl (Nat.zero_le _) (Nat.zero_le _) (Or.inr ⟨fun ⟨i2, z1, z2, z3, z4, z5, z6, z7⟩ => by rw [nI_eq (by omega) (by omega)] at z2; subst z2; first | exact z3 (nI_ne00 h9 (by omega)) | exact z4 h18 | exact z5 h25 | exact z6 h32 | exact z7 h42, rfl, rfl⟩) d_Model_sample_46
        · refine z_iload_n X d_Model_sample_28 rfl ?_
          refine z_sipush (v := nI 1000) X d_Model_sample_29 rfl ?_
          refine z_icmp_gt (tgt := 45) X d_Model_sample_32 (by decide) (fun h32 => ?_) (fun h32 => ?_)
          · refine z_iconst (v := -1) X d_Model_sample_45 rfl ?_
            exact z_iret X hret rfl (Nat.zero_le _) (Nat.zero_le _) (Or.inr ⟨fun ⟨i2, z1, z2, z3, z4, z5, z6, z7⟩ => by rw [nI_eq (by omega) (by omega)] at z2; subst z2; first | exact z3 (nI_ne00 h9 (by omega)) | exact z4 h18 | exact z5 h25 | exact z6 h32 | exact z7 h42, rfl, rfl⟩) d_Model_sample_46
          · refine z_aload_n X d_Model_sample_35 rfl ?_
            refine gr_Model_51 (hW.c (k := 29) (f := 19) rfl rfl (by decide) rfl) X (zo_s rfl hW.1) d_Model_sample_36 ?_
            refine z_iload_n X d_Model_sample_39 rfl ?_
            refine al_43 X (zo_s rfl hW.1) rfl (by omega) d_Model_sample_40 ?_
            refine z_top (v2 := .int (nI (q i).length)) (congrArg Value.int q2) ?_
            refine z_iconst (v := nI 4) X d_Model_sample_41 rfl ?_
            refine z_icmpN_ne (tgt := 47) X d_Model_sample_42 (by decide) (by omega) (by omega) (fun h42 => ?_) (fun h42 => ?_)
            · refine z_aload_n X d_Model_sample_47 rfl ?_
              refine gr_Model_72 (hW.c (k := 29) (f := 26) rfl rfl (by decide) rfl) X (zo_s rfl hW.1) d_Model_sample_48 ?_
              refine z_iload_n X d_Model_sample_51 rfl ?_
              refine z_dup2 X d_Model_sample_52 rfl rfl ?_
              refine al_50 X (zo_s rfl hW.1) rfl (by omega) d_Model_sample_53 ?_
              refine z_iconst (v := nI 1) X d_Model_sample_54 rfl ?_
              refine z_iadd X d_Model_sample_55 ?_
              refine as_50 X (zo_s rfl hW.1) rfl (by omega) d_Model_sample_56 ?_
              refine z_aload_n X d_Model_sample_57 rfl ?_
              refine z_iload_n X d_Model_sample_58 rfl ?_
              refine z_iload_n X d_Model_sample_59 rfl ?_
              refine z_aload_n X d_Model_sample_60 rfl ?_
              refine gr_Model_72 (hW.c (k := 29) (f := 26) rfl rfl (by decide) rfl) X (zo_s rfl hW.1) d_Model_sample_61 ?_
              refine z_iload_n X d_Model_sample_64 rfl ?_
              refine al_50 X (zo_s rfl hW.1) rfl (by omega) d_Model_sample_65 ?_
              refine z_top (congrArg Value.int zu_s) ?_
              refine z_iload_n X d_Model_sample_66 rfl ?_
              refine z_cv (z_rV X cs_Model_139 rfl rfl (zo_s rfl hW.1).1 (zo_s rfl hW.1).2 (c_Model_add l g (zW.upI hW rfl) i (q i).length (by omega) (by omega) (by exact q2) (nI i) _ v) ⟨Nat.le_of_ble_eq_true rfl, Nat.le_of_ble_eq_true rfl⟩ rfl rfl (Nat.le_of_ble_eq_true rfl) ⟨Nat.le_of_ble_eq_true rfl, Nat.le_of_ble_eq_true rfl⟩ d_Model_sample_67) (fun n2 I2 J2 R2 h => ?_)
              cases h
              refine z_aload_n X d_Model_sample_70 rfl ?_
              refine gr_Model_72 (hW.c (k := 29) (f := 26) rfl rfl (by decide) rfl) X (zo_s rfl hW.1) d_Model_sample_71 ?_
              refine z_iload_n X d_Model_sample_74 rfl ?_
              refine al_50 X (zo_s rfl hW.1) rfl (by omega) d_Model_sample_75 ?_
              refine z_top (v2 := .int (I 50 0 i + nI 1)) (congrArg Value.int (show zaddT _ _ _ _ _ _ 50 0 i = _ by unfold zaddT; rw [zu_k (by decide), zu_k (by decide), zu_k (by decide), zu_k (by decide), zu_s])) ?_
              exact z_iret X hret rfl (Nat.zero_le _) (Nat.zero_le _) (Or.inl ⟨i, ⟨hi_i, rfl, fun z => h9 (by rw [z]; rfl), h18, h25, h32, h42⟩, rfl, _, rfl, by rw [zcan_add, zc_50], zRT.add hc (zRT.put hq rfl) (Or.inl hi_i) (by omega) ⟨Nat.pos_of_ne_zero (fun z => h9 (by rw [z]; rfl)), hi_i⟩, fun k i j hk => by unfold zaddT; (repeat rw [zu_k (by omega)])⟩) d_Model_sample_76
            · refine z_iconst (v := -1) X d_Model_sample_45 rfl ?_
              exact z_iret X hret rfl (Nat.zero_le _) (Nat.zero_le _) (Or.inr ⟨fun ⟨i2, z1, z2, z3, z4, z5, z6, z7⟩ => by rw [nI_eq (by omega) (by omega)] at z2; subst z2; first | exact z3 (nI_ne00 h9 (by omega)) | exact z4 h18 | exact z5 h25 | exact z6 h32 | exact z7 h42, rfl, rfl⟩) d_Model_sample_46
def zgControl (c : Nat) (a t p i : Int32) (k : Nat) : Prop := k < c ∧ a = nI k ∧ k ≠ 0 ∧ ¬ t < -1000 ∧ ¬ nI 1000 < t ∧ ¬ p < 0 ∧ ¬ nI 16 < p ∧ ¬ i < 0 ∧ i ≤ nI 16
theorem c_Model_control (l : Launch) (g : zG) {S h n : Nat} {I : zI} {J : zJ} {R : zR} (hW : zW g S h n I R) (a t p i : Int32) : zMet l g y_Model_control b_Model_control 5 (some .boolean) 1 21 0 0 (zPc g [.ref (zad g 29 0), .int a, .int t, .int p, .int i] n I J R) (zQi g (fun r u => (∃ k, zgControl g.2.2.2 a t p i k ∧ r = 1 ∧ u = (n, zu (zu (zu I 53 0 k t) 54 0 k p) 55 0 k i, J, R)) ∨ ((¬ ∃ k, zgControl g.2.2.2 a t p i k) ∧ r = 0 ∧ u = (n, I, J, R)))) := by
  have hc := hW.2.1.2
  refine zMet.of (by decide) [some (.ref (zad g 29 0)), some (.int a), some (.int t), some (.int p), some (.int i)] rfl (Nat.le_of_ble_eq_true rfl) ?_
  intro pP eE sS mM aA bB mE cC X hret hnm
  have X : zC pP sS mM aA mE cC b_Model_control "SlottedMeshModel" 5 g := X
  have hret : mE.sig.returnType = (some .boolean) := hret
  rcases hz_k : znd g.2.2.2 a with _ | k
  · refine z_aload_n X d_Model_control_0 rfl ?_
    refine z_iload_n X d_Model_control_1 rfl ?_
    refine z_ci (z_rV X cs_Model_108 rfl rfl (zo_s rfl hW.1).1 (zo_s rfl hW.1).2 (c_Model_noNode l g hW _) ⟨Nat.le_of_ble_eq_true rfl, Nat.le_of_ble_eq_true rfl⟩ rfl rfl (Nat.le_of_ble_eq_true rfl) ⟨Nat.le_of_ble_eq_true rfl, Nat.le_of_ble_eq_true rfl⟩ d_Model_control_2) (fun r n2 I2 J2 R2 h => ?_)
    obtain ⟨rfl, e⟩ := h
    cases e
    refine z_top (congrArg Value.int (znn_no hz_k)) ?_
    refine z_if_ne (tgt := 48) X d_Model_control_5 (by decide) (fun _ => ?_) (fun hq => absurd hq (by decide))
    refine z_iconst (v := nI 0) X d_Model_control_48 rfl ?_
    exact z_iret X hret rfl (Nat.zero_le _) (Nat.zero_le _) (Or.inr ⟨fun ⟨k, z⟩ => znd_not hz_k z.1 hc z.2.1, rfl, rfl⟩) d_Model_control_49
  · obtain ⟨hi_k, rfl⟩ := znd_some hc hz_k
    refine z_aload_n X d_Model_control_0 rfl ?_
    refine z_iload_n X d_Model_control_1 rfl ?_
    refine z_ci (z_rV X cs_Model_108 rfl rfl (zo_s rfl hW.1).1 (zo_s rfl hW.1).2 (c_Model_noNode l g hW _) ⟨Nat.le_of_ble_eq_true rfl, Nat.le_of_ble_eq_true rfl⟩ rfl rfl (Nat.le_of_ble_eq_true rfl) ⟨Nat.le_of_ble_eq_true rfl, Nat.le_of_ble_eq_true rfl⟩ d_Model_control_2) (fun r n2 I2 J2 R2 h => ?_)
    obtain ⟨rfl, e⟩ := h
    cases e
    refine z_top (congrArg Value.int (znn_yes hi_k hc)) ?_
    refine z_if_ne (tgt := 48) X d_Model_control_5 (by decide) (fun hq => absurd hq (by decide)) (fun _ => ?_)
    refine z_iload_n X d_Model_control_8 rfl ?_
    refine z_if_eq (tgt := 48) X d_Model_control_9 (by decide) (fun h9 => ?_) (fun h9 => ?_)
    · refine z_iconst (v := nI 0) X d_Model_control_48 rfl ?_
      exact z_iret X hret rfl (Nat.zero_le _) (Nat.zero_le _) (Or.inr ⟨fun ⟨k2, z1, z2, z3, z4, z5, z6, z7, z8, z9⟩ => by rw [nI_eq (by omega) (by omega)] at z2; subst z2; first | exact z3 (nI_ne00 h9 (by omega)) | exact z4 h16 | exact z5 h23 | exact z6 h27 | exact z7 h33 | exact z8 h38 | exact h45 z9, rfl, rfl⟩) d_Model_control_49
    · refine z_iload_n X d_Model_control_12 rfl ?_
      refine z_sipush (v := -1000) X d_Model_control_13 rfl ?_
      refine z_icmp_lt (tgt := 48) X d_Model_control_16 (by decide) (fun h16 => ?_) (fun h16 => ?_)
      · refine z_iconst (v := nI 0) X d_Model_control_48 rfl ?_
        exact z_iret X hret rfl (Nat.zero_le _) (Nat.zero_le _) (Or.inr ⟨fun ⟨k2, z1, z2, z3, z4, z5, z6, z7, z8, z9⟩ => by rw [nI_eq (by omega) (by omega)] at z2; subst z2; first | exact z3 (nI_ne00 h9 (by omega)) | exact z4 h16 | exact z5 h23 | exact z6 h27 | exact z7 h33 | exact z8 h38 | exact h45 z9, rfl, rfl⟩) d_Model_control_49
      · refine z_iload_n X d_Model_control_19 rfl ?_
        refine z_sipush (v := nI 1000) X d_Model_control_20 rfl ?_
        refine z_icmp_gt (tgt := 48) X d_Model_control_23 (by decide) (fun h23 => ?_) (fun h23 => ?_)
        · refine z_iconst (v := nI 0) X d_Model_control_48 rfl ?_
          exact z_iret X hret rfl (Nat.zero_le _) (Nat.zero_le _) (Or.inr ⟨fun ⟨k2, z1, z2, z3, z4, z5, z6, z7, z8, z9⟩ => by rw [nI_eq (by omega) (by omega)] at z2; subst z2; first | exact z3 (nI_ne00 h9 (by omega)) | exact z4 h16 | exact z5 h23 | exact z6 h27 | exact z7 h33 | exact z8 h38 | exact h45 z9, rfl, rfl⟩) d_Model_control_49
        · refine z_iload_n X d_Model_control_26 rfl ?_
          refine z_if_lt (tgt := 48) X d_Model_control_27 (by decide) (fun h27 => ?_) (fun h27 => ?_)
          · refine z_iconst (v := nI 0) X d_Model_control_48 rfl ?_
            exact z_iret X hret rfl (Nat.zero_le _) (Nat.zero_le _) (Or.inr ⟨fun ⟨k2, z1, z2, z3, z4, z5, z6, z7, z8, z9⟩ => by rw [nI_eq (by omega) (by omega)] at z2; subst z2; first | exact z3 (nI_ne00 h9 (by omega)) | exact z4 h16 | exact z5 h23 | exact z6 h27 | exact z7 h33 | exact z8 h38 | exact h45 z9, rfl, rfl⟩) d_Model_control_49
          · refine z_iload_n X d_Model_control_30 rfl ?_
            refine z_bipush (v := nI 16) X d_Model_control_31 rfl ?_
            refine z_icmp_gt (tgt := 48) X d_Model_control_33 (by decide) (fun h33 => ?_) (fun h33 => ?_)
            · refine z_iconst (v := nI 0) X d_Model_control_48 rfl ?_
              exact z_iret X hret rfl (Nat.zero_le _) (Nat.zero_le _) (Or.inr ⟨fun ⟨k2, z1, z2, z3, z4, z5, z6, z7, z8, z9⟩ => by rw [nI_eq (by omega) (by omega)] at z2; subst z2; first | exact z3 (nI_ne00 h9 (by omega)) | exact z4 h16 | exact z5 h23 | exact z6 h27 | exact z7 h33 | exact z8 h38 | exact h45 z9, rfl, rfl⟩) d_Model_control_49
            · refine z_iload X d_Model_control_36 rfl ?_
              refine z_if_lt (tgt := 48) X d_Model_control_38 (by decide) (fun h38 => ?_) (fun h38 => ?_)
              · refine z_iconst (v := nI 0) X d_Model_control_48 rfl ?_
                exact z_iret X hret rfl (Nat.zero_le _) (Nat.zero_le _) (Or.inr ⟨fun ⟨k2, z1, z2, z3, z4, z5, z6, z7, z8, z9⟩ => by rw [nI_eq (by omega) (by omega)] at z2; subst z2; first | exact z3 (nI_ne00 h9 (by omega)) | exact z4 h16 | exact z5 h23 | exact z6 h27 | exact z7 h33 | exact z8 h38 | exact h45 z9, rfl, rfl⟩) d_Model_control_49
              · refine z_iload X d_Model_control_41 rfl ?_
                refine z_bipush (v := nI 16) X d_Model_control_43 rfl ?_
                refine z_icmp_le (tgt := 50) X d_Model_control_45 (by decide) (fun h45 => ?_) (fun h45 => ?_)
                · refine z_aload_n X d_Model_control_50 rfl ?_
                  refine gr_Model_81 (hW.c (k := 29) (f := 29) rfl rfl (by decide) rfl) X (zo_s rfl hW.1) d_Model_control_51 ?_
                  refine z_iload_n X d_Model_control_54 rfl ?_
                  refine z_iload_n X d_Model_control_55 rfl ?_
                  refine as_53 X (zo_s rfl hW.1) rfl (by omega) d_Model_control_56 ?_
                  refine z_aload_n X d_Model_control_57 rfl ?_
                  refine gr_Model_84 (hW.c (k := 29) (f := 30) rfl rfl (by decide) rfl) X (zo_s rfl hW.1) d_Model_control_58 ?_
                  refine z_iload_n X d_Model_control_61 rfl ?_
                  refine z_iload_n X d_Model_control_62 rfl ?_
                  refine as_54 X (zo_s rfl hW.1) rfl (by omega) d_Model_control_63 ?_
                  refine z_aload_n X d_Model_control_64 rfl ?_
                  refine gr_Model_87 (hW.c (k := 29) (f := 31) rfl rfl (by decide) rfl) X (zo_s rfl hW.1) d_Model_control_65 ?_
                  refine z_iload_n X d_Model_control_68 rfl ?_
                  refine z_iload X d_Model_control_69 rfl ?_
                  refine as_55 X (zo_s rfl hW.1) rfl (by omega) d_Model_control_71 ?_
                  refine z_iconst (v := nI 1) X d_Model_control_72 rfl ?_
                  exact z_iret X hret rfl (Nat.zero_le _) (Nat.zero_le _) (Or.inl ⟨k, ⟨hi_k, rfl, fun z => h9 (by rw [z]; rfl), h16, h23, h27, h33, h38, h45⟩, rfl, rfl⟩) d_Model_control_73
                · refine z_iconst (v := nI 0) X d_Model_control_48 rfl ?_
                  exact z_iret X hret rfl (Nat.zero_le _) (Nat.zero_le _) (Or.inr ⟨fun ⟨k2, z1, z2, z3, z4, z5, z6, z7, z8, z9⟩ => by rw [nI_eq (by omega) (by omega)] at z2; subst z2; first | exact z3 (nI_ne00 h9 (by omega)) | exact z4 h16 | exact z5 h23 | exact z6 h27 | exact z7 h33 | exact z8 h38 | exact h45 z9, rfl, rfl⟩) d_Model_control_49
def zgStop (c : Nat) (st : Nat → Int32) (a : Int32) (i : Nat) : Prop := i < c ∧ a = nI i ∧ i ≠ 0 ∧ st i ≠ 0
/-- behind a stop of node i -/
def zstop (A : zI) (i : Nat) : zI := fun k a j =>
  if k = 49 then (if (6 * i ≤ j ∧ j < 6 * i + 6) ∨ (36 + 6 * i ≤ j ∧ j < 36 + 6 * i + 6 ∧ j ≠ 36 + 6 * i + i) then nI 0 else A k a j)
  else if (k = 31 ∨ k = 32 ∨ k = 33 ∨ k = 47 ∨ k = 48) ∧ a = 0 ∧ j = i then nI 0 else A k a j
theorem zRT.clear {c : Nat} {I I2 : zI} {q : zq} {i : Nat} (hc : c ≤ 6) (hi : i < c) (h : zRT c I q) (h1 : ∀ r, I2 43 0 r = if r = i ∨ r = 6 + i then nI 0 else I 43 0 r) (h2 : ∀ k j, 44 ≤ k → k ≤ 46 → I2 k 0 j = I k 0 j) : zRT c I2 (qu (qu q i []) (6 + i) []) := by
  intro r hr
  obtain ⟨a1, a2, a3⟩ := h r hr
  by_cases e1 : r = 6 + i
  · subst e1
    rw [qu_s]
    exact ⟨by simp, by rw [h1, if_pos (Or.inr rfl)]; rfl, fun j e k v hj => by simp at hj⟩
  rw [qu_n e1]
  by_cases e2 : r = i
  · subst e2
    rw [qu_s]
    exact ⟨by simp, by rw [h1, if_pos (Or.inl rfl)]; rfl, fun j e k v hj => by simp at hj⟩
  rw [qu_n e2]
  refine ⟨a1, by rw [h1, if_neg (by omega)]; exact a2, fun j e k v hj => ?_⟩
  rw [h2 44 _ (by omega) (by omega), h2 45 _ (by omega) (by omega), h2 46 _ (by omega) (by omega)]
  exact a3 j e k v hj
theorem zstop_0 (I : zI) (i k x j : Nat) : zu (zu (zu (zu (zu (zu (zu I 31 0 i (nI 0)) 32 0 i (nI 0)) 33 0 i (nI 0)) 47 0 i (nI 0)) 48 0 i (nI 0)) 43 0 i (nI 0)) 43 0 (6 + i) (nI 0) k x j = if (k = 31 ∨ k = 32 ∨ k = 33 ∨ k = 47 ∨ k = 48) ∧ x = 0 ∧ j = i then nI 0 else if k = 43 ∧ x = 0 ∧ (j = i ∨ j = 6 + i) then nI 0 else I k x j := by
  simp only [zu_if]
  grind (splits := 40)
theorem c_Model_stop (l : Launch) (g : zG) {S h n : Nat} {I : zI} {J : zJ} {R : zR} (hW : zW g S h n I R) (q : zq) (hq : zRT g.2.2.2 I q) (a : Int32) : zMet l g y_Model_stop b_Model_stop 3 (some .boolean) 1 21 0 0 (zPc g [.ref (zad g 29 0), .int a] n I J R) (zQi g (fun r u => (∃ i, zgStop g.2.2.2 (I 31 0) a i ∧ r = 1 ∧ ∃ I2, u = (n, I2, J, R) ∧ (∀ k x j, ¬ (43 ≤ k ∧ k ≤ 46) → x = 0 → I2 k x j = zstop I i k x j) ∧ zRT g.2.2.2 I2 (qu (qu q i []) (6 + i) []) ∧ ∀ k i j, k < 29 → I2 k i j = I k i j) ∨ ((¬ ∃ i, zgStop g.2.2.2 (I 31 0) a i) ∧ r = 0 ∧ u = (n, I, J, R)))) := by
  have hc := hW.2.1.2
  refine zMet.of (by decide) [some (.ref (zad g 29 0)), some (.int a), none] rfl (Nat.le_of_ble_eq_true rfl) ?_
  intro pP eE sS mM aA bB mE cC X hret hnm
  have X : zC pP sS mM aA mE cC b_Model_stop "SlottedMeshModel" 3 g := X
  have hret : mE.sig.returnType = (some .boolean) := hret
  have KL : ∀ (i : Nat) (I0 : zI), a = nI i → i < g.2.2.2 → i ≠ 0 → I 31 0 i ≠ 0 → (∀ k x j, I0 k x j = if (k = 31 ∨ k = 32 ∨ k = 33 ∨ k = 47 ∨ k = 48) ∧ x = 0 ∧ j = i then nI 0 else if k = 43 ∧ x = 0 ∧ (j = i ∨ j = 6 + i) then nI 0 else I k x j) → ∀ (s b : Nat) (I1 : zI), b + s = 6 → zW g S h n I1 R → (∀ k x j, I1 k x j = if k = 49 ∧ x = 0 ∧ ((6 * i ≤ j ∧ j < 6 * i + b) ∨ (36 + 6 * i ≤ j ∧ j < 36 + 6 * i + b ∧ j ≠ 36 + 6 * i + i)) then nI 0 else I0 k x j) → zV pP l eE (zrm 1 21 0 0) sS mM aA bB mE cC g 3 (MQ bB (zQi g (fun r u => (∃ i, zgStop g.2.2.2 (I 31 0) a i ∧ r = 1 ∧ ∃ I2, u = (n, I2, J, R) ∧ (∀ k x j, ¬ (43 ≤ k ∧ k ≤ 46) → x = 0 → I2 k x j = zstop I i k x j) ∧ zRT g.2.2.2 I2 (qu (qu q i []) (6 + i) []) ∧ ∀ k i j, k < 29 → I2 k i j = I k i j) ∨ ((¬ ∃ i, zgStop g.2.2.2 (I 31 0) a i) ∧ r = 0 ∧ u = (n, I, J, R)))) aA sS 0 0 (zA g)) 0 0 77 [some (.ref (zad g 29 0)), some (.int (nI i)), some (.int (nI b))] [] n I1 J R := by
    intro i I0 ha hi h0 hst hI0 s
    induction s with
    | zero =>
      intro b I1 hb hW hI1
      have hb : b = 6 := by omega
      subst hb
      refine z_iload_n X d_Model_stop_77 rfl ?_
      refine z_bipush (v := nI 6) X d_Model_stop_78 rfl ?_
      refine z_icmp_ge (tgt := 138) X d_Model_stop_80 (by decide) (fun _ => ?_) (fun hq => absurd hq (by decide))
      refine z_iconst (v := nI 1) X d_Model_stop_138 rfl ?_
      exact z_iret X hret rfl (Nat.zero_le _) (Nat.zero_le _) (Or.inl ⟨i, ⟨hi, ha, h0, hst⟩, rfl, I1, rfl, fun k x j hk hx => by rw [hI1, hI0]; unfold zstop; subst hx; grind, zRT.clear hc hi hq (fun r => by rw [hI1, hI0]; grind) (fun k j h1 h2 => by rw [hI1, hI0]; grind), fun k i j hk => by rw [hI1, hI0]; grind⟩) d_Model_stop_139
    | succ s ih =>
      intro b I1 hb hW hI1
      refine z_iload_n X d_Model_stop_77 rfl ?_
      refine z_bipush (v := nI 6) X d_Model_stop_78 rfl ?_
      refine z_icmp_ge (tgt := 138) X d_Model_stop_80 (by decide) (fun hq => absurd hq (nI_ge (by omega) (by omega))) (fun _ => ?_)
      refine z_aload_n X d_Model_stop_83 rfl ?_
      refine gr_Model_69 (hW.c (k := 29) (f := 25) rfl rfl (by decide) rfl) X (zo_s rfl hW.1) d_Model_stop_84 ?_
      refine z_bipush (v := nI 6) X d_Model_stop_87 rfl ?_
      refine z_iload_n X d_Model_stop_89 rfl ?_
      refine z_imul X d_Model_stop_90 ?_
      refine z_iload_n X d_Model_stop_91 rfl ?_
      refine z_iadd X d_Model_stop_92 ?_
      refine z_iconst (v := nI 0) X d_Model_stop_93 rfl ?_
      refine as_49 (j := 6 * i + b) X (zo_s rfl hW.1) (zidx i b) (by omega) d_Model_stop_94 ?_
      refine z_aload_n X d_Model_stop_95 rfl ?_
      refine gr_Model_69 (hW.c (k := 29) (f := 25) rfl rfl (by decide) rfl) X (zo_s rfl hW.1) d_Model_stop_96 ?_
      refine z_bipush (v := nI 36) X d_Model_stop_99 rfl ?_
      refine z_bipush (v := nI 6) X d_Model_stop_101 rfl ?_
      refine z_iload_n X d_Model_stop_103 rfl ?_
      refine z_imul X d_Model_stop_104 ?_
      refine z_iadd X d_Model_stop_105 ?_
      refine z_iload_n X d_Model_stop_106 rfl ?_
      refine z_iadd X d_Model_stop_107 ?_
      refine z_iload_n X d_Model_stop_108 rfl ?_
      refine z_iload_n X d_Model_stop_109 rfl ?_
      refine z_icmpN_ne (tgt := 130) X d_Model_stop_110 (by decide) (by omega) (by omega) (fun h110 => ?_) (fun h110 => ?_)
      · refine z_iconst (v := nI 0) X d_Model_stop_130 rfl ?_
        refine as_49 (j := 36 + 6 * i + b) X (zo_s rfl hW.1) (by rw [pk_mul, nI_add, nI_add]) (by omega) d_Model_stop_131 ?_
        refine z_iinc X d_Model_stop_132 rfl (zinc _) (by decide) rfl ?_
        refine z_goto (tgt := 77) X d_Model_stop_135 (by decide) ?_
        exact ih (b + 1) _ (by omega) (zW.upI (zW.upI hW rfl) rfl) (fun k x j => by rw [zu_if, zu_if, hI1]; grind)
      · refine z_aload_n X d_Model_stop_113 rfl ?_
        refine gr_Model_69 (hW.c (k := 29) (f := 25) rfl rfl (by decide) rfl) X (zo_s rfl hW.1) d_Model_stop_114 ?_
        refine z_bipush (v := nI 36) X d_Model_stop_117 rfl ?_
        refine z_bipush (v := nI 6) X d_Model_stop_119 rfl ?_
        refine z_iload_n X d_Model_stop_121 rfl ?_
        refine z_imul X d_Model_stop_122 ?_
        refine z_iadd X d_Model_stop_123 ?_
        refine z_iload_n X d_Model_stop_124 rfl ?_
        refine z_iadd X d_Model_stop_125 ?_
        refine al_49 (j := 36 + 6 * i + b) X (zo_s rfl hW.1) (by rw [pk_mul, nI_add, nI_add]) (by omega) d_Model_stop_126 ?_
        refine z_goto (tgt := 131) X d_Model_stop_127 (by decide) ?_
        refine as_49 (j := 36 + 6 * i + b) X (zo_s rfl hW.1) (by rw [pk_mul, nI_add, nI_add]) (by omega) d_Model_stop_131 ?_
        refine z_iinc X d_Model_stop_132 rfl (zinc _) (by decide) rfl ?_
        refine z_goto (tgt := 77) X d_Model_stop_135 (by decide) ?_
        exact ih (b + 1) _ (by omega) (zW.upI (zW.upI hW rfl) rfl) (fun k x j => by rw [zu_if, zu_if, zu_if, hI1, hI1]; grind)
  rcases hz_i : znd g.2.2.2 a with _ | i
  · refine z_aload_n X d_Model_stop_0 rfl ?_
    refine z_iload_n X d_Model_stop_1 rfl ?_
    refine z_ci (z_rV X cs_Model_108 rfl rfl (zo_s rfl hW.1).1 (zo_s rfl hW.1).2 (c_Model_noNode l g hW _) ⟨Nat.le_of_ble_eq_true rfl, Nat.le_of_ble_eq_true rfl⟩ rfl rfl (Nat.le_of_ble_eq_true rfl) ⟨Nat.le_of_ble_eq_true rfl, Nat.le_of_ble_eq_true rfl⟩ d_Model_stop_2) (fun r n2 I2 J2 R2 h => ?_)
    obtain ⟨rfl, e⟩ := h
    cases e
    refine z_top (congrArg Value.int (znn_no hz_i)) ?_
    refine z_if_ne (tgt := 21) X d_Model_stop_5 (by decide) (fun _ => ?_) (fun hq => absurd hq (by decide))
    refine z_iconst (v := nI 0) X d_Model_stop_21 rfl ?_
    exact z_iret X hret rfl (Nat.zero_le _) (Nat.zero_le _) (Or.inr ⟨fun ⟨i, z⟩ => znd_not hz_i z.1 hc z.2.1, rfl, rfl⟩) d_Model_stop_22
  · obtain ⟨hi_i, rfl⟩ := znd_some hc hz_i
    refine z_aload_n X d_Model_stop_0 rfl ?_
    refine z_iload_n X d_Model_stop_1 rfl ?_
    refine z_ci (z_rV X cs_Model_108 rfl rfl (zo_s rfl hW.1).1 (zo_s rfl hW.1).2 (c_Model_noNode l g hW _) ⟨Nat.le_of_ble_eq_true rfl, Nat.le_of_ble_eq_true rfl⟩ rfl rfl (Nat.le_of_ble_eq_true rfl) ⟨Nat.le_of_ble_eq_true rfl, Nat.le_of_ble_eq_true rfl⟩ d_Model_stop_2) (fun r n2 I2 J2 R2 h => ?_)
    obtain ⟨rfl, e⟩ := h
    cases e
    refine z_top (congrArg Value.int (znn_yes hi_i hc)) ?_
    refine z_if_ne (tgt := 21) X d_Model_stop_5 (by decide) (fun hq => absurd hq (by decide)) (fun _ => ?_)
    refine z_iload_n X d_Model_stop_8 rfl ?_
    refine z_if_eq (tgt := 21) X d_Model_stop_9 (by decide) (fun h9 => ?_) (fun h9 => ?_)
    · refine z_iconst (v := nI 0) X d_Model_stop_21 rfl ?_
      exact z_iret X hret rfl (Nat.zero_le _) (Nat.zero_le _) (Or.inr ⟨fun ⟨i2, z1, z2, z3, z4⟩ => by rw [nI_eq (by omega) (by omega)] at z2; subst z2; first | exact z3 (nI_ne00 h9 (by omega)) | exact z4 h18, rfl, rfl⟩) d_Model_stop_22
    · refine z_aload_n X d_Model_stop_12 rfl ?_
      refine gr_Model_13 (hW.c (k := 29) (f := 6) rfl rfl (by decide) rfl) X (zo_s rfl hW.1) d_Model_stop_13 ?_
      refine z_iload_n X d_Model_stop_16 rfl ?_
      refine al_31 X (zo_s rfl hW.1) rfl (by omega) d_Model_stop_17 ?_
      refine z_if_ne (tgt := 23) X d_Model_stop_18 (by decide) (fun h18 => ?_) (fun h18 => ?_)
      · refine z_aload_n X d_Model_stop_23 rfl ?_
        refine gr_Model_13 (hW.c (k := 29) (f := 6) rfl rfl (by decide) rfl) X (zo_s rfl hW.1) d_Model_stop_24 ?_
        refine z_iload_n X d_Model_stop_27 rfl ?_
        refine z_iconst (v := nI 0) X d_Model_stop_28 rfl ?_
        refine as_31 X (zo_s rfl hW.1) rfl (by omega) (by decide) d_Model_stop_29 ?_
        refine z_aload_n X d_Model_stop_30 rfl ?_
        refine gr_Model_16 (hW.c (k := 29) (f := 7) rfl rfl (by decide) rfl) X (zo_s rfl hW.1) d_Model_stop_31 ?_
        refine z_iload_n X d_Model_stop_34 rfl ?_
        refine z_iconst (v := nI 0) X d_Model_stop_35 rfl ?_
        refine as_32 X (zo_s rfl hW.1) rfl (by omega) (by decide) d_Model_stop_36 ?_
        refine z_aload_n X d_Model_stop_37 rfl ?_
        refine gr_Model_19 (hW.c (k := 29) (f := 8) rfl rfl (by decide) rfl) X (zo_s rfl hW.1) d_Model_stop_38 ?_
        refine z_iload_n X d_Model_stop_41 rfl ?_
        refine z_iconst (v := nI 0) X d_Model_stop_42 rfl ?_
        refine as_33 X (zo_s rfl hW.1) rfl (by omega) d_Model_stop_43 ?_
        refine z_aload_n X d_Model_stop_44 rfl ?_
        refine gr_Model_63 (hW.c (k := 29) (f := 23) rfl rfl (by decide) rfl) X (zo_s rfl hW.1) d_Model_stop_45 ?_
        refine z_iload_n X d_Model_stop_48 rfl ?_
        refine z_iconst (v := nI 0) X d_Model_stop_49 rfl ?_
        refine as_47 X (zo_s rfl hW.1) rfl (by omega) d_Model_stop_50 ?_
        refine z_aload_n X d_Model_stop_51 rfl ?_
        refine gr_Model_66 (hW.c (k := 29) (f := 24) rfl rfl (by decide) rfl) X (zo_s rfl hW.1) d_Model_stop_52 ?_
        refine z_iload_n X d_Model_stop_55 rfl ?_
        refine z_iconst (v := nI 0) X d_Model_stop_56 rfl ?_
        refine as_48 X (zo_s rfl hW.1) rfl (by omega) d_Model_stop_57 ?_
        refine z_aload_n X d_Model_stop_58 rfl ?_
        refine gr_Model_51 (hW.c (k := 29) (f := 19) rfl rfl (by decide) rfl) X (zo_s rfl hW.1) d_Model_stop_59 ?_
        refine z_iload_n X d_Model_stop_62 rfl ?_
        refine z_iconst (v := nI 0) X d_Model_stop_63 rfl ?_
        refine as_43 X (zo_s rfl hW.1) rfl (by omega) d_Model_stop_64 ?_
        refine z_aload_n X d_Model_stop_65 rfl ?_
        refine gr_Model_51 (hW.c (k := 29) (f := 19) rfl rfl (by decide) rfl) X (zo_s rfl hW.1) d_Model_stop_66 ?_
        refine z_bipush (v := nI 6) X d_Model_stop_69 rfl ?_
        refine z_iload_n X d_Model_stop_71 rfl ?_
        refine z_iadd X d_Model_stop_72 ?_
        refine z_iconst (v := nI 0) X d_Model_stop_73 rfl ?_
        refine as_43 (j := 6 + i) X (zo_s rfl hW.1) (nI_add 6 i) (by omega) d_Model_stop_74 ?_
        refine z_iconst (v := nI 0) X d_Model_stop_75 rfl ?_
        refine z_istore_n X d_Model_stop_76 (by decide) rfl ?_
        exact KL i (zu (zu (zu (zu (zu (zu (zu I 31 0 i (nI 0)) 32 0 i (nI 0)) 33 0 i (nI 0)) 47 0 i (nI 0)) 48 0 i (nI 0)) 43 0 i (nI 0)) 43 0 (6 + i) (nI 0)) rfl hi_i (fun z => h9 (by rw [z]; rfl)) h18 (zstop_0 I i) 6 0 _ rfl (zW.upI (zW.upI (zW.upI (zW.upI (zW.upI (zW.upI (zW.upI hW rfl) rfl) rfl) rfl) rfl) rfl) rfl) (fun k x j => by rw [if_neg (by omega)])
      · refine z_iconst (v := nI 0) X d_Model_stop_21 rfl ?_
        exact z_iret X hret rfl (Nat.zero_le _) (Nat.zero_le _) (Or.inr ⟨fun ⟨i2, z1, z2, z3, z4⟩ => by rw [nI_eq (by omega) (by omega)] at z2; subst z2; first | exact z3 (nI_ne00 h9 (by omega)) | exact z4 h18, rfl, rfl⟩) d_Model_stop_22

