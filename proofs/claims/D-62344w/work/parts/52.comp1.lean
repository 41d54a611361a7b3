/-! THE COMPONENT'S SLOT: leaves -/
theorem c_SM_good9 (l : Launch) (g : zG) {S h n : Nat} {I : zI} {J : zJ} {R : zR} (hW : zW g S h n I R) (ch t : Nat) (hch : ch < 4) (ht : t < 2 ^ 30) (h7 : I 0 0 7 = nI t) : zMet l g y_SM_good b_SM_good 3 (some .boolean) 0 0 0 0 (zPc g [.ref (zad g 0 0), .ref (zad g 9 0), .int (nI ch)] n I J R) (zQi g (fun r u => r = (if zbit (J 9 0 ((ch + t) % h)) t = true then nI 1 else nI 0) ∧ u = (n, I, J, R))) := by
  have hh := hW.2.2.2.1
  refine zMet.of (by decide) [some (.ref (zad g 0 0)), some (.ref (zad g 9 0)), some (.int (nI ch))] rfl (Nat.le_of_ble_eq_true rfl) ?_
  intro pP eE sS mM aA bB mE cC X hret hnm
  have X : zC pP sS mM aA mE cC b_SM_good "SlottedMesh" 3 g := X
  have hret : mE.sig.returnType = (some .boolean) := hret
  refine z_aload_n X d_SM_good_0 rfl ?_
  refine z_iload_n X d_SM_good_1 rfl ?_
  refine z_aload_n X d_SM_good_2 rfl ?_
  refine gf_SM_127 X (zo_s rfl hW.1) d_SM_good_3 ?_
  refine z_top (congrArg Value.int (h7)) ?_
  refine z_iadd X d_SM_good_6 ?_
  refine z_top (v2 := .int (nI (ch + t))) (congrArg Value.int (nI_add ch t)) ?_
  refine z_aload_n X d_SM_good_7 rfl ?_
  refine gf_SM_111 X (zo_s rfl hW.1) d_SM_good_8 ?_
  refine z_top (congrArg Value.int (hW.2.2.2.2.2.2.2.1)) ?_
  refine z_irem X d_SM_good_11 (fun q => by have := nI_inj (b := 0) (by omega) (by omega) q; omega) ?_
  refine z_top (v2 := .int (nI ((ch + t) % h))) (congrArg Value.int (pk_rem (by omega) (by omega) (by omega))) ?_
  refine al_9 X (zo_s rfl hW.1) rfl (by have := Nat.mod_lt (ch + t) (show 0 < h by omega); omega) d_SM_good_12 ?_
  refine z_aload_n X d_SM_good_13 rfl ?_
  refine gf_SM_127 X (zo_s rfl hW.1) d_SM_good_14 ?_
  refine z_top (congrArg Value.int (h7)) ?_
  refine z_bipush (v := nI 63) X d_SM_good_17 rfl ?_
  refine z_iand X d_SM_good_19 ?_
  refine z_top (v2 := .int (nI (t % 64))) (congrArg Value.int (pk_andN (by omega) 6 rfl)) ?_
  refine z_lshr X d_SM_good_20 ?_
  refine z_lconst (v := 1) X d_SM_good_21 rfl ?_
  refine z_land X d_SM_good_22 ?_
  refine z_lconst (v := 1) X d_SM_good_23 rfl ?_
  refine z_lcmp X d_SM_good_24 ?_
  refine z_if_ne (tgt := 32) X d_SM_good_25 (by decide) (fun h25 => ?_) (fun h25 => ?_)
  · refine z_iconst (v := nI 0) X d_SM_good_32 rfl ?_
    exact z_iret X hret rfl (Nat.zero_le _) (Nat.zero_le _) ⟨by first | exact (if_neg (zbit_f h25)).symm | exact (if_pos (zbit_t h25)).symm, rfl⟩ d_SM_good_33
  · refine z_iconst (v := nI 1) X d_SM_good_28 rfl ?_
    refine z_goto (tgt := 33) X d_SM_good_29 (by decide) ?_
    exact z_iret X hret rfl (Nat.zero_le _) (Nat.zero_le _) ⟨by first | exact (if_neg (zbit_f h25)).symm | exact (if_pos (zbit_t h25)).symm, rfl⟩ d_SM_good_33
theorem c_SM_good10 (l : Launch) (g : zG) {S h n : Nat} {I : zI} {J : zJ} {R : zR} (hW : zW g S h n I R) (ch t : Nat) (hch : ch < 4) (ht : t < 2 ^ 30) (h7 : I 0 0 7 = nI t) : zMet l g y_SM_good b_SM_good 3 (some .boolean) 0 0 0 0 (zPc g [.ref (zad g 0 0), .ref (zad g 10 0), .int (nI ch)] n I J R) (zQi g (fun r u => r = (if zbit (J 10 0 ((ch + t) % h)) t = true then nI 1 else nI 0) ∧ u = (n, I, J, R))) := by
  have hh := hW.2.2.2.1
  refine zMet.of (by decide) [some (.ref (zad g 0 0)), some (.ref (zad g 10 0)), some (.int (nI ch))] rfl (Nat.le_of_ble_eq_true rfl) ?_
  intro pP eE sS mM aA bB mE cC X hret hnm
  have X : zC pP sS mM aA mE cC b_SM_good "SlottedMesh" 3 g := X
  have hret : mE.sig.returnType = (some .boolean) := hret
  refine z_aload_n X d_SM_good_0 rfl ?_
  refine z_iload_n X d_SM_good_1 rfl ?_
  refine z_aload_n X d_SM_good_2 rfl ?_
  refine gf_SM_127 X (zo_s rfl hW.1) d_SM_good_3 ?_
  refine z_top (congrArg Value.int (h7)) ?_
  refine z_iadd X d_SM_good_6 ?_
  refine z_top (v2 := .int (nI (ch + t))) (congrArg Value.int (nI_add ch t)) ?_
  refine z_aload_n X d_SM_good_7 rfl ?_
  refine gf_SM_111 X (zo_s rfl hW.1) d_SM_good_8 ?_
  refine z_top (congrArg Value.int (hW.2.2.2.2.2.2.2.1)) ?_
  refine z_irem X d_SM_good_11 (fun q => by have := nI_inj (b := 0) (by omega) (by omega) q; omega) ?_
  refine z_top (v2 := .int (nI ((ch + t) % h))) (congrArg Value.int (pk_rem (by omega) (by omega) (by omega))) ?_
  refine al_10 X (zo_s rfl hW.1) rfl (by have := Nat.mod_lt (ch + t) (show 0 < h by omega); omega) d_SM_good_12 ?_
  refine z_aload_n X d_SM_good_13 rfl ?_
  refine gf_SM_127 X (zo_s rfl hW.1) d_SM_good_14 ?_
  refine z_top (congrArg Value.int (h7)) ?_
  refine z_bipush (v := nI 63) X d_SM_good_17 rfl ?_
  refine z_iand X d_SM_good_19 ?_
  refine z_top (v2 := .int (nI (t % 64))) (congrArg Value.int (pk_andN (by omega) 6 rfl)) ?_
  refine z_lshr X d_SM_good_20 ?_
  refine z_lconst (v := 1) X d_SM_good_21 rfl ?_
  refine z_land X d_SM_good_22 ?_
  refine z_lconst (v := 1) X d_SM_good_23 rfl ?_
  refine z_lcmp X d_SM_good_24 ?_
  refine z_if_ne (tgt := 32) X d_SM_good_25 (by decide) (fun h25 => ?_) (fun h25 => ?_)
  · refine z_iconst (v := nI 0) X d_SM_good_32 rfl ?_
    exact z_iret X hret rfl (Nat.zero_le _) (Nat.zero_le _) ⟨by first | exact (if_neg (zbit_f h25)).symm | exact (if_pos (zbit_t h25)).symm, rfl⟩ d_SM_good_33
  · refine z_iconst (v := nI 1) X d_SM_good_28 rfl ?_
    refine z_goto (tgt := 33) X d_SM_good_29 (by decide) ?_
    exact z_iret X hret rfl (Nat.zero_le _) (Nat.zero_le _) ⟨by first | exact (if_neg (zbit_f h25)).symm | exact (if_pos (zbit_t h25)).symm, rfl⟩ d_SM_good_33
theorem c_Node_inStep (l : Launch) (g : zG) {S h n : Nat} {I : zI} {J : zJ} {R : zR} (hW : zW g S h n I R) (a b : Nat) (ha : a < g.2.2.2) (hb : b < g.2.2.2) : zMet l g y_Node_inStep b_Node_inStep 3 (some .boolean) 0 0 0 0 (zPc g [.ref (zad g 1 a), .ref (zad g 1 b)] n I J R) (zQi g (fun r u => r = (if zcl1 (I 1 a 3 - I 1 b 3) = true then nI 1 else nI 0) ∧ u = (n, I, J, R))) := by
  refine zMet.of (by decide) [some (.ref (zad g 1 a)), some (.ref (zad g 1 b)), none] rfl (Nat.le_of_ble_eq_true rfl) ?_
  intro pP eE sS mM aA bB mE cC X hret hnm
  have X : zC pP sS mM aA mE cC b_Node_inStep "SlottedMesh$Node" 3 g := X
  have hret : mE.sig.returnType = (some .boolean) := hret
  refine z_aload_n X d_Node_inStep_0 rfl ?_
  refine gf_Node_35 X (zo_n ha hW.1) d_Node_inStep_1 ?_
  refine z_aload_n X d_Node_inStep_4 rfl ?_
  refine gf_Node_35 X (zo_n hb hW.1) d_Node_inStep_5 ?_
  refine z_isub X d_Node_inStep_8 ?_
  refine z_istore_n X d_Node_inStep_9 (by decide) rfl ?_
  refine z_iload_n X d_Node_inStep_10 rfl ?_
  refine z_bipush (v := nI 10) X d_Node_inStep_11 rfl ?_
  refine z_icmp_gt (tgt := 26) X d_Node_inStep_13 (by decide) (fun h13 => ?_) (fun h13 => ?_)
  · refine z_iconst (v := nI 0) X d_Node_inStep_26 rfl ?_
    exact z_iret X hret rfl (Nat.zero_le _) (Nat.zero_le _) ⟨by first | (rw [if_neg]; simp [zcl1, h13]; done) | (rw [if_neg]; simp [zcl1, h19]; done) | (rw [if_pos]; simp [zcl1, h13, h19]; done), rfl⟩ d_Node_inStep_27
  · refine z_iload_n X d_Node_inStep_16 rfl ?_
    refine z_bipush (v := -10) X d_Node_inStep_17 rfl ?_
    refine z_icmp_lt (tgt := 26) X d_Node_inStep_19 (by decide) (fun h19 => ?_) (fun h19 => ?_)
    · refine z_iconst (v := nI 0) X d_Node_inStep_26 rfl ?_
      exact z_iret X hret rfl (Nat.zero_le _) (Nat.zero_le _) ⟨by first | (rw [if_neg]; simp [zcl1, h13]; done) | (rw [if_neg]; simp [zcl1, h19]; done) | (rw [if_pos]; simp [zcl1, h13, h19]; done), rfl⟩ d_Node_inStep_27
    · refine z_iconst (v := nI 1) X d_Node_inStep_22 rfl ?_
      refine z_goto (tgt := 27) X d_Node_inStep_23 (by decide) ?_
      exact z_iret X hret rfl (Nat.zero_le _) (Nat.zero_le _) ⟨by first | (rw [if_neg]; simp [zcl1, h13]; done) | (rw [if_neg]; simp [zcl1, h19]; done) | (rw [if_pos]; simp [zcl1, h13, h19]; done), rfl⟩ d_Node_inStep_27
theorem c_SM_wide (l : Launch) (g : zG) {n : Nat} {I : zI} {J : zJ} {R : zR} (v : Int32) : zMet l g y_SM_wide b_SM_wide 1 (some .boolean) 0 0 0 0 (zPc g [.int v] n I J R) (zQi g (fun r u => r = (if v < -1000 ∨ nI 1000 < v then nI 1 else nI 0) ∧ u = (n, I, J, R))) := by
  refine zMet.of (by decide) [some (.int v)] rfl (Nat.le_of_ble_eq_true rfl) ?_
  intro pP eE sS mM aA bB mE cC X hret hnm
  have X : zC pP sS mM aA mE cC b_SM_wide "SlottedMesh" 1 g := X
  have hret : mE.sig.returnType = (some .boolean) := hret
  refine z_iload_n X d_SM_wide_0 rfl ?_
  refine z_sipush (v := -1000) X d_SM_wide_1 rfl ?_
  refine z_icmp_lt (tgt := 14) X d_SM_wide_4 (by decide) (fun h4 => ?_) (fun h4 => ?_)
  · refine z_iconst (v := nI 1) X d_SM_wide_14 rfl ?_
    refine z_goto (tgt := 19) X d_SM_wide_15 (by decide) ?_
    exact z_iret X hret rfl (Nat.zero_le _) (Nat.zero_le _) ⟨by first | rw [if_pos (Or.inl h4)] | rw [if_pos (Or.inr (Int32.not_le.mp h11))] | rw [if_neg (fun q => q.elim h4 (fun q => Int32.not_le.mpr q h11))], rfl⟩ d_SM_wide_19
  · refine z_iload_n X d_SM_wide_7 rfl ?_
    refine z_sipush (v := nI 1000) X d_SM_wide_8 rfl ?_
    refine z_icmp_le (tgt := 18) X d_SM_wide_11 (by decide) (fun h11 => ?_) (fun h11 => ?_)
    · refine z_iconst (v := nI 0) X d_SM_wide_18 rfl ?_
      exact z_iret X hret rfl (Nat.zero_le _) (Nat.zero_le _) ⟨by first | rw [if_pos (Or.inl h4)] | rw [if_pos (Or.inr (Int32.not_le.mp h11))] | rw [if_neg (fun q => q.elim h4 (fun q => Int32.not_le.mpr q h11))], rfl⟩ d_SM_wide_19
    · refine z_iconst (v := nI 1) X d_SM_wide_14 rfl ?_
      refine z_goto (tgt := 19) X d_SM_wide_15 (by decide) ?_
      exact z_iret X hret rfl (Nat.zero_le _) (Nat.zero_le _) ⟨by first | rw [if_pos (Or.inl h4)] | rw [if_pos (Or.inr (Int32.not_le.mp h11))] | rw [if_neg (fun q => q.elim h4 (fun q => Int32.not_le.mpr q h11))], rfl⟩ d_SM_wide_19
theorem zwi_mm {v b : Int32} (h : -b ≤ b) : (if -b < (if v < b then v else b) then (if v < b then v else b) else -b) = zwi v b := by
  unfold zwi
  rw [Int32.le_iff_toInt_le] at h
  simp only [Int32.lt_iff_toInt_lt]
  by_cases h1 : v.toInt < b.toInt
  · rw [if_pos h1]
    by_cases h2 : (-b).toInt < v.toInt
    · rw [if_pos h2, if_neg (by omega), if_neg (by omega)]
    · rw [if_neg h2]
      by_cases h3 : v.toInt < (-b).toInt
      · rw [if_pos h3]
      · rw [if_neg h3, if_neg (by omega)]
        exact Int32.toInt_inj.mp (by omega)
  · rw [if_neg h1]
    by_cases h2 : (-b).toInt < b.toInt
    · rw [if_pos h2, if_neg (by omega)]
      by_cases h3 : b.toInt < v.toInt
      · rw [if_pos h3]
      · rw [if_neg h3]; exact Int32.toInt_inj.mp (by omega)
    · rw [if_neg h2, if_neg (by omega)]
      by_cases h3 : b.toInt < v.toInt
      · rw [if_pos h3]; exact Int32.toInt_inj.mp (by omega)
      · rw [if_neg h3]; exact Int32.toInt_inj.mp (by omega)
theorem c_SM_between (l : Launch) (g : zG) {n : Nat} {I : zI} {J : zJ} {R : zR} (v b : Int32) (hb : -b ≤ b) : zMet l g y_SM_between b_SM_between 2 (some .int) 1 21 0 0 (zPc g [.int v, .int b] n I J R) (zQi g (fun r u => r = zwi v b ∧ u = (n, I, J, R))) := by
  refine zMet.of (by decide) [some (.int v), some (.int b)] rfl (Nat.le_of_ble_eq_true rfl) ?_
  intro pP eE sS mM aA bB mE cC X hret hnm
  have X : zC pP sS mM aA mE cC b_SM_between "SlottedMesh" 2 g := X
  have hret : mE.sig.returnType = (some .int) := hret
  refine z_iload_n X d_SM_between_0 rfl ?_
  refine z_ineg X d_SM_between_1 ?_
  refine z_iload_n X d_SM_between_2 rfl ?_
  refine z_iload_n X d_SM_between_3 rfl ?_
  refine z_ci (z_rS X cs_SM_95 (c_Math_min l g _ _) ⟨Nat.le_of_ble_eq_true rfl, Nat.le_of_ble_eq_true rfl⟩ rfl rfl (Nat.le_of_ble_eq_true rfl) ⟨Nat.le_of_ble_eq_true rfl, Nat.le_of_ble_eq_true rfl⟩ d_SM_between_4) (fun r n2 I2 J2 R2 h => ?_)
  obtain ⟨rfl, e⟩ := h
  cases e
  refine z_ci (z_rS X cs_SM_101 (c_Math_max l g _ _) ⟨Nat.le_of_ble_eq_true rfl, Nat.le_of_ble_eq_true rfl⟩ rfl rfl (Nat.le_of_ble_eq_true rfl) ⟨Nat.le_of_ble_eq_true rfl, Nat.le_of_ble_eq_true rfl⟩ d_SM_between_7) (fun r n2 I2 J2 R2 h => ?_)
  obtain ⟨rfl, e⟩ := h
  cases e
  exact z_iret X hret rfl (Nat.zero_le _) (Nat.zero_le _) ⟨zwi_mm hb, rfl⟩ d_SM_between_10
theorem zadN {g : zG} {a b : Nat} (h : zad g 1 a = zad g 1 b) : a = b := by simp [zad, zn] at h; omega
theorem zadNo {g : zG} {o : Option Nat} {b : Nat} (h : o.map (zad g 1) = some (zad g 1 b)) : o = some b := by
  cases o with
  | none => cases h
  | some a => rw [zadN (Option.some.inj h)]
def ztw (pf : Nat → Option Nat) (a : Nat) : Nat → Nat → Nat
  | 0, x => x
  | s + 1, x => match pf x with | none => x | some y => if y = a then x else ztw pf a s y
theorem ztw_s {pf : Nat → Option Nat} {a s x : Nat} : ztw pf a (s + 1) x = match pf x with | none => x | some y => if y = a then x else ztw pf a s y := rfl
theorem c_Node_towards (l : Launch) (g : zG) {S h n : Nat} {I : zI} {J : zJ} {R : zR} (hW : zW g S h n I R) (hp : ∀ i y, i < g.2.2.2 → R 1 i 14 = some y → y < g.2.2.2) (a x : Nat) (ha : a < g.2.2.2) (hx : x < g.2.2.2) : zMet l g y_Node_towards b_Node_towards 4 (some (.object "SlottedMesh$Node")) 0 0 0 0 (zPc g [.ref (zad g 1 a), .ref (zad g 1 x)] n I J R) (zQq g 1 (fun r u => r = (if R 1 (ztw (fun i => R 1 i 14) a 6 x) 14 = some a then some (ztw (fun i => R 1 i 14) a 6 x) else none) ∧ u = (n, I, J, R))) := by
  refine zMet.of (by decide) [some (.ref (zad g 1 a)), some (.ref (zad g 1 x)), none, none] rfl (Nat.le_of_ble_eq_true rfl) ?_
  intro pP eE sS mM aA bB mE cC X hret hnm
  have X : zC pP sS mM aA mE cC b_Node_towards "SlottedMesh$Node" 4 g := X
  have hret : mE.sig.returnType = (some (.object "SlottedMesh$Node")) := hret
  have hl : ∀ y (v3 : Option Value), y < g.2.2.2 → y = ztw (fun i => R 1 i 14) a 6 x → zV pP l eE (zrm 0 0 0 0) sS mM aA bB mE cC g 4 (MQ bB (zQq g 1 (fun r u => r = (if R 1 (ztw (fun i => R 1 i 14) a 6 x) 14 = some a then some (ztw (fun i => R 1 i 14) a 6 x) else none) ∧ u = (n, I, J, R))) aA sS 0 0 (zA g)) 0 0 36 [some (.ref (zad g 1 a)), some (.ref (zad g 1 x)), some (.ref (zad g 1 y)), v3] [] n I J R := by
    intro y v3 hy e
    refine z_aload_n X d_Node_towards_36 rfl ?_
    refine gf_Node_38 X (zo_n hy hW.1) d_Node_towards_37 ?_
    refine z_aload_n X d_Node_towards_40 rfl ?_
    refine z_acmp_ne (tgt := 48) (rx := ((R 1 y 14).map (zad g 1))) (ry := (some (zad g 1 a))) X rfl rfl d_Node_towards_41 (by decide) (fun h41 => ?_) (fun h41 => ?_)
    · refine z_null X d_Node_towards_48 ?_
      exact z_aret none X hret rfl (Nat.zero_le _) (Nat.zero_le _) ⟨by rw [← e, if_neg (fun q => h41 (by rw [q]; rfl))], rfl⟩ d_Node_towards_49
    · refine z_aload_n X d_Node_towards_44 rfl ?_
      refine z_goto (tgt := 49) X d_Node_towards_45 (by decide) ?_
      exact z_aret (some y) X hret rfl (Nat.zero_le _) (Nat.zero_le _) ⟨by rw [← e, if_pos (zadNo h41)], rfl⟩ d_Node_towards_49
  refine z_aload_n X d_Node_towards_0 rfl ?_
  refine z_astore_n X d_Node_towards_1 (by decide) rfl ?_
  refine z_iconst (v := nI 0) X d_Node_towards_2 rfl ?_
  refine z_istore_n X d_Node_towards_3 (by decide) rfl ?_
  have key : ∀ s k y, k + s = 6 → y < g.2.2.2 → ztw (fun i => R 1 i 14) a s y = ztw (fun i => R 1 i 14) a 6 x → zV pP l eE (zrm 0 0 0 0) sS mM aA bB mE cC g 4 (MQ bB (zQq g 1 (fun r u => r = (if R 1 (ztw (fun i => R 1 i 14) a 6 x) 14 = some a then some (ztw (fun i => R 1 i 14) a 6 x) else none) ∧ u = (n, I, J, R))) aA sS 0 0 (zA g)) 0 0 4 [some (.ref (zad g 1 a)), some (.ref (zad g 1 x)), some (.ref (zad g 1 y)), some (.int (nI k))] [] n I J R := by
    intro s
    induction s with
    | zero =>
      intro k y hk hy he
      have hk : k = 6 := by omega
      subst hk
      refine z_iload_n X d_Node_towards_4 rfl ?_
      refine z_bipush (v := nI 6) X d_Node_towards_5 rfl ?_
      refine z_icmp_ge (tgt := 36) X d_Node_towards_7 (by decide) (fun _ => ?_) (fun hq => absurd hq (by decide))
      exact hl y _ hy he
    | succ s ih =>
      intro k y hk hy he
      refine z_iload_n X d_Node_towards_4 rfl ?_
      refine z_bipush (v := nI 6) X d_Node_towards_5 rfl ?_
      refine z_icmp_ge (tgt := 36) X d_Node_towards_7 (by decide) (fun hq => absurd hq (nI_ge (by omega) (by omega))) (fun _ => ?_)
      refine z_aload_n X d_Node_towards_10 rfl ?_
      rcases hz : R 1 y 14 with _ | z
      · refine gn_Node_38 hz X (zo_n hy hW.1) d_Node_towards_11 ?_
        refine z_ifnullN (tgt := 36) X d_Node_towards_14 (by decide) ?_
        refine hl y _ hy ?_
        rw [← he, ztw_s, hz]
      · refine gr_Node_38 hz X (zo_n hy hW.1) d_Node_towards_11 ?_
        refine z_ifnull (tgt := 36) X d_Node_towards_14 (by decide) ?_
        refine z_aload_n X d_Node_towards_17 rfl ?_
        refine gr_Node_38 hz X (zo_n hy hW.1) d_Node_towards_18 ?_
        refine z_aload_n X d_Node_towards_21 rfl ?_
        refine z_acmp_eq (tgt := 36) (rx := (some (zad g 1 z))) (ry := (some (zad g 1 a))) X rfl rfl d_Node_towards_22 (by decide) (fun h22 => ?_) (fun h22 => ?_)
        · refine hl y _ hy ?_
          rw [← he, ztw_s, hz]
          dsimp only
          rw [if_pos (zadN (Option.some.inj h22))]
        · refine z_aload_n X d_Node_towards_25 rfl ?_
          refine gr_Node_38 hz X (zo_n hy hW.1) d_Node_towards_26 ?_
          refine z_astore_n X d_Node_towards_29 (by decide) rfl ?_
          refine z_iinc X d_Node_towards_30 rfl (zinc _) (by decide) rfl ?_
          refine z_goto (tgt := 4) X d_Node_towards_33 (by decide) ?_
          refine ih (k + 1) z (by omega) (hp y z hy hz) ?_
          rw [← he, ztw_s, hz]
          dsimp only
          rw [if_neg (fun q => h22 (by rw [q]))]
  exact key 6 0 x rfl hx rfl
/-- both ways to ask whether b is on the way from x -/
theorem zbl_le {c : Nat} {pf rk : Nat → Nat} (hp : ∀ k, 0 < k → k < c → pf k < c ∧ rk (pf k) < rk k) {b : Nat} : ∀ (s x : Nat), x < c → zbl pf b s x = b → rk b ≤ rk x
  | 0, x, _, h => by rw [show x = b from h]; exact Nat.le_refl _
  | s + 1, x, hx, h => by
    unfold zbl at h
    by_cases e : x = 0 ∨ x = b
    · rw [if_pos e] at h; rw [h]; exact Nat.le_refl _
    · rw [if_neg e] at h
      have h1 := hp x (by omega) hx
      exact Nat.le_of_lt (Nat.lt_of_le_of_lt (zbl_le hp s (pf x) h1.1 h) h1.2)
theorem zbl_tw {c : Nat} {pf rk : Nat → Nat} {po : Nat → Option Nat} (h0 : po 0 = none) (hp : ∀ k, 0 < k → k < c → pf k < c ∧ rk (pf k) < rk k ∧ po k = some (pf k)) {b : Nat} (hb : 0 < b) (hbc : b < c) : ∀ (s x : Nat), x < c → (zbl pf b s x = b ↔ ztw po (pf b) s x = b)
  | 0, x, _ => Iff.rfl
  | s + 1, x, hx => by
    rw [ztw_s]
    unfold zbl
    by_cases e0 : x = 0
    · subst e0
      rw [if_pos (Or.inl rfl), h0]
    · by_cases eb : x = b
      · subst eb
        rw [if_pos (Or.inr rfl), (hp x (by omega) hx).2.2]
        dsimp only
        rw [if_pos rfl]
      · obtain ⟨p1, p2, p3⟩ := hp x (by omega) hx
        rw [if_neg (by omega), p3]
        dsimp only
        by_cases ea : pf x = pf b
        · rw [if_pos ea]
          refine ⟨fun h => ?_, fun h => absurd h eb⟩
          have := zbl_le (fun k a1 a2 => ⟨(hp k a1 a2).1, (hp k a1 a2).2.1⟩) s (pf x) p1 h
          rw [ea] at this
          have := (hp b hb hbc).2.1
          omega
        · rw [if_neg ea]
          exact zbl_tw h0 hp hb hbc s (pf x) p1

