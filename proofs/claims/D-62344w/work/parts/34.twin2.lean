/-! THE TWIN'S SLOT: leaves -/
theorem c_Model_within (l : Launch) (g : zG) {n : Nat} {I : zI} {J : zJ} {R : zR} (v b : Int32) : zMet l g y_Model_within b_Model_within 2 (some .int) 0 0 0 0 (zPc g [.int v, .int b] n I J R) (zQi g (fun r u => r = zwi v b ∧ u = (n, I, J, R))) := by
  refine zMet.of (by decide) [some (.int v), some (.int b)] rfl (Nat.le_of_ble_eq_true rfl) ?_
  intro pP eE sS mM aA bB mE cC X hret hnm
  have X : zC pP sS mM aA mE cC b_Model_within "SlottedMeshModel" 2 g := X
  have hret : mE.sig.returnType = (some .int) := hret
  refine z_iload_n X d_Model_within_0 rfl ?_
  refine z_iload_n X d_Model_within_1 rfl ?_
  refine z_ineg X d_Model_within_2 ?_
  refine z_icmp_ge (tgt := 11) X d_Model_within_3 (by decide) (fun h3 => ?_) (fun h3 => ?_)
  · refine z_iload_n X d_Model_within_11 rfl ?_
    refine z_iload_n X d_Model_within_12 rfl ?_
    refine z_icmp_le (tgt := 20) X d_Model_within_13 (by decide) (fun h13 => ?_) (fun h13 => ?_)
    · refine z_iload_n X d_Model_within_20 rfl ?_
      exact z_iret X hret rfl (Nat.zero_le _) (Nat.zero_le _) ⟨by unfold zwi; first | rw [if_pos (Int32.not_le.mp h3)] | rw [if_neg (fun q => absurd h3 (Int32.not_le.mpr q)), if_neg (fun q => absurd h13 (Int32.not_le.mpr q))] | rw [if_neg (fun q => absurd h3 (Int32.not_le.mpr q)), if_pos (Int32.not_le.mp h13)], rfl⟩ d_Model_within_21
    · refine z_iload_n X d_Model_within_16 rfl ?_
      refine z_goto (tgt := 21) X d_Model_within_17 (by decide) ?_
      exact z_iret X hret rfl (Nat.zero_le _) (Nat.zero_le _) ⟨by unfold zwi; first | rw [if_pos (Int32.not_le.mp h3)] | rw [if_neg (fun q => absurd h3 (Int32.not_le.mpr q)), if_neg (fun q => absurd h13 (Int32.not_le.mpr q))] | rw [if_neg (fun q => absurd h3 (Int32.not_le.mpr q)), if_pos (Int32.not_le.mp h13)], rfl⟩ d_Model_within_21
  · refine z_iload_n X d_Model_within_6 rfl ?_
    refine z_ineg X d_Model_within_7 ?_
    refine z_goto (tgt := 21) X d_Model_within_8 (by decide) ?_
    exact z_iret X hret rfl (Nat.zero_le _) (Nat.zero_le _) ⟨by unfold zwi; first | rw [if_pos (Int32.not_le.mp h3)] | rw [if_neg (fun q => absurd h3 (Int32.not_le.mpr q)), if_neg (fun q => absurd h13 (Int32.not_le.mpr q))] | rw [if_neg (fun q => absurd h3 (Int32.not_le.mpr q)), if_pos (Int32.not_le.mp h13)], rfl⟩ d_Model_within_21
theorem zbit_t {x : Int64} {t : Nat} (h : lg_cmp (x >>> ((nI (t % 64)).toInt64 &&& 63) &&& 1) 1 = 0) : zbit x t = true := decide_eq_true ((zlg1 _).mp h)
theorem zbit_f {x : Int64} {t : Nat} (h : ¬ lg_cmp (x >>> ((nI (t % 64)).toInt64 &&& 63) &&& 1) 1 = 0) : ¬ zbit x t = true := fun q => h ((zlg1 _).mpr (of_decide_eq_true q))
theorem c_Model_bit (l : Launch) (g : zG) {n : Nat} {I : zI} {J : zJ} {R : zR} (x : Int64) (t : Nat) (ht : t < 2 ^ 30) : zMet l g y_Model_bit b_Model_bit 3 (some .boolean) 0 0 0 0 (zPc g [.long x, .int (nI t)] n I J R) (zQi g (fun r u => r = (if zbit x t = true then nI 1 else nI 0) ∧ u = (n, I, J, R))) := by
  refine zMet.of (by decide) [some (.long x), none, some (.int (nI t))] rfl (Nat.le_of_ble_eq_true rfl) ?_
  intro pP eE sS mM aA bB mE cC X hret hnm
  have X : zC pP sS mM aA mE cC b_Model_bit "SlottedMeshModel" 3 g := X
  have hret : mE.sig.returnType = (some .boolean) := hret
  refine z_lload_n X d_Model_bit_0 rfl ?_
  refine z_iload_n X d_Model_bit_1 rfl ?_
  refine z_bipush (v := nI 64) X d_Model_bit_2 rfl ?_
  refine z_irem X d_Model_bit_4 (by decide) ?_
  refine z_top (v2 := .int (nI (t % 64))) (congrArg Value.int (pk_rem (by omega) (by decide) (by decide))) ?_
  refine z_lshr X d_Model_bit_5 ?_
  refine z_lconst (v := 1) X d_Model_bit_6 rfl ?_
  refine z_land X d_Model_bit_7 ?_
  refine z_lconst (v := 1) X d_Model_bit_8 rfl ?_
  refine z_lcmp X d_Model_bit_9 ?_
  refine z_if_ne (tgt := 17) X d_Model_bit_10 (by decide) (fun h10 => ?_) (fun h10 => ?_)
  · refine z_iconst (v := nI 0) X d_Model_bit_17 rfl ?_
    exact z_iret X hret rfl (Nat.zero_le _) (Nat.zero_le _) ⟨by first | exact (if_neg (zbit_f h10)).symm | exact (if_pos (zbit_t h10)).symm, rfl⟩ d_Model_bit_18
  · refine z_iconst (v := nI 1) X d_Model_bit_13 rfl ?_
    refine z_goto (tgt := 18) X d_Model_bit_14 (by decide) ?_
    exact z_iret X hret rfl (Nat.zero_le _) (Nat.zero_le _) ⟨by first | exact (if_neg (zbit_f h10)).symm | exact (if_pos (zbit_t h10)).symm, rfl⟩ d_Model_bit_18
theorem c_Model_close (l : Launch) (g : zG) {S h n : Nat} {I : zI} {J : zJ} {R : zR} (hW : zW g S h n I R) (a b : Nat) (ha : a < 6) (hb : b < 6) : zMet l g y_Model_close b_Model_close 4 (some .boolean) 0 0 0 0 (zPc g [.ref (zad g 29 0), .int (nI a), .int (nI b)] n I J R) (zQi g (fun r u => r = (if zcl1 (I 33 0 a - I 33 0 b) = true then nI 1 else nI 0) ∧ u = (n, I, J, R))) := by
  refine zMet.of (by decide) [some (.ref (zad g 29 0)), some (.int (nI a)), some (.int (nI b)), none] rfl (Nat.le_of_ble_eq_true rfl) ?_
  intro pP eE sS mM aA bB mE cC X hret hnm
  have X : zC pP sS mM aA mE cC b_Model_close "SlottedMeshModel" 4 g := X
  have hret : mE.sig.returnType = (some .boolean) := hret
  refine z_aload_n X d_Model_close_0 rfl ?_
  refine gr_Model_19 (hW.c (k := 29) (f := 8) rfl rfl (by decide) rfl) X (zo_s rfl hW.1) d_Model_close_1 ?_
  refine z_iload_n X d_Model_close_4 rfl ?_
  refine al_33 X (zo_s rfl hW.1) rfl (by omega) d_Model_close_5 ?_
  refine z_aload_n X d_Model_close_6 rfl ?_
  refine gr_Model_19 (hW.c (k := 29) (f := 8) rfl rfl (by decide) rfl) X (zo_s rfl hW.1) d_Model_close_7 ?_
  refine z_iload_n X d_Model_close_10 rfl ?_
  refine al_33 X (zo_s rfl hW.1) rfl (by omega) d_Model_close_11 ?_
  refine z_isub X d_Model_close_12 ?_
  refine z_istore_n X d_Model_close_13 (by decide) rfl ?_
  refine z_iload_n X d_Model_close_14 rfl ?_
  refine z_bipush (v := -10) X d_Model_close_15 rfl ?_
  refine z_icmp_lt (tgt := 30) X d_Model_close_17 (by decide) (fun h17 => ?_) (fun h17 => ?_)
  · refine z_iconst (v := nI 0) X d_Model_close_30 rfl ?_
    exact z_iret X hret rfl (Nat.zero_le _) (Nat.zero_le _) ⟨by first | (rw [if_neg]; simp [zcl1, h17]; done) | (rw [if_neg]; simp [zcl1, h23]; done) | (rw [if_pos]; simp [zcl1, h17, h23]; done), rfl⟩ d_Model_close_31
  · refine z_iload_n X d_Model_close_20 rfl ?_
    refine z_bipush (v := nI 10) X d_Model_close_21 rfl ?_
    refine z_icmp_gt (tgt := 30) X d_Model_close_23 (by decide) (fun h23 => ?_) (fun h23 => ?_)
    · refine z_iconst (v := nI 0) X d_Model_close_30 rfl ?_
      exact z_iret X hret rfl (Nat.zero_le _) (Nat.zero_le _) ⟨by first | (rw [if_neg]; simp [zcl1, h17]; done) | (rw [if_neg]; simp [zcl1, h23]; done) | (rw [if_pos]; simp [zcl1, h17, h23]; done), rfl⟩ d_Model_close_31
    · refine z_iconst (v := nI 1) X d_Model_close_26 rfl ?_
      refine z_goto (tgt := 31) X d_Model_close_27 (by decide) ?_
      exact z_iret X hret rfl (Nat.zero_le _) (Nat.zero_le _) ⟨by first | (rw [if_neg]; simp [zcl1, h17]; done) | (rw [if_neg]; simp [zcl1, h23]; done) | (rw [if_pos]; simp [zcl1, h17, h23]; done), rfl⟩ d_Model_close_31
theorem zif1 {b : Bool} (h : ¬ (if b = true then nI 1 else nI 0) = 0) : b = true := by cases b with | true => rfl | false => exact absurd rfl h
theorem zif0 {b : Bool} (h : (if b = true then nI 1 else nI 0) = 0) : b = false := by cases b with | false => rfl | true => exact absurd h (by decide)
theorem c_Model_hears (l : Launch) (g : zG) {S h n : Nat} {I : zI} {J : zJ} {R : zR} (hW : zW g S h n I R) (a b ch t : Nat) (ha : a < 6) (hb : b < 6) (hch : ch < 4) (ht : t < 2 ^ 30) (h3 : I 29 0 3 = nI t) : zMet l g y_Model_hears b_Model_hears 4 (some .boolean) 1 23 0 0 (zPc g [.ref (zad g 29 0), .int (nI a), .int (nI b), .int (nI ch)] n I J R) (zQi g (fun r u => r = (if zhears I a b (zbit (J 35 0 ch) t) = true then nI 1 else nI 0) ∧ u = (n, I, J, R))) := by
  refine zMet.of (by decide) [some (.ref (zad g 29 0)), some (.int (nI a)), some (.int (nI b)), some (.int (nI ch))] rfl (Nat.le_of_ble_eq_true rfl) ?_
  intro pP eE sS mM aA bB mE cC X hret hnm
  have X : zC pP sS mM aA mE cC b_Model_hears "SlottedMeshModel" 4 g := X
  have hret : mE.sig.returnType = (some .boolean) := hret
  refine z_aload_n X d_Model_hears_0 rfl ?_
  refine gr_Model_16 (hW.c (k := 29) (f := 7) rfl rfl (by decide) rfl) X (zo_s rfl hW.1) d_Model_hears_1 ?_
  refine z_iload_n X d_Model_hears_4 rfl ?_
  refine al_32 X (zo_s rfl hW.1) rfl (by omega) d_Model_hears_5 ?_
  refine z_if_eq (tgt := 52) X d_Model_hears_6 (by decide) (fun h6 => ?_) (fun h6 => ?_)
  · refine z_iconst (v := nI 0) X d_Model_hears_52 rfl ?_
    exact z_iret X hret rfl (Nat.zero_le _) (Nat.zero_le _) ⟨by first | (rw [if_neg]; simp [zhears, h6]; done) | (rw [if_neg]; simp [zhears, h20]; done) | (rw [if_neg]; simp [zhears, zif0 h29]; done) | (rw [if_neg]; simp [zhears, zif0 h45]; done) | (rw [if_pos]; simp [zhears, h6, h20, zif1 h29, zif1 h45]; done), rfl⟩ d_Model_hears_53
  · refine z_aload_n X d_Model_hears_9 rfl ?_
    refine gr_Model_7 (hW.c (k := 29) (f := 5) rfl rfl (by decide) rfl) X (zo_s rfl hW.1) d_Model_hears_10 ?_
    refine z_bipush (v := nI 6) X d_Model_hears_13 rfl ?_
    refine z_iload_n X d_Model_hears_15 rfl ?_
    refine z_imul X d_Model_hears_16 ?_
    refine z_iload_n X d_Model_hears_17 rfl ?_
    refine z_iadd X d_Model_hears_18 ?_
    refine al_30 (j := 6 * a + b) X (zo_s rfl hW.1) (zidx a b) (by omega) d_Model_hears_19 ?_
    refine z_if_eq (tgt := 52) X d_Model_hears_20 (by decide) (fun h20 => ?_) (fun h20 => ?_)
    · refine z_iconst (v := nI 0) X d_Model_hears_52 rfl ?_
      exact z_iret X hret rfl (Nat.zero_le _) (Nat.zero_le _) ⟨by first | (rw [if_neg]; simp [zhears, h6]; done) | (rw [if_neg]; simp [zhears, h20]; done) | (rw [if_neg]; simp [zhears, zif0 h29]; done) | (rw [if_neg]; simp [zhears, zif0 h45]; done) | (rw [if_pos]; simp [zhears, h6, h20, zif1 h29, zif1 h45]; done), rfl⟩ d_Model_hears_53
    · refine z_aload_n X d_Model_hears_23 rfl ?_
      refine z_iload_n X d_Model_hears_24 rfl ?_
      refine z_iload_n X d_Model_hears_25 rfl ?_
      refine z_ci (z_rV X cs_Model_154 rfl rfl (zo_s rfl hW.1).1 (zo_s rfl hW.1).2 (c_Model_close l g hW a b ha hb) ⟨Nat.le_of_ble_eq_true rfl, Nat.le_of_ble_eq_true rfl⟩ rfl rfl (Nat.le_of_ble_eq_true rfl) ⟨Nat.le_of_ble_eq_true rfl, Nat.le_of_ble_eq_true rfl⟩ d_Model_hears_26) (fun r n2 I2 J2 R2 h => ?_)
      obtain ⟨rfl, e⟩ := h
      cases e
      refine z_if_eq (tgt := 52) X d_Model_hears_29 (by decide) (fun h29 => ?_) (fun h29 => ?_)
      · refine z_iconst (v := nI 0) X d_Model_hears_52 rfl ?_
        exact z_iret X hret rfl (Nat.zero_le _) (Nat.zero_le _) ⟨by first | (rw [if_neg]; simp [zhears, h6]; done) | (rw [if_neg]; simp [zhears, h20]; done) | (rw [if_neg]; simp [zhears, zif0 h29]; done) | (rw [if_neg]; simp [zhears, zif0 h45]; done) | (rw [if_pos]; simp [zhears, h6, h20, zif1 h29, zif1 h45]; done), rfl⟩ d_Model_hears_53
      · refine z_aload_n X d_Model_hears_32 rfl ?_
        refine gr_Model_26 (hW.c (k := 29) (f := 10) rfl rfl (by decide) rfl) X (zo_s rfl hW.1) d_Model_hears_33 ?_
        refine z_iload_n X d_Model_hears_36 rfl ?_
        refine al_35 X (zo_s rfl hW.1) rfl (by omega) d_Model_hears_37 ?_
        refine z_aload_n X d_Model_hears_38 rfl ?_
        refine gf_Model_147 X (zo_s rfl hW.1) d_Model_hears_39 ?_
        refine z_top (congrArg Value.int (h3)) ?_
        refine z_ci (z_rS X cs_Model_150 (c_Model_bit l g _ t ht) ⟨Nat.le_of_ble_eq_true rfl, Nat.le_of_ble_eq_true rfl⟩ rfl rfl (Nat.le_of_ble_eq_true rfl) ⟨Nat.le_of_ble_eq_true rfl, Nat.le_of_ble_eq_true rfl⟩ d_Model_hears_42) (fun r n2 I2 J2 R2 h => ?_)
        obtain ⟨rfl, e⟩ := h
        cases e
        refine z_if_eq (tgt := 52) X d_Model_hears_45 (by decide) (fun h45 => ?_) (fun h45 => ?_)
        · refine z_iconst (v := nI 0) X d_Model_hears_52 rfl ?_
          exact z_iret X hret rfl (Nat.zero_le _) (Nat.zero_le _) ⟨by first | (rw [if_neg]; simp [zhears, h6]; done) | (rw [if_neg]; simp [zhears, h20]; done) | (rw [if_neg]; simp [zhears, zif0 h29]; done) | (rw [if_neg]; simp [zhears, zif0 h45]; done) | (rw [if_pos]; simp [zhears, h6, h20, zif1 h29, zif1 h45]; done), rfl⟩ d_Model_hears_53
        · refine z_iconst (v := nI 1) X d_Model_hears_48 rfl ?_
          refine z_goto (tgt := 53) X d_Model_hears_49 (by decide) ?_
          exact z_iret X hret rfl (Nat.zero_le _) (Nat.zero_le _) ⟨by first | (rw [if_neg]; simp [zhears, h6]; done) | (rw [if_neg]; simp [zhears, h20]; done) | (rw [if_neg]; simp [zhears, zif0 h29]; done) | (rw [if_neg]; simp [zhears, zif0 h45]; done) | (rw [if_pos]; simp [zhears, h6, h20, zif1 h29, zif1 h45]; done), rfl⟩ d_Model_hears_53
theorem c_Model_first (l : Launch) (g : zG) {n : Nat} {I : zI} {J : zJ} {R : zR} (k : Nat) (hk : k < 1000) : zMet l g y_Model_first b_Model_first 1 (some .int) 0 0 0 0 (zPc g [.int (nI k)] n I J R) (zQi g (fun r u => r = nI (if k = 0 then 9 else k / 10 % 10) ∧ u = (n, I, J, R))) := by
  refine zMet.of (by decide) [some (.int (nI k))] rfl (Nat.le_of_ble_eq_true rfl) ?_
  intro pP eE sS mM aA bB mE cC X hret hnm
  have X : zC pP sS mM aA mE cC b_Model_first "SlottedMeshModel" 1 g := X
  have hret : mE.sig.returnType = (some .int) := hret
  refine z_iload_n X d_Model_first_0 rfl ?_
  refine z_if_ne (tgt := 9) X d_Model_first_1 (by decide) (fun h1 => ?_) (fun h1 => ?_)
  · refine z_iload_n X d_Model_first_9 rfl ?_
    refine z_bipush (v := nI 10) X d_Model_first_10 rfl ?_
    refine z_idiv X d_Model_first_12 (by decide) ?_
    refine z_top (v2 := .int (nI (k / 10))) (congrArg Value.int (pk_div (by omega) (by decide) (by decide))) ?_
    refine z_bipush (v := nI 10) X d_Model_first_13 rfl ?_
    refine z_irem X d_Model_first_15 (by decide) ?_
    refine z_top (v2 := .int (nI (k / 10 % 10))) (congrArg Value.int (pk_rem (by omega) (by decide) (by decide))) ?_
    exact z_iret X hret rfl (Nat.zero_le _) (Nat.zero_le _) ⟨by first | rw [if_neg (fun q => h1 (by rw [q]; rfl))] | rw [if_pos (nI_inj (b := 0) (by omega) (by omega) h1)], rfl⟩ d_Model_first_16
  · refine z_bipush (v := nI 9) X d_Model_first_4 rfl ?_
    refine z_goto (tgt := 16) X d_Model_first_6 (by decide) ?_
    exact z_iret X hret rfl (Nat.zero_le _) (Nat.zero_le _) ⟨by first | rw [if_neg (fun q => h1 (by rw [q]; rfl))] | rw [if_pos (nI_inj (b := 0) (by omega) (by omega) h1)], rfl⟩ d_Model_first_16
theorem c_Model_second (l : Launch) (g : zG) {n : Nat} {I : zI} {J : zJ} {R : zR} (k : Nat) (hk : k < 1000) : zMet l g y_Model_second b_Model_second 1 (some .int) 0 0 0 0 (zPc g [.int (nI k)] n I J R) (zQi g (fun r u => r = nI (if k < 200 then 9 else k % 10) ∧ u = (n, I, J, R))) := by
  refine zMet.of (by decide) [some (.int (nI k))] rfl (Nat.le_of_ble_eq_true rfl) ?_
  intro pP eE sS mM aA bB mE cC X hret hnm
  have X : zC pP sS mM aA mE cC b_Model_second "SlottedMeshModel" 1 g := X
  have hret : mE.sig.returnType = (some .int) := hret
  refine z_iload_n X d_Model_second_0 rfl ?_
  refine z_sipush (v := nI 200) X d_Model_second_1 rfl ?_
  refine z_icmpN_ge (tgt := 12) X d_Model_second_4 (by decide) (by omega) (by omega) (fun h4 => ?_) (fun h4 => ?_)
  · refine z_iload_n X d_Model_second_12 rfl ?_
    refine z_bipush (v := nI 10) X d_Model_second_13 rfl ?_
    refine z_irem X d_Model_second_15 (by decide) ?_
    refine z_top (v2 := .int (nI (k % 10))) (congrArg Value.int (pk_rem (by omega) (by decide) (by decide))) ?_
    exact z_iret X hret rfl (Nat.zero_le _) (Nat.zero_le _) ⟨by first | rw [if_neg (by omega)] | rw [if_pos (by omega)], rfl⟩ d_Model_second_16
  · refine z_bipush (v := nI 9) X d_Model_second_7 rfl ?_
    refine z_goto (tgt := 16) X d_Model_second_9 (by decide) ?_
    exact z_iret X hret rfl (Nat.zero_le _) (Nat.zero_le _) ⟨by first | rw [if_neg (by omega)] | rw [if_pos (by omega)], rfl⟩ d_Model_second_16
theorem c_Model_below (l : Launch) (g : zG) {S h n : Nat} {I : zI} {J : zJ} {R : zR} (hW : zW g S h n I R) (pf : Nat → Nat) (hp : ∀ k, 0 < k → k < g.2.2.2 → pf k < g.2.2.2 ∧ I 38 0 (2 * k) = nI (pf k)) (x b : Nat) (hx : x < g.2.2.2) (hb : b < 6) : zMet l g y_Model_below b_Model_below 5 (some .boolean) 0 0 0 0 (zPc g [.ref (zad g 29 0), .int (nI x), .int (nI b)] n I J R) (zQi g (fun r u => r = nI (if zbl pf b 6 x = b then 1 else 0) ∧ u = (n, I, J, R))) := by
  have hc := hW.2.1.2
  refine zMet.of (by decide) [some (.ref (zad g 29 0)), some (.int (nI x)), some (.int (nI b)), none, none] rfl (Nat.le_of_ble_eq_true rfl) ?_
  intro pP eE sS mM aA bB mE cC X hret hnm
  have X : zC pP sS mM aA mE cC b_Model_below "SlottedMeshModel" 5 g := X
  have hret : mE.sig.returnType = (some .boolean) := hret
  refine z_iload_n X d_Model_below_0 rfl ?_
  refine z_istore_n X d_Model_below_1 (by decide) rfl ?_
  refine z_iconst (v := nI 0) X d_Model_below_2 rfl ?_
  refine z_istore X d_Model_below_3 (by decide) rfl ?_
  have key : ∀ s k y, k + s = 6 → y < g.2.2.2 → zbl pf b s y = zbl pf b 6 x → zV pP l eE (zrm 0 0 0 0) sS mM aA bB mE cC g 5 (MQ bB (zQi g (fun r u => r = nI (if zbl pf b 6 x = b then 1 else 0) ∧ u = (n, I, J, R))) aA sS 0 0 (zA g)) 0 0 5 [some (.ref (zad g 29 0)), some (.int (nI x)), some (.int (nI b)), some (.int (nI y)), some (.int (nI k))] [] n I J R := by
    intro s
    induction s with
    | zero =>
      intro k y hk hy he
      have hk : k = 6 := by omega
      subst hk
      refine z_iload X d_Model_below_5 rfl ?_
      refine z_bipush (v := nI 6) X d_Model_below_7 rfl ?_
      refine z_icmp_ge (tgt := 36) X d_Model_below_9 (by decide) (fun _ => ?_) (fun hq => absurd hq (by decide))
      refine z_iload_n X d_Model_below_36 rfl ?_
      refine z_iload_n X d_Model_below_37 rfl ?_
      refine z_icmpN_ne (tgt := 45) X d_Model_below_38 (by decide) (by omega) (by omega) (fun h38 => ?_) (fun h38 => ?_)
      · refine z_iconst (v := nI 0) X d_Model_below_45 rfl ?_
        exact z_iret X hret rfl (Nat.zero_le _) (Nat.zero_le _) ⟨by rw [← he]; unfold zbl; first | rw [if_neg h38] | rw [if_pos h38], rfl⟩ d_Model_below_46
      · refine z_iconst (v := nI 1) X d_Model_below_41 rfl ?_
        refine z_goto (tgt := 46) X d_Model_below_42 (by decide) ?_
        exact z_iret X hret rfl (Nat.zero_le _) (Nat.zero_le _) ⟨by rw [← he]; unfold zbl; first | rw [if_neg h38] | rw [if_pos h38], rfl⟩ d_Model_below_46
    | succ s ih =>
      intro k y hk hy he
      refine z_iload X d_Model_below_5 rfl ?_
      refine z_bipush (v := nI 6) X d_Model_below_7 rfl ?_
      refine z_icmp_ge (tgt := 36) X d_Model_below_9 (by decide) (fun hq => absurd hq (nI_ge (by omega) (by omega))) (fun _ => ?_)
      by_cases hy0 : y = 0
      · subst hy0
        refine z_iload_n X d_Model_below_12 rfl ?_
        refine z_if_le (tgt := 36) X d_Model_below_13 (by decide) (fun _ => ?_) (fun hq => absurd hq (by decide))
        refine z_iload_n X d_Model_below_36 rfl ?_
        refine z_iload_n X d_Model_below_37 rfl ?_
        refine z_icmpN_ne (tgt := 45) X d_Model_below_38 (by decide) (by omega) (by omega) (fun h38 => ?_) (fun h38 => ?_)
        · refine z_iconst (v := nI 0) X d_Model_below_45 rfl ?_
          exact z_iret X hret rfl (Nat.zero_le _) (Nat.zero_le _) ⟨by rw [← he]; unfold zbl; rw [if_pos (Or.inl rfl)]; first | rw [if_neg h38] | rw [if_pos h38], rfl⟩ d_Model_below_46
        · refine z_iconst (v := nI 1) X d_Model_below_41 rfl ?_
          refine z_goto (tgt := 46) X d_Model_below_42 (by decide) ?_
          exact z_iret X hret rfl (Nat.zero_le _) (Nat.zero_le _) ⟨by rw [← he]; unfold zbl; rw [if_pos (Or.inl rfl)]; first | rw [if_neg h38] | rw [if_pos h38], rfl⟩ d_Model_below_46
      · refine z_iload_n X d_Model_below_12 rfl ?_
        refine z_if_le (tgt := 36) X d_Model_below_13 (by decide) (fun hq => absurd hq (nI_nle (by omega) (by omega))) (fun _ => ?_)
        refine z_iload_n X d_Model_below_16 rfl ?_
        refine z_iload_n X d_Model_below_17 rfl ?_
        refine z_icmpN_eq (tgt := 36) X d_Model_below_18 (by decide) (by omega) (by omega) (fun h18 => ?_) (fun h18 => ?_)
        · refine z_iload_n X d_Model_below_36 rfl ?_
          refine z_iload_n X d_Model_below_37 rfl ?_
          refine z_icmpN_ne (tgt := 45) X d_Model_below_38 (by decide) (by omega) (by omega) (fun h38 => ?_) (fun h38 => ?_)
          · refine z_iconst (v := nI 0) X d_Model_below_45 rfl ?_
            exact z_iret X hret rfl (Nat.zero_le _) (Nat.zero_le _) ⟨by rw [← he]; unfold zbl; rw [if_pos (Or.inr h18)]; first | rw [if_neg h38] | rw [if_pos h38], rfl⟩ d_Model_below_46
          · refine z_iconst (v := nI 1) X d_Model_below_41 rfl ?_
            refine z_goto (tgt := 46) X d_Model_below_42 (by decide) ?_
            exact z_iret X hret rfl (Nat.zero_le _) (Nat.zero_le _) ⟨by rw [← he]; unfold zbl; rw [if_pos (Or.inr h18)]; first | rw [if_neg h38] | rw [if_pos h38], rfl⟩ d_Model_below_46
        · refine z_aload_n X d_Model_below_21 rfl ?_
          refine gr_Model_36 (hW.c (k := 29) (f := 14) rfl rfl (by decide) rfl) X (zo_s rfl hW.1) d_Model_below_22 ?_
          refine z_iconst (v := nI 2) X d_Model_below_25 rfl ?_
          refine z_iload_n X d_Model_below_26 rfl ?_
          refine z_imul X d_Model_below_27 ?_
          refine al_38 (j := 2 * y) X (zo_s rfl hW.1) (pk_mul 2 y) (by omega) d_Model_below_28 ?_
          refine z_top (congrArg Value.int (hp y (by omega) hy).2) ?_
          refine z_istore_n X d_Model_below_29 (by decide) rfl ?_
          refine z_iinc X d_Model_below_30 rfl (zinc _) (by decide) rfl ?_
          refine z_goto (tgt := 5) X d_Model_below_33 (by decide) ?_
          exact ih (k + 1) (pf y) (by omega) (hp y (by omega) hy).1 (by rw [← he]; conv => rhs; unfold zbl; rw [if_neg (by omega)])
  exact key 6 0 x rfl hx rfl

