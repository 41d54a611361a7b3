/-! THE TWIN'S ROWS, CACHE, SAMPLE, CONTROL, STOP -/
theorem c_Model_leave (l : Launch) (g : zG) {S h n : Nat} {I : zI} {J : zJ} {R : zR} (hW : zW g S h n I R) (r m : Nat) (hr : r < 12) (hm : m < 4) (h0 : I 43 0 r = nI (m + 1)) : zMet l g y_Model_leave b_Model_leave 3 none 0 0 0 0 (zPc g [.ref (zad g 29 0), .int (nI r)] n I J R) (zQv g (fun u => ∃ I2, u = (n, I2, J, R) ∧ zlvT I I2 r m)) := by
  refine zMet.of (by decide) [some (.ref (zad g 29 0)), some (.int (nI r)), none] rfl (Nat.le_of_ble_eq_true rfl) ?_
  intro pP eE sS mM aA bB mE cC X hret hnm
  have X : zC pP sS mM aA mE cC b_Model_leave "SlottedMeshModel" 3 g := X
  have hret : mE.sig.returnType = none := hret
  refine z_aload_n X d_Model_leave_0 rfl ?_
  refine gr_Model_51 (hW.c (k := 29) (f := 19) rfl rfl (by decide) rfl) X (zo_s rfl hW.1) d_Model_leave_1 ?_
  refine z_iload_n X d_Model_leave_4 rfl ?_
  refine z_dup2 X d_Model_leave_5 rfl rfl ?_
  refine al_43 X (zo_s rfl hW.1) rfl (by omega) d_Model_leave_6 ?_
  refine z_top (v2 := .int (nI (m + 1))) (congrArg Value.int h0) ?_
  refine z_iconst (v := nI 1) X d_Model_leave_7 rfl ?_
  refine z_isub X d_Model_leave_8 ?_
  refine z_top (v2 := .int (nI m)) (congrArg Value.int (nI_pred m)) ?_
  refine as_43 X (zo_s rfl hW.1) rfl (by omega) d_Model_leave_9 ?_
  refine z_iconst (v := nI 4) X d_Model_leave_10 rfl ?_
  refine z_iload_n X d_Model_leave_11 rfl ?_
  refine z_imul X d_Model_leave_12 ?_
  refine z_top (v2 := .int (nI (4 * r))) (congrArg Value.int (pk_mul 4 r)) ?_
  refine z_istore_n X d_Model_leave_13 (by decide) rfl ?_
  have key : ∀ (s j : Nat) (I2 : zI), j + s = m → (∀ k i x, ¬ (43 ≤ k ∧ k ≤ 46) → I2 k i x = I k i x) → (∀ r2, I2 43 0 r2 = if r2 = r then nI m else I 43 0 r2) → (∀ k x, 44 ≤ k → k ≤ 46 → I2 k 0 x = if 4 * r ≤ x ∧ x < 4 * r + j then I k 0 (x + 1) else I k 0 x) → zV pP l eE (zrm 0 0 0 0) sS mM aA bB mE cC g 3 (MQ bB (zQv g (fun u => ∃ I2, u = (n, I2, J, R) ∧ zlvT I I2 r m)) aA sS 0 0 (zA g)) 0 0 14 [some (.ref (zad g 29 0)), some (.int (nI r)), some (.int (nI (4 * r + j)))] [] n I2 J R := by
    intro s
    induction s with
    | zero =>
      intro j I2 hj a1 a2 a3
      have hj : j = m := by omega
      subst hj
      refine z_iload_n X d_Model_leave_14 rfl ?_
      refine z_iconst (v := nI 4) X d_Model_leave_15 rfl ?_
      refine z_iload_n X d_Model_leave_16 rfl ?_
      refine z_imul X d_Model_leave_17 ?_
      refine z_aload_n X d_Model_leave_18 rfl ?_
      refine gr_Model_51 (hW.c (k := 29) (f := 19) rfl rfl (by decide) rfl) X (zo_s rfl hW.1) d_Model_leave_19 ?_
      refine z_iload_n X d_Model_leave_22 rfl ?_
      refine al_43 X (zo_s rfl hW.1) rfl (by omega) d_Model_leave_23 ?_
      refine z_top (v2 := .int (nI j)) (congrArg Value.int (by rw [a2, if_pos rfl])) ?_
      refine z_iadd X d_Model_leave_24 ?_
      refine z_top (v2 := .int (nI (4 * r + j))) (congrArg Value.int (zidx4 r j)) ?_
      refine z_icmp_ge (tgt := 76) X d_Model_leave_25 (by decide) (fun _ => ?_) (fun hq => absurd hq (fun q => q (nI_le (Nat.le_refl _) (by omega))))
      exact z_vret X hret (Nat.zero_le _) (Nat.zero_le _) ⟨I2, rfl, a1, a2, a3⟩ d_Model_leave_76
    | succ s ih =>
      intro j I2 hj a1 a2 a3
      refine z_iload_n X d_Model_leave_14 rfl ?_
      refine z_iconst (v := nI 4) X d_Model_leave_15 rfl ?_
      refine z_iload_n X d_Model_leave_16 rfl ?_
      refine z_imul X d_Model_leave_17 ?_
      refine z_aload_n X d_Model_leave_18 rfl ?_
      refine gr_Model_51 (hW.c (k := 29) (f := 19) rfl rfl (by decide) rfl) X (zo_s rfl hW.1) d_Model_leave_19 ?_
      refine z_iload_n X d_Model_leave_22 rfl ?_
      refine al_43 X (zo_s rfl hW.1) rfl (by omega) d_Model_leave_23 ?_
      refine z_top (v2 := .int (nI m)) (congrArg Value.int (by rw [a2, if_pos rfl])) ?_
      refine z_iadd X d_Model_leave_24 ?_
      refine z_top (v2 := .int (nI (4 * r + m))) (congrArg Value.int (zidx4 r m)) ?_
      refine z_icmp_ge (tgt := 76) X d_Model_leave_25 (by decide) (fun hq => absurd hq (nI_ge (by omega) (by omega))) (fun _ => ?_)
      refine z_aload_n X d_Model_leave_28 rfl ?_
      refine gr_Model_54 (hW.c (k := 29) (f := 20) rfl rfl (by decide) rfl) X (zo_s rfl hW.1) d_Model_leave_29 ?_
      refine z_iload_n X d_Model_leave_32 rfl ?_
      refine z_aload_n X d_Model_leave_33 rfl ?_
      refine gr_Model_54 (hW.c (k := 29) (f := 20) rfl rfl (by decide) rfl) X (zo_s rfl hW.1) d_Model_leave_34 ?_
      refine z_iload_n X d_Model_leave_37 rfl ?_
      refine z_iconst (v := nI 1) X d_Model_leave_38 rfl ?_
      refine z_iadd X d_Model_leave_39 ?_
      refine al_44 (j := 4 * r + j + 1) X (zo_s rfl hW.1) (nI_add (4 * r + j) 1) (by omega) d_Model_leave_40 ?_
      refine as_44 X (zo_s rfl hW.1) rfl (by omega) d_Model_leave_41 ?_
      refine z_aload_n X d_Model_leave_42 rfl ?_
      refine gr_Model_57 (hW.c (k := 29) (f := 21) rfl rfl (by decide) rfl) X (zo_s rfl hW.1) d_Model_leave_43 ?_
      refine z_iload_n X d_Model_leave_46 rfl ?_
      refine z_aload_n X d_Model_leave_47 rfl ?_
      refine gr_Model_57 (hW.c (k := 29) (f := 21) rfl rfl (by decide) rfl) X (zo_s rfl hW.1) d_Model_leave_48 ?_
      refine z_iload_n X d_Model_leave_51 rfl ?_
      refine z_iconst (v := nI 1) X d_Model_leave_52 rfl ?_
      refine z_iadd X d_Model_leave_53 ?_
      refine al_45 (j := 4 * r + j + 1) X (zo_s rfl hW.1) (nI_add (4 * r + j) 1) (by omega) d_Model_leave_54 ?_
      refine as_45 X (zo_s rfl hW.1) rfl (by omega) d_Model_leave_55 ?_
      refine z_aload_n X d_Model_leave_56 rfl ?_
      refine gr_Model_60 (hW.c (k := 29) (f := 22) rfl rfl (by decide) rfl) X (zo_s rfl hW.1) d_Model_leave_57 ?_
      refine z_iload_n X d_Model_leave_60 rfl ?_
      refine z_aload_n X d_Model_leave_61 rfl ?_
      refine gr_Model_60 (hW.c (k := 29) (f := 22) rfl rfl (by decide) rfl) X (zo_s rfl hW.1) d_Model_leave_62 ?_
      refine z_iload_n X d_Model_leave_65 rfl ?_
      refine z_iconst (v := nI 1) X d_Model_leave_66 rfl ?_
      refine z_iadd X d_Model_leave_67 ?_
      refine al_46 (j := 4 * r + j + 1) X (zo_s rfl hW.1) (nI_add (4 * r + j) 1) (by omega) d_Model_leave_68 ?_
      refine as_46 X (zo_s rfl hW.1) rfl (by omega) d_Model_leave_69 ?_
      refine z_iinc X d_Model_leave_70 rfl (zinc _) (by decide) rfl ?_
      refine z_goto (tgt := 14) X d_Model_leave_73 (by decide) ?_
      refine ih (j + 1) _ (by omega) (fun k i x hk => ?_) (fun r2 => ?_) (fun k x h1 h2 => ?_)
      · rw [zu_k (by omega), zu_k (by omega), zu_k (by omega)]; exact a1 k i x hk
      · rw [zu_k (by decide), zu_k (by decide), zu_k (by decide)]; exact a2 r2
      · have e1 : zu I2 44 0 (4 * r + j) (I2 44 0 (4 * r + j + 1)) 45 0 (4 * r + j + 1) = I 45 0 (4 * r + j + 1) := by rw [zu_k (by decide), a3 45 _ (by omega) (by omega), if_neg (by omega)]
        have e2 : zu (zu I2 44 0 (4 * r + j) (I2 44 0 (4 * r + j + 1))) 45 0 (4 * r + j) (zu I2 44 0 (4 * r + j) (I2 44 0 (4 * r + j + 1)) 45 0 (4 * r + j + 1)) 46 0 (4 * r + j + 1) = I 46 0 (4 * r + j + 1) := by rw [zu_k (by decide), zu_k (by decide), a3 46 _ (by omega) (by omega), if_neg (by omega)]
        have e0 : I2 44 0 (4 * r + j + 1) = I 44 0 (4 * r + j + 1) := by rw [a3 44 _ (by omega) (by omega), if_neg (by omega)]
        rw [e2, e1, e0]
        rcases (show k = 44 ∨ k = 45 ∨ k = 46 by omega) with rfl | rfl | rfl
        · rw [zu_k (by decide), zu_k (by decide), zu_if, a3 44 _ (by omega) (by omega)]
          by_cases hx : x = 4 * r + j
          · subst hx; simp
          · rw [if_neg (by omega)]
            by_cases hy : 4 * r ≤ x ∧ x < 4 * r + j
            · rw [if_pos hy, if_pos (by omega)]
            · rw [if_neg hy, if_neg (by omega)]
        · rw [zu_k (by decide), zu_if, zu_k (by decide), a3 45 _ (by omega) (by omega)]
          by_cases hx : x = 4 * r + j
          · subst hx; simp
          · rw [if_neg (by omega)]
            by_cases hy : 4 * r ≤ x ∧ x < 4 * r + j
            · rw [if_pos hy, if_pos (by omega)]
            · rw [if_neg hy, if_neg (by omega)]
        · rw [zu_if, zu_k (by decide), zu_k (by decide), a3 46 _ (by omega) (by omega)]
          by_cases hx : x = 4 * r + j
          · subst hx; simp
          · rw [if_neg (by omega)]
            by_cases hy : 4 * r ≤ x ∧ x < 4 * r + j
            · rw [if_pos hy, if_pos (by omega)]
            · rw [if_neg hy, if_neg (by omega)]
  refine key m 0 _ (by omega) (fun k i x hk => zu_k (by omega)) (fun r2 => by rw [zu_if]; by_cases e : r2 = r <;> simp [e]) (fun k x h1 h2 => by rw [zu_k (by omega), if_neg (by omega)])
theorem z3 (e : Nat) : nI 3 * nI e = nI (3 * e) := pk_mul 3 e
/-- the cache of the twin, its row 6 apart -/
theorem c_Model_cache (l : Launch) (g : zG) {S h n : Nat} {I : zI} {J : zJ} {R : zR} (hW : zW g S h n I R) (q : zq) (hq : zRT g.2.2.2 I q) (e : Nat) (he : 1 ≤ e ∧ e < g.2.2.2) (k v : Int32) : zMet l g y_Model_cache b_Model_cache 7 none 1 25 0 0 (zPc g [.ref (zad g 29 0), .int (nI e), .int k, .int v] n I J R) (zQv g (fun u => ∃ I2, u = (n, I2, J, R) ∧ zcan I2 = zcaA (zcan I) e v ∧ zRT g.2.2.2 I2 (zcaQ (zcan I) q e k v) ∧ ∀ a i j, a < 29 → I2 a i j = I a i j)) := by
  have hc := hW.2.1.2
  have h2c := hW.2.1.1
  refine zMet.of (by decide) [some (.ref (zad g 29 0)), some (.int (nI e)), some (.int k), some (.int v), none, none, none] rfl (Nat.le_of_ble_eq_true rfl) ?_
  intro pP eE sS mM aA bB mE cC X hret hnm
  have X : zC pP sS mM aA mE cC b_Model_cache "SlottedMeshModel" 7 g := X
  have hret : mE.sig.returnType = none := hret
  have h6 := hq 6 (Or.inr ⟨by omega, by omega⟩)
  refine z_aload_n X d_Model_cache_0 rfl ?_
  refine gr_Model_75 (hW.c (k := 29) (f := 27) rfl rfl (by decide) rfl) X (zo_s rfl hW.1) d_Model_cache_1 ?_
  refine z_iconst (v := nI 3) X d_Model_cache_4 rfl ?_
  refine z_iload_n X d_Model_cache_5 rfl ?_
  refine z_imul X d_Model_cache_6 ?_
  refine z_iconst (v := nI 2) X d_Model_cache_7 rfl ?_
  refine z_iadd X d_Model_cache_8 ?_
  refine z_aload_n X d_Model_cache_9 rfl ?_
  refine gr_Model_75 (hW.c (k := 29) (f := 27) rfl rfl (by decide) rfl) X (zo_s rfl hW.1) d_Model_cache_10 ?_
  refine z_iconst (v := nI 3) X d_Model_cache_13 rfl ?_
  refine z_iload_n X d_Model_cache_14 rfl ?_
  refine z_imul X d_Model_cache_15 ?_
  refine z_iconst (v := nI 1) X d_Model_cache_16 rfl ?_
  refine z_iadd X d_Model_cache_17 ?_
  refine al_51 (j := 3 * e + 1) X (zo_s rfl hW.1) (by rw [z3, nI_add]) (by omega) d_Model_cache_18 ?_
  refine as_51 (j := 3 * e + 2) X (zo_s rfl hW.1) (by rw [z3, nI_add]) (by omega) d_Model_cache_19 ?_
  refine z_aload_n X d_Model_cache_20 rfl ?_
  refine gr_Model_75 (hW.c (k := 29) (f := 27) rfl rfl (by decide) rfl) X (zo_s rfl hW.1) d_Model_cache_21 ?_
  refine z_iconst (v := nI 3) X d_Model_cache_24 rfl ?_
  refine z_iload_n X d_Model_cache_25 rfl ?_
  refine z_imul X d_Model_cache_26 ?_
  refine z_iconst (v := nI 1) X d_Model_cache_27 rfl ?_
  refine z_iadd X d_Model_cache_28 ?_
  refine z_aload_n X d_Model_cache_29 rfl ?_
  refine gr_Model_75 (hW.c (k := 29) (f := 27) rfl rfl (by decide) rfl) X (zo_s rfl hW.1) d_Model_cache_30 ?_
  refine z_iconst (v := nI 3) X d_Model_cache_33 rfl ?_
  refine z_iload_n X d_Model_cache_34 rfl ?_
  refine z_imul X d_Model_cache_35 ?_
  refine al_51 (j := 3 * e) X (zo_s rfl hW.1) (z3 e) (by omega) d_Model_cache_36 ?_
  refine z_top (v2 := .int (I 51 0 (3 * e))) (congrArg Value.int (zu_j (by omega))) ?_
  refine as_51 (j := 3 * e + 1) X (zo_s rfl hW.1) (by rw [z3, nI_add]) (by omega) d_Model_cache_37 ?_
  refine z_aload_n X d_Model_cache_38 rfl ?_
  refine gr_Model_75 (hW.c (k := 29) (f := 27) rfl rfl (by decide) rfl) X (zo_s rfl hW.1) d_Model_cache_39 ?_
  refine z_iconst (v := nI 3) X d_Model_cache_42 rfl ?_
  refine z_iload_n X d_Model_cache_43 rfl ?_
  refine z_imul X d_Model_cache_44 ?_
  refine z_iload_n X d_Model_cache_45 rfl ?_
  refine as_51 (j := 3 * e) X (zo_s rfl hW.1) (z3 e) (by omega) d_Model_cache_46 ?_
  refine z_aload_n X d_Model_cache_47 rfl ?_
  refine gr_Model_78 (hW.c (k := 29) (f := 28) rfl rfl (by decide) rfl) X (zo_s rfl hW.1) d_Model_cache_48 ?_
  refine z_iload_n X d_Model_cache_51 rfl ?_
  refine z_aload_n X d_Model_cache_52 rfl ?_
  refine gr_Model_78 (hW.c (k := 29) (f := 28) rfl rfl (by decide) rfl) X (zo_s rfl hW.1) d_Model_cache_53 ?_
  refine z_iload_n X d_Model_cache_56 rfl ?_
  refine al_52 X (zo_s rfl hW.1) rfl (by omega) d_Model_cache_57 ?_
  refine z_top (v2 := .int (I 52 0 e)) rfl ?_
  refine z_iconst (v := nI 3) X d_Model_cache_58 rfl ?_
  refine z_icmp_ge (tgt := 73) X d_Model_cache_59 (by decide) (fun h59 => ?_) (fun h59 => ?_)
  · refine z_iconst (v := nI 3) X d_Model_cache_73 rfl ?_
    refine as_52 X (zo_s rfl hW.1) rfl (by omega) d_Model_cache_74 ?_
    refine z_aload_n X d_Model_cache_75 rfl ?_
    refine gr_Model_81 (hW.c (k := 29) (f := 29) rfl rfl (by decide) rfl) X (zo_s rfl hW.1) d_Model_cache_76 ?_
    refine z_iload_n X d_Model_cache_79 rfl ?_
    refine al_53 X (zo_s rfl hW.1) rfl (by omega) d_Model_cache_80 ?_
    refine z_top (v2 := .int (I 53 0 e)) rfl ?_
    refine z_iload_n X d_Model_cache_81 rfl ?_
    refine z_isub X d_Model_cache_82 ?_
    refine z_istore X d_Model_cache_83 (by decide) rfl ?_
    refine z_aload_n X d_Model_cache_85 rfl ?_
    refine gr_Model_90 (hW.c (k := 29) (f := 32) rfl rfl (by decide) rfl) X (zo_s rfl hW.1) d_Model_cache_86 ?_
    refine z_iload_n X d_Model_cache_89 rfl ?_
    refine z_aload_n X d_Model_cache_90 rfl ?_
    refine gr_Model_90 (hW.c (k := 29) (f := 32) rfl rfl (by decide) rfl) X (zo_s rfl hW.1) d_Model_cache_91 ?_
    refine z_iload_n X d_Model_cache_94 rfl ?_
    refine al_56 X (zo_s rfl hW.1) rfl (by omega) d_Model_cache_95 ?_
    refine z_top (v2 := .int (I 56 0 e)) rfl ?_
    refine z_iload X d_Model_cache_96 rfl ?_
    refine z_iadd X d_Model_cache_98 ?_
    refine z_sipush (v := nI 2000) X d_Model_cache_99 rfl ?_
    refine z_ci (z_rS X cs_Model_143 (c_Model_within l g _ _) ⟨Nat.le_of_ble_eq_true rfl, Nat.le_of_ble_eq_true rfl⟩ rfl rfl (Nat.le_of_ble_eq_true rfl) ⟨Nat.le_of_ble_eq_true rfl, Nat.le_of_ble_eq_true rfl⟩ d_Model_cache_102) (fun r n2 I2 J2 R2 h => ?_)
    obtain ⟨rfl, e⟩ := h
    cases e
    refine as_56 X (zo_s rfl hW.1) rfl (by omega) d_Model_cache_105 ?_
    refine z_aload_n X d_Model_cache_106 rfl ?_
    refine gr_Model_84 (hW.c (k := 29) (f := 30) rfl rfl (by decide) rfl) X (zo_s rfl hW.1) d_Model_cache_107 ?_
    refine z_iload_n X d_Model_cache_110 rfl ?_
    refine al_54 X (zo_s rfl hW.1) rfl (by omega) d_Model_cache_111 ?_
    refine z_top (v2 := .int (I 54 0 e)) rfl ?_
    refine z_iload X d_Model_cache_112 rfl ?_
    refine z_imul X d_Model_cache_114 ?_
    refine z_aload_n X d_Model_cache_115 rfl ?_
    refine gr_Model_87 (hW.c (k := 29) (f := 31) rfl rfl (by decide) rfl) X (zo_s rfl hW.1) d_Model_cache_116 ?_
    refine z_iload_n X d_Model_cache_119 rfl ?_
    refine al_55 X (zo_s rfl hW.1) rfl (by omega) d_Model_cache_120 ?_
    refine z_top (v2 := .int (I 55 0 e)) rfl ?_
    refine z_aload_n X d_Model_cache_121 rfl ?_
    refine gr_Model_90 (hW.c (k := 29) (f := 32) rfl rfl (by decide) rfl) X (zo_s rfl hW.1) d_Model_cache_122 ?_
    refine z_iload_n X d_Model_cache_125 rfl ?_
    refine al_56 X (zo_s rfl hW.1) rfl (by omega) d_Model_cache_126 ?_
    refine z_top (congrArg Value.int zu_s) ?_
    refine z_imul X d_Model_cache_127 ?_
    refine z_iadd X d_Model_cache_128 ?_
    refine z_istore X d_Model_cache_129 (by decide) rfl ?_
    refine z_iload X d_Model_cache_131 rfl ?_
    refine z_iconst (v := nI 4) X d_Model_cache_133 rfl ?_
    refine z_ishr X d_Model_cache_134 ?_
    refine z_sipush (v := nI 500) X d_Model_cache_135 rfl ?_
    refine z_ci (z_rS X cs_Model_143 (c_Model_within l g _ _) ⟨Nat.le_of_ble_eq_true rfl, Nat.le_of_ble_eq_true rfl⟩ rfl rfl (Nat.le_of_ble_eq_true rfl) ⟨Nat.le_of_ble_eq_true rfl, Nat.le_of_ble_eq_true rfl⟩ d_Model_cache_138) (fun r n2 I2 J2 R2 h => ?_)
    obtain ⟨rfl, e⟩ := h
    cases e
    refine z_istore X d_Model_cache_141 (by decide) rfl ?_
    refine z_aload_n X d_Model_cache_143 rfl ?_
    refine gr_Model_51 (hW.c (k := 29) (f := 19) rfl rfl (by decide) rfl) X (zo_s rfl hW.1) d_Model_cache_144 ?_
    refine z_bipush (v := nI 6) X d_Model_cache_147 rfl ?_
    refine al_43 (j := 6) X (zo_s rfl hW.1) rfl (by decide) d_Model_cache_149 ?_
    refine z_top (v2 := .int (nI (q 6).length)) (congrArg Value.int h6.2.1) ?_
    refine z_iconst (v := nI 4) X d_Model_cache_150 rfl ?_
    refine z_icmpN_ge (tgt := 164) X d_Model_cache_151 (by decide) (by have := h6.1; omega) (by omega) (fun h151 => ?_) (fun h151 => ?_)
    · exact z_vret X hret (Nat.zero_le _) (Nat.zero_le _) ⟨_, rfl, by simp only [zcan_add, zc_51, zc_52, zc_56]; unfold zcaA; (first | rw [if_pos (show zcan I 52 0 e < nI 3 from Int32.not_le.mp h59)] | rw [if_neg (show ¬ zcan I 52 0 e < nI 3 from fun z => absurd h59 (Int32.not_le.mpr z))]); rfl, by unfold zcaQ; first | (rw [if_pos h151]; exact zRT.add hc (zRT.put (zRT.put (zRT.put (zRT.put (zRT.put hq rfl) rfl) rfl) rfl) rfl) (Or.inr ⟨by omega, by omega⟩) h151 he) | (rw [if_neg (by omega)]; exact zRT.put (zRT.put (zRT.put (zRT.put (zRT.put hq rfl) rfl) rfl) rfl) rfl), fun a i j ha => by (try simp only [zaddT]); repeat rw [zu_k (by omega)]⟩ d_Model_cache_164
    · refine z_aload_n X d_Model_cache_154 rfl ?_
      refine z_bipush (v := nI 6) X d_Model_cache_155 rfl ?_
      refine z_iload_n X d_Model_cache_157 rfl ?_
      refine z_iload_n X d_Model_cache_158 rfl ?_
      refine z_iload X d_Model_cache_159 rfl ?_
      refine z_cv (z_rV X cs_Model_139 rfl rfl (zo_s rfl hW.1).1 (zo_s rfl hW.1).2 (c_Model_add l g (zW.upI (zW.upI (zW.upI (zW.upI (zW.upI hW rfl) rfl) rfl) rfl) rfl) 6 (q 6).length (by decide) h151 (by exact h6.2.1) (nI e) k _) ⟨Nat.le_of_ble_eq_true rfl, Nat.le_of_ble_eq_true rfl⟩ rfl rfl (Nat.le_of_ble_eq_true rfl) ⟨Nat.le_of_ble_eq_true rfl, Nat.le_of_ble_eq_true rfl⟩ d_Model_cache_161) (fun n2 I2 J2 R2 h => ?_)
      cases h
      exact z_vret X hret (Nat.zero_le _) (Nat.zero_le _) ⟨_, rfl, by simp only [zcan_add, zc_51, zc_52, zc_56]; unfold zcaA; (first | rw [if_pos (show zcan I 52 0 e < nI 3 from Int32.not_le.mp h59)] | rw [if_neg (show ¬ zcan I 52 0 e < nI 3 from fun z => absurd h59 (Int32.not_le.mpr z))]); rfl, by unfold zcaQ; first | (rw [if_pos h151]; exact zRT.add hc (zRT.put (zRT.put (zRT.put (zRT.put (zRT.put hq rfl) rfl) rfl) rfl) rfl) (Or.inr ⟨by omega, by omega⟩) h151 he) | (rw [if_neg (by omega)]; exact zRT.put (zRT.put (zRT.put (zRT.put (zRT.put hq rfl) rfl) rfl) rfl) rfl), fun a i j ha => by (try simp only [zaddT]); repeat rw [zu_k (by omega)]⟩ d_Model_cache_164
  · refine z_aload_n X d_Model_cache_62 rfl ?_
    refine gr_Model_78 (hW.c (k := 29) (f := 28) rfl rfl (by decide) rfl) X (zo_s rfl hW.1) d_Model_cache_63 ?_
    refine z_iload_n X d_Model_cache_66 rfl ?_
    refine al_52 X (zo_s rfl hW.1) rfl (by omega) d_Model_cache_67 ?_
    refine z_top (v2 := .int (I 52 0 e)) rfl ?_
    refine z_iconst (v := nI 1) X d_Model_cache_68 rfl ?_
    refine z_iadd X d_Model_cache_69 ?_
    refine z_goto (tgt := 74) X d_Model_cache_70 (by decide) ?_
    refine as_52 X (zo_s rfl hW.1) rfl (by omega) d_Model_cache_74 ?_
    refine z_aload_n X d_Model_cache_75 rfl ?_
    refine gr_Model_81 (hW.c (k := 29) (f := 29) rfl rfl (by decide) rfl) X (zo_s rfl hW.1) d_Model_cache_76 ?_
    refine z_iload_n X d_Model_cache_79 rfl ?_
    refine al_53 X (zo_s rfl hW.1) rfl (by omega) d_Model_cache_80 ?_
    refine z_top (v2 := .int (I 53 0 e)) rfl ?_
    refine z_iload_n X d_Model_cache_81 rfl ?_
    refine z_isub X d_Model_cache_82 ?_
    refine z_istore X d_Model_cache_83 (by decide) rfl ?_
    refine z_aload_n X d_Model_cache_85 rfl ?_
    refine gr_Model_90 (hW.c (k := 29) (f := 32) rfl rfl (by decide) rfl) X (zo_s rfl hW.1) d_Model_cache_86 ?_
    refine z_iload_n X d_Model_cache_89 rfl ?_
    refine z_aload_n X d_Model_cache_90 rfl ?_
    refine gr_Model_90 (hW.c (k := 29) (f := 32) rfl rfl (by decide) rfl) X (zo_s rfl hW.1) d_Model_cache_91 ?_
    refine z_iload_n X d_Model_cache_94 rfl ?_
    refine al_56 X (zo_s rfl hW.1) rfl (by omega) d_Model_cache_95 ?_
    refine z_top (v2 := .int (I 56 0 e)) rfl ?_
    refine z_iload X d_Model_cache_96 rfl ?_
    refine z_iadd X d_Model_cache_98 ?_
    refine z_sipush (v := nI 2000) X d_Model_cache_99 rfl ?_
    refine z_ci (z_rS X cs_Model_143 (c_Model_within l g _ _) ⟨Nat.le_of_ble_eq_true rfl, Nat.le_of_ble_eq_true rfl⟩ rfl rfl (Nat.le_of_ble_eq_true rfl) ⟨Nat.le_of_ble_eq_true rfl, Nat.le_of_ble_eq_true rfl⟩ d_Model_cache_102) (fun r n2 I2 J2 R2 h => ?_)
    obtain ⟨rfl, e⟩ := h
    cases e
    refine as_56 X (zo_s rfl hW.1) rfl (by omega) d_Model_cache_105 ?_
    refine z_aload_n X d_Model_cache_106 rfl ?_
    refine gr_Model_84 (hW.c (k := 29) (f := 30) rfl rfl (by decide) rfl) X (zo_s rfl hW.1) d_Model_cache_107 ?_
    refine z_iload_n X d_Model_cache_110 rfl ?_
    refine al_54 X (zo_s rfl hW.1) rfl (by omega) d_Model_cache_111 ?_
    refine z_top (v2 := .int (I 54 0 e)) rfl ?_
    refine z_iload X d_Model_cache_112 rfl ?_
    refine z_imul X d_Model_cache_114 ?_
    refine z_aload_n X d_Model_cache_115 rfl ?_
    refine gr_Model_87 (hW.c (k := 29) (f := 31) rfl rfl (by decide) rfl) X (zo_s rfl hW.1) d_Model_cache_116 ?_
    refine z_iload_n X d_Model_cache_119 rfl ?_
    refine al_55 X (zo_s rfl hW.1) rfl (by omega) d_Model_cache_120 ?_
    refine z_top (v2 := .int (I 55 0 e)) rfl ?_
    refine z_aload_n X d_Model_cache_121 rfl ?_
    refine gr_Model_90 (hW.c (k := 29) (f := 32) rfl rfl (by decide) rfl) X (zo_s rfl hW.1) d_Model_cache_122 ?_
    refine z_iload_n X d_Model_cache_125 rfl ?_
    refine al_56 X (zo_s rfl hW.1) rfl (by omega) d_Model_cache_126 ?_
    refine z_top (congrArg Value.int zu_s) ?_
    refine z_imul X d_Model_cache_127 ?_
    refine z_iadd X d_Model_cache_128 ?_
    refine z_istore X d_Model_cache_129 (by decide) rfl ?_
    refine z_iload X d_Model_cache_131 rfl ?_
    refine z_iconst (v := nI 4) X d_Model_cache_133 rfl ?_
    refine z_ishr X d_Model_cache_134 ?_
    refine z_sipush (v := nI 500) X d_Model_cache_135 rfl ?_
    refine z_ci (z_rS X cs_Model_143 (c_Model_within l g _ _) ⟨Nat.le_of_ble_eq_true rfl, Nat.le_of_ble_eq_true rfl⟩ rfl rfl (Nat.le_of_ble_eq_true rfl) ⟨Nat.le_of_ble_eq_true rfl, Nat.le_of_ble_eq_true rfl⟩ d_Model_cache_138) (fun r n2 I2 J2 R2 h => ?_)
    obtain ⟨rfl, e⟩ := h
    cases e
    refine z_istore X d_Model_cache_141 (by decide) rfl ?_
    refine z_aload_n X d_Model_cache_143 rfl ?_
    refine gr_Model_51 (hW.c (k := 29) (f := 19) rfl rfl (by decide) rfl) X (zo_s rfl hW.1) d_Model_cache_144 ?_
    refine z_bipush (v := nI 6) X d_Model_cache_147 rfl ?_
    refine al_43 (j := 6) X (zo_s rfl hW.1) rfl (by decide) d_Model_cache_149 ?_
    refine z_top (v2 := .int (nI (q 6).length)) (congrArg Value.int h6.2.1) ?_
    refine z_iconst (v := nI 4) X d_Model_cache_150 rfl ?_
    refine z_icmpN_ge (tgt := 164) X d_Model_cache_151 (by decide) (by have := h6.1; omega) (by omega) (fun h151 => ?_) (fun h151 => ?_)
    · exact z_vret X hret (Nat.zero_le _) (Nat.zero_le _) ⟨_, rfl, by simp only [zcan_add, zc_51, zc_52, zc_56]; unfold zcaA; (first | rw [if_pos (show zcan I 52 0 e < nI 3 from Int32.not_le.mp h59)] | rw [if_neg (show ¬ zcan I 52 0 e < nI 3 from fun z => absurd h59 (Int32.not_le.mpr z))]); rfl, by unfold zcaQ; first | (rw [if_pos h151]; exact zRT.add hc (zRT.put (zRT.put (zRT.put (zRT.put (zRT.put hq rfl) rfl) rfl) rfl) rfl) (Or.inr ⟨by omega, by omega⟩) h151 he) | (rw [if_neg (by omega)]; exact zRT.put (zRT.put (zRT.put (zRT.put (zRT.put hq rfl) rfl) rfl) rfl) rfl), fun a i j ha => by (try simp only [zaddT]); repeat rw [zu_k (by omega)]⟩ d_Model_cache_164
    · refine z_aload_n X d_Model_cache_154 rfl ?_
      refine z_bipush (v := nI 6) X d_Model_cache_155 rfl ?_
      refine z_iload_n X d_Model_cache_157 rfl ?_
      refine z_iload_n X d_Model_cache_158 rfl ?_
      refine z_iload X d_Model_cache_159 rfl ?_
      refine z_cv (z_rV X cs_Model_139 rfl rfl (zo_s rfl hW.1).1 (zo_s rfl hW.1).2 (c_Model_add l g (zW.upI (zW.upI (zW.upI (zW.upI (zW.upI hW rfl) rfl) rfl) rfl) rfl) 6 (q 6).length (by decide) h151 (by exact h6.2.1) (nI e) k _) ⟨Nat.le_of_ble_eq_true rfl, Nat.le_of_ble_eq_true rfl⟩ rfl rfl (Nat.le_of_ble_eq_true rfl) ⟨Nat.le_of_ble_eq_true rfl, Nat.le_of_ble_eq_true rfl⟩ d_Model_cache_161) (fun n2 I2 J2 R2 h => ?_)
      cases h
      exact z_vret X hret (Nat.zero_le _) (Nat.zero_le _) ⟨_, rfl, by simp only [zcan_add, zc_51, zc_52, zc_56]; unfold zcaA; (first | rw [if_pos (show zcan I 52 0 e < nI 3 from Int32.not_le.mp h59)] | rw [if_neg (show ¬ zcan I 52 0 e < nI 3 from fun z => absurd h59 (Int32.not_le.mpr z))]); rfl, by unfold zcaQ; first | (rw [if_pos h151]; exact zRT.add hc (zRT.put (zRT.put (zRT.put (zRT.put (zRT.put hq rfl) rfl) rfl) rfl) rfl) (Or.inr ⟨by omega, by omega⟩) h151 he) | (rw [if_neg (by omega)]; exact zRT.put (zRT.put (zRT.put (zRT.put (zRT.put hq rfl) rfl) rfl) rfl) rfl), fun a i j ha => by (try simp only [zaddT]); repeat rw [zu_k (by omega)]⟩ d_Model_cache_164

