/-! THE COMPONENT'S CACHE -/
/-- a frame goes into a row -/
theorem zFr.push {c n N : Nat} {I : zI} {J : zJ} {R : zR} {fl : zfl} {A : zI} {q : zq} {e rr : Nat} {k v : Int32} {r : Option Nat} {u : zS} (hc : c ≤ 6) (hC : zRC c n N I R fl A q) (hr : zrv c rr) (hl : (q rr).length < 4) (he : 1 ≤ e ∧ e < c) (hp : (R 0 0 9 = none ∧ ∃ f, 78 + 6 * c + f = n ∧ r = some f ∧ u = (n + 1, zsetF I f (nI e) k v, J, zu R 3 f 3 none)) ∨ (∃ f, R 0 0 9 = some f ∧ r = some f ∧ u = (n, zsetF I f (nI e) k v, J, zu (zu R 0 0 9 (R 3 f 3)) 3 f 3 none))) :
    ∃ f n1 I1 R1 fl1, r = some f ∧ u = (n1, I1, J, R1) ∧ n ≤ n1 ∧ n1 ≤ n + 1 ∧ zIf I I1 ∧ zRk2 R R1 ∧ 78 + 6 * c + f < n1 ∧ (∀ j, R1 2 rr 1 = some j → 78 + 6 * c + j < n1) ∧ zRC c n1 N (zu I1 2 rr 2 (I1 2 rr 2 + nI 1)) (zaddR R1 rr f) fl1 A (qu q rr (q rr ++ [(e, k, v)])) := by
  obtain ⟨f, n1, R1, fl1, e1, e2, e3, e4, e5, e6, e7, e8, e9⟩ := hC.2.2.1.frame hc hp
  have s0 : zsetF I f (nI e) k v 3 f 0 = nI e := by unfold zsetF; rw [zu_j (by decide), zu_j (by decide), zu_s]
  have s1 : zsetF I f (nI e) k v 3 f 1 = k := by unfold zsetF; rw [zu_j (by decide), zu_s]
  have s2 : zsetF I f (nI e) k v 3 f 2 = v := by unfold zsetF; exact zu_s
  exact ⟨f, n1, _, R1, _, e1, e2, e3, e4, zIf.set, e8, e6.2, e5.last hr, hC.fr (e5.add hc hr e6 e7 s0 s1 s2) (zIf.set.tr zIf.sz) (hC.2.2.2.add hl he)⟩
theorem c_SM_cache (l : Launch) (g : zG) {S h n N : Nat} {I : zI} {J : zJ} {R : zR} {fl : zfl} {A : zI} {q : zq} {f e : Nat} {k v : Int32} (hW : zW g S h n I R) (hC : zRC g.2.2.2 n N I R fl A q) (hN : N < 2 ^ 30) (he : 1 ≤ e ∧ e < g.2.2.2) (hf : 78 + 6 * g.2.2.2 + f < n) (f0 : I 3 f 0 = nI e) (f1 : I 3 f 1 = k) (f2 : I 3 f 2 = v) : zMet l g y_SM_cache b_SM_cache 6 none 3 56 1 4 (zPc g [.ref (zad g 0 0), .ref (zad g 3 f)] n I J R) (zQv g (zSt g n N I J R (zcaA A e v) (zcaQ A q e k v))) := by
  have hc := hW.2.1.2
  have h2c := hW.2.1.1
  have he6 : e < 6 := by omega
  have h6 : zrv g.2.2.2 6 := Or.inr ⟨by omega, by omega⟩
  refine zMet.of (by decide) [some (.ref (zad g 0 0)), some (.ref (zad g 3 f)), none, none, none, none] rfl (Nat.le_of_ble_eq_true rfl) ?_
  intro pP eE sS mM aA bB mE cC X hret hnm
  have X : zC pP sS mM aA mE cC b_SM_cache "SlottedMesh" 6 g := X
  have hret : mE.sig.returnType = none := hret
  refine z_aload_n X d_SM_cache_0 rfl ?_
  refine gf_SM_140 X (zo_f hf) d_SM_cache_1 ?_
  refine z_top (congrArg Value.int (f0)) ?_
  refine z_istore_n X d_SM_cache_4 (by decide) rfl ?_
  refine z_iconst (v := nI 2) X d_SM_cache_5 rfl ?_
  refine z_istore_n X d_SM_cache_6 (by decide) rfl ?_
  refine z_iload_n X d_SM_cache_7 rfl ?_
  refine z_if_le (tgt := 35) X d_SM_cache_8 (by decide) (fun hq => absurd hq (by decide)) (fun _ => ?_)
  refine z_aload_n X d_SM_cache_11 rfl ?_
  refine gr_SM_77 (hW.c (k := 0) (f := 22) rfl rfl (by decide) rfl) X (zo_s rfl hW.1) d_SM_cache_12 ?_
  refine z_iload_n X d_SM_cache_15 rfl ?_
  refine ar_22 X (zo_s rfl hW.1) rfl (by omega) (hW.kp (by omega)) d_SM_cache_16 ?_
  refine z_iload_n X d_SM_cache_17 rfl ?_
  refine z_aload_n X d_SM_cache_18 rfl ?_
  refine gr_SM_77 (hW.c (k := 0) (f := 22) rfl rfl (by decide) rfl) X (zo_s rfl hW.1) d_SM_cache_19 ?_
  refine z_iload_n X d_SM_cache_22 rfl ?_
  refine ar_22 X (zo_s rfl hW.1) rfl (by omega) (hW.kp (by omega)) d_SM_cache_23 ?_
  refine z_iload_n X d_SM_cache_24 rfl ?_
  refine z_iconst (v := nI 1) X d_SM_cache_25 rfl ?_
  refine z_isub X d_SM_cache_26 ?_
  refine al_23 (j := 1) X (zo_k (by omega) hW.1) rfl (by decide) d_SM_cache_27 ?_
  refine z_top (v2 := .int (A 51 0 (3 * e + 1))) (congrArg Value.int (hC.1.kp he6 (by decide))) ?_
  refine as_23 (j := 2) X (zo_k (by omega) hW.1) rfl (by decide) d_SM_cache_28 ?_
  have hC1 := hC.put (v := A 51 0 (3 * e + 1)) (zco.kp he6 (show 2 < 3 by decide))
  refine z_iinc X d_SM_cache_29 rfl (zdec _) (by decide) rfl ?_
  refine z_goto (tgt := 7) X d_SM_cache_32 (by decide) ?_
  refine z_iload_n X d_SM_cache_7 rfl ?_
  refine z_if_le (tgt := 35) X d_SM_cache_8 (by decide) (fun hq => absurd hq (by decide)) (fun _ => ?_)
  refine z_aload_n X d_SM_cache_11 rfl ?_
  refine gr_SM_77 (hW.c (k := 0) (f := 22) rfl rfl (by decide) rfl) X (zo_s rfl hW.1) d_SM_cache_12 ?_
  refine z_iload_n X d_SM_cache_15 rfl ?_
  refine ar_22 X (zo_s rfl hW.1) rfl (by omega) (hW.kp (by omega)) d_SM_cache_16 ?_
  refine z_iload_n X d_SM_cache_17 rfl ?_
  refine z_aload_n X d_SM_cache_18 rfl ?_
  refine gr_SM_77 (hW.c (k := 0) (f := 22) rfl rfl (by decide) rfl) X (zo_s rfl hW.1) d_SM_cache_19 ?_
  refine z_iload_n X d_SM_cache_22 rfl ?_
  refine ar_22 X (zo_s rfl hW.1) rfl (by omega) (hW.kp (by omega)) d_SM_cache_23 ?_
  refine z_iload_n X d_SM_cache_24 rfl ?_
  refine z_iconst (v := nI 1) X d_SM_cache_25 rfl ?_
  refine z_isub X d_SM_cache_26 ?_
  refine al_23 (j := 0) X (zo_k (by omega) hW.1) rfl (by decide) d_SM_cache_27 ?_
  refine z_top (v2 := .int (A 51 0 (3 * e))) (congrArg Value.int ((zu_j (by decide)).trans (hC.1.kp he6 (by decide)))) ?_
  refine as_23 (j := 1) X (zo_k (by omega) hW.1) rfl (by decide) d_SM_cache_28 ?_
  have hC2 := hC1.put (v := A 51 0 (3 * e)) (zco.kp he6 (show 1 < 3 by decide))
  refine z_iinc X d_SM_cache_29 rfl (zdec _) (by decide) rfl ?_
  refine z_goto (tgt := 7) X d_SM_cache_32 (by decide) ?_
  refine z_iload_n X d_SM_cache_7 rfl ?_
  refine z_if_le (tgt := 35) X d_SM_cache_8 (by decide) (fun _ => ?_) (fun hq => absurd hq (by decide))
  refine z_aload_n X d_SM_cache_35 rfl ?_
  refine gr_SM_77 (hW.c (k := 0) (f := 22) rfl rfl (by decide) rfl) X (zo_s rfl hW.1) d_SM_cache_36 ?_
  refine z_iload_n X d_SM_cache_39 rfl ?_
  refine ar_22 X (zo_s rfl hW.1) rfl (by omega) (hW.kp (by omega)) d_SM_cache_40 ?_
  refine z_iconst (v := nI 0) X d_SM_cache_41 rfl ?_
  refine z_aload_n X d_SM_cache_42 rfl ?_
  refine gf_SM_146 X (zo_f hf) d_SM_cache_43 ?_
  refine z_top (v2 := .int v) (congrArg Value.int f2) ?_
  refine as_23 (j := 0) X (zo_k (by omega) hW.1) rfl (by decide) d_SM_cache_46 ?_
  have hC3 := hC2.put (v := v) (zco.kp he6 (show 0 < 3 by decide))
  refine z_aload_n X d_SM_cache_47 rfl ?_
  refine gr_SM_80 (hW.c (k := 0) (f := 23) rfl rfl (by decide) rfl) X (zo_s rfl hW.1) d_SM_cache_48 ?_
  refine z_iload_n X d_SM_cache_51 rfl ?_
  refine z_dup2 X d_SM_cache_52 rfl rfl ?_
  refine al_24 X (zo_s rfl hW.1) rfl (by omega) d_SM_cache_53 ?_
  refine z_iconst (v := nI 1) X d_SM_cache_54 rfl ?_
  refine z_iadd X d_SM_cache_55 ?_
  refine as_24 X (zo_s rfl hW.1) rfl (by omega) d_SM_cache_56 ?_
  have hC4 := hC3.newest he6 hN
  refine z_aload_n X d_SM_cache_57 rfl ?_
  refine gr_SM_83 (hW.c (k := 0) (f := 24) rfl rfl (by decide) rfl) X (zo_s rfl hW.1) d_SM_cache_58 ?_
  refine z_iload_n X d_SM_cache_61 rfl ?_
  refine al_25 X (zo_s rfl hW.1) rfl (by omega) d_SM_cache_62 ?_
  refine z_top (v2 := .int (A 53 0 e)) (congrArg Value.int (hC.1.lp he6).1) ?_
  refine z_aload_n X d_SM_cache_63 rfl ?_
  refine gf_SM_146 X (zo_f hf) d_SM_cache_64 ?_
  refine z_top (v2 := .int v) (congrArg Value.int f2) ?_
  refine z_isub X d_SM_cache_67 ?_
  refine z_istore_n X d_SM_cache_68 (by decide) rfl ?_
  refine z_aload_n X d_SM_cache_69 rfl ?_
  refine gr_SM_92 (hW.c (k := 0) (f := 27) rfl rfl (by decide) rfl) X (zo_s rfl hW.1) d_SM_cache_70 ?_
  refine z_iload_n X d_SM_cache_73 rfl ?_
  refine z_aload_n X d_SM_cache_74 rfl ?_
  refine gr_SM_92 (hW.c (k := 0) (f := 27) rfl rfl (by decide) rfl) X (zo_s rfl hW.1) d_SM_cache_75 ?_
  refine z_iload_n X d_SM_cache_78 rfl ?_
  refine al_28 X (zo_s rfl hW.1) rfl (by omega) d_SM_cache_79 ?_
  refine z_top (v2 := .int (A 56 0 e)) (congrArg Value.int (hC.1.lp he6).2.2.2) ?_
  refine z_iload_n X d_SM_cache_80 rfl ?_
  refine z_iadd X d_SM_cache_81 ?_
  refine z_sipush (v := nI 2000) X d_SM_cache_82 rfl ?_
  refine z_ci (z_rS X cs_SM_277 (c_SM_between l g _ _ (by decide)) ⟨Nat.le_of_ble_eq_true rfl, Nat.le_of_ble_eq_true rfl⟩ rfl rfl (Nat.le_of_ble_eq_true rfl) ⟨Nat.le_of_ble_eq_true rfl, Nat.le_of_ble_eq_true rfl⟩ d_SM_cache_85) (fun r n2 I2 J2 R2 h => ?_)
  obtain ⟨rfl, e⟩ := h
  cases e
  refine as_28 X (zo_s rfl hW.1) rfl (by omega) d_SM_cache_88 ?_
  have hC5 := hC4.put (v := zwi (A 56 0 e + (A 53 0 e - v)) (nI 2000)) (zco.lp (c := g.2.2.2) (k := 28) (k' := 56) (by decide) (by decide) he6 rfl)
  refine z_aload_n X d_SM_cache_89 rfl ?_
  refine gr_SM_86 (hW.c (k := 0) (f := 25) rfl rfl (by decide) rfl) X (zo_s rfl hW.1) d_SM_cache_90 ?_
  refine z_iload_n X d_SM_cache_93 rfl ?_
  refine al_26 X (zo_s rfl hW.1) rfl (by omega) d_SM_cache_94 ?_
  refine z_top (v2 := .int (A 54 0 e)) (congrArg Value.int (hC.1.lp he6).2.1) ?_
  refine z_iload_n X d_SM_cache_95 rfl ?_
  refine z_imul X d_SM_cache_96 ?_
  refine z_aload_n X d_SM_cache_97 rfl ?_
  refine gr_SM_89 (hW.c (k := 0) (f := 26) rfl rfl (by decide) rfl) X (zo_s rfl hW.1) d_SM_cache_98 ?_
  refine z_iload_n X d_SM_cache_101 rfl ?_
  refine al_27 X (zo_s rfl hW.1) rfl (by omega) d_SM_cache_102 ?_
  refine z_top (v2 := .int (A 55 0 e)) (congrArg Value.int (hC.1.lp he6).2.2.1) ?_
  refine z_aload_n X d_SM_cache_103 rfl ?_
  refine gr_SM_92 (hW.c (k := 0) (f := 27) rfl rfl (by decide) rfl) X (zo_s rfl hW.1) d_SM_cache_104 ?_
  refine z_iload_n X d_SM_cache_107 rfl ?_
  refine al_28 X (zo_s rfl hW.1) rfl (by omega) d_SM_cache_108 ?_
  refine z_top (congrArg Value.int zu_s) ?_
  refine z_imul X d_SM_cache_109 ?_
  refine z_iadd X d_SM_cache_110 ?_
  refine z_iconst (v := nI 4) X d_SM_cache_111 rfl ?_
  refine z_ishr X d_SM_cache_112 ?_
  refine z_sipush (v := nI 500) X d_SM_cache_113 rfl ?_
  refine z_ci (z_rS X cs_SM_277 (c_SM_between l g _ _ (by decide)) ⟨Nat.le_of_ble_eq_true rfl, Nat.le_of_ble_eq_true rfl⟩ rfl rfl (Nat.le_of_ble_eq_true rfl) ⟨Nat.le_of_ble_eq_true rfl, Nat.le_of_ble_eq_true rfl⟩ d_SM_cache_116) (fun r n2 I2 J2 R2 h => ?_)
  obtain ⟨rfl, e⟩ := h
  cases e
  have hk5 : zIk I _ := (((((zIk.put (I := I) (k := 23) (i := e) (j := 2) (v := A 51 0 (3 * e + 1)) rfl).tr (zIk.put (k := 23) (i := e) (j := 1) (v := A 51 0 (3 * e)) rfl)).tr (zIk.put (k := 23) (i := e) (j := 0) (v := v) rfl)).tr (zIk.put (k := 24) (i := 0) (j := e) (v := I 24 0 e + nI 1) rfl)).tr (zIk.put (k := 28) (i := 0) (j := e) (v := zwi (A 56 0 e + (A 53 0 e - v)) (nI 2000)) rfl))
  have hW5 := hW.step (Nat.le_refl _) hk5 zRk2.rf
  refine z_istore X d_SM_cache_119 (by decide) rfl ?_
  refine z_aload_n X d_SM_cache_121 rfl ?_
  refine gr_SM_9 (hW.c (k := 0) (f := 3) rfl rfl (by decide) rfl) X (zo_s rfl hW.1) d_SM_cache_122 ?_
  refine z_iconst (v := nI 0) X d_SM_cache_125 rfl ?_
  refine ar_6 X (zo_s rfl hW.1) rfl (by omega) (hW.nd (by omega)) d_SM_cache_126 ?_
  refine gr_SM_221 (hW.up (by omega)).2.1 X (zo_n (by omega) hW.1) d_SM_cache_127 ?_
  refine z_astore X d_SM_cache_130 (by decide) rfl ?_
  refine z_aload X d_SM_cache_132 rfl ?_
  refine gf_SM_149 X (zo_r h6 hW.1) d_SM_cache_134 ?_
  refine z_top (v2 := .int (nI (q 6).length)) (congrArg Value.int (by rw [← hC.2.2.1.len h6]; exact (hC.2.2.1.1 6 h6).2.2.1)) ?_
  refine z_iconst (v := nI 4) X d_SM_cache_137 rfl ?_
  refine z_icmpN_ge (tgt := 157) X d_SM_cache_138 (by decide) (by have := (hC.2.2.2 6 h6).1; omega) (by omega) (fun h138 => ?_) (fun h138 => ?_)
  · exact z_vret X hret (Nat.zero_le _) (Nat.zero_le _) ⟨n, _, R, fl, rfl, Nat.le_refl _, Nat.le_succ _, by unfold zcaQ; rw [if_neg (by omega)]; exact hC5, hk5, zRk2.rf⟩ d_SM_cache_157
  · refine z_aload X d_SM_cache_141 rfl ?_
    refine z_aload_n X d_SM_cache_143 rfl ?_
    refine z_iload_n X d_SM_cache_144 rfl ?_
    refine z_aload_n X d_SM_cache_145 rfl ?_
    refine gf_SM_143 X (zo_f hf) d_SM_cache_146 ?_
    refine z_top (v2 := .int k) (congrArg Value.int f1) ?_
    refine z_iload X d_SM_cache_149 rfl ?_
    refine z_cq (z_rV X cs_SM_270 rfl rfl (zo_s rfl hW.1).1 (zo_s rfl hW.1).2 (c_SM_frame l g hW5 (fun j hj => zo_f (hC.2.2.1.spare j hj)) _ _ _) ⟨Nat.le_of_ble_eq_true rfl, Nat.le_of_ble_eq_true rfl⟩ rfl rfl (Nat.le_of_ble_eq_true rfl) ⟨Nat.le_of_ble_eq_true rfl, Nat.le_of_ble_eq_true rfl⟩ d_SM_cache_151) (fun r n1 I1 J1 R1 h9 => ?_)
    obtain ⟨f9, nx, Ix, Rx, fl1, rfl, e2, e3, e4, e5, e6, e7, e8, e9⟩ := zFr.push hc hC5 h6 (by omega) he h9
    cases e2
    refine z_cv (z_rV X cs_SM_274 rfl rfl (zo_r h6 (Nat.le_trans hW.1 e3)).1 (zo_r h6 (Nat.le_trans hW.1 e3)).2 (c_Row_add l g (zo_r h6 (Nat.le_trans hW.1 e3)) (zo_f e7) (fun j hj => zo_f (e8 j hj))) ⟨Nat.le_of_ble_eq_true rfl, Nat.le_of_ble_eq_true rfl⟩ rfl rfl (Nat.le_of_ble_eq_true rfl) ⟨Nat.le_of_ble_eq_true rfl, Nat.le_of_ble_eq_true rfl⟩ d_SM_cache_154) (fun n2 I2 J2 R2 h => ?_)
    cases h
    exact z_vret X hret (Nat.le_of_ble_eq_true rfl) (Nat.le_of_ble_eq_true rfl) ⟨n1, _, _, fl1, rfl, e3, e4, by unfold zcaQ; rw [if_pos (by omega)]; exact e9, (hk5.tr e5.ik).tr zIf.sz.ik, e6.tr zRk2.add⟩ d_SM_cache_157

