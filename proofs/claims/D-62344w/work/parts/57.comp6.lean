/-! THE COMPONENT: Link.go, for both kinds -/
theorem up_g0 {g : zG} {n N : Nat} {I : zI} {J : zJ} {R : zR} {A : zI} {q : zq} {a b e : Nat} {k v w : Int32} {tq : List (Nat × Int32 × Int32)} {hb cb : Bool} {u : zS} (h7 : ¬ A 32 0 a = 0) (hq : q a = (e, k, v) :: tq) (hh : zhears (zsend A) a b hb = false) (hs : zS0 g n N (zu I 0 0 8 w) J R (zupE a b false (zsend A) q).1 (zupE a b false (zsend A) q).2 u) : zSt g n N I J R (zup a b hb cb A q).1 (zup a b hb cb A q).2 u := by
  have e1 : zup a b hb cb A q = zupE a b false (zsend A) q := by
    unfold zup
    rw [if_neg h7, hq]
    dsimp only
    rw [if_neg (by rw [hh]; decide)]
  rw [e1]
  obtain ⟨I1, R1, fl1, a1, a2, a3, a4⟩ := hs
  exact ⟨n, I1, R1, fl1, a1, Nat.le_refl _, Nat.le_succ _, a2.N1, (zIk.put rfl).tr a3, a4⟩
theorem up_g1 {g : zG} {n n1 N : Nat} {I I1 : zI} {J : zJ} {R R1 : zR} {A : zI} {q : zq} {a b e : Nat} {k v w : Int32} {tq : List (Nat × Int32 × Int32)} {hb cb ok : Bool} {u : zS} (h7 : ¬ A 32 0 a = 0) (hq : q a = (e, k, v) :: tq) (hh : zhears (zsend A) a b hb = true) (hok : ((zupR b e k v (zsend A) q).2 && cb) = ok) (hn : n ≤ n1) (hn1 : n1 ≤ n + 1) (hI : zIk (zu I 0 0 8 w) I1) (hR : zRk2 R R1) (hs : zS0 g n1 (N + 1) I1 J R1 (zupE a b ok (zupR b e k v (zsend A) q).1.1 (zupR b e k v (zsend A) q).1.2).1 (zupE a b ok (zupR b e k v (zsend A) q).1.1 (zupR b e k v (zsend A) q).1.2).2 u) : zSt g n N I J R (zup a b hb cb A q).1 (zup a b hb cb A q).2 u := by
  have e1 : zup a b hb cb A q = zupE a b ok (zupR b e k v (zsend A) q).1.1 (zupR b e k v (zsend A) q).1.2 := by
    unfold zup
    rw [if_neg h7, hq]
    dsimp only
    rw [if_pos hh, hok]
  rw [e1]
  obtain ⟨I2, R2, fl2, a1, a2, a3, a4⟩ := hs
  exact ⟨n1, I2, R2, fl2, a1, hn, hn1, a2, ((zIk.put rfl).tr hI).tr a3, hR.tr a4⟩
theorem up_row {A : zI} {q : zq} {a b e : Nat} {k v : Int32} (hab : a ≠ b) (ha : a < 6) : (zupR b e k v A q).1.2 a = q a := by
  unfold zupR
  (repeat' split)
  · rfl
  · show zcaQ _ q e k v a = q a
    unfold zcaQ
    split
    · exact qu_n (by omega)
    · rfl
  · exact qu_n hab
  · rfl
theorem c_Link_go_Up (l : Launch) (g : zG) {S h n N : Nat} {I : zI} {J : zJ} {R : zR} {fl : zfl} {A : zI} {q : zq} (hW : zW g S h n I R) (hC : zRC g.2.2.2 n N I R fl A q) (hN : N < 2 ^ 30) (hP : zPr g.2.2.2 R A) {x a b ch t : Nat} (hx : 6 ≤ x ∧ x < 16) (ha : a < g.2.2.2) (hb : b < g.2.2.2) (hab : a ≠ b) (h0 : R 4 x 0 = some a) (h3 : R 4 x 3 = some b) (hch : I 4 x 1 = nI ch) (hch4 : ch < 4) (ht : t < 2 ^ 30) (h7t : I 0 0 7 = nI t) : zMet l g y_Link_go b_Link_go 4 none 5 104 1 4 (zPc g [.ref (zad g 4 x), .ref (zad g 0 0)] n I J R) (zQv g (zSt g n N I J R (zup a b (zbit (J 9 0 ((ch + t) % h)) t) (zbit (J 10 0 ((ch + t) % h)) t) A q).1 (zup a b (zbit (J 9 0 ((ch + t) % h)) t) (zbit (J 10 0 ((ch + t) % h)) t) A q).2)) := by
  have hc := hW.2.1.2
  have hr : zrv g.2.2.2 a := Or.inl ha
  have hida : I 1 a 0 = nI a := hW.2.2.2.2.2.2.2.2.1 a ha
  have hidb : I 1 b 0 = nI b := hW.2.2.2.2.2.2.2.2.1 b hb
  have hdo : I 1 a 3 - I 1 b 3 = A 33 0 a - A 33 0 b := by rw [(hC.1.nd ha).2.2.1, (hC.1.nd hb).2.2.1]
  have hC1 := hC.put (v := A 29 0 4 + nI 1) (zco.t8 (c := g.2.2.2))
  have hC1 : zRC g.2.2.2 n N (zu I 0 0 8 (A 29 0 4 + nI 1)) R fl (zsend A) q := hC1
  have hW1 : zW g S h n (zu I 0 0 8 (A 29 0 4 + nI 1)) R := hW.upI rfl
  refine zMet.of (by decide) [some (.ref (zad g 4 x)), some (.ref (zad g 0 0)), none, none] rfl (Nat.le_of_ble_eq_true rfl) ?_
  intro pP eE sS mM aA bB mE cC X hret hnm
  have X : zC pP sS mM aA mE cC b_Link_go "SlottedMesh$Link" 4 g := X
  have hret : mE.sig.returnType = none := hret
  refine z_aload_n X d_Link_go_0 rfl ?_
  refine gr_Link_7 h0 X (zo_c hW.2.1.2 (by omega) hW.1) (by omega) d_Link_go_1 ?_
  refine gf_Link_13 X (zo_n (by omega) hW.1) d_Link_go_4 ?_
  refine z_top (congrArg Value.int ((hC.1.nd ha).2.1)) ?_
  refine z_if_eq (tgt := 18) X d_Link_go_7 (by decide) (fun h7 => ?_) (fun h7 => ?_)
  · refine z_null X d_Link_go_18 ?_
    refine z_astore_nN X d_Link_go_19 (by decide) rfl ?_
    refine z_aload_nN X d_Link_go_20 rfl ?_
    refine z_ifnonnullN (tgt := 25) X d_Link_go_21 (by decide) ?_
    exact z_vret X hret (Nat.zero_le _) (Nat.zero_le _) ⟨n, I, R, fl, rfl, Nat.le_refl _, Nat.le_succ _, by unfold zup; rw [if_pos h7]; exact hC.N1, zIk.rf, zRk2.rf⟩ d_Link_go_24
  · rcases hC.2.2.1.hd hr with ⟨e0, -, e1⟩ | ⟨f, tt, e, k, v, tq, e1, e2, e3, e4, f0, f1, f2⟩
    · refine z_aload_n X d_Link_go_10 rfl ?_
      refine z_aload_n X d_Link_go_11 rfl ?_
      refine z_cq (z_rU X cs_Link_19_Up rfl (zsh4u hx.1 hx.2) (zo_c hW.2.1.2 (by omega) hW.1).1 (zo_c hW.2.1.2 (by omega) hW.1).2 (c_Up_due l g hW hx ha h0) ⟨Nat.le_of_ble_eq_true rfl, Nat.le_of_ble_eq_true rfl⟩ rfl rfl (Nat.le_of_ble_eq_true rfl) ⟨Nat.le_of_ble_eq_true rfl, Nat.le_of_ble_eq_true rfl⟩ d_Link_go_12) (fun r n2 I2 J2 R2 h => ?_)
      obtain ⟨rfl, e⟩ := h
      cases e
      refine z_top (v2 := .null) (by rw [e1]; rfl) ?_
      refine z_goto (tgt := 19) X d_Link_go_15 (by decide) ?_
      refine z_astore_nN X d_Link_go_19 (by decide) rfl ?_
      refine z_aload_nN X d_Link_go_20 rfl ?_
      refine z_ifnonnullN (tgt := 25) X d_Link_go_21 (by decide) ?_
      exact z_vret X hret (Nat.zero_le _) (Nat.zero_le _) ⟨n, I, R, fl, rfl, Nat.le_refl _, Nat.le_succ _, by unfold zup; rw [if_neg h7, e0]; exact hC.N1, zIk.rf, zRk2.rf⟩ d_Link_go_24
    · have he := (hC.2.2.2 a hr).2 _ (by rw [e1]; exact List.mem_cons_self)
      have he : 1 ≤ e ∧ e < g.2.2.2 := he
      refine z_aload_n X d_Link_go_10 rfl ?_
      refine z_aload_n X d_Link_go_11 rfl ?_
      refine z_cq (z_rU X cs_Link_19_Up rfl (zsh4u hx.1 hx.2) (zo_c hW.2.1.2 (by omega) hW.1).1 (zo_c hW.2.1.2 (by omega) hW.1).2 (c_Up_due l g hW hx ha h0) ⟨Nat.le_of_ble_eq_true rfl, Nat.le_of_ble_eq_true rfl⟩ rfl rfl (Nat.le_of_ble_eq_true rfl) ⟨Nat.le_of_ble_eq_true rfl, Nat.le_of_ble_eq_true rfl⟩ d_Link_go_12) (fun r n2 I2 J2 R2 h => ?_)
      obtain ⟨rfl, e⟩ := h
      cases e
      refine z_top (v2 := .ref (zad g 3 f)) (by rw [e3]; rfl) ?_
      refine z_goto (tgt := 19) X d_Link_go_15 (by decide) ?_
      refine z_astore_n X d_Link_go_19 (by decide) rfl ?_
      refine z_aload_n X d_Link_go_20 rfl ?_
      refine z_ifnonnull (tgt := 25) X d_Link_go_21 (by decide) ?_
      refine z_aload_n X d_Link_go_25 rfl ?_
      refine z_dup X d_Link_go_26 rfl ?_
      refine gf_Link_23 X (zo_s rfl hW.1) d_Link_go_27 ?_
      refine z_top (congrArg Value.int (hC.1.tm.2)) ?_
      refine z_iconst (v := nI 1) X d_Link_go_30 rfl ?_
      refine z_iadd X d_Link_go_31 ?_
      refine pf_Link_23 X (zo_s rfl hW.1) d_Link_go_32 ?_
      refine z_aload_n X d_Link_go_35 rfl ?_
      refine gr_Link_29 h3 X (zo_c hW.2.1.2 (by omega) hW.1) (by omega) d_Link_go_36 ?_
      refine gf_Link_13 X (zo_n (by omega) hW.1) d_Link_go_39 ?_
      refine z_top (v2 := .int (A 32 0 b)) (congrArg Value.int (hC.1.nd hb).2.1) ?_
      refine z_if_eq (tgt := 101) X d_Link_go_42 (by decide) (fun h42 => ?_) (fun h42 => ?_)
      · refine z_iconst (v := nI 0) X d_Link_go_101 rfl ?_
        refine z_istore_n X d_Link_go_102 (by decide) rfl ?_
        refine z_iload_n X d_Link_go_103 rfl ?_
        refine z_if_eq (tgt := 139) X d_Link_go_104 (by decide) (fun _ => ?_) (fun hq => absurd hq (by decide))
        refine z_aload_n X d_Link_go_139 rfl ?_
        refine z_aload_n X d_Link_go_140 rfl ?_
        refine z_cv (z_rU X cs_Link_65_Up rfl (zsh4u hx.1 hx.2) (zo_c hW.2.1.2 (by omega) hW.1).1 (zo_c hW.2.1.2 (by omega) hW.1).2 (c_Up_failed l g hW1 hC1 b hx ha h0) ⟨Nat.le_of_ble_eq_true rfl, Nat.le_of_ble_eq_true rfl⟩ rfl rfl (Nat.le_of_ble_eq_true rfl) ⟨Nat.le_of_ble_eq_true rfl, Nat.le_of_ble_eq_true rfl⟩ d_Link_go_141) (fun n9 I9 J9 R9 h9 => ?_)
        exact z_vret X hret (Nat.zero_le _) (Nat.zero_le _) (up_g0 h7 e1 (by simp [zhears, show zsend A 32 0 b = 0 from h42]) h9) d_Link_go_144
      · refine z_aload_n X d_Link_go_45 rfl ?_
        refine gr_Link_32 (hW.c (k := 0) (f := 4) rfl rfl (by decide) rfl) X (zo_s rfl hW.1) d_Link_go_46 ?_
        refine z_aload_n X d_Link_go_49 rfl ?_
        refine gr_Link_7 h0 X (zo_c hW.2.1.2 (by omega) hW.1) (by omega) d_Link_go_50 ?_
        refine gf_Link_36 X (zo_n (by omega) hW.1) d_Link_go_53 ?_
        refine z_top (v2 := .int (nI a)) (congrArg Value.int hida) ?_
        refine ar_7 X (zo_s rfl hW.1) rfl (by omega) (hW.nr (by omega)) d_Link_go_56 ?_
        refine z_aload_n X d_Link_go_57 rfl ?_
        refine gr_Link_29 h3 X (zo_c hW.2.1.2 (by omega) hW.1) (by omega) d_Link_go_58 ?_
        refine gf_Link_36 X (zo_n (by omega) hW.1) d_Link_go_61 ?_
        refine z_top (v2 := .int (nI b)) (congrArg Value.int hidb) ?_
        refine al_8 X (zo_z (by omega) hW.1) rfl (by omega) d_Link_go_64 ?_
        refine z_top (v2 := .int (A 30 0 (6 * a + b))) (congrArg Value.int (hC.1.nr (by omega) (by omega))) ?_
        refine z_if_eq (tgt := 101) X d_Link_go_65 (by decide) (fun h65 => ?_) (fun h65 => ?_)
        · refine z_iconst (v := nI 0) X d_Link_go_101 rfl ?_
          refine z_istore_n X d_Link_go_102 (by decide) rfl ?_
          refine z_iload_n X d_Link_go_103 rfl ?_
          refine z_if_eq (tgt := 139) X d_Link_go_104 (by decide) (fun _ => ?_) (fun hq => absurd hq (by decide))
          refine z_aload_n X d_Link_go_139 rfl ?_
          refine z_aload_n X d_Link_go_140 rfl ?_
          refine z_cv (z_rU X cs_Link_65_Up rfl (zsh4u hx.1 hx.2) (zo_c hW.2.1.2 (by omega) hW.1).1 (zo_c hW.2.1.2 (by omega) hW.1).2 (c_Up_failed l g hW1 hC1 b hx ha h0) ⟨Nat.le_of_ble_eq_true rfl, Nat.le_of_ble_eq_true rfl⟩ rfl rfl (Nat.le_of_ble_eq_true rfl) ⟨Nat.le_of_ble_eq_true rfl, Nat.le_of_ble_eq_true rfl⟩ d_Link_go_141) (fun n9 I9 J9 R9 h9 => ?_)
          exact z_vret X hret (Nat.zero_le _) (Nat.zero_le _) (up_g0 h7 e1 (by simp [zhears, show zsend A 30 0 (6 * a + b) = 0 from h65]) h9) d_Link_go_144
        · refine z_aload_n X d_Link_go_68 rfl ?_
          refine gr_Link_7 h0 X (zo_c hW.2.1.2 (by omega) hW.1) (by omega) d_Link_go_69 ?_
          refine z_aload_n X d_Link_go_72 rfl ?_
          refine gr_Link_29 h3 X (zo_c hW.2.1.2 (by omega) hW.1) (by omega) d_Link_go_73 ?_
          refine z_ci (z_rV X cs_Link_39 rfl rfl (zo_n (by omega) hW.1).1 (zo_n (by omega) hW.1).2 (c_Node_inStep l g hW1 a b ha hb) ⟨Nat.le_of_ble_eq_true rfl, Nat.le_of_ble_eq_true rfl⟩ rfl rfl (Nat.le_of_ble_eq_true rfl) ⟨Nat.le_of_ble_eq_true rfl, Nat.le_of_ble_eq_true rfl⟩ d_Link_go_76) (fun r n2 I2 J2 R2 h => ?_)
          obtain ⟨rfl, e⟩ := h
          cases e
          refine z_top (v2 := .int (if zcl1 (A 33 0 a - A 33 0 b) = true then nI 1 else nI 0)) (congrArg (fun z => Value.int (if zcl1 z = true then nI 1 else nI 0)) hdo) ?_
          refine z_if_eq (tgt := 101) X d_Link_go_79 (by decide) (fun h79 => ?_) (fun h79 => ?_)
          · refine z_iconst (v := nI 0) X d_Link_go_101 rfl ?_
            refine z_istore_n X d_Link_go_102 (by decide) rfl ?_
            refine z_iload_n X d_Link_go_103 rfl ?_
            refine z_if_eq (tgt := 139) X d_Link_go_104 (by decide) (fun _ => ?_) (fun hq => absurd hq (by decide))
            refine z_aload_n X d_Link_go_139 rfl ?_
            refine z_aload_n X d_Link_go_140 rfl ?_
            refine z_cv (z_rU X cs_Link_65_Up rfl (zsh4u hx.1 hx.2) (zo_c hW.2.1.2 (by omega) hW.1).1 (zo_c hW.2.1.2 (by omega) hW.1).2 (c_Up_failed l g hW1 hC1 b hx ha h0) ⟨Nat.le_of_ble_eq_true rfl, Nat.le_of_ble_eq_true rfl⟩ rfl rfl (Nat.le_of_ble_eq_true rfl) ⟨Nat.le_of_ble_eq_true rfl, Nat.le_of_ble_eq_true rfl⟩ d_Link_go_141) (fun n9 I9 J9 R9 h9 => ?_)
            exact z_vret X hret (Nat.zero_le _) (Nat.zero_le _) (up_g0 h7 e1 (by simp [zhears, show zcl1 (zsend A 33 0 a - zsend A 33 0 b) = false from zif0 h79]) h9) d_Link_go_144
          · refine z_aload_n X d_Link_go_82 rfl ?_
            refine z_aload_n X d_Link_go_83 rfl ?_
            refine gr_Link_43 (hW.c (k := 0) (f := 5) rfl rfl (by decide) rfl) X (zo_s rfl hW.1) d_Link_go_84 ?_
            refine z_aload_n X d_Link_go_87 rfl ?_
            refine gf_Link_47 X (zo_c hW.2.1.2 (by omega) hW.1) (by omega) d_Link_go_88 ?_
            refine z_top (v2 := .int (nI ch)) (congrArg Value.int hch) ?_
            refine z_ci (z_rN X cs_Link_50 rfl rfl (zo_s rfl hW.1).1 (zo_s rfl hW.1).2 (c_SM_good9 l g hW1 ch t hch4 ht (by exact h7t)) ⟨Nat.le_of_ble_eq_true rfl, Nat.le_of_ble_eq_true rfl⟩ rfl rfl (Nat.le_of_ble_eq_true rfl) ⟨Nat.le_of_ble_eq_true rfl, Nat.le_of_ble_eq_true rfl⟩ d_Link_go_91) (fun r n2 I2 J2 R2 h => ?_)
            obtain ⟨rfl, e⟩ := h
            cases e
            refine z_if_eq (tgt := 101) X d_Link_go_94 (by decide) (fun h94 => ?_) (fun h94 => ?_)
            · refine z_iconst (v := nI 0) X d_Link_go_101 rfl ?_
              refine z_istore_n X d_Link_go_102 (by decide) rfl ?_
              refine z_iload_n X d_Link_go_103 rfl ?_
              refine z_if_eq (tgt := 139) X d_Link_go_104 (by decide) (fun _ => ?_) (fun hq => absurd hq (by decide))
              refine z_aload_n X d_Link_go_139 rfl ?_
              refine z_aload_n X d_Link_go_140 rfl ?_
              refine z_cv (z_rU X cs_Link_65_Up rfl (zsh4u hx.1 hx.2) (zo_c hW.2.1.2 (by omega) hW.1).1 (zo_c hW.2.1.2 (by omega) hW.1).2 (c_Up_failed l g hW1 hC1 b hx ha h0) ⟨Nat.le_of_ble_eq_true rfl, Nat.le_of_ble_eq_true rfl⟩ rfl rfl (Nat.le_of_ble_eq_true rfl) ⟨Nat.le_of_ble_eq_true rfl, Nat.le_of_ble_eq_true rfl⟩ d_Link_go_141) (fun n9 I9 J9 R9 h9 => ?_)
              exact z_vret X hret (Nat.zero_le _) (Nat.zero_le _) (up_g0 h7 e1 (by simp [zhears, zif0 h94]) h9) d_Link_go_144
            · refine z_iconst (v := nI 1) X d_Link_go_97 rfl ?_
              refine z_goto (tgt := 102) X d_Link_go_98 (by decide) ?_
              refine z_istore_n X d_Link_go_102 (by decide) rfl ?_
              refine z_iload_n X d_Link_go_103 rfl ?_
              refine z_if_eq (tgt := 139) X d_Link_go_104 (by decide) (fun hq => absurd hq (by decide)) (fun _ => ?_)
              refine z_aload_n X d_Link_go_107 rfl ?_
              refine z_aload_n X d_Link_go_108 rfl ?_
              refine z_aload_n X d_Link_go_109 rfl ?_
              refine z_ci (z_rU X cs_Link_54_Up rfl (zsh4u hx.1 hx.2) (zo_c hW.2.1.2 (by omega) hW.1).1 (zo_c hW.2.1.2 (by omega) hW.1).2 (c_Up_arrives l g hW1 hC1 hN hx hb h3 he e4 (by exact f0) (by exact f1) (by exact f2)) ⟨Nat.le_of_ble_eq_true rfl, Nat.le_of_ble_eq_true rfl⟩ rfl rfl (Nat.le_of_ble_eq_true rfl) ⟨Nat.le_of_ble_eq_true rfl, Nat.le_of_ble_eq_true rfl⟩ d_Link_go_110) (fun r9 n9 I9 J9 R9 h9 => ?_)
              obtain ⟨rfl, nx, Ix, Rx, fl9, ex, b3, b4, hC9, b5, b6⟩ := h9
              cases ex
              have hW := hW1.step b3 b5 b6
              have hh : zhears (zsend A) a b (zbit (J 9 0 ((ch + t) % h)) t) = true := by have u1 : ¬ zsend A 32 0 b = 0 := h42; have u2 : ¬ zsend A 30 0 (6 * a + b) = 0 := h65; have u3 : zcl1 (zsend A 33 0 a - zsend A 33 0 b) = true := zif1 h79; simp [zhears, u1, u2, u3, zif1 h94]
              have h0 : R9 4 x 0 = some a := (b6.k rfl).trans h0
              have h3 : R9 4 x 3 = some b := (b6.k rfl).trans h3
              have hch : I9 4 x 1 = nI ch := (b5 4 x 1 rfl).trans hch
              have h7t : I9 0 0 7 = nI t := (b5 0 0 7 rfl).trans h7t
              have hq9 : (zupR b e k v (zsend A) q).1.2 a ≠ [] := by rw [up_row hab (by omega), e1]; exact List.cons_ne_nil _ _
              refine z_if_eq (tgt := 139) X d_Link_go_113 (by decide) (fun h113 => ?_) (fun h113 => ?_)
              · refine z_aload_n X d_Link_go_139 rfl ?_
                refine z_aload_n X d_Link_go_140 rfl ?_
                refine z_cv (z_rU X cs_Link_65_Up rfl (zsh4u hx.1 hx.2) (zo_c hW.2.1.2 (by omega) hW.1).1 (zo_c hW.2.1.2 (by omega) hW.1).2 (c_Up_failed l g hW hC9 b hx ha h0) ⟨Nat.le_of_ble_eq_true rfl, Nat.le_of_ble_eq_true rfl⟩ rfl rfl (Nat.le_of_ble_eq_true rfl) ⟨Nat.le_of_ble_eq_true rfl, Nat.le_of_ble_eq_true rfl⟩ d_Link_go_141) (fun n8 I8 J8 R8 h8 => ?_)
                exact z_vret X hret (Nat.le_of_ble_eq_true rfl) (Nat.le_of_ble_eq_true rfl) (up_g1 h7 e1  hh (by rw [zif0 h113]; rfl) b3 b4 b5 b6 h8) d_Link_go_144
              · refine z_aload_n X d_Link_go_116 rfl ?_
                refine z_aload_n X d_Link_go_117 rfl ?_
                refine gr_Link_58 (hW.c (k := 0) (f := 6) rfl rfl (by decide) rfl) X (zo_s rfl hW.1) d_Link_go_118 ?_
                refine z_aload_n X d_Link_go_121 rfl ?_
                refine gf_Link_47 X (zo_c hW.2.1.2 (by omega) hW.1) (by omega) d_Link_go_122 ?_
                refine z_top (v2 := .int (nI ch)) (congrArg Value.int hch) ?_
                refine z_ci (z_rN X cs_Link_50 rfl rfl (zo_s rfl hW.1).1 (zo_s rfl hW.1).2 (c_SM_good10 l g hW ch t hch4 ht h7t) ⟨Nat.le_of_ble_eq_true rfl, Nat.le_of_ble_eq_true rfl⟩ rfl rfl (Nat.le_of_ble_eq_true rfl) ⟨Nat.le_of_ble_eq_true rfl, Nat.le_of_ble_eq_true rfl⟩ d_Link_go_125) (fun r n2 I2 J2 R2 h => ?_)
                obtain ⟨rfl, e⟩ := h
                cases e
                refine z_if_eq (tgt := 139) X d_Link_go_128 (by decide) (fun h128 => ?_) (fun h128 => ?_)
                · refine z_aload_n X d_Link_go_139 rfl ?_
                  refine z_aload_n X d_Link_go_140 rfl ?_
                  refine z_cv (z_rU X cs_Link_65_Up rfl (zsh4u hx.1 hx.2) (zo_c hW.2.1.2 (by omega) hW.1).1 (zo_c hW.2.1.2 (by omega) hW.1).2 (c_Up_failed l g hW hC9 b hx ha h0) ⟨Nat.le_of_ble_eq_true rfl, Nat.le_of_ble_eq_true rfl⟩ rfl rfl (Nat.le_of_ble_eq_true rfl) ⟨Nat.le_of_ble_eq_true rfl, Nat.le_of_ble_eq_true rfl⟩ d_Link_go_141) (fun n8 I8 J8 R8 h8 => ?_)
                  exact z_vret X hret (Nat.le_of_ble_eq_true rfl) (Nat.le_of_ble_eq_true rfl) (up_g1 h7 e1  hh (by rw [zif0 h128, Bool.and_false]) b3 b4 b5 b6 h8) d_Link_go_144
                · refine z_aload_n X d_Link_go_131 rfl ?_
                  refine z_aload_n X d_Link_go_132 rfl ?_
                  refine z_cv (z_rU X cs_Link_61_Up rfl (zsh4u hx.1 hx.2) (zo_c hW.2.1.2 (by omega) hW.1).1 (zo_c hW.2.1.2 (by omega) hW.1).2 (c_Up_done l g hW hC9 (fun v hv => by rw [zupR_keep (k := 38) rfl, b6.k (k := 1) rfl]; exact hP v hv) hx ha hb h0 h3 hq9) ⟨Nat.le_of_ble_eq_true rfl, Nat.le_of_ble_eq_true rfl⟩ rfl rfl (Nat.le_of_ble_eq_true rfl) ⟨Nat.le_of_ble_eq_true rfl, Nat.le_of_ble_eq_true rfl⟩ d_Link_go_133) (fun n8 I8 J8 R8 h8 => ?_)
                  refine z_goto (tgt := 144) X d_Link_go_136 (by decide) ?_
                  exact z_vret X hret (Nat.le_of_ble_eq_true rfl) (Nat.le_of_ble_eq_true rfl) (up_g1 h7 e1  hh (by rw [zif1 h113, zif1 h128]; rfl) b3 b4 b5 b6 h8) d_Link_go_144
theorem dn_g0 {g : zG} {n N : Nat} {I : zI} {J : zJ} {R : zR} {A : zI} {q : zq} {a b e : Nat} {k v w : Int32} {tq : List (Nat × Int32 × Int32)} {hb cb : Bool} {pf : Nat → Nat} {u : zS} (h7 : ¬ A 32 0 a = 0) (hq : q (6 + a) = (e, k, v) :: tq) (hbl : zbl pf b 6 e = b) (hh : zhears (zsend A) a b hb = false) (hs : zS0 g n N (zu I 0 0 8 w) J R (zdnE a false (zsend A) q).1 (zdnE a false (zsend A) q).2 u) : zSt g n N I J R (zdow pf a b hb cb A q).1 (zdow pf a b hb cb A q).2 u := by
  have e1 : zdow pf a b hb cb A q = zdnE a false (zsend A) q := by
    unfold zdow
    rw [if_neg h7, hq]
    dsimp only
    rw [if_pos hbl]
    rw [if_neg (by rw [hh]; decide)]
  rw [e1]
  obtain ⟨I1, R1, fl1, a1, a2, a3, a4⟩ := hs
  exact ⟨n, I1, R1, fl1, a1, Nat.le_refl _, Nat.le_succ _, a2.N1, (zIk.put rfl).tr a3, a4⟩
theorem dn_g1 {g : zG} {n n1 N : Nat} {I I1 : zI} {J : zJ} {R R1 : zR} {A : zI} {q : zq} {a b e : Nat} {k v w : Int32} {tq : List (Nat × Int32 × Int32)} {hb cb ok : Bool} {pf : Nat → Nat} {u : zS} (h7 : ¬ A 32 0 a = 0) (hq : q (6 + a) = (e, k, v) :: tq) (hbl : zbl pf b 6 e = b) (hh : zhears (zsend A) a b hb = true) (hok : ((zdnR a b e k v (zsend A) q).2 && cb) = ok) (hn : n ≤ n1) (hn1 : n1 ≤ n + 1) (hI : zIk (zu I 0 0 8 w) I1) (hR : zRk2 R R1) (hs : zS0 g n1 (N + 1) I1 J R1 (zdnE a ok (zdnR a b e k v (zsend A) q).1.1 (zdnR a b e k v (zsend A) q).1.2).1 (zdnE a ok (zdnR a b e k v (zsend A) q).1.1 (zdnR a b e k v (zsend A) q).1.2).2 u) : zSt g n N I J R (zdow pf a b hb cb A q).1 (zdow pf a b hb cb A q).2 u := by
  have e1 : zdow pf a b hb cb A q = zdnE a ok (zdnR a b e k v (zsend A) q).1.1 (zdnR a b e k v (zsend A) q).1.2 := by
    unfold zdow
    rw [if_neg h7, hq]
    dsimp only
    rw [if_pos hbl]
    rw [if_pos hh, hok]
  rw [e1]
  obtain ⟨I2, R2, fl2, a1, a2, a3, a4⟩ := hs
  exact ⟨n1, I2, R2, fl2, a1, hn, hn1, a2, ((zIk.put rfl).tr hI).tr a3, hR.tr a4⟩
theorem dn_row {A : zI} {q : zq} {a b e : Nat} {k v : Int32} (hab : a ≠ b) (ha : a < 6) : (zdnR a b e k v A q).1.2 (6 + a) = q (6 + a) := by
  unfold zdnR
  (repeat' split)
  · rfl
  · rfl
  · exact qu_n (by omega)
  · rfl
theorem c_Link_go_Down (l : Launch) (g : zG) {S h n N : Nat} {I : zI} {J : zJ} {R : zR} {fl : zfl} {A : zI} {q : zq} (hW : zW g S h n I R) (hC : zRC g.2.2.2 n N I R fl A q) (hN : N < 2 ^ 30) {pf rk : Nat → Nat} (hn0 : R 1 0 14 = none) (hp : ∀ k, 0 < k → k < g.2.2.2 → pf k < g.2.2.2 ∧ rk (pf k) < rk k ∧ R 1 k 14 = some (pf k)) {x a b ch t : Nat} (hx : 16 ≤ x ∧ x < 21) (ha : a < g.2.2.2) (hb : b < g.2.2.2) (hab : a ≠ b) (hb0 : 0 < b) (hpb : pf b = a) (h0 : R 4 x 0 = some a) (h3 : R 4 x 3 = some b) (hch : I 4 x 1 = nI ch) (hch4 : ch < 4) (ht : t < 2 ^ 30) (h7t : I 0 0 7 = nI t) : zMet l g y_Link_go b_Link_go 4 none 5 104 1 4 (zPc g [.ref (zad g 4 x), .ref (zad g 0 0)] n I J R) (zQv g (zSt g n N I J R (zdow pf a b (zbit (J 9 0 ((ch + t) % h)) t) (zbit (J 10 0 ((ch + t) % h)) t) A q).1 (zdow pf a b (zbit (J 9 0 ((ch + t) % h)) t) (zbit (J 10 0 ((ch + t) % h)) t) A q).2)) := by
  have hc := hW.2.1.2
  have hr : zrv g.2.2.2 (6 + a) := Or.inr ⟨by omega, by omega⟩
  have hida : I 1 a 0 = nI a := hW.2.2.2.2.2.2.2.2.1 a ha
  have hidb : I 1 b 0 = nI b := hW.2.2.2.2.2.2.2.2.1 b hb
  have hdo : I 1 a 3 - I 1 b 3 = A 33 0 a - A 33 0 b := by rw [(hC.1.nd ha).2.2.1, (hC.1.nd hb).2.2.1]
  have hC1 := hC.put (v := A 29 0 4 + nI 1) (zco.t8 (c := g.2.2.2))
  have hC1 : zRC g.2.2.2 n N (zu I 0 0 8 (A 29 0 4 + nI 1)) R fl (zsend A) q := hC1
  have hW1 : zW g S h n (zu I 0 0 8 (A 29 0 4 + nI 1)) R := hW.upI rfl
  refine zMet.of (by decide) [some (.ref (zad g 4 x)), some (.ref (zad g 0 0)), none, none] rfl (Nat.le_of_ble_eq_true rfl) ?_
  intro pP eE sS mM aA bB mE cC X hret hnm
  have X : zC pP sS mM aA mE cC b_Link_go "SlottedMesh$Link" 4 g := X
  have hret : mE.sig.returnType = none := hret
  refine z_aload_n X d_Link_go_0 rfl ?_
  refine gr_Link_7 h0 X (zo_c hW.2.1.2 (by omega) hW.1) (by omega) d_Link_go_1 ?_
  refine gf_Link_13 X (zo_n (by omega) hW.1) d_Link_go_4 ?_
  refine z_top (congrArg Value.int ((hC.1.nd ha).2.1)) ?_
  refine z_if_eq (tgt := 18) X d_Link_go_7 (by decide) (fun h7 => ?_) (fun h7 => ?_)
  · refine z_null X d_Link_go_18 ?_
    refine z_astore_nN X d_Link_go_19 (by decide) rfl ?_
    refine z_aload_nN X d_Link_go_20 rfl ?_
    refine z_ifnonnullN (tgt := 25) X d_Link_go_21 (by decide) ?_
    exact z_vret X hret (Nat.zero_le _) (Nat.zero_le _) ⟨n, I, R, fl, rfl, Nat.le_refl _, Nat.le_succ _, by unfold zdow; rw [if_pos h7]; exact hC.N1, zIk.rf, zRk2.rf⟩ d_Link_go_24
  · rcases hC.2.2.1.hd hr with ⟨e0, -, e1⟩ | ⟨f, tt, e, k, v, tq, e1, e2, e3, e4, f0, f1, f2⟩
    · refine z_aload_n X d_Link_go_10 rfl ?_
      refine z_aload_n X d_Link_go_11 rfl ?_
      refine z_cq (z_rU X cs_Link_19_Down rfl (zsh4d hx.1) (zo_c hW.2.1.2 (by omega) hW.1).1 (zo_c hW.2.1.2 (by omega) hW.1).2 (c_Down_due l g hW hC hn0 hp hx ha hb0 hb hpb h0 h3) ⟨Nat.le_of_ble_eq_true rfl, Nat.le_of_ble_eq_true rfl⟩ rfl rfl (Nat.le_of_ble_eq_true rfl) ⟨Nat.le_of_ble_eq_true rfl, Nat.le_of_ble_eq_true rfl⟩ d_Link_go_12) (fun r n2 I2 J2 R2 h => ?_)
      obtain ⟨rfl, e⟩ := h
      cases e
      refine z_top (v2 := .null) (by rw [e0]; rfl) ?_
      refine z_goto (tgt := 19) X d_Link_go_15 (by decide) ?_
      refine z_astore_nN X d_Link_go_19 (by decide) rfl ?_
      refine z_aload_nN X d_Link_go_20 rfl ?_
      refine z_ifnonnullN (tgt := 25) X d_Link_go_21 (by decide) ?_
      exact z_vret X hret (Nat.zero_le _) (Nat.zero_le _) ⟨n, I, R, fl, rfl, Nat.le_refl _, Nat.le_succ _, by unfold zdow; rw [if_neg h7, e0]; exact hC.N1, zIk.rf, zRk2.rf⟩ d_Link_go_24
    · have he := (hC.2.2.2 (6 + a) hr).2 _ (by rw [e1]; exact List.mem_cons_self)
      have he : 1 ≤ e ∧ e < g.2.2.2 := he
      by_cases hbl : zbl pf b 6 e = b
      case neg =>
        refine z_aload_n X d_Link_go_10 rfl ?_
        refine z_aload_n X d_Link_go_11 rfl ?_
        refine z_cq (z_rU X cs_Link_19_Down rfl (zsh4d hx.1) (zo_c hW.2.1.2 (by omega) hW.1).1 (zo_c hW.2.1.2 (by omega) hW.1).2 (c_Down_due l g hW hC hn0 hp hx ha hb0 hb hpb h0 h3) ⟨Nat.le_of_ble_eq_true rfl, Nat.le_of_ble_eq_true rfl⟩ rfl rfl (Nat.le_of_ble_eq_true rfl) ⟨Nat.le_of_ble_eq_true rfl, Nat.le_of_ble_eq_true rfl⟩ d_Link_go_12) (fun r n2 I2 J2 R2 h => ?_)
        obtain ⟨rfl, e⟩ := h
        cases e
        refine z_top (v2 := .null) (by rw [e1]; dsimp only; rw [if_neg hbl]; rfl) ?_
        refine z_goto (tgt := 19) X d_Link_go_15 (by decide) ?_
        refine z_astore_nN X d_Link_go_19 (by decide) rfl ?_
        refine z_aload_nN X d_Link_go_20 rfl ?_
        refine z_ifnonnullN (tgt := 25) X d_Link_go_21 (by decide) ?_
        exact z_vret X hret (Nat.zero_le _) (Nat.zero_le _) ⟨n, I, R, fl, rfl, Nat.le_refl _, Nat.le_succ _, by unfold zdow; rw [if_neg h7, e1]; dsimp only; rw [if_neg hbl]; exact hC.N1, zIk.rf, zRk2.rf⟩ d_Link_go_24
      refine z_aload_n X d_Link_go_10 rfl ?_
      refine z_aload_n X d_Link_go_11 rfl ?_
      refine z_cq (z_rU X cs_Link_19_Down rfl (zsh4d hx.1) (zo_c hW.2.1.2 (by omega) hW.1).1 (zo_c hW.2.1.2 (by omega) hW.1).2 (c_Down_due l g hW hC hn0 hp hx ha hb0 hb hpb h0 h3) ⟨Nat.le_of_ble_eq_true rfl, Nat.le_of_ble_eq_true rfl⟩ rfl rfl (Nat.le_of_ble_eq_true rfl) ⟨Nat.le_of_ble_eq_true rfl, Nat.le_of_ble_eq_true rfl⟩ d_Link_go_12) (fun r n2 I2 J2 R2 h => ?_)
      obtain ⟨rfl, e⟩ := h
      cases e
      refine z_top (v2 := .ref (zad g 3 f)) (by rw [e1]; dsimp only; rw [if_pos hbl, e3]; rfl) ?_
      refine z_goto (tgt := 19) X d_Link_go_15 (by decide) ?_
      refine z_astore_n X d_Link_go_19 (by decide) rfl ?_
      refine z_aload_n X d_Link_go_20 rfl ?_
      refine z_ifnonnull (tgt := 25) X d_Link_go_21 (by decide) ?_
      refine z_aload_n X d_Link_go_25 rfl ?_
      refine z_dup X d_Link_go_26 rfl ?_
      refine gf_Link_23 X (zo_s rfl hW.1) d_Link_go_27 ?_
      refine z_top (congrArg Value.int (hC.1.tm.2)) ?_
      refine z_iconst (v := nI 1) X d_Link_go_30 rfl ?_
      refine z_iadd X d_Link_go_31 ?_
      refine pf_Link_23 X (zo_s rfl hW.1) d_Link_go_32 ?_
      refine z_aload_n X d_Link_go_35 rfl ?_
      refine gr_Link_29 h3 X (zo_c hW.2.1.2 (by omega) hW.1) (by omega) d_Link_go_36 ?_
      refine gf_Link_13 X (zo_n (by omega) hW.1) d_Link_go_39 ?_
      refine z_top (v2 := .int (A 32 0 b)) (congrArg Value.int (hC.1.nd hb).2.1) ?_
      refine z_if_eq (tgt := 101) X d_Link_go_42 (by decide) (fun h42 => ?_) (fun h42 => ?_)
      · refine z_iconst (v := nI 0) X d_Link_go_101 rfl ?_
        refine z_istore_n X d_Link_go_102 (by decide) rfl ?_
        refine z_iload_n X d_Link_go_103 rfl ?_
        refine z_if_eq (tgt := 139) X d_Link_go_104 (by decide) (fun _ => ?_) (fun hq => absurd hq (by decide))
        refine z_aload_n X d_Link_go_139 rfl ?_
        refine z_aload_n X d_Link_go_140 rfl ?_
        refine z_cv (z_rU X cs_Link_65_Down rfl (zsh4d hx.1) (zo_c hW.2.1.2 (by omega) hW.1).1 (zo_c hW.2.1.2 (by omega) hW.1).2 (c_Down_failed l g hW1 hC1 hx ha h0 (by rw [e1]; exact List.cons_ne_nil _ _)) ⟨Nat.le_of_ble_eq_true rfl, Nat.le_of_ble_eq_true rfl⟩ rfl rfl (Nat.le_of_ble_eq_true rfl) ⟨Nat.le_of_ble_eq_true rfl, Nat.le_of_ble_eq_true rfl⟩ d_Link_go_141) (fun n9 I9 J9 R9 h9 => ?_)
        exact z_vret X hret (Nat.zero_le _) (Nat.zero_le _) (dn_g0 h7 e1 hbl (by simp [zhears, show zsend A 32 0 b = 0 from h42]) h9) d_Link_go_144
      · refine z_aload_n X d_Link_go_45 rfl ?_
        refine gr_Link_32 (hW.c (k := 0) (f := 4) rfl rfl (by decide) rfl) X (zo_s rfl hW.1) d_Link_go_46 ?_
        refine z_aload_n X d_Link_go_49 rfl ?_
        refine gr_Link_7 h0 X (zo_c hW.2.1.2 (by omega) hW.1) (by omega) d_Link_go_50 ?_
        refine gf_Link_36 X (zo_n (by omega) hW.1) d_Link_go_53 ?_
        refine z_top (v2 := .int (nI a)) (congrArg Value.int hida) ?_
        refine ar_7 X (zo_s rfl hW.1) rfl (by omega) (hW.nr (by omega)) d_Link_go_56 ?_
        refine z_aload_n X d_Link_go_57 rfl ?_
        refine gr_Link_29 h3 X (zo_c hW.2.1.2 (by omega) hW.1) (by omega) d_Link_go_58 ?_
        refine gf_Link_36 X (zo_n (by omega) hW.1) d_Link_go_61 ?_
        refine z_top (v2 := .int (nI b)) (congrArg Value.int hidb) ?_
        refine al_8 X (zo_z (by omega) hW.1) rfl (by omega) d_Link_go_64 ?_
        refine z_top (v2 := .int (A 30 0 (6 * a + b))) (congrArg Value.int (hC.1.nr (by omega) (by omega))) ?_
        refine z_if_eq (tgt := 101) X d_Link_go_65 (by decide) (fun h65 => ?_) (fun h65 => ?_)
        · refine z_iconst (v := nI 0) X d_Link_go_101 rfl ?_
          refine z_istore_n X d_Link_go_102 (by decide) rfl ?_
          refine z_iload_n X d_Link_go_103 rfl ?_
          refine z_if_eq (tgt := 139) X d_Link_go_104 (by decide) (fun _ => ?_) (fun hq => absurd hq (by decide))
          refine z_aload_n X d_Link_go_139 rfl ?_
          refine z_aload_n X d_Link_go_140 rfl ?_
          refine z_cv (z_rU X cs_Link_65_Down rfl (zsh4d hx.1) (zo_c hW.2.1.2 (by omega) hW.1).1 (zo_c hW.2.1.2 (by omega) hW.1).2 (c_Down_failed l g hW1 hC1 hx ha h0 (by rw [e1]; exact List.cons_ne_nil _ _)) ⟨Nat.le_of_ble_eq_true rfl, Nat.le_of_ble_eq_true rfl⟩ rfl rfl (Nat.le_of_ble_eq_true rfl) ⟨Nat.le_of_ble_eq_true rfl, Nat.le_of_ble_eq_true rfl⟩ d_Link_go_141) (fun n9 I9 J9 R9 h9 => ?_)
          exact z_vret X hret (Nat.zero_le _) (Nat.zero_le _) (dn_g0 h7 e1 hbl (by simp [zhears, show zsend A 30 0 (6 * a + b) = 0 from h65]) h9) d_Link_go_144
        · refine z_aload_n X d_Link_go_68 rfl ?_
          refine gr_Link_7 h0 X (zo_c hW.2.1.2 (by omega) hW.1) (by omega) d_Link_go_69 ?_
          refine z_aload_n X d_Link_go_72 rfl ?_
          refine gr_Link_29 h3 X (zo_c hW.2.1.2 (by omega) hW.1) (by omega) d_Link_go_73 ?_
          refine z_ci (z_rV X cs_Link_39 rfl rfl (zo_n (by omega) hW.1).1 (zo_n (by omega) hW.1).2 (c_Node_inStep l g hW1 a b ha hb) ⟨Nat.le_of_ble_eq_true rfl, Nat.le_of_ble_eq_true rfl⟩ rfl rfl (Nat.le_of_ble_eq_true rfl) ⟨Nat.le_of_ble_eq_true rfl, Nat.le_of_ble_eq_true rfl⟩ d_Link_go_76) (fun r n2 I2 J2 R2 h => ?_)
          obtain ⟨rfl, e⟩ := h
          cases e
          refine z_top (v2 := .int (if zcl1 (A 33 0 a - A 33 0 b) = true then nI 1 else nI 0)) (congrArg (fun z => Value.int (if zcl1 z = true then nI 1 else nI 0)) hdo) ?_
          refine z_if_eq (tgt := 101) X d_Link_go_79 (by decide) (fun h79 => ?_) (fun h79 => ?_)
          · refine z_iconst (v := nI 0) X d_Link_go_101 rfl ?_
            refine z_istore_n X d_Link_go_102 (by decide) rfl ?_
            refine z_iload_n X d_Link_go_103 rfl ?_
            refine z_if_eq (tgt := 139) X d_Link_go_104 (by decide) (fun _ => ?_) (fun hq => absurd hq (by decide))
            refine z_aload_n X d_Link_go_139 rfl ?_
            refine z_aload_n X d_Link_go_140 rfl ?_
            refine z_cv (z_rU X cs_Link_65_Down rfl (zsh4d hx.1) (zo_c hW.2.1.2 (by omega) hW.1).1 (zo_c hW.2.1.2 (by omega) hW.1).2 (c_Down_failed l g hW1 hC1 hx ha h0 (by rw [e1]; exact List.cons_ne_nil _ _)) ⟨Nat.le_of_ble_eq_true rfl, Nat.le_of_ble_eq_true rfl⟩ rfl rfl (Nat.le_of_ble_eq_true rfl) ⟨Nat.le_of_ble_eq_true rfl, Nat.le_of_ble_eq_true rfl⟩ d_Link_go_141) (fun n9 I9 J9 R9 h9 => ?_)
            exact z_vret X hret (Nat.zero_le _) (Nat.zero_le _) (dn_g0 h7 e1 hbl (by simp [zhears, show zcl1 (zsend A 33 0 a - zsend A 33 0 b) = false from zif0 h79]) h9) d_Link_go_144
          · refine z_aload_n X d_Link_go_82 rfl ?_
            refine z_aload_n X d_Link_go_83 rfl ?_
            refine gr_Link_43 (hW.c (k := 0) (f := 5) rfl rfl (by decide) rfl) X (zo_s rfl hW.1) d_Link_go_84 ?_
            refine z_aload_n X d_Link_go_87 rfl ?_
            refine gf_Link_47 X (zo_c hW.2.1.2 (by omega) hW.1) (by omega) d_Link_go_88 ?_
            refine z_top (v2 := .int (nI ch)) (congrArg Value.int hch) ?_
            refine z_ci (z_rN X cs_Link_50 rfl rfl (zo_s rfl hW.1).1 (zo_s rfl hW.1).2 (c_SM_good9 l g hW1 ch t hch4 ht (by exact h7t)) ⟨Nat.le_of_ble_eq_true rfl, Nat.le_of_ble_eq_true rfl⟩ rfl rfl (Nat.le_of_ble_eq_true rfl) ⟨Nat.le_of_ble_eq_true rfl, Nat.le_of_ble_eq_true rfl⟩ d_Link_go_91) (fun r n2 I2 J2 R2 h => ?_)
            obtain ⟨rfl, e⟩ := h
            cases e
            refine z_if_eq (tgt := 101) X d_Link_go_94 (by decide) (fun h94 => ?_) (fun h94 => ?_)
            · refine z_iconst (v := nI 0) X d_Link_go_101 rfl ?_
              refine z_istore_n X d_Link_go_102 (by decide) rfl ?_
              refine z_iload_n X d_Link_go_103 rfl ?_
              refine z_if_eq (tgt := 139) X d_Link_go_104 (by decide) (fun _ => ?_) (fun hq => absurd hq (by decide))
              refine z_aload_n X d_Link_go_139 rfl ?_
              refine z_aload_n X d_Link_go_140 rfl ?_
              refine z_cv (z_rU X cs_Link_65_Down rfl (zsh4d hx.1) (zo_c hW.2.1.2 (by omega) hW.1).1 (zo_c hW.2.1.2 (by omega) hW.1).2 (c_Down_failed l g hW1 hC1 hx ha h0 (by rw [e1]; exact List.cons_ne_nil _ _)) ⟨Nat.le_of_ble_eq_true rfl, Nat.le_of_ble_eq_true rfl⟩ rfl rfl (Nat.le_of_ble_eq_true rfl) ⟨Nat.le_of_ble_eq_true rfl, Nat.le_of_ble_eq_true rfl⟩ d_Link_go_141) (fun n9 I9 J9 R9 h9 => ?_)
              exact z_vret X hret (Nat.zero_le _) (Nat.zero_le _) (dn_g0 h7 e1 hbl (by simp [zhears, zif0 h94]) h9) d_Link_go_144
            · refine z_iconst (v := nI 1) X d_Link_go_97 rfl ?_
              refine z_goto (tgt := 102) X d_Link_go_98 (by decide) ?_
              refine z_istore_n X d_Link_go_102 (by decide) rfl ?_
              refine z_iload_n X d_Link_go_103 rfl ?_
              refine z_if_eq (tgt := 139) X d_Link_go_104 (by decide) (fun hq => absurd hq (by decide)) (fun _ => ?_)
              refine z_aload_n X d_Link_go_107 rfl ?_
              refine z_aload_n X d_Link_go_108 rfl ?_
              refine z_aload_n X d_Link_go_109 rfl ?_
              refine z_ci (z_rU X cs_Link_54_Down rfl (zsh4d hx.1) (zo_c hW.2.1.2 (by omega) hW.1).1 (zo_c hW.2.1.2 (by omega) hW.1).2 (c_Down_arrives l g hW1 hC1 hx ha hb h0 h3 he e4 (by exact f0) (by exact f1) (by exact f2)) ⟨Nat.le_of_ble_eq_true rfl, Nat.le_of_ble_eq_true rfl⟩ rfl rfl (Nat.le_of_ble_eq_true rfl) ⟨Nat.le_of_ble_eq_true rfl, Nat.le_of_ble_eq_true rfl⟩ d_Link_go_110) (fun r9 n9 I9 J9 R9 h9 => ?_)
              obtain ⟨rfl, nx, Ix, Rx, fl9, ex, b3, b4, hC9, b5, b6⟩ := h9
              cases ex
              have hW := hW1.step b3 b5 b6
              have hh : zhears (zsend A) a b (zbit (J 9 0 ((ch + t) % h)) t) = true := by have u1 : ¬ zsend A 32 0 b = 0 := h42; have u2 : ¬ zsend A 30 0 (6 * a + b) = 0 := h65; have u3 : zcl1 (zsend A 33 0 a - zsend A 33 0 b) = true := zif1 h79; simp [zhears, u1, u2, u3, zif1 h94]
              have h0 : R9 4 x 0 = some a := (b6.k rfl).trans h0
              have h3 : R9 4 x 3 = some b := (b6.k rfl).trans h3
              have hch : I9 4 x 1 = nI ch := (b5 4 x 1 rfl).trans hch
              have h7t : I9 0 0 7 = nI t := (b5 0 0 7 rfl).trans h7t
              have hq9 : (zdnR a b e k v (zsend A) q).1.2 (6 + a) ≠ [] := by rw [dn_row hab (by omega), e1]; exact List.cons_ne_nil _ _
              refine z_if_eq (tgt := 139) X d_Link_go_113 (by decide) (fun h113 => ?_) (fun h113 => ?_)
              · refine z_aload_n X d_Link_go_139 rfl ?_
                refine z_aload_n X d_Link_go_140 rfl ?_
                refine z_cv (z_rU X cs_Link_65_Down rfl (zsh4d hx.1) (zo_c hW.2.1.2 (by omega) hW.1).1 (zo_c hW.2.1.2 (by omega) hW.1).2 (c_Down_failed l g hW hC9 hx ha h0 hq9) ⟨Nat.le_of_ble_eq_true rfl, Nat.le_of_ble_eq_true rfl⟩ rfl rfl (Nat.le_of_ble_eq_true rfl) ⟨Nat.le_of_ble_eq_true rfl, Nat.le_of_ble_eq_true rfl⟩ d_Link_go_141) (fun n8 I8 J8 R8 h8 => ?_)
                exact z_vret X hret (Nat.le_of_ble_eq_true rfl) (Nat.le_of_ble_eq_true rfl) (dn_g1 h7 e1 hbl  hh (by rw [zif0 h113]; rfl) b3 b4 b5 b6 h8) d_Link_go_144
              · refine z_aload_n X d_Link_go_116 rfl ?_
                refine z_aload_n X d_Link_go_117 rfl ?_
                refine gr_Link_58 (hW.c (k := 0) (f := 6) rfl rfl (by decide) rfl) X (zo_s rfl hW.1) d_Link_go_118 ?_
                refine z_aload_n X d_Link_go_121 rfl ?_
                refine gf_Link_47 X (zo_c hW.2.1.2 (by omega) hW.1) (by omega) d_Link_go_122 ?_
                refine z_top (v2 := .int (nI ch)) (congrArg Value.int hch) ?_
                refine z_ci (z_rN X cs_Link_50 rfl rfl (zo_s rfl hW.1).1 (zo_s rfl hW.1).2 (c_SM_good10 l g hW ch t hch4 ht h7t) ⟨Nat.le_of_ble_eq_true rfl, Nat.le_of_ble_eq_true rfl⟩ rfl rfl (Nat.le_of_ble_eq_true rfl) ⟨Nat.le_of_ble_eq_true rfl, Nat.le_of_ble_eq_true rfl⟩ d_Link_go_125) (fun r n2 I2 J2 R2 h => ?_)
                obtain ⟨rfl, e⟩ := h
                cases e
                refine z_if_eq (tgt := 139) X d_Link_go_128 (by decide) (fun h128 => ?_) (fun h128 => ?_)
                · refine z_aload_n X d_Link_go_139 rfl ?_
                  refine z_aload_n X d_Link_go_140 rfl ?_
                  refine z_cv (z_rU X cs_Link_65_Down rfl (zsh4d hx.1) (zo_c hW.2.1.2 (by omega) hW.1).1 (zo_c hW.2.1.2 (by omega) hW.1).2 (c_Down_failed l g hW hC9 hx ha h0 hq9) ⟨Nat.le_of_ble_eq_true rfl, Nat.le_of_ble_eq_true rfl⟩ rfl rfl (Nat.le_of_ble_eq_true rfl) ⟨Nat.le_of_ble_eq_true rfl, Nat.le_of_ble_eq_true rfl⟩ d_Link_go_141) (fun n8 I8 J8 R8 h8 => ?_)
                  exact z_vret X hret (Nat.le_of_ble_eq_true rfl) (Nat.le_of_ble_eq_true rfl) (dn_g1 h7 e1 hbl  hh (by rw [zif0 h128, Bool.and_false]) b3 b4 b5 b6 h8) d_Link_go_144
                · refine z_aload_n X d_Link_go_131 rfl ?_
                  refine z_aload_n X d_Link_go_132 rfl ?_
                  refine z_cv (z_rU X cs_Link_61_Down rfl (zsh4d hx.1) (zo_c hW.2.1.2 (by omega) hW.1).1 (zo_c hW.2.1.2 (by omega) hW.1).2 (c_Down_done l g hW hC9 hx ha h0 hq9) ⟨Nat.le_of_ble_eq_true rfl, Nat.le_of_ble_eq_true rfl⟩ rfl rfl (Nat.le_of_ble_eq_true rfl) ⟨Nat.le_of_ble_eq_true rfl, Nat.le_of_ble_eq_true rfl⟩ d_Link_go_133) (fun n8 I8 J8 R8 h8 => ?_)
                  refine z_goto (tgt := 144) X d_Link_go_136 (by decide) ?_
                  exact z_vret X hret (Nat.le_of_ble_eq_true rfl) (Nat.le_of_ble_eq_true rfl) (dn_g1 h7 e1 hbl  hh (by rw [zif1 h113, zif1 h128]; rfl) b3 b4 b5 b6 h8) d_Link_go_144

