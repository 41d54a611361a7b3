/-! THE TWIN'S LINKS -/
theorem zcaQ_ne {A : zI} {q : zq} {e : Nat} {k v : Int32} {a : Nat} (h : a ≠ 6) : zcaQ A q e k v a = q a := by
  unfold zcaQ
  split
  · exact qu_n h
  · rfl
theorem c_Model_up (l : Launch) (g : zG) {S h n : Nat} {I : zI} {J : zJ} {R : zR} (hW : zW g S h n I R) (q : zq) (hq : zRT g.2.2.2 I q) (a b ch t : Nat) (ha : a < g.2.2.2) (hb : b < g.2.2.2) (hab : a ≠ b) (hch : ch < 4) (ht : t < 2 ^ 30) (h3 : I 29 0 3 = nI t) : zMet l g y_Model_up b_Model_up 7 none 2 51 0 0 (zPc g [.ref (zad g 29 0), .int (nI a), .int (nI b), .int (nI ch)] n I J R) (zQv g (fun u => ∃ I2, u = (n, I2, J, R) ∧ zcan I2 = (zup a b (zbit (J 35 0 ch) t) (zbit (J 36 0 ch) t) (zcan I) q).1 ∧ zRT g.2.2.2 I2 (zup a b (zbit (J 35 0 ch) t) (zbit (J 36 0 ch) t) (zcan I) q).2 ∧ ∀ k i j, k < 29 → I2 k i j = I k i j)) := by
  have hc := hW.2.1.2
  have h2c := hW.2.1.1
  have ra : zrv g.2.2.2 a := Or.inl ha
  have rb : zrv g.2.2.2 b := Or.inl hb
  obtain ⟨qa1, qa2, qa3⟩ := hq a ra
  refine zMet.of (by decide) [some (.ref (zad g 29 0)), some (.int (nI a)), some (.int (nI b)), some (.int (nI ch)), none, none, none] rfl (Nat.le_of_ble_eq_true rfl) ?_
  intro pP eE sS mM aA bB mE cC X hret hnm
  have X : zC pP sS mM aA mE cC b_Model_up "SlottedMeshModel" 7 g := X
  have hret : mE.sig.returnType = none := hret
  -- the end: confirmed or not
  have KE : ∀ (d : Bool) (I1 : zI) (q1 : zq), zW g S h n I1 R → I1 29 0 3 = nI t → zRT g.2.2.2 I1 q1 → q1 a ≠ [] → (∀ k i j, k < 29 → I1 k i j = I k i j) → zup a b (zbit (J 35 0 ch) t) (zbit (J 36 0 ch) t) (zcan I) q = zupE a b (d && zbit (J 36 0 ch) t) (zcan I1) q1 → zV pP l eE (zrm 2 51 0 0) sS mM aA bB mE cC g 7 (MQ bB (zQv g (fun u => ∃ I2, u = (n, I2, J, R) ∧ zcan I2 = (zup a b (zbit (J 35 0 ch) t) (zbit (J 36 0 ch) t) (zcan I) q).1 ∧ zRT g.2.2.2 I2 (zup a b (zbit (J 35 0 ch) t) (zbit (J 36 0 ch) t) (zcan I) q).2 ∧ ∀ k i j, k < 29 → I2 k i j = I k i j)) aA sS 0 0 (zA g)) 0 0 179 [some (.ref (zad g 29 0)), some (.int (nI a)), some (.int (nI b)), some (.int (nI ch)), none, some (.int (if d = true then nI 1 else nI 0)), none] [] n I1 J R := by
    intro d I1 q1 hW h3 hq1 hne hlow hz
    rw [hz]
    have KF : (d && zbit (J 36 0 ch) t) = false → zV pP l eE (zrm 2 51 0 0) sS mM aA bB mE cC g 7 (MQ bB (zQv g (fun u => ∃ I2, u = (n, I2, J, R) ∧ zcan I2 = (zup a b (zbit (J 35 0 ch) t) (zbit (J 36 0 ch) t) (zcan I) q).1 ∧ zRT g.2.2.2 I2 (zup a b (zbit (J 35 0 ch) t) (zbit (J 36 0 ch) t) (zcan I) q).2 ∧ ∀ k i j, k < 29 → I2 k i j = I k i j)) aA sS 0 0 (zA g)) 0 0 246 [some (.ref (zad g 29 0)), some (.int (nI a)), some (.int (nI b)), some (.int (nI ch)), none, none, none] [] n I1 J R := by
      intro hd
      rw [hz, hd]
      refine z_aload_n X d_Model_up_246 rfl ?_
      refine gr_Model_63 (hW.c (k := 29) (f := 23) rfl rfl (by decide) rfl) X (zo_s rfl hW.1) d_Model_up_247 ?_
      refine z_iload_n X d_Model_up_250 rfl ?_
      refine z_dup2 X d_Model_up_251 rfl rfl ?_
      refine al_47 X (zo_s rfl hW.1) rfl (by omega) d_Model_up_252 ?_
      refine z_iconst (v := nI 1) X d_Model_up_253 rfl ?_
      refine z_iadd X d_Model_up_254 ?_
      refine as_47 X (zo_s rfl hW.1) rfl (by omega) d_Model_up_255 ?_
      refine z_aload_n X d_Model_up_256 rfl ?_
      refine gr_Model_63 (hW.c (k := 29) (f := 23) rfl rfl (by decide) rfl) X (zo_s rfl hW.1) d_Model_up_257 ?_
      refine z_iload_n X d_Model_up_260 rfl ?_
      refine al_47 X (zo_s rfl hW.1) rfl (by omega) d_Model_up_261 ?_
      refine z_top (congrArg Value.int zu_s) ?_
      refine z_iconst (v := nI 4) X d_Model_up_262 rfl ?_
      refine z_icmp_ne (tgt := 280) X d_Model_up_263 (by decide) (fun h263 => ?_) (fun h263 => ?_)
      · exact z_vret X hret (Nat.zero_le _) (Nat.zero_le _) ⟨_, rfl, by simp only [zc_47, zc_32]; unfold zupE; rw [if_neg (by decide)]; first | (rw [if_neg (show ¬ zcan I1 47 0 a + nI 1 = nI 4 from h263)]; rfl) | (rw [if_pos (show zcan I1 47 0 a + nI 1 = nI 4 from h263)]; rfl) | (rw [if_pos (show zcan I1 47 0 a + nI 1 = nI 4 from h263)]; dsimp only; congr 1; funext k' i' j'; simp only [zu_if]; split <;> rfl), by unfold zupE; rw [if_neg (by decide)]; first | (rw [if_neg (show ¬ zcan I1 47 0 a + nI 1 = nI 4 from h263)]; exact zRT.put hq1 rfl) | (rw [if_pos (show zcan I1 47 0 a + nI 1 = nI 4 from h263)]; exact zRT.put (zRT.put (zRT.put hq1 rfl) rfl) rfl), fun k i j hk => by (repeat rw [zu_k (by omega)]); exact hlow k i j hk⟩ d_Model_up_280
      · refine z_aload_n X d_Model_up_266 rfl ?_
        refine gr_Model_63 (hW.c (k := 29) (f := 23) rfl rfl (by decide) rfl) X (zo_s rfl hW.1) d_Model_up_267 ?_
        refine z_iload_n X d_Model_up_270 rfl ?_
        refine z_iconst (v := nI 0) X d_Model_up_271 rfl ?_
        refine as_47 X (zo_s rfl hW.1) rfl (by omega) d_Model_up_272 ?_
        refine z_aload_n X d_Model_up_273 rfl ?_
        refine gr_Model_16 (hW.c (k := 29) (f := 7) rfl rfl (by decide) rfl) X (zo_s rfl hW.1) d_Model_up_274 ?_
        refine z_iload_n X d_Model_up_277 rfl ?_
        refine z_iconst (v := nI 0) X d_Model_up_278 rfl ?_
        refine as_32 X (zo_s rfl hW.1) rfl (by omega) (by decide) d_Model_up_279 ?_
        exact z_vret X hret (Nat.zero_le _) (Nat.zero_le _) ⟨_, rfl, by simp only [zc_47, zc_32]; unfold zupE; rw [if_neg (by decide)]; first | (rw [if_neg (show ¬ zcan I1 47 0 a + nI 1 = nI 4 from h263)]; rfl) | (rw [if_pos (show zcan I1 47 0 a + nI 1 = nI 4 from h263)]; rfl) | (rw [if_pos (show zcan I1 47 0 a + nI 1 = nI 4 from h263)]; dsimp only; congr 1; funext k' i' j'; simp only [zu_if]; split <;> rfl), by unfold zupE; rw [if_neg (by decide)]; first | (rw [if_neg (show ¬ zcan I1 47 0 a + nI 1 = nI 4 from h263)]; exact zRT.put hq1 rfl) | (rw [if_pos (show zcan I1 47 0 a + nI 1 = nI 4 from h263)]; exact zRT.put (zRT.put (zRT.put hq1 rfl) rfl) rfl), fun k i j hk => by (repeat rw [zu_k (by omega)]); exact hlow k i j hk⟩ d_Model_up_280
    cases d with
    | false =>
      refine z_iload X d_Model_up_179 rfl ?_
      refine z_if_eq (tgt := 246) X d_Model_up_181 (by decide) (fun _ => ?_) (fun hq => absurd hq (by decide))
      refine z_wk (ls2 := [some (.ref (zad g 29 0)), some (.int (nI a)), some (.int (nI b)), some (.int (nI ch)), none, none, none]) ⟨rfl, rfl, rfl, rfl, trivial⟩ ?_
      rw [← hz]
      exact KF rfl
    | true =>
      refine z_iload X d_Model_up_179 rfl ?_
      refine z_if_eq (tgt := 246) X d_Model_up_181 (by decide) (fun hq => absurd hq (by decide)) (fun _ => ?_)
      refine z_aload_n X d_Model_up_184 rfl ?_
      refine gr_Model_30 (hW.c (k := 29) (f := 11) rfl rfl (by decide) rfl) X (zo_s rfl hW.1) d_Model_up_185 ?_
      refine z_iload_n X d_Model_up_188 rfl ?_
      refine al_36 X (zo_s rfl hW.1) rfl (by omega) d_Model_up_189 ?_
      refine z_aload_n X d_Model_up_190 rfl ?_
      refine gf_Model_147 X (zo_s rfl hW.1) d_Model_up_191 ?_
      refine z_top (congrArg Value.int (h3)) ?_
      refine z_ci (z_rS X cs_Model_150 (c_Model_bit l g _ t ht) ⟨Nat.le_of_ble_eq_true rfl, Nat.le_of_ble_eq_true rfl⟩ rfl rfl (Nat.le_of_ble_eq_true rfl) ⟨Nat.le_of_ble_eq_true rfl, Nat.le_of_ble_eq_true rfl⟩ d_Model_up_194) (fun r n2 I2 J2 R2 h => ?_)
      obtain ⟨rfl, e⟩ := h
      cases e
      refine z_if_eq (tgt := 246) X d_Model_up_197 (by decide) (fun h197 => ?_) (fun h197 => ?_)
      · refine z_wk (ls2 := [some (.ref (zad g 29 0)), some (.int (nI a)), some (.int (nI b)), some (.int (nI ch)), none, none, none]) ⟨rfl, rfl, rfl, rfl, trivial⟩ ?_
        rw [← hz]
        exact KF (by rw [zif0 h197]; rfl)
      · have hcb := zif1 h197
        rw [hcb]
        obtain ⟨x, t1, hx⟩ : ∃ x t1, q1 a = x :: t1 := by
          cases hh : q1 a with
          | nil => exact absurd hh hne
          | cons x t1 => exact ⟨x, t1, rfl⟩
        obtain ⟨g1, g2, g3⟩ := hq1 a ra
        rw [hx] at g1 g2
        simp only [List.length_cons] at g1 g2
        refine z_aload_n X d_Model_up_200 rfl ?_
        refine z_iload_n X d_Model_up_201 rfl ?_
        refine z_cv (z_rV X cs_Model_169 rfl rfl (zo_s rfl hW.1).1 (zo_s rfl hW.1).2 (c_Model_leave l g hW a t1.length (by omega) (by omega) g2) ⟨Nat.le_of_ble_eq_true rfl, Nat.le_of_ble_eq_true rfl⟩ rfl rfl (Nat.le_of_ble_eq_true rfl) ⟨Nat.le_of_ble_eq_true rfl, Nat.le_of_ble_eq_true rfl⟩ d_Model_up_202) (fun n2 I2 J2 R2 h => ?_)
        obtain ⟨I2, e, hl⟩ := h
        cases e
        refine z_aload_n X d_Model_up_205 rfl ?_
        refine gr_Model_63 (hW.c (k := 29) (f := 23) rfl rfl (by decide) rfl) X (zo_s rfl hW.1) d_Model_up_206 ?_
        refine z_iload_n X d_Model_up_209 rfl ?_
        refine z_iconst (v := nI 0) X d_Model_up_210 rfl ?_
        refine as_47 X (zo_s rfl hW.1) rfl (by omega) d_Model_up_211 ?_
        refine z_aload_n X d_Model_up_212 rfl ?_
        refine gr_Model_19 (hW.c (k := 29) (f := 8) rfl rfl (by decide) rfl) X (zo_s rfl hW.1) d_Model_up_213 ?_
        refine z_iload_n X d_Model_up_216 rfl ?_
        refine z_aload_n X d_Model_up_217 rfl ?_
        refine gr_Model_36 (hW.c (k := 29) (f := 14) rfl rfl (by decide) rfl) X (zo_s rfl hW.1) d_Model_up_218 ?_
        refine z_iconst (v := nI 2) X d_Model_up_221 rfl ?_
        refine z_iload_n X d_Model_up_222 rfl ?_
        refine z_imul X d_Model_up_223 ?_
        refine al_38 (j := 2 * a) X (zo_s rfl hW.1) (pk_mul 2 a) (by omega) d_Model_up_224 ?_
        refine z_top (v2 := .int (I1 38 0 (2 * a))) (congrArg Value.int (hl.1 38 0 _ (by omega))) ?_
        refine z_iload_n X d_Model_up_225 rfl ?_
        refine z_icmp_ne (tgt := 238) X d_Model_up_226 (by decide) (fun h226 => ?_) (fun h226 => ?_)
        · refine z_aload_n X d_Model_up_238 rfl ?_
          refine gr_Model_19 (hW.c (k := 29) (f := 8) rfl rfl (by decide) rfl) X (zo_s rfl hW.1) d_Model_up_239 ?_
          refine z_iload_n X d_Model_up_242 rfl ?_
          refine al_33 X (zo_s rfl hW.1) rfl (by omega) d_Model_up_243 ?_
          refine z_top (v2 := .int (I1 33 0 a)) (congrArg Value.int (hl.1 33 0 _ (by omega))) ?_
          refine as_33 X (zo_s rfl hW.1) rfl (by omega) d_Model_up_244 ?_
          exact z_vret X hret (Nat.zero_le _) (Nat.zero_le _) ⟨_, rfl, by simp only [zc_47, zc_33, zcan_lv hl]; unfold zupE; rw [if_pos (by decide)]; first | (rw [if_neg (show ¬ zcan I1 38 0 (2 * a) = nI b from h226)]; rfl) | (rw [if_pos (show zcan I1 38 0 (2 * a) = nI b from h226)]; rfl), by unfold zupE; rw [if_pos (by decide)]; dsimp only; rw [hx]; exact zRT.put (zRT.put (zRT.leave hc hq1 ra hx hl) rfl) rfl, fun k i j hk => by (repeat rw [zu_k (by omega)]); rw [hl.1 k i j (by omega)]; exact hlow k i j hk⟩ d_Model_up_245
        · refine z_aload_n X d_Model_up_229 rfl ?_
          refine gr_Model_19 (hW.c (k := 29) (f := 8) rfl rfl (by decide) rfl) X (zo_s rfl hW.1) d_Model_up_230 ?_
          refine z_iload_n X d_Model_up_233 rfl ?_
          refine al_33 X (zo_s rfl hW.1) rfl (by omega) d_Model_up_234 ?_
          refine z_top (v2 := .int (I1 33 0 b)) (congrArg Value.int (hl.1 33 0 _ (by omega))) ?_
          refine z_goto (tgt := 244) X d_Model_up_235 (by decide) ?_
          refine as_33 X (zo_s rfl hW.1) rfl (by omega) d_Model_up_244 ?_
          exact z_vret X hret (Nat.zero_le _) (Nat.zero_le _) ⟨_, rfl, by simp only [zc_47, zc_33, zcan_lv hl]; unfold zupE; rw [if_pos (by decide)]; first | (rw [if_neg (show ¬ zcan I1 38 0 (2 * a) = nI b from h226)]; rfl) | (rw [if_pos (show zcan I1 38 0 (2 * a) = nI b from h226)]; rfl), by unfold zupE; rw [if_pos (by decide)]; dsimp only; rw [hx]; exact zRT.put (zRT.put (zRT.leave hc hq1 ra hx hl) rfl) rfl, fun k i j hk => by (repeat rw [zu_k (by omega)]); rw [hl.1 k i j (by omega)]; exact hlow k i j hk⟩ d_Model_up_245
  by_cases hcur : I 32 0 a = 0
  · refine z_aload_n X d_Model_up_0 rfl ?_
    refine gr_Model_16 (hW.c (k := 29) (f := 7) rfl rfl (by decide) rfl) X (zo_s rfl hW.1) d_Model_up_1 ?_
    refine z_iload_n X d_Model_up_4 rfl ?_
    refine al_32 X (zo_s rfl hW.1) rfl (by omega) d_Model_up_5 ?_
    refine z_if_eq (tgt := 18) X d_Model_up_6 (by decide) (fun _ => ?_) (fun hq => absurd hq (fun z => z hcur))
    exact z_vret X hret (Nat.zero_le _) (Nat.zero_le _) ⟨I, rfl, by unfold zup; rw [if_pos (show zcan I 32 0 a = 0 from hcur)], by unfold zup; rw [if_pos (show zcan I 32 0 a = 0 from hcur)]; exact hq, fun _ _ _ _ => rfl⟩ d_Model_up_18
  rcases hqa : q a with _ | ⟨⟨e, k, v⟩, tl⟩
  · refine z_aload_n X d_Model_up_0 rfl ?_
    refine gr_Model_16 (hW.c (k := 29) (f := 7) rfl rfl (by decide) rfl) X (zo_s rfl hW.1) d_Model_up_1 ?_
    refine z_iload_n X d_Model_up_4 rfl ?_
    refine al_32 X (zo_s rfl hW.1) rfl (by omega) d_Model_up_5 ?_
    refine z_if_eq (tgt := 18) X d_Model_up_6 (by decide) (fun hq => absurd hq hcur) (fun _ => ?_)
    refine z_aload_n X d_Model_up_9 rfl ?_
    refine gr_Model_51 (hW.c (k := 29) (f := 19) rfl rfl (by decide) rfl) X (zo_s rfl hW.1) d_Model_up_10 ?_
    refine z_iload_n X d_Model_up_13 rfl ?_
    refine al_43 X (zo_s rfl hW.1) rfl (by omega) d_Model_up_14 ?_
    refine z_if_ne (tgt := 19) X d_Model_up_15 (by decide) (fun hq => absurd hq (fun z => z (by rw [qa2, hqa]; rfl))) (fun _ => ?_)
    exact z_vret X hret (Nat.zero_le _) (Nat.zero_le _) ⟨I, rfl, by unfold zup; rw [if_neg (show ¬ zcan I 32 0 a = 0 from hcur), hqa], by unfold zup; rw [if_neg (show ¬ zcan I 32 0 a = 0 from hcur), hqa]; exact hq, fun _ _ _ _ => rfl⟩ d_Model_up_18
  rw [hqa] at qa1 qa2 qa3
  simp only [List.length_cons] at qa1 qa2
  obtain ⟨⟨he1, he2⟩, f1, f2, f3⟩ := qa3 0 e k v rfl
  have hzu : zup a b (zbit (J 35 0 ch) t) (zbit (J 36 0 ch) t) (zcan I) q = if zhears (zsend (zcan I)) a b (zbit (J 35 0 ch) t) = true then zupE a b ((zupR b e k v (zsend (zcan I)) q).2 && zbit (J 36 0 ch) t) (zupR b e k v (zsend (zcan I)) q).1.1 (zupR b e k v (zsend (zcan I)) q).1.2 else zupE a b false (zsend (zcan I)) q := by
    unfold zup
    rw [if_neg (show ¬ zcan I 32 0 a = 0 from hcur), hqa]
  generalize hI0 : zu I 29 0 4 (I 29 0 4 + nI 1) = I0 at *
  have hcan0 : zcan I0 = zsend (zcan I) := by rw [← hI0, zc_29]; rfl
  have hlow0 : ∀ k i j, k < 29 → I0 k i j = I k i j := fun k i j hk => by rw [← hI0, zu_k (by omega)]
  have hW0 : zW g S h n I0 R := by rw [← hI0]; exact hW.upI rfl
  have hq0 : zRT g.2.2.2 I0 q := by rw [← hI0]; exact zRT.put hq rfl
  have h30 : I0 29 0 3 = nI t := by rw [← hI0]; exact h3
  refine z_aload_n X d_Model_up_0 rfl ?_
  refine gr_Model_16 (hW.c (k := 29) (f := 7) rfl rfl (by decide) rfl) X (zo_s rfl hW.1) d_Model_up_1 ?_
  refine z_iload_n X d_Model_up_4 rfl ?_
  refine al_32 X (zo_s rfl hW.1) rfl (by omega) d_Model_up_5 ?_
  refine z_if_eq (tgt := 18) X d_Model_up_6 (by decide) (fun hq => absurd hq hcur) (fun _ => ?_)
  refine z_aload_n X d_Model_up_9 rfl ?_
  refine gr_Model_51 (hW.c (k := 29) (f := 19) rfl rfl (by decide) rfl) X (zo_s rfl hW.1) d_Model_up_10 ?_
  refine z_iload_n X d_Model_up_13 rfl ?_
  refine al_43 X (zo_s rfl hW.1) rfl (by omega) d_Model_up_14 ?_
  refine z_if_ne (tgt := 19) X d_Model_up_15 (by decide) (fun _ => ?_) (fun hq => absurd hq (fun z => nI_ne0 (n := tl.length + 1) (by omega) (by omega) (by rw [← qa2]; exact z)))
  refine z_iconst (v := nI 4) X d_Model_up_19 rfl ?_
  refine z_iload_n X d_Model_up_20 rfl ?_
  refine z_imul X d_Model_up_21 ?_
  refine z_top (v2 := .int (nI (4 * a))) (congrArg Value.int (pk_mul 4 a)) ?_
  refine z_istore X d_Model_up_22 (by decide) rfl ?_
  refine z_aload_n X d_Model_up_24 rfl ?_
  refine z_dup X d_Model_up_25 rfl ?_
  refine gf_Model_158 X (zo_s rfl hW.1) d_Model_up_26 ?_
  refine z_iconst (v := nI 1) X d_Model_up_29 rfl ?_
  refine z_iadd X d_Model_up_30 ?_
  refine pf_Model_158 X (zo_s rfl hW.1) d_Model_up_31 ?_
  refine z_eqI hI0 ?_
  refine z_iconst (v := nI 0) X d_Model_up_34 rfl ?_
  refine z_istore X d_Model_up_35 (by decide) rfl ?_
  refine z_aload_n X d_Model_up_37 rfl ?_
  refine z_iload_n X d_Model_up_38 rfl ?_
  refine z_iload_n X d_Model_up_39 rfl ?_
  refine z_iload_n X d_Model_up_40 rfl ?_
  refine z_ci (z_rV X cs_Model_161 rfl rfl (zo_s rfl hW.1).1 (zo_s rfl hW.1).2 (c_Model_hears l g hW0 a b ch t (by omega) (by omega) hch ht h30) ⟨Nat.le_of_ble_eq_true rfl, Nat.le_of_ble_eq_true rfl⟩ rfl rfl (Nat.le_of_ble_eq_true rfl) ⟨Nat.le_of_ble_eq_true rfl, Nat.le_of_ble_eq_true rfl⟩ d_Model_up_41) (fun r n2 I2 J2 R2 h => ?_)
  obtain ⟨rfl, e⟩ := h
  cases e
  rw [show zhears I0 a b (zbit (J 35 0 ch) t) = zhears (zsend (zcan I)) a b (zbit (J 35 0 ch) t) by rw [← hcan0]; rfl]
  refine z_if_eq (tgt := 179) X d_Model_up_44 (by decide) (fun h44 => ?_) (fun h44 => ?_)
  · refine z_wk (ls2 := [some (.ref (zad g 29 0)), some (.int (nI a)), some (.int (nI b)), some (.int (nI ch)), none, some (.int (nI 0)), none]) ⟨rfl, rfl, rfl, rfl, rfl, trivial⟩ ?_
    exact KE false I0 q hW0 h30 hq0 (by rw [hqa]; exact fun z => by cases z) hlow0 (by rw [hzu, if_neg (by rw [zif0 h44]; decide), hcan0]; rfl)
  have hhr := zif1 h44
  rw [if_pos hhr] at hzu
  have f1' : I0 44 0 (4 * a) = nI e := by rw [← hI0, zu_k (by decide)]; exact f1
  have f2' : I0 45 0 (4 * a) = k := by rw [← hI0, zu_k (by decide)]; exact f2
  have f3' : I0 46 0 (4 * a) = v := by rw [← hI0, zu_k (by decide)]; exact f3
  refine z_bipush (v := nI 6) X d_Model_up_47 rfl ?_
  refine z_iload_n X d_Model_up_49 rfl ?_
  refine z_imul X d_Model_up_50 ?_
  refine z_aload_n X d_Model_up_51 rfl ?_
  refine gr_Model_54 (hW.c (k := 29) (f := 20) rfl rfl (by decide) rfl) X (zo_s rfl hW.1) d_Model_up_52 ?_
  refine z_iload X d_Model_up_55 rfl ?_
  refine al_44 X (zo_s rfl hW.1) rfl (by omega) d_Model_up_57 ?_
  refine z_top (congrArg Value.int f1') ?_
  refine z_iadd X d_Model_up_58 ?_
  refine z_top (v2 := .int (nI (6 * b + e))) (congrArg Value.int (zidx b e)) ?_
  refine z_istore X d_Model_up_59 (by decide) rfl ?_
  refine z_aload_n X d_Model_up_61 rfl ?_
  refine gr_Model_57 (hW.c (k := 29) (f := 21) rfl rfl (by decide) rfl) X (zo_s rfl hW.1) d_Model_up_62 ?_
  refine z_iload X d_Model_up_65 rfl ?_
  refine al_45 X (zo_s rfl hW.1) rfl (by omega) d_Model_up_67 ?_
  refine z_top (congrArg Value.int f2') ?_
  refine z_aload_n X d_Model_up_68 rfl ?_
  refine gr_Model_69 (hW.c (k := 29) (f := 25) rfl rfl (by decide) rfl) X (zo_s rfl hW.1) d_Model_up_69 ?_
  refine z_iload X d_Model_up_72 rfl ?_
  refine al_49 X (zo_s rfl hW.1) rfl (by omega) d_Model_up_74 ?_
  refine z_icmp_gt (tgt := 82) X d_Model_up_75 (by decide) (fun h75 => ?_) (fun h75 => ?_)
  · have hnk : ¬ k ≤ zsend (zcan I) 49 0 (6 * b + e) := fun z => by rw [← hcan0] at z; exact absurd h75 (Int32.not_lt.mpr z)
    refine z_iconst (v := nI 0) X d_Model_up_82 rfl ?_
    refine z_istore X d_Model_up_83 (by decide) rfl ?_
    refine z_iload X d_Model_up_85 rfl ?_
    refine z_if_ne (tgt := 179) X d_Model_up_87 (by decide) (fun hq => absurd hq (by decide)) (fun _ => ?_)
    refine z_iload_n X d_Model_up_90 rfl ?_
    by_cases hb0 : b = 0
    · subst hb0
      have hR : zupR 0 e k v (zsend (zcan I)) q = ((zcaA (zu (zsend (zcan I)) 49 0 (6 * 0 + e) k) e v, zcaQ (zu (zsend (zcan I)) 49 0 (6 * 0 + e) k) q e k v), true) := by unfold zupR; rw [if_neg hnk, if_pos rfl]
      refine z_if_eq (tgt := 104) X d_Model_up_91 (by decide) (fun _ => ?_) (fun hq => absurd hq (by decide))
      refine z_iconst (v := nI 1) X d_Model_up_104 rfl ?_
      refine z_istore X d_Model_up_105 (by decide) rfl ?_
      refine z_aload_n X d_Model_up_107 rfl ?_
      refine gr_Model_69 (hW.c (k := 29) (f := 25) rfl rfl (by decide) rfl) X (zo_s rfl hW.1) d_Model_up_108 ?_
      refine z_iload X d_Model_up_111 rfl ?_
      refine z_aload_n X d_Model_up_113 rfl ?_
      refine gr_Model_57 (hW.c (k := 29) (f := 21) rfl rfl (by decide) rfl) X (zo_s rfl hW.1) d_Model_up_114 ?_
      refine z_iload X d_Model_up_117 rfl ?_
      refine al_45 X (zo_s rfl hW.1) rfl (by omega) d_Model_up_119 ?_
      refine z_top (congrArg Value.int f2') ?_
      refine as_49 X (zo_s rfl hW.1) rfl (by omega) d_Model_up_120 ?_
      refine z_iload_n X d_Model_up_121 rfl ?_
      refine z_if_ne (tgt := 153) X d_Model_up_122 (by decide) (fun hq => absurd hq (by decide)) (fun _ => ?_)
      refine z_aload_n X d_Model_up_125 rfl ?_
      refine z_aload_n X d_Model_up_126 rfl ?_
      refine gr_Model_54 (hW.c (k := 29) (f := 20) rfl rfl (by decide) rfl) X (zo_s rfl hW.1) d_Model_up_127 ?_
      refine z_iload X d_Model_up_130 rfl ?_
      refine al_44 X (zo_s rfl hW.1) rfl (by omega) d_Model_up_132 ?_
      refine z_top (v2 := .int (nI e)) (congrArg Value.int f1') ?_
      refine z_aload_n X d_Model_up_133 rfl ?_
      refine gr_Model_57 (hW.c (k := 29) (f := 21) rfl rfl (by decide) rfl) X (zo_s rfl hW.1) d_Model_up_134 ?_
      refine z_iload X d_Model_up_137 rfl ?_
      refine al_45 X (zo_s rfl hW.1) rfl (by omega) d_Model_up_139 ?_
      refine z_top (v2 := .int k) (congrArg Value.int f2') ?_
      refine z_aload_n X d_Model_up_140 rfl ?_
      refine gr_Model_60 (hW.c (k := 29) (f := 22) rfl rfl (by decide) rfl) X (zo_s rfl hW.1) d_Model_up_141 ?_
      refine z_iload X d_Model_up_144 rfl ?_
      refine al_46 X (zo_s rfl hW.1) rfl (by omega) d_Model_up_146 ?_
      refine z_top (v2 := .int v) (congrArg Value.int f3') ?_
      refine z_cv (z_rV X cs_Model_165 rfl rfl (zo_s rfl hW.1).1 (zo_s rfl hW.1).2 (c_Model_cache l g (zW.upI hW0 rfl) q (zRT.put hq0 rfl) e ⟨he1, he2⟩ k v) ⟨Nat.le_of_ble_eq_true rfl, Nat.le_of_ble_eq_true rfl⟩ rfl rfl (Nat.le_of_ble_eq_true rfl) ⟨Nat.le_of_ble_eq_true rfl, Nat.le_of_ble_eq_true rfl⟩ d_Model_up_147) (fun n2 I2 J2 R2 h => ?_)
      obtain ⟨I2, e9, hc2, hr2, hl2⟩ := h
      cases e9
      rw [zc_49, hcan0] at hc2 hr2
      refine z_goto (tgt := 179) X d_Model_up_150 (by decide) ?_
      refine z_wk (ls2 := [some (.ref (zad g 29 0)), some (.int (nI a)), some (.int (nI 0)), some (.int (nI ch)), none, some (.int (nI 1)), none]) ⟨rfl, rfl, rfl, rfl, rfl, trivial⟩ ?_
      have hl3 : ∀ k i j, k < 29 → I2 k i j = I k i j := fun k i j hk => by rw [hl2 k i j hk, zu_k (by omega)]; exact hlow0 k i j hk
      refine KE true I2 (zcaQ (zu (zsend (zcan I)) 49 0 (6 * 0 + e) k) q e k v) (zW.can hW hl3 (fun j hj => by rw [hc2]; unfold zcaA; rw [zu_k (by decide), zu_k (by decide), zu_k (by decide), zu_k (by decide), zu_k (by decide), zu_k (by decide)]; unfold zsend; rw [zu_j (by omega)]; rfl)) (by show zcan I2 29 0 3 = nI t; rw [hc2]; unfold zcaA; rw [zu_k (by decide), zu_k (by decide), zu_k (by decide), zu_k (by decide), zu_k (by decide), zu_k (by decide)]; unfold zsend; rw [zu_j (by omega)]; exact h3) hr2 (by rw [zcaQ_ne (by omega), hqa]; exact fun z => by cases z) hl3 (by rw [hzu, hR, hc2])
    · refine z_if_eq (tgt := 104) X d_Model_up_91 (by decide) (fun hq => absurd hq (fun z => hb0 (nI_ne00 z (by omega)))) (fun _ => ?_)
      refine z_aload_n X d_Model_up_94 rfl ?_
      refine gr_Model_51 (hW.c (k := 29) (f := 19) rfl rfl (by decide) rfl) X (zo_s rfl hW.1) d_Model_up_95 ?_
      refine z_iload_n X d_Model_up_98 rfl ?_
      refine al_43 X (zo_s rfl hW.1) rfl (by omega) d_Model_up_99 ?_
      refine z_top (v2 := .int (nI (q b).length)) (congrArg Value.int (hq0 b rb).2.1) ?_
      refine z_iconst (v := nI 4) X d_Model_up_100 rfl ?_
      refine z_icmpN_ge (tgt := 179) X d_Model_up_101 (by decide) (by have := (hq0 b rb).1; omega) (by omega) (fun h101 => ?_) (fun h101 => ?_)
      · have hR : zupR b e k v (zsend (zcan I)) q = ((zsend (zcan I), q), false) := by unfold zupR; rw [if_neg hnk, if_neg hb0, if_neg (by omega)]
        refine z_wk (ls2 := [some (.ref (zad g 29 0)), some (.int (nI a)), some (.int (nI b)), some (.int (nI ch)), none, some (.int (nI 0)), none]) ⟨rfl, rfl, rfl, rfl, rfl, trivial⟩ ?_
        exact KE false I0 q hW0 h30 hq0 (by rw [hqa]; exact fun z => by cases z) hlow0 (by rw [hzu, hR, hcan0])
      · have hR : zupR b e k v (zsend (zcan I)) q = ((zu (zsend (zcan I)) 49 0 (6 * b + e) k, qu q b (q b ++ [(e, k, v)])), true) := by unfold zupR; rw [if_neg hnk, if_neg hb0, if_pos h101]
        refine z_iconst (v := nI 1) X d_Model_up_104 rfl ?_
        refine z_istore X d_Model_up_105 (by decide) rfl ?_
        refine z_aload_n X d_Model_up_107 rfl ?_
        refine gr_Model_69 (hW.c (k := 29) (f := 25) rfl rfl (by decide) rfl) X (zo_s rfl hW.1) d_Model_up_108 ?_
        refine z_iload X d_Model_up_111 rfl ?_
        refine z_aload_n X d_Model_up_113 rfl ?_
        refine gr_Model_57 (hW.c (k := 29) (f := 21) rfl rfl (by decide) rfl) X (zo_s rfl hW.1) d_Model_up_114 ?_
        refine z_iload X d_Model_up_117 rfl ?_
        refine al_45 X (zo_s rfl hW.1) rfl (by omega) d_Model_up_119 ?_
        refine z_top (congrArg Value.int f2') ?_
        refine as_49 X (zo_s rfl hW.1) rfl (by omega) d_Model_up_120 ?_
        refine z_iload_n X d_Model_up_121 rfl ?_
        refine z_if_ne (tgt := 153) X d_Model_up_122 (by decide) (fun _ => ?_) (fun hq => absurd hq (fun z => hb0 (nI_ne00 z (by omega))))
        refine z_aload_n X d_Model_up_153 rfl ?_
        refine z_iload_n X d_Model_up_154 rfl ?_
        refine z_aload_n X d_Model_up_155 rfl ?_
        refine gr_Model_54 (hW.c (k := 29) (f := 20) rfl rfl (by decide) rfl) X (zo_s rfl hW.1) d_Model_up_156 ?_
        refine z_iload X d_Model_up_159 rfl ?_
        refine al_44 X (zo_s rfl hW.1) rfl (by omega) d_Model_up_161 ?_
        refine z_top (v2 := .int (nI e)) (congrArg Value.int f1') ?_
        refine z_aload_n X d_Model_up_162 rfl ?_
        refine gr_Model_57 (hW.c (k := 29) (f := 21) rfl rfl (by decide) rfl) X (zo_s rfl hW.1) d_Model_up_163 ?_
        refine z_iload X d_Model_up_166 rfl ?_
        refine al_45 X (zo_s rfl hW.1) rfl (by omega) d_Model_up_168 ?_
        refine z_top (v2 := .int k) (congrArg Value.int f2') ?_
        refine z_aload_n X d_Model_up_169 rfl ?_
        refine gr_Model_60 (hW.c (k := 29) (f := 22) rfl rfl (by decide) rfl) X (zo_s rfl hW.1) d_Model_up_170 ?_
        refine z_iload X d_Model_up_173 rfl ?_
        refine al_46 X (zo_s rfl hW.1) rfl (by omega) d_Model_up_175 ?_
        refine z_top (v2 := .int v) (congrArg Value.int f3') ?_
        refine z_cv (z_rV X cs_Model_139 rfl rfl (zo_s rfl hW.1).1 (zo_s rfl hW.1).2 (c_Model_add l g (zW.upI hW0 rfl) b (q b).length (by omega) h101 (by exact (hq0 b rb).2.1) (nI e) k v) ⟨Nat.le_of_ble_eq_true rfl, Nat.le_of_ble_eq_true rfl⟩ rfl rfl (Nat.le_of_ble_eq_true rfl) ⟨Nat.le_of_ble_eq_true rfl, Nat.le_of_ble_eq_true rfl⟩ d_Model_up_176) (fun n2 I2 J2 R2 h => ?_)
        cases h
        refine z_wk (ls2 := [some (.ref (zad g 29 0)), some (.int (nI a)), some (.int (nI b)), some (.int (nI ch)), none, some (.int (nI 1)), none]) ⟨rfl, rfl, rfl, rfl, rfl, trivial⟩ ?_
        exact KE true _ _ (hW.low (fun k i j hk => by unfold zaddT; (repeat rw [zu_k (by omega)]); exact hlow0 k i j hk) (fun j hj => by unfold zaddT; (repeat rw [zu_k (by decide)]); rw [← hI0, zu_j (by omega)])) (by unfold zaddT; (repeat rw [zu_k (by decide)]); exact h30) (zRT.add hc (zRT.put hq0 rfl) rb h101 ⟨he1, he2⟩) (by rw [qu_n hab, hqa]; exact fun z => by cases z) (fun k i j hk => by unfold zaddT; (repeat rw [zu_k (by omega)]); exact hlow0 k i j hk) (by rw [hzu, hR, zcan_add, zc_49, hcan0])
  · have hk : k ≤ zsend (zcan I) 49 0 (6 * b + e) := by rw [← hcan0]; exact Int32.not_lt.mp h75
    have hR : zupR b e k v (zsend (zcan I)) q = ((zsend (zcan I), q), true) := by unfold zupR; rw [if_pos hk]
    refine z_iconst (v := nI 1) X d_Model_up_78 rfl ?_
    refine z_goto (tgt := 83) X d_Model_up_79 (by decide) ?_
    refine z_istore X d_Model_up_83 (by decide) rfl ?_
    refine z_iload X d_Model_up_85 rfl ?_
    refine z_if_ne (tgt := 179) X d_Model_up_87 (by decide) (fun _ => ?_) (fun hq => absurd hq (by decide))
    refine z_wk (ls2 := [some (.ref (zad g 29 0)), some (.int (nI a)), some (.int (nI b)), some (.int (nI ch)), none, some (.int (nI 1)), none]) ⟨rfl, rfl, rfl, rfl, rfl, trivial⟩ ?_
    exact KE true I0 q hW0 h30 hq0 (by rw [hqa]; exact fun z => by cases z) hlow0 (by rw [hzu, hR, hcan0])
theorem zRT.leave2 {c : Nat} {I1 I2 : zI} {q : zq} {r m : Nat} {a : Nat} {x : Int32} (hm : ∀ I2, zlvT I1 I2 r m → zRT c I2 q) (hl : zlvT (zu I1 48 0 a x) I2 r m) : zRT c I2 q := by
  have h1 : zlvT I1 (zu I2 48 0 a (I1 48 0 a)) r m := by
    obtain ⟨l1, l2, l3⟩ := hl
    refine ⟨fun k i j hk => ?_, fun r2 => ?_, fun k j h1 h2 => ?_⟩
    · rw [zu_if]
      by_cases e : k = 48 ∧ i = 0 ∧ j = a
      · rw [if_pos e, e.1, e.2.1, e.2.2]
      · rw [if_neg e, l1 k i j hk, zu_if, if_neg e]
    · rw [zu_k (by decide), l2 r2, zu_k (by decide)]
    · rw [zu_k (by omega), l3 k j h1 h2, zu_k (by omega), zu_k (by omega)]
  exact (hm _ h1).of (fun k j h1 h2 => (zu_k (by omega)).symm)
theorem c_Model_down (l : Launch) (g : zG) {S h n : Nat} {I : zI} {J : zJ} {R : zR} (hW : zW g S h n I R) (q : zq) (hq : zRT g.2.2.2 I q) (pf : Nat → Nat) (hp : ∀ k, 0 < k → k < g.2.2.2 → pf k < g.2.2.2 ∧ I 38 0 (2 * k) = nI (pf k)) (a b ch t : Nat) (ha : a < g.2.2.2) (hb : b < g.2.2.2) (hab : a ≠ b) (hch : ch < 4) (ht : t < 2 ^ 30) (h3 : I 29 0 3 = nI t) : zMet l g y_Model_down b_Model_down 8 none 2 46 0 0 (zPc g [.ref (zad g 29 0), .int (nI a), .int (nI b), .int (nI ch)] n I J R) (zQv g (fun u => ∃ I2, u = (n, I2, J, R) ∧ zcan I2 = (zdow pf a b (zbit (J 35 0 ch) t) (zbit (J 36 0 ch) t) (zcan I) q).1 ∧ zRT g.2.2.2 I2 (zdow pf a b (zbit (J 35 0 ch) t) (zbit (J 36 0 ch) t) (zcan I) q).2 ∧ ∀ k i j, k < 29 → I2 k i j = I k i j)) := by
  have hc := hW.2.1.2
  have h2c := hW.2.1.1
  have ra : zrv g.2.2.2 (6 + a) := Or.inr ⟨by omega, by omega⟩
  have rb : zrv g.2.2.2 (6 + b) := Or.inr ⟨by omega, by omega⟩
  obtain ⟨qa1, qa2, qa3⟩ := hq (6 + a) ra
  refine zMet.of (by decide) [some (.ref (zad g 29 0)), some (.int (nI a)), some (.int (nI b)), some (.int (nI ch)), none, none, none, none] rfl (Nat.le_of_ble_eq_true rfl) ?_
  intro pP eE sS mM aA bB mE cC X hret hnm
  have X : zC pP sS mM aA mE cC b_Model_down "SlottedMeshModel" 8 g := X
  have hret : mE.sig.returnType = none := hret
  -- the end: confirmed or not
  have KL : ∀ (I1 : zI) (q1 : zq), zW g S h n I1 R → zRT g.2.2.2 I1 q1 → q1 (6 + a) ≠ [] → ∃ m, m < 4 ∧ I1 43 0 (6 + a) = nI (m + 1) ∧ ∀ I2, zlvT I1 I2 (6 + a) m → zRT g.2.2.2 I2 (qu q1 (6 + a) (q1 (6 + a)).tail) := by
    intro I1 q1 hW hq1 hne
    obtain ⟨g1, g2, g3⟩ := hq1 (6 + a) ra
    cases hx : q1 (6 + a) with
    | nil => exact absurd hx hne
    | cons x t1 =>
      rw [hx] at g1 g2
      simp only [List.length_cons] at g1 g2
      exact ⟨t1.length, by omega, g2, fun I2 hl => zRT.leave hc hq1 ra hx hl⟩
  have KE : ∀ (d : Bool) (I1 : zI) (q1 : zq), zW g S h n I1 R → I1 29 0 3 = nI t → zRT g.2.2.2 I1 q1 → q1 (6 + a) ≠ [] → (∀ k i j, k < 29 → I1 k i j = I k i j) → zdow pf a b (zbit (J 35 0 ch) t) (zbit (J 36 0 ch) t) (zcan I) q = zdnE a (d && zbit (J 36 0 ch) t) (zcan I1) q1 → zV pP l eE (zrm 2 46 0 0) sS mM aA bB mE cC g 8 (MQ bB (zQv g (fun u => ∃ I2, u = (n, I2, J, R) ∧ zcan I2 = (zdow pf a b (zbit (J 35 0 ch) t) (zbit (J 36 0 ch) t) (zcan I) q).1 ∧ zRT g.2.2.2 I2 (zdow pf a b (zbit (J 35 0 ch) t) (zbit (J 36 0 ch) t) (zcan I) q).2 ∧ ∀ k i j, k < 29 → I2 k i j = I k i j)) aA sS 0 0 (zA g)) 0 0 225 [some (.ref (zad g 29 0)), some (.int (nI a)), some (.int (nI b)), some (.int (nI ch)), some (.int (nI (6 + a))), none, some (.int (if d = true then nI 1 else nI 0)), none] [] n I1 J R := by
    intro d I1 q1 hW h3 hq1 hne hlow hz
    obtain ⟨m1, hm1, hm2, hm3⟩ := KL I1 q1 hW hq1 hne
    rw [hz]
    have KF : (d && zbit (J 36 0 ch) t) = false → zV pP l eE (zrm 2 46 0 0) sS mM aA bB mE cC g 8 (MQ bB (zQv g (fun u => ∃ I2, u = (n, I2, J, R) ∧ zcan I2 = (zdow pf a b (zbit (J 35 0 ch) t) (zbit (J 36 0 ch) t) (zcan I) q).1 ∧ zRT g.2.2.2 I2 (zdow pf a b (zbit (J 35 0 ch) t) (zbit (J 36 0 ch) t) (zcan I) q).2 ∧ ∀ k i j, k < 29 → I2 k i j = I k i j)) aA sS 0 0 (zA g)) 0 0 260 [some (.ref (zad g 29 0)), some (.int (nI a)), some (.int (nI b)), some (.int (nI ch)), some (.int (nI (6 + a))), none, none, none] [] n I1 J R := by
      intro hd
      rw [hz, hd]
      refine z_aload_n X d_Model_down_260 rfl ?_
      refine gr_Model_66 (hW.c (k := 29) (f := 24) rfl rfl (by decide) rfl) X (zo_s rfl hW.1) d_Model_down_261 ?_
      refine z_iload_n X d_Model_down_264 rfl ?_
      refine z_dup2 X d_Model_down_265 rfl rfl ?_
      refine al_48 X (zo_s rfl hW.1) rfl (by omega) d_Model_down_266 ?_
      refine z_iconst (v := nI 1) X d_Model_down_267 rfl ?_
      refine z_iadd X d_Model_down_268 ?_
      refine as_48 X (zo_s rfl hW.1) rfl (by omega) d_Model_down_269 ?_
      refine z_aload_n X d_Model_down_270 rfl ?_
      refine gr_Model_66 (hW.c (k := 29) (f := 24) rfl rfl (by decide) rfl) X (zo_s rfl hW.1) d_Model_down_271 ?_
      refine z_iload_n X d_Model_down_274 rfl ?_
      refine al_48 X (zo_s rfl hW.1) rfl (by omega) d_Model_down_275 ?_
      refine z_top (congrArg Value.int zu_s) ?_
      refine z_bipush (v := nI 6) X d_Model_down_276 rfl ?_
      refine z_icmp_ne (tgt := 294) X d_Model_down_278 (by decide) (fun h278 => ?_) (fun h278 => ?_)
      · skip
        exact z_vret X hret (Nat.zero_le _) (Nat.zero_le _) (by first | exact ⟨_, rfl, by simp only [zc_48]; unfold zdnE; rw [if_neg (by decide), if_neg (show ¬ zcan I1 48 0 a + nI 1 = nI 6 from h278)]; rfl, by unfold zdnE; rw [if_neg (by decide), if_neg (show ¬ zcan I1 48 0 a + nI 1 = nI 6 from h278)]; exact zRT.put hq1 rfl, fun k i j hk => by (repeat rw [zu_k (by omega)]); exact hlow k i j hk⟩ | exact ⟨_, rfl, by simp only [zc_48, zcan_lv hl]; unfold zdnE; rw [if_neg (by decide), if_pos (show zcan I1 48 0 a + nI 1 = nI 6 from h278)]; dsimp only; funext k' i' j'; simp only [zu_if]; split <;> rfl, by unfold zdnE; rw [if_neg (by decide), if_pos (show zcan I1 48 0 a + nI 1 = nI 6 from h278)]; exact zRT.put (zRT.leave2 hm3 hl) rfl, fun k i j hk => by rw [zu_k (by omega), hl.1 k i j (by omega), zu_k (by omega)]; exact hlow k i j hk⟩) d_Model_down_294
      · refine z_aload_n X d_Model_down_281 rfl ?_
        refine z_iload X d_Model_down_282 rfl ?_
        refine z_cv (z_rV X cs_Model_169 rfl rfl (zo_s rfl hW.1).1 (zo_s rfl hW.1).2 (c_Model_leave l g (zW.upI hW rfl) (6 + a) m1 (by omega) hm1 (by exact hm2)) ⟨Nat.le_of_ble_eq_true rfl, Nat.le_of_ble_eq_true rfl⟩ rfl rfl (Nat.le_of_ble_eq_true rfl) ⟨Nat.le_of_ble_eq_true rfl, Nat.le_of_ble_eq_true rfl⟩ d_Model_down_284) (fun n2 I2 J2 R2 h => ?_)
        obtain ⟨I2, e, hl⟩ := h
        cases e
        refine z_aload_n X d_Model_down_287 rfl ?_
        refine gr_Model_66 (hW.c (k := 29) (f := 24) rfl rfl (by decide) rfl) X (zo_s rfl hW.1) d_Model_down_288 ?_
        refine z_iload_n X d_Model_down_291 rfl ?_
        refine z_iconst (v := nI 0) X d_Model_down_292 rfl ?_
        refine as_48 X (zo_s rfl hW.1) rfl (by omega) d_Model_down_293 ?_
        skip
        exact z_vret X hret (Nat.zero_le _) (Nat.zero_le _) (by first | exact ⟨_, rfl, by simp only [zc_48]; unfold zdnE; rw [if_neg (by decide), if_neg (show ¬ zcan I1 48 0 a + nI 1 = nI 6 from h278)]; rfl, by unfold zdnE; rw [if_neg (by decide), if_neg (show ¬ zcan I1 48 0 a + nI 1 = nI 6 from h278)]; exact zRT.put hq1 rfl, fun k i j hk => by (repeat rw [zu_k (by omega)]); exact hlow k i j hk⟩ | exact ⟨_, rfl, by simp only [zc_48, zcan_lv hl]; unfold zdnE; rw [if_neg (by decide), if_pos (show zcan I1 48 0 a + nI 1 = nI 6 from h278)]; dsimp only; funext k' i' j'; simp only [zu_if]; split <;> rfl, by unfold zdnE; rw [if_neg (by decide), if_pos (show zcan I1 48 0 a + nI 1 = nI 6 from h278)]; exact zRT.put (zRT.leave2 hm3 hl) rfl, fun k i j hk => by rw [zu_k (by omega), hl.1 k i j (by omega), zu_k (by omega)]; exact hlow k i j hk⟩) d_Model_down_294
    cases d with
    | false =>
      refine z_iload X d_Model_down_225 rfl ?_
      refine z_if_eq (tgt := 260) X d_Model_down_227 (by decide) (fun _ => ?_) (fun hq => absurd hq (by decide))
      refine z_wk (ls2 := [some (.ref (zad g 29 0)), some (.int (nI a)), some (.int (nI b)), some (.int (nI ch)), some (.int (nI (6 + a))), none, none, none]) ⟨rfl, rfl, rfl, rfl, rfl, trivial⟩ ?_
      rw [← hz]
      exact KF rfl
    | true =>
      refine z_iload X d_Model_down_225 rfl ?_
      refine z_if_eq (tgt := 260) X d_Model_down_227 (by decide) (fun hq => absurd hq (by decide)) (fun _ => ?_)
      refine z_aload_n X d_Model_down_230 rfl ?_
      refine gr_Model_30 (hW.c (k := 29) (f := 11) rfl rfl (by decide) rfl) X (zo_s rfl hW.1) d_Model_down_231 ?_
      refine z_iload_n X d_Model_down_234 rfl ?_
      refine al_36 X (zo_s rfl hW.1) rfl (by omega) d_Model_down_235 ?_
      refine z_aload_n X d_Model_down_236 rfl ?_
      refine gf_Model_147 X (zo_s rfl hW.1) d_Model_down_237 ?_
      refine z_top (congrArg Value.int (h3)) ?_
      refine z_ci (z_rS X cs_Model_150 (c_Model_bit l g _ t ht) ⟨Nat.le_of_ble_eq_true rfl, Nat.le_of_ble_eq_true rfl⟩ rfl rfl (Nat.le_of_ble_eq_true rfl) ⟨Nat.le_of_ble_eq_true rfl, Nat.le_of_ble_eq_true rfl⟩ d_Model_down_240) (fun r n2 I2 J2 R2 h => ?_)
      obtain ⟨rfl, e⟩ := h
      cases e
      refine z_if_eq (tgt := 260) X d_Model_down_243 (by decide) (fun h243 => ?_) (fun h243 => ?_)
      · refine z_wk (ls2 := [some (.ref (zad g 29 0)), some (.int (nI a)), some (.int (nI b)), some (.int (nI ch)), some (.int (nI (6 + a))), none, none, none]) ⟨rfl, rfl, rfl, rfl, rfl, trivial⟩ ?_
        rw [← hz]
        exact KF (by rw [zif0 h243]; rfl)
      · have hcb := zif1 h243
        rw [hcb]
        refine z_aload_n X d_Model_down_246 rfl ?_
        refine z_iload X d_Model_down_247 rfl ?_
        refine z_cv (z_rV X cs_Model_169 rfl rfl (zo_s rfl hW.1).1 (zo_s rfl hW.1).2 (c_Model_leave l g hW (6 + a) m1 (by omega) hm1 hm2) ⟨Nat.le_of_ble_eq_true rfl, Nat.le_of_ble_eq_true rfl⟩ rfl rfl (Nat.le_of_ble_eq_true rfl) ⟨Nat.le_of_ble_eq_true rfl, Nat.le_of_ble_eq_true rfl⟩ d_Model_down_249) (fun n2 I2 J2 R2 h => ?_)
        obtain ⟨I2, e, hl⟩ := h
        cases e
        refine z_aload_n X d_Model_down_252 rfl ?_
        refine gr_Model_66 (hW.c (k := 29) (f := 24) rfl rfl (by decide) rfl) X (zo_s rfl hW.1) d_Model_down_253 ?_
        refine z_iload_n X d_Model_down_256 rfl ?_
        refine z_iconst (v := nI 0) X d_Model_down_257 rfl ?_
        refine as_48 X (zo_s rfl hW.1) rfl (by omega) d_Model_down_258 ?_
        exact z_vret X hret (Nat.zero_le _) (Nat.zero_le _) ⟨_, rfl, by simp only [zc_48, zcan_lv hl]; unfold zdnE; rw [if_pos (by decide)], by unfold zdnE; rw [if_pos (by decide)]; exact zRT.put (hm3 I2 hl) rfl, fun k i j hk => by (repeat rw [zu_k (by omega)]); rw [hl.1 k i j (by omega)]; exact hlow k i j hk⟩ d_Model_down_259
  have H1 : ∀ (Z : Prop), Z → Z := fun _ z => z
  by_cases hcur : I 32 0 a = 0
  · refine z_bipush (v := nI 6) X d_Model_down_0 rfl ?_
    refine z_iload_n X d_Model_down_2 rfl ?_
    refine z_iadd X d_Model_down_3 ?_
    refine z_top (v2 := .int (nI (6 + a))) (congrArg Value.int (nI_add 6 a)) ?_
    refine z_istore X d_Model_down_4 (by decide) rfl ?_
    refine z_iconst (v := nI 4) X d_Model_down_6 rfl ?_
    refine z_iload X d_Model_down_7 rfl ?_
    refine z_imul X d_Model_down_9 ?_
    refine z_top (v2 := .int (nI (4 * (6 + a)))) (congrArg Value.int (pk_mul 4 (6 + a))) ?_
    refine z_istore X d_Model_down_10 (by decide) rfl ?_
    refine z_aload_n X d_Model_down_12 rfl ?_
    refine gr_Model_16 (hW.c (k := 29) (f := 7) rfl rfl (by decide) rfl) X (zo_s rfl hW.1) d_Model_down_13 ?_
    refine z_iload_n X d_Model_down_16 rfl ?_
    refine al_32 X (zo_s rfl hW.1) rfl (by omega) d_Model_down_17 ?_
    refine z_if_eq (tgt := 46) X d_Model_down_18 (by decide) (fun _ => ?_) (fun hq => absurd hq (fun z => z hcur))
    exact z_vret X hret (Nat.zero_le _) (Nat.zero_le _) ⟨I, rfl, by unfold zdow; rw [if_pos (show zcan I 32 0 a = 0 from hcur)], by unfold zdow; rw [if_pos (show zcan I 32 0 a = 0 from hcur)]; exact hq, fun _ _ _ _ => rfl⟩ d_Model_down_46
  rcases hqa : q (6 + a) with _ | ⟨⟨e, k, v⟩, tl⟩
  · refine z_bipush (v := nI 6) X d_Model_down_0 rfl ?_
    refine z_iload_n X d_Model_down_2 rfl ?_
    refine z_iadd X d_Model_down_3 ?_
    refine z_top (v2 := .int (nI (6 + a))) (congrArg Value.int (nI_add 6 a)) ?_
    refine z_istore X d_Model_down_4 (by decide) rfl ?_
    refine z_iconst (v := nI 4) X d_Model_down_6 rfl ?_
    refine z_iload X d_Model_down_7 rfl ?_
    refine z_imul X d_Model_down_9 ?_
    refine z_top (v2 := .int (nI (4 * (6 + a)))) (congrArg Value.int (pk_mul 4 (6 + a))) ?_
    refine z_istore X d_Model_down_10 (by decide) rfl ?_
    refine z_aload_n X d_Model_down_12 rfl ?_
    refine gr_Model_16 (hW.c (k := 29) (f := 7) rfl rfl (by decide) rfl) X (zo_s rfl hW.1) d_Model_down_13 ?_
    refine z_iload_n X d_Model_down_16 rfl ?_
    refine al_32 X (zo_s rfl hW.1) rfl (by omega) d_Model_down_17 ?_
    refine z_if_eq (tgt := 46) X d_Model_down_18 (by decide) (fun hq => absurd hq hcur) (fun _ => ?_)
    refine z_aload_n X d_Model_down_21 rfl ?_
    refine gr_Model_51 (hW.c (k := 29) (f := 19) rfl rfl (by decide) rfl) X (zo_s rfl hW.1) d_Model_down_22 ?_
    refine z_iload X d_Model_down_25 rfl ?_
    refine al_43 X (zo_s rfl hW.1) rfl (by omega) d_Model_down_27 ?_
    refine z_if_eq (tgt := 46) X d_Model_down_28 (by decide) (fun _ => ?_) (fun hq => absurd hq (fun z => z (by rw [qa2, hqa]; rfl)))
    exact z_vret X hret (Nat.zero_le _) (Nat.zero_le _) ⟨I, rfl, by unfold zdow; rw [if_neg (show ¬ zcan I 32 0 a = 0 from hcur), hqa], by unfold zdow; rw [if_neg (show ¬ zcan I 32 0 a = 0 from hcur), hqa]; exact hq, fun _ _ _ _ => rfl⟩ d_Model_down_46
  rw [hqa] at qa1 qa2 qa3
  simp only [List.length_cons] at qa1 qa2
  obtain ⟨⟨he1, he2⟩, f1, f2, f3⟩ := qa3 0 e k v rfl
  have hzu : zdow pf a b (zbit (J 35 0 ch) t) (zbit (J 36 0 ch) t) (zcan I) q = if zbl pf b 6 e = b then (if zhears (zsend (zcan I)) a b (zbit (J 35 0 ch) t) = true then zdnE a ((zdnR a b e k v (zsend (zcan I)) q).2 && zbit (J 36 0 ch) t) (zdnR a b e k v (zsend (zcan I)) q).1.1 (zdnR a b e k v (zsend (zcan I)) q).1.2 else zdnE a false (zsend (zcan I)) q) else (zcan I, q) := by
    unfold zdow
    rw [if_neg (show ¬ zcan I 32 0 a = 0 from hcur), hqa]
  refine z_bipush (v := nI 6) X d_Model_down_0 rfl ?_
  refine z_iload_n X d_Model_down_2 rfl ?_
  refine z_iadd X d_Model_down_3 ?_
  refine z_top (v2 := .int (nI (6 + a))) (congrArg Value.int (nI_add 6 a)) ?_
  refine z_istore X d_Model_down_4 (by decide) rfl ?_
  refine z_iconst (v := nI 4) X d_Model_down_6 rfl ?_
  refine z_iload X d_Model_down_7 rfl ?_
  refine z_imul X d_Model_down_9 ?_
  refine z_top (v2 := .int (nI (4 * (6 + a)))) (congrArg Value.int (pk_mul 4 (6 + a))) ?_
  refine z_istore X d_Model_down_10 (by decide) rfl ?_
  refine z_aload_n X d_Model_down_12 rfl ?_
  refine gr_Model_16 (hW.c (k := 29) (f := 7) rfl rfl (by decide) rfl) X (zo_s rfl hW.1) d_Model_down_13 ?_
  refine z_iload_n X d_Model_down_16 rfl ?_
  refine al_32 X (zo_s rfl hW.1) rfl (by omega) d_Model_down_17 ?_
  refine z_if_eq (tgt := 46) X d_Model_down_18 (by decide) (fun hq => absurd hq hcur) (fun _ => ?_)
  refine z_aload_n X d_Model_down_21 rfl ?_
  refine gr_Model_51 (hW.c (k := 29) (f := 19) rfl rfl (by decide) rfl) X (zo_s rfl hW.1) d_Model_down_22 ?_
  refine z_iload X d_Model_down_25 rfl ?_
  refine al_43 X (zo_s rfl hW.1) rfl (by omega) d_Model_down_27 ?_
  refine z_if_eq (tgt := 46) X d_Model_down_28 (by decide) (fun hq => absurd hq (fun z => nI_ne0 (n := tl.length + 1) (by omega) (by omega) (by rw [← qa2]; exact z))) (fun _ => ?_)
  refine z_aload_n X d_Model_down_31 rfl ?_
  refine z_aload_n X d_Model_down_32 rfl ?_
  refine gr_Model_54 (hW.c (k := 29) (f := 20) rfl rfl (by decide) rfl) X (zo_s rfl hW.1) d_Model_down_33 ?_
  refine z_iload X d_Model_down_36 rfl ?_
  refine al_44 X (zo_s rfl hW.1) rfl (by omega) d_Model_down_38 ?_
  refine z_top (v2 := .int (nI e)) (congrArg Value.int f1) ?_
  refine z_iload_n X d_Model_down_39 rfl ?_
  refine z_ci (z_rV X cs_Model_173 rfl rfl (zo_s rfl hW.1).1 (zo_s rfl hW.1).2 (c_Model_below l g hW pf hp e b he2 (by omega)) ⟨Nat.le_of_ble_eq_true rfl, Nat.le_of_ble_eq_true rfl⟩ rfl rfl (Nat.le_of_ble_eq_true rfl) ⟨Nat.le_of_ble_eq_true rfl, Nat.le_of_ble_eq_true rfl⟩ d_Model_down_40) (fun r n2 I2 J2 R2 h => ?_)
  obtain ⟨rfl, e⟩ := h
  cases e
  by_cases hbl : ¬ zbl pf b 6 e = b
  · rw [if_neg hbl]
    refine z_if_ne (tgt := 47) X d_Model_down_43 (by decide) (fun hq => absurd hq (by decide)) (fun _ => ?_)
    exact z_vret X hret (Nat.zero_le _) (Nat.zero_le _) ⟨I, rfl, by rw [hzu, if_neg hbl], by rw [hzu, if_neg hbl]; exact hq, fun _ _ _ _ => rfl⟩ d_Model_down_46
  have hbl := Decidable.not_not.mp hbl
  rw [if_pos hbl] at hzu
  rw [if_pos hbl]
  refine z_if_ne (tgt := 47) X d_Model_down_43 (by decide) (fun _ => ?_) (fun hq => absurd hq (by decide))
  generalize hI0 : zu I 29 0 4 (I 29 0 4 + nI 1) = I0 at *
  have hcan0 : zcan I0 = zsend (zcan I) := by rw [← hI0, zc_29]; rfl
  have hlow0 : ∀ k i j, k < 29 → I0 k i j = I k i j := fun k i j hk => by rw [← hI0, zu_k (by omega)]
  have hW0 : zW g S h n I0 R := by rw [← hI0]; exact hW.upI rfl
  have hq0 : zRT g.2.2.2 I0 q := by rw [← hI0]; exact zRT.put hq rfl
  have h30 : I0 29 0 3 = nI t := by rw [← hI0]; exact h3
  have hne0 : q (6 + a) ≠ [] := by rw [hqa]; exact fun z => by cases z
  refine z_aload_n X d_Model_down_47 rfl ?_
  refine z_dup X d_Model_down_48 rfl ?_
  refine gf_Model_158 X (zo_s rfl hW.1) d_Model_down_49 ?_
  refine z_iconst (v := nI 1) X d_Model_down_52 rfl ?_
  refine z_iadd X d_Model_down_53 ?_
  refine pf_Model_158 X (zo_s rfl hW.1) d_Model_down_54 ?_
  refine z_eqI hI0 ?_
  refine z_iconst (v := nI 0) X d_Model_down_57 rfl ?_
  refine z_istore X d_Model_down_58 (by decide) rfl ?_
  refine z_aload_n X d_Model_down_60 rfl ?_
  refine z_iload_n X d_Model_down_61 rfl ?_
  refine z_iload_n X d_Model_down_62 rfl ?_
  refine z_iload_n X d_Model_down_63 rfl ?_
  refine z_ci (z_rV X cs_Model_161 rfl rfl (zo_s rfl hW.1).1 (zo_s rfl hW.1).2 (c_Model_hears l g hW0 a b ch t (by omega) (by omega) hch ht h30) ⟨Nat.le_of_ble_eq_true rfl, Nat.le_of_ble_eq_true rfl⟩ rfl rfl (Nat.le_of_ble_eq_true rfl) ⟨Nat.le_of_ble_eq_true rfl, Nat.le_of_ble_eq_true rfl⟩ d_Model_down_64) (fun r n2 I2 J2 R2 h => ?_)
  obtain ⟨rfl, e⟩ := h
  cases e
  rw [show zhears I0 a b (zbit (J 35 0 ch) t) = zhears (zsend (zcan I)) a b (zbit (J 35 0 ch) t) by rw [← hcan0]; rfl]
  refine z_if_eq (tgt := 225) X d_Model_down_67 (by decide) (fun h67 => ?_) (fun h67 => ?_)
  · refine z_wk (ls2 := [some (.ref (zad g 29 0)), some (.int (nI a)), some (.int (nI b)), some (.int (nI ch)), some (.int (nI (6 + a))), none, some (.int (nI 0)), none]) ⟨rfl, rfl, rfl, rfl, rfl, rfl, trivial⟩ ?_
    exact KE false I0 q hW0 h30 hq0 hne0 hlow0 (by rw [hzu, if_neg (by rw [zif0 h67]; decide), hcan0]; rfl)
  have hhr := zif1 h67
  rw [if_pos hhr] at hzu
  have f1' : I0 44 0 (4 * (6 + a)) = nI e := by rw [← hI0, zu_k (by decide)]; exact f1
  have f2' : I0 45 0 (4 * (6 + a)) = k := by rw [← hI0, zu_k (by decide)]; exact f2
  have f3' : I0 46 0 (4 * (6 + a)) = v := by rw [← hI0, zu_k (by decide)]; exact f3
  refine z_bipush (v := nI 36) X d_Model_down_70 rfl ?_
  refine z_bipush (v := nI 6) X d_Model_down_72 rfl ?_
  refine z_iload_n X d_Model_down_74 rfl ?_
  refine z_imul X d_Model_down_75 ?_
  refine z_iadd X d_Model_down_76 ?_
  refine z_aload_n X d_Model_down_77 rfl ?_
  refine gr_Model_54 (hW.c (k := 29) (f := 20) rfl rfl (by decide) rfl) X (zo_s rfl hW.1) d_Model_down_78 ?_
  refine z_iload X d_Model_down_81 rfl ?_
  refine al_44 X (zo_s rfl hW.1) rfl (by omega) d_Model_down_83 ?_
  refine z_top (congrArg Value.int f1') ?_
  refine z_iadd X d_Model_down_84 ?_
  refine z_top (v2 := .int (nI (36 + 6 * b + e))) (congrArg Value.int (by rw [pk_mul, nI_add, nI_add])) ?_
  refine z_istore X d_Model_down_85 (by decide) rfl ?_
  refine z_aload_n X d_Model_down_87 rfl ?_
  refine gr_Model_19 (hW.c (k := 29) (f := 8) rfl rfl (by decide) rfl) X (zo_s rfl hW.1) d_Model_down_88 ?_
  refine z_iload_n X d_Model_down_91 rfl ?_
  refine z_aload_n X d_Model_down_92 rfl ?_
  refine gr_Model_19 (hW.c (k := 29) (f := 8) rfl rfl (by decide) rfl) X (zo_s rfl hW.1) d_Model_down_93 ?_
  refine z_iload_n X d_Model_down_96 rfl ?_
  refine al_33 X (zo_s rfl hW.1) rfl (by omega) d_Model_down_97 ?_
  refine as_33 X (zo_s rfl hW.1) rfl (by omega) d_Model_down_98 ?_
  generalize hI1 : zu I0 33 0 b (I0 33 0 a) = I1 at *
  have hcan1 : zcan I1 = zu (zsend (zcan I)) 33 0 b (zsend (zcan I) 33 0 a) := by rw [← hI1, zc_33, hcan0, ← hcan0]; rfl
  have hlow1 : ∀ k i j, k < 29 → I1 k i j = I k i j := fun k i j hk => by rw [← hI1, zu_k (by omega)]; exact hlow0 k i j hk
  have hW1 : zW g S h n I1 R := by rw [← hI1]; exact hW0.upI rfl
  have hq1 : zRT g.2.2.2 I1 q := by rw [← hI1]; exact zRT.put hq0 rfl
  have h31 : I1 29 0 3 = nI t := by rw [← hI1]; exact h30
  have g1' : I1 44 0 (4 * (6 + a)) = nI e := by rw [← hI1, zu_k (by decide)]; exact f1'
  have g2' : I1 45 0 (4 * (6 + a)) = k := by rw [← hI1, zu_k (by decide)]; exact f2'
  have g3' : I1 46 0 (4 * (6 + a)) = v := by rw [← hI1, zu_k (by decide)]; exact f3'
  have h49 : I1 49 0 (36 + 6 * b + e) = zsend (zcan I) 49 0 (36 + 6 * b + e) := by rw [← hI1, zu_k (by decide), ← hcan0]; rfl
  refine z_aload_n X d_Model_down_99 rfl ?_
  refine gr_Model_57 (hW.c (k := 29) (f := 21) rfl rfl (by decide) rfl) X (zo_s rfl hW.1) d_Model_down_100 ?_
  refine z_iload X d_Model_down_103 rfl ?_
  refine al_45 X (zo_s rfl hW.1) rfl (by omega) d_Model_down_105 ?_
  refine z_top (congrArg Value.int g2') ?_
  refine z_aload_n X d_Model_down_106 rfl ?_
  refine gr_Model_69 (hW.c (k := 29) (f := 25) rfl rfl (by decide) rfl) X (zo_s rfl hW.1) d_Model_down_107 ?_
  refine z_iload X d_Model_down_110 rfl ?_
  refine al_49 X (zo_s rfl hW.1) rfl (by omega) d_Model_down_112 ?_
  refine z_icmp_gt (tgt := 120) X d_Model_down_113 (by decide) (fun h113 => ?_) (fun h113 => ?_)
  · have hnk : ¬ k ≤ zsend (zcan I) 49 0 (36 + 6 * b + e) := fun z => by rw [← h49] at z; exact absurd h113 (Int32.not_lt.mpr z)
    refine z_iconst (v := nI 0) X d_Model_down_120 rfl ?_
    refine z_istore X d_Model_down_121 (by decide) rfl ?_
    refine z_iload X d_Model_down_123 rfl ?_
    refine z_if_ne (tgt := 225) X d_Model_down_125 (by decide) (fun hq => absurd hq (by decide)) (fun _ => ?_)
    refine z_aload_n X d_Model_down_128 rfl ?_
    refine gr_Model_54 (hW.c (k := 29) (f := 20) rfl rfl (by decide) rfl) X (zo_s rfl hW.1) d_Model_down_129 ?_
    refine z_iload X d_Model_down_132 rfl ?_
    refine al_44 X (zo_s rfl hW.1) rfl (by omega) d_Model_down_134 ?_
    refine z_top (v2 := .int (nI e)) (congrArg Value.int g1') ?_
    refine z_iload_n X d_Model_down_135 rfl ?_
    by_cases heb : e = b
    · have hR : zdnR a b e k v (zsend (zcan I)) q = ((zu (zu (zu (zsend (zcan I)) 33 0 b (zsend (zcan I) 33 0 a)) 49 0 (36 + 6 * b + e) k) 57 0 b v, q), true) := by unfold zdnR; rw [if_neg hnk, if_pos heb]
      refine z_icmp_eq (tgt := 152) X d_Model_down_136 (by decide) (fun _ => ?_) (fun hq => absurd hq (fun z => z (by rw [heb])))
      refine z_iconst (v := nI 1) X d_Model_down_152 rfl ?_
      refine z_istore X d_Model_down_153 (by decide) rfl ?_
      refine z_aload_n X d_Model_down_155 rfl ?_
      refine gr_Model_69 (hW.c (k := 29) (f := 25) rfl rfl (by decide) rfl) X (zo_s rfl hW.1) d_Model_down_156 ?_
      refine z_iload X d_Model_down_159 rfl ?_
      refine z_aload_n X d_Model_down_161 rfl ?_
      refine gr_Model_57 (hW.c (k := 29) (f := 21) rfl rfl (by decide) rfl) X (zo_s rfl hW.1) d_Model_down_162 ?_
      refine z_iload X d_Model_down_165 rfl ?_
      refine al_45 X (zo_s rfl hW.1) rfl (by omega) d_Model_down_167 ?_
      refine z_top (v2 := .int k) (congrArg Value.int g2') ?_
      refine as_49 X (zo_s rfl hW.1) rfl (by omega) d_Model_down_168 ?_
      refine z_aload_n X d_Model_down_169 rfl ?_
      refine gr_Model_54 (hW.c (k := 29) (f := 20) rfl rfl (by decide) rfl) X (zo_s rfl hW.1) d_Model_down_170 ?_
      refine z_iload X d_Model_down_173 rfl ?_
      refine al_44 X (zo_s rfl hW.1) rfl (by omega) d_Model_down_175 ?_
      refine z_top (v2 := .int (nI e)) (congrArg Value.int g1') ?_
      refine z_iload_n X d_Model_down_176 rfl ?_
      refine z_icmp_ne (tgt := 196) X d_Model_down_177 (by decide) (fun hq => absurd hq (fun z => z (by rw [heb]))) (fun _ => ?_)
      refine z_aload_n X d_Model_down_180 rfl ?_
      refine gr_Model_93 (hW.c (k := 29) (f := 33) rfl rfl (by decide) rfl) X (zo_s rfl hW.1) d_Model_down_181 ?_
      refine z_iload_n X d_Model_down_184 rfl ?_
      refine z_aload_n X d_Model_down_185 rfl ?_
      refine gr_Model_60 (hW.c (k := 29) (f := 22) rfl rfl (by decide) rfl) X (zo_s rfl hW.1) d_Model_down_186 ?_
      refine z_iload X d_Model_down_189 rfl ?_
      refine al_46 X (zo_s rfl hW.1) rfl (by omega) d_Model_down_191 ?_
      refine z_top (v2 := .int v) (congrArg Value.int g3') ?_
      refine as_57 X (zo_s rfl hW.1) rfl (by omega) d_Model_down_192 ?_
      refine z_goto (tgt := 225) X d_Model_down_193 (by decide) ?_
      refine z_wk (ls2 := [some (.ref (zad g 29 0)), some (.int (nI a)), some (.int (nI b)), some (.int (nI ch)), some (.int (nI (6 + a))), none, some (.int (nI 1)), none]) ⟨rfl, rfl, rfl, rfl, rfl, rfl, trivial⟩ ?_
      exact KE true _ q (zW.upI (zW.upI hW1 rfl) rfl) h31 (zRT.put (zRT.put hq1 rfl) rfl) hne0 (fun k i j hk => by (repeat rw [zu_k (by omega)]); exact hlow1 k i j hk) (by rw [hzu, hR, zc_57, zc_49, hcan1])
    · refine z_icmp_eq (tgt := 152) X d_Model_down_136 (by decide) (fun hq => absurd hq (fun z => heb (nI_inj (by omega) (by omega) z))) (fun _ => ?_)
      refine z_aload_n X d_Model_down_139 rfl ?_
      refine gr_Model_51 (hW.c (k := 29) (f := 19) rfl rfl (by decide) rfl) X (zo_s rfl hW.1) d_Model_down_140 ?_
      refine z_bipush (v := nI 6) X d_Model_down_143 rfl ?_
      refine z_iload_n X d_Model_down_145 rfl ?_
      refine z_iadd X d_Model_down_146 ?_
      refine z_top (v2 := .int (nI (6 + b))) (congrArg Value.int (nI_add 6 b)) ?_
      refine al_43 X (zo_s rfl hW.1) rfl (by omega) d_Model_down_147 ?_
      refine z_top (v2 := .int (nI (q (6 + b)).length)) (congrArg Value.int (hq1 (6 + b) rb).2.1) ?_
      refine z_iconst (v := nI 4) X d_Model_down_148 rfl ?_
      refine z_icmpN_ge (tgt := 225) X d_Model_down_149 (by decide) (by have := (hq1 (6 + b) rb).1; omega) (by omega) (fun h149 => ?_) (fun h149 => ?_)
      · have hR : zdnR a b e k v (zsend (zcan I)) q = ((zu (zsend (zcan I)) 33 0 b (zsend (zcan I) 33 0 a), q), false) := by unfold zdnR; rw [if_neg hnk, if_neg heb, if_neg (by omega)]
        refine z_wk (ls2 := [some (.ref (zad g 29 0)), some (.int (nI a)), some (.int (nI b)), some (.int (nI ch)), some (.int (nI (6 + a))), none, some (.int (nI 0)), none]) ⟨rfl, rfl, rfl, rfl, rfl, rfl, trivial⟩ ?_
        exact KE false I1 q hW1 h31 hq1 hne0 hlow1 (by rw [hzu, hR, hcan1])
      · have hR : zdnR a b e k v (zsend (zcan I)) q = ((zu (zu (zsend (zcan I)) 33 0 b (zsend (zcan I) 33 0 a)) 49 0 (36 + 6 * b + e) k, qu q (6 + b) (q (6 + b) ++ [(e, k, v)])), true) := by unfold zdnR; rw [if_neg hnk, if_neg heb, if_pos h149]
        refine z_iconst (v := nI 1) X d_Model_down_152 rfl ?_
        refine z_istore X d_Model_down_153 (by decide) rfl ?_
        refine z_aload_n X d_Model_down_155 rfl ?_
        refine gr_Model_69 (hW.c (k := 29) (f := 25) rfl rfl (by decide) rfl) X (zo_s rfl hW.1) d_Model_down_156 ?_
        refine z_iload X d_Model_down_159 rfl ?_
        refine z_aload_n X d_Model_down_161 rfl ?_
        refine gr_Model_57 (hW.c (k := 29) (f := 21) rfl rfl (by decide) rfl) X (zo_s rfl hW.1) d_Model_down_162 ?_
        refine z_iload X d_Model_down_165 rfl ?_
        refine al_45 X (zo_s rfl hW.1) rfl (by omega) d_Model_down_167 ?_
        refine z_top (v2 := .int k) (congrArg Value.int g2') ?_
        refine as_49 X (zo_s rfl hW.1) rfl (by omega) d_Model_down_168 ?_
        refine z_aload_n X d_Model_down_169 rfl ?_
        refine gr_Model_54 (hW.c (k := 29) (f := 20) rfl rfl (by decide) rfl) X (zo_s rfl hW.1) d_Model_down_170 ?_
        refine z_iload X d_Model_down_173 rfl ?_
        refine al_44 X (zo_s rfl hW.1) rfl (by omega) d_Model_down_175 ?_
        refine z_top (v2 := .int (nI e)) (congrArg Value.int g1') ?_
        refine z_iload_n X d_Model_down_176 rfl ?_
        refine z_icmp_ne (tgt := 196) X d_Model_down_177 (by decide) (fun _ => ?_) (fun hq => absurd hq (fun z => heb (nI_inj (by omega) (by omega) z)))
        refine z_aload_n X d_Model_down_196 rfl ?_
        refine z_bipush (v := nI 6) X d_Model_down_197 rfl ?_
        refine z_iload_n X d_Model_down_199 rfl ?_
        refine z_iadd X d_Model_down_200 ?_
        refine z_top (v2 := .int (nI (6 + b))) (congrArg Value.int (nI_add 6 b)) ?_
        refine z_aload_n X d_Model_down_201 rfl ?_
        refine gr_Model_54 (hW.c (k := 29) (f := 20) rfl rfl (by decide) rfl) X (zo_s rfl hW.1) d_Model_down_202 ?_
        refine z_iload X d_Model_down_205 rfl ?_
        refine al_44 X (zo_s rfl hW.1) rfl (by omega) d_Model_down_207 ?_
        refine z_top (v2 := .int (nI e)) (congrArg Value.int g1') ?_
        refine z_aload_n X d_Model_down_208 rfl ?_
        refine gr_Model_57 (hW.c (k := 29) (f := 21) rfl rfl (by decide) rfl) X (zo_s rfl hW.1) d_Model_down_209 ?_
        refine z_iload X d_Model_down_212 rfl ?_
        refine al_45 X (zo_s rfl hW.1) rfl (by omega) d_Model_down_214 ?_
        refine z_top (v2 := .int k) (congrArg Value.int g2') ?_
        refine z_aload_n X d_Model_down_215 rfl ?_
        refine gr_Model_60 (hW.c (k := 29) (f := 22) rfl rfl (by decide) rfl) X (zo_s rfl hW.1) d_Model_down_216 ?_
        refine z_iload X d_Model_down_219 rfl ?_
        refine al_46 X (zo_s rfl hW.1) rfl (by omega) d_Model_down_221 ?_
        refine z_top (v2 := .int v) (congrArg Value.int g3') ?_
        refine z_cv (z_rV X cs_Model_139 rfl rfl (zo_s rfl hW.1).1 (zo_s rfl hW.1).2 (c_Model_add l g (zW.upI hW1 rfl) (6 + b) (q (6 + b)).length (by omega) h149 (by exact (hq1 (6 + b) rb).2.1) (nI e) k v) ⟨Nat.le_of_ble_eq_true rfl, Nat.le_of_ble_eq_true rfl⟩ rfl rfl (Nat.le_of_ble_eq_true rfl) ⟨Nat.le_of_ble_eq_true rfl, Nat.le_of_ble_eq_true rfl⟩ d_Model_down_222) (fun n2 I2 J2 R2 h => ?_)
        cases h
        refine z_wk (ls2 := [some (.ref (zad g 29 0)), some (.int (nI a)), some (.int (nI b)), some (.int (nI ch)), some (.int (nI (6 + a))), none, some (.int (nI 1)), none]) ⟨rfl, rfl, rfl, rfl, rfl, rfl, trivial⟩ ?_
        exact KE true _ _ (hW1.low (fun k i j hk => by unfold zaddT; (repeat rw [zu_k (by omega)])) (fun j hj => by unfold zaddT; (repeat rw [zu_k (by decide)]))) (by unfold zaddT; (repeat rw [zu_k (by decide)]); exact h31) (zRT.add hc (zRT.put hq1 rfl) rb h149 ⟨he1, he2⟩) (by rw [qu_n (by omega)]; exact hne0) (fun k i j hk => by unfold zaddT; (repeat rw [zu_k (by omega)]); exact hlow1 k i j hk) (by rw [hzu, hR, zcan_add, zc_49, hcan1])
  · have hk : k ≤ zsend (zcan I) 49 0 (36 + 6 * b + e) := by rw [← h49]; exact Int32.not_lt.mp h113
    have hR : zdnR a b e k v (zsend (zcan I)) q = ((zu (zsend (zcan I)) 33 0 b (zsend (zcan I) 33 0 a), q), true) := by unfold zdnR; rw [if_pos hk]
    refine z_iconst (v := nI 1) X d_Model_down_116 rfl ?_
    refine z_goto (tgt := 121) X d_Model_down_117 (by decide) ?_
    refine z_istore X d_Model_down_121 (by decide) rfl ?_
    refine z_iload X d_Model_down_123 rfl ?_
    refine z_if_ne (tgt := 225) X d_Model_down_125 (by decide) (fun _ => ?_) (fun hq => absurd hq (by decide))
    refine z_wk (ls2 := [some (.ref (zad g 29 0)), some (.int (nI a)), some (.int (nI b)), some (.int (nI ch)), some (.int (nI (6 + a))), none, some (.int (nI 1)), none]) ⟨rfl, rfl, rfl, rfl, rfl, rfl, trivial⟩ ?_
    exact KE true I1 q hW1 h31 hq1 hne0 hlow1 (by rw [hzu, hR, hcan1])

