/-! TABLES AND INSTANCEOF; the component's stop, count, cell -/
section ZT
variable {p : Program} {l : Launch} {e : Env} {Rm : Room} {s : State} {m : MethodId} {args : Array Value} {below : List Frame} {meth : Method} {c : Code} {Q : State → Prop} {cells slots : Nat}
variable {cc : ByteArray} {own : String} {nL : Nat} {g : zG} {pc pc' : Nat} {ls : List (Option Value)} {st : List Value} {n : Nat} {I : zI} {J : zJ} {R : zR}
theorem z_tableOut (X : zC p s m args meth c cc own nL g) {x : Int32} {dflt lo hi : Int} {offs : Array Int} {len tgt : Nat} (hd : zD cc pc (.tableswitch dflt lo hi offs) len pc') (h : x.toInt < lo ∨ hi < x.toInt) (ht : (pc : Int) + dflt = (tgt : Int)) (kk : zV p l e Rm s m args below meth c g nL Q cells slots tgt ls st n I J R) : zV p l e Rm s m args below meth c g nL Q cells slots pc ls (.int x :: st) n I J R := fun H locs la hP hS hL => lv_tableOut X.1 X.2.1 hd.1 h ht (kk H locs la hP hS hL)
theorem z_tableIn (X : zC p s m args meth c cc own nL g) {x : Int32} {dflt lo hi : Int} {offs : Array Int} {len tgt : Nat} (j : Nat) {off : Int} (hd : zD cc pc (.tableswitch dflt lo hi offs) len pc') (hx : x.toInt = lo + j) (h2 : lo + j ≤ hi) (ho : offs[j]? = some off) (ht : (pc : Int) + off = (tgt : Int)) (kk : zV p l e Rm s m args below meth c g nL Q cells slots tgt ls st n I J R) : zV p l e Rm s m args below meth c g nL Q cells slots pc ls (.int x :: st) n I J R := fun H locs la hP hS hL => lv_tableIn X.1 X.2.1 hd.1 (by omega) (by omega) (by rw [hx, show (lo + (j : Int) - lo).toNat = j by omega]; exact ho) ht (kk H locs la hP hS hL)
theorem z_instY (X : zC p s m args meth c cc own nL g) {C nm : String} {T : u_T} {ci N idx k i : Nat} (w : Cond.classLink own idx nm ∈ zTB) (v : Cond.castable C nm ∈ lw_tbl) (hc : zcl[ci]? = some (C, T, N)) (hs : zsh k i = .inl (ci, N)) (ho : zo g n k i) (hd : zD cc pc (.instanceof idx) 3 pc') (kk : zV p l e Rm s m args below meth c g nL Q cells slots pc' ls (.int 1 :: st) n I J R) : zV p l e Rm s m args below meth c g nL Q cells slots pc ls (.ref (zad g k i) :: st) n I J R := by
  obtain ⟨hd, rfl⟩ := hd
  intro H locs la hP hS hL
  exact va_instY X.1 X.2.1 X.2.2.1 (X.2.2.2.1 _ w) (X.2.2.2.2.2.1.2.1 _ v rfl) (X.recv hP ho.1 ho.2 hs hc) hd (kk H locs la hP hS hL)
theorem z_instNo (X : zC p s m args meth c cc own nL g) {C nm : String} {T : u_T} {ci N idx k i : Nat} (w : Cond.classLink own idx nm ∈ zTB) (v : va_Nc C nm s) (hc : zcl[ci]? = some (C, T, N)) (hs : zsh k i = .inl (ci, N)) (ho : zo g n k i) (hd : zD cc pc (.instanceof idx) 3 pc') (kk : zV p l e Rm s m args below meth c g nL Q cells slots pc' ls (.int 0 :: st) n I J R) : zV p l e Rm s m args below meth c g nL Q cells slots pc ls (.ref (zad g k i) :: st) n I J R := by
  obtain ⟨hd, rfl⟩ := hd
  intro H locs la hP hS hL
  exact va_instNo X.1 X.2.1 X.2.2.1 (X.2.2.2.1 _ w) v (X.recv hP ho.1 ho.2 hs hc) hd (kk H locs la hP hS hL)
end ZT
theorem c_SM_count (l : Launch) (g : zG) {S h n N : Nat} {I : zI} {J : zJ} {R : zR} {fl : zfl} {A : zI} {q : zq} (hW : zW g S h n I R) (hC : zRC g.2.2.2 n N I R fl A q) (x y : Int32) : zMet l g y_SM_count b_SM_count 4 (some .int) 1 21 0 0 (zPc g [.ref (zad g 0 0), .int x, .int y] n I J R) (zQi g (fun r u => r = sCount g.2.2.2 A q x y ∧ u = (n, I, J, R))) := by
  have hc := hW.2.1.2
  refine zMet.of (by decide) [some (.ref (zad g 0 0)), some (.int x), some (.int y), none] rfl (Nat.le_of_ble_eq_true rfl) ?_
  intro pP eE sS mM aA bB mE cC X hret hnm
  have X : zC pP sS mM aA mE cC b_SM_count "SlottedMesh" 4 g := X
  have hret : mE.sig.returnType = (some .int) := hret
  refine z_aload_n X d_SM_count_0 rfl ?_
  refine z_iload_n X d_SM_count_1 rfl ?_
  rcases hz_i : znd g.2.2.2 x with _ | i
  · refine z_cq (z_rV X cs_SM_162 rfl rfl (zo_s rfl hW.1).1 (zo_s rfl hW.1).2 (c_SM_node l g hW _) ⟨Nat.le_of_ble_eq_true rfl, Nat.le_of_ble_eq_true rfl⟩ rfl rfl (Nat.le_of_ble_eq_true rfl) ⟨Nat.le_of_ble_eq_true rfl, Nat.le_of_ble_eq_true rfl⟩ d_SM_count_2) (fun r n2 I2 J2 R2 h => ?_)
    obtain ⟨rfl, e⟩ := h
    cases e
    refine z_top (v2 := .null) (by rw [hz_i]; rfl) ?_
    refine z_astore_nN X d_SM_count_5 (by decide) rfl ?_
    refine z_aload_nN X d_SM_count_6 rfl ?_
    refine z_ifnonnullN (tgt := 12) X d_SM_count_7 (by decide) ?_
    refine z_iconst (v := -1) X d_SM_count_10 rfl ?_
    exact z_iret X hret rfl (Nat.zero_le _) (Nat.zero_le _) ⟨by unfold sCount; rw [hz_i], rfl⟩ d_SM_count_11
  · obtain ⟨hi_i, rfl⟩ := znd_some hc hz_i
    refine z_cq (z_rV X cs_SM_162 rfl rfl (zo_s rfl hW.1).1 (zo_s rfl hW.1).2 (c_SM_node l g hW _) ⟨Nat.le_of_ble_eq_true rfl, Nat.le_of_ble_eq_true rfl⟩ rfl rfl (Nat.le_of_ble_eq_true rfl) ⟨Nat.le_of_ble_eq_true rfl, Nat.le_of_ble_eq_true rfl⟩ d_SM_count_2) (fun r n2 I2 J2 R2 h => ?_)
    obtain ⟨rfl, e⟩ := h
    cases e
    refine z_top (v2 := .ref (zad g 1 i)) (by rw [hz_i]; rfl) ?_
    refine z_astore_n X d_SM_count_5 (by decide) rfl ?_
    refine z_aload_n X d_SM_count_6 rfl ?_
    refine z_ifnonnull (tgt := 12) X d_SM_count_7 (by decide) ?_
    refine z_iload_n X d_SM_count_12 rfl ?_
    have hr : zrv g.2.2.2 i := Or.inl hi_i
    have hr6 : zrv g.2.2.2 (6 + i) := Or.inr ⟨by omega, by omega⟩
    have hs : sCount g.2.2.2 A q (nI i) y = if y = 0 then nI (q i).length else if y = nI 1 then nI (q (6 + i)).length else if y = nI 2 then A 47 0 i else if y = nI 3 then A 48 0 i else -1 := by unfold sCount; rw [hz_i]
    rw [hs]
    by_cases y0 : y = 0
    · subst y0
      refine z_tableIn (tgt := 44) X 0 d_SM_count_13 rfl (by decide) rfl (by decide) ?_
      refine z_aload_n X d_SM_count_44 rfl ?_
      refine gr_SM_251 (hW.up hi_i).1 X (zo_n hi_i hW.1) d_SM_count_45 ?_
      refine gf_SM_149 X (zo_r hr hW.1) d_SM_count_48 ?_
      exact z_iret X hret rfl (Nat.zero_le _) (Nat.zero_le _) ⟨(hC.2.2.1.sz hr).trans (if_pos rfl).symm, rfl⟩ d_SM_count_51
    by_cases y1 : y = nI 1
    · subst y1
      refine z_tableIn (tgt := 52) X 1 d_SM_count_13 rfl (by decide) rfl (by decide) ?_
      refine z_aload_n X d_SM_count_52 rfl ?_
      refine gr_SM_221 (hW.up hi_i).2.1 X (zo_n hi_i hW.1) d_SM_count_53 ?_
      refine gf_SM_149 X (zo_r hr6 hW.1) d_SM_count_56 ?_
      exact z_iret X hret rfl (Nat.zero_le _) (Nat.zero_le _) ⟨(hC.2.2.1.sz hr6).trans (by rw [if_neg y0, if_pos rfl]), rfl⟩ d_SM_count_59
    by_cases y2 : y = nI 2
    · subst y2
      refine z_tableIn (tgt := 60) X 2 d_SM_count_13 rfl (by decide) rfl (by decide) ?_
      refine z_aload_n X d_SM_count_60 rfl ?_
      refine gf_SM_215 X (zo_n hi_i hW.1) d_SM_count_61 ?_
      exact z_iret X hret rfl (Nat.zero_le _) (Nat.zero_le _) ⟨(hC.1.nd hi_i).2.2.2.2.1.trans (by rw [if_neg y0, if_neg y1, if_pos rfl]), rfl⟩ d_SM_count_64
    by_cases y3 : y = nI 3
    · subst y3
      refine z_tableIn (tgt := 65) X 3 d_SM_count_13 rfl (by decide) rfl (by decide) ?_
      refine z_aload_n X d_SM_count_65 rfl ?_
      refine gf_SM_218 X (zo_n hi_i hW.1) d_SM_count_66 ?_
      exact z_iret X hret rfl (Nat.zero_le _) (Nat.zero_le _) ⟨(hC.1.nd hi_i).2.2.2.2.2.1.trans (by rw [if_neg y0, if_neg y1, if_neg y2, if_pos rfl]), rfl⟩ d_SM_count_69
    refine z_tableOut (tgt := 70) X d_SM_count_13 ?_ (by decide) ?_
    · by_cases a1 : y.toInt < 0
      · exact Or.inl a1
      · refine Or.inr (Int.not_le.mp fun a2 => ?_)
        have e0 : y.toInt ≠ 0 := fun z => y0 (Int32.toInt_inj.mp (by rw [z]; rfl))
        have e1 : y.toInt ≠ 1 := fun z => y1 (Int32.toInt_inj.mp (by rw [z]; rfl))
        have e2 : y.toInt ≠ 2 := fun z => y2 (Int32.toInt_inj.mp (by rw [z]; rfl))
        have e3 : y.toInt ≠ 3 := fun z => y3 (Int32.toInt_inj.mp (by rw [z]; rfl))
        omega
    · refine z_iconst (v := -1) X d_SM_count_70 rfl ?_
      exact z_iret X hret rfl (Nat.zero_le _) (Nat.zero_le _) ⟨by rw [if_neg y0, if_neg y1, if_neg y2, if_neg y3], rfl⟩ d_SM_count_71
theorem c_Up_code (l : Launch) (g : zG) {S h n : Nat} {I : zI} {J : zJ} {R : zR} (hW : zW g S h n I R) {x a b : Nat} (hx : 6 ≤ x ∧ x < 16) (ha : a < g.2.2.2) (hb : b < g.2.2.2) (h0 : R 4 x 0 = some a) (h3 : R 4 x 3 = some b) : zMet l g y_Up_code b_Up_code 1 (some .int) 0 0 0 0 (zPc g [.ref (zad g 4 x)] n I J R) (zQi g (fun r u => r = nI (200 + 10 * a + b) ∧ u = (n, I, J, R))) := by
  refine zMet.of (by decide) [some (.ref (zad g 4 x))] rfl (Nat.le_of_ble_eq_true rfl) ?_
  intro pP eE sS mM aA bB mE cC X hret hnm
  have X : zC pP sS mM aA mE cC b_Up_code "SlottedMesh$Up" 1 g := X
  have hret : mE.sig.returnType = (some .int) := hret
  refine z_sipush (v := nI 200) X d_Up_code_0 rfl ?_
  refine z_bipush (v := nI 10) X d_Up_code_3 rfl ?_
  refine z_aload_n X d_Up_code_5 rfl ?_
  refine gr_Up_9 h0 X (zo_c hW.2.1.2 (by omega) hW.1) hx d_Up_code_6 ?_
  refine gf_Up_15 X (zo_n (by omega) hW.1) d_Up_code_9 ?_
  refine z_top (congrArg Value.int ((hW.2.2.2.2.2.2.2.2.1 a ha))) ?_
  refine z_imul X d_Up_code_12 ?_
  refine z_iadd X d_Up_code_13 ?_
  refine z_aload_n X d_Up_code_14 rfl ?_
  refine gr_Up_21 h3 X (zo_c hW.2.1.2 (by omega) hW.1) hx d_Up_code_15 ?_
  refine gf_Up_15 X (zo_n (by omega) hW.1) d_Up_code_18 ?_
  refine z_top (congrArg Value.int ((hW.2.2.2.2.2.2.2.2.1 b hb))) ?_
  refine z_iadd X d_Up_code_21 ?_
  exact z_iret X hret rfl (Nat.zero_le _) (Nat.zero_le _) ⟨by rw [pk_mul, nI_add, nI_add], rfl⟩ d_Up_code_22
theorem c_Down_code (l : Launch) (g : zG) {S h n : Nat} {I : zI} {J : zJ} {R : zR} (hW : zW g S h n I R) {x a b : Nat} (hx : 16 ≤ x ∧ x < 21) (ha : a < g.2.2.2) (hb : b < g.2.2.2) (h0 : R 4 x 0 = some a) (h3 : R 4 x 3 = some b) : zMet l g y_Down_code b_Down_code 1 (some .int) 0 0 0 0 (zPc g [.ref (zad g 4 x)] n I J R) (zQi g (fun r u => r = nI (300 + 10 * a + b) ∧ u = (n, I, J, R))) := by
  refine zMet.of (by decide) [some (.ref (zad g 4 x))] rfl (Nat.le_of_ble_eq_true rfl) ?_
  intro pP eE sS mM aA bB mE cC X hret hnm
  have X : zC pP sS mM aA mE cC b_Down_code "SlottedMesh$Down" 1 g := X
  have hret : mE.sig.returnType = (some .int) := hret
  refine z_sipush (v := nI 300) X d_Down_code_0 rfl ?_
  refine z_bipush (v := nI 10) X d_Down_code_3 rfl ?_
  refine z_aload_n X d_Down_code_5 rfl ?_
  refine gr_Down_9 h0 X (zo_c hW.2.1.2 (by omega) hW.1) hx.1 d_Down_code_6 ?_
  refine gf_Down_15 X (zo_n (by omega) hW.1) d_Down_code_9 ?_
  refine z_top (congrArg Value.int ((hW.2.2.2.2.2.2.2.2.1 a ha))) ?_
  refine z_imul X d_Down_code_12 ?_
  refine z_iadd X d_Down_code_13 ?_
  refine z_aload_n X d_Down_code_14 rfl ?_
  refine gr_Down_21 h3 X (zo_c hW.2.1.2 (by omega) hW.1) hx.1 d_Down_code_15 ?_
  refine gf_Down_15 X (zo_n (by omega) hW.1) d_Down_code_18 ?_
  refine z_top (congrArg Value.int ((hW.2.2.2.2.2.2.2.2.1 b hb))) ?_
  refine z_iadd X d_Down_code_21 ?_
  exact z_iret X hret rfl (Nat.zero_le _) (Nat.zero_le _) ⟨by rw [pk_mul, nI_add, nI_add], rfl⟩ d_Down_code_22
theorem c_Advert_code (l : Launch) (g : zG) {S h n : Nat} {I : zI} {J : zJ} {R : zR} (hW : zW g S h n I R) {x a : Nat} (hx : x < g.2.2.2) (ha : a < g.2.2.2) (h0 : R 4 x 0 = some a) : zMet l g y_Advert_code b_Advert_code 1 (some .int) 0 0 0 0 (zPc g [.ref (zad g 4 x)] n I J R) (zQi g (fun r u => r = nI (100 + 10 * a) ∧ u = (n, I, J, R))) := by
  have hc := hW.2.1.2
  refine zMet.of (by decide) [some (.ref (zad g 4 x))] rfl (Nat.le_of_ble_eq_true rfl) ?_
  intro pP eE sS mM aA bB mE cC X hret hnm
  have X : zC pP sS mM aA mE cC b_Advert_code "SlottedMesh$Advert" 1 g := X
  have hret : mE.sig.returnType = (some .int) := hret
  refine z_bipush (v := nI 100) X d_Advert_code_0 rfl ?_
  refine z_bipush (v := nI 10) X d_Advert_code_2 rfl ?_
  refine z_aload_n X d_Advert_code_4 rfl ?_
  refine gr_Advert_7 h0 X (zo_c hW.2.1.2 (by omega) hW.1) (by omega) d_Advert_code_5 ?_
  refine gf_Advert_13 X (zo_n (by omega) hW.1) d_Advert_code_8 ?_
  refine z_top (congrArg Value.int ((hW.2.2.2.2.2.2.2.2.1 a ha))) ?_
  refine z_imul X d_Advert_code_11 ?_
  refine z_iadd X d_Advert_code_12 ?_
  exact z_iret X hret rfl (Nat.zero_le _) (Nat.zero_le _) ⟨by rw [pk_mul, nI_add], rfl⟩ d_Advert_code_13
theorem c_SM_cell (l : Launch) (g : zG) {S h n : Nat} {I : zI} {J : zJ} {R : zR} {A : zI} (hW : zW g S h n I R) (pl : Bool) (pf tb : Nat → Nat) (hp : zCP g.2.2.2 S h pl pf tb I R) (h12 : A 29 0 12 = (if pl = true then nI 1 else nI 0)) (htb : pl = true → ∀ j, j < 96 → A 39 0 j = nI (tb j)) (x y : Int32) : zMet l g y_SM_cell b_SM_cell 4 (some .int) 1 20 0 0 (zPc g [.ref (zad g 0 0), .int x, .int y] n I J R) (zQi g (fun r u => r = sCell S h A x y ∧ u = (n, I, J, R))) := by
  have hc := hW.2.1.2
  have hh := hW.2.2.2.1
  have hS := hW.2.2.1
  refine zMet.of (by decide) [some (.ref (zad g 0 0)), some (.int x), some (.int y), none] rfl (Nat.le_of_ble_eq_true rfl) ?_
  intro pP eE sS mM aA bB mE cC X hret hnm
  have X : zC pP sS mM aA mE cC b_SM_cell "SlottedMesh" 4 g := X
  have hret : mE.sig.returnType = (some .int) := hret
  have chain : ∀ (sl ch : Nat), sl < S → ch < h → x = nI sl → y = nI ch → pl = true → ∀ (mm : Nat) (o : Option Nat), mm ≤ 4 → zlk g.2.2.2 pf (fun z => tb (4 * sl + z)) I R mm o → (mm ≤ ch → tb (4 * sl + ch) = 0) → zV pP l eE (zrm 1 20 0 0) sS mM aA bB mE cC g 4 (MQ bB (zQi g (fun r u => r = sCell S h A x y ∧ u = (n, I, J, R))) aA sS 0 0 (zA g)) 0 0 33 [some (.ref (zad g 0 0)), some (.int x), some (.int y), some (va_rf (o.map (zad g 4)))] [] n I J R := by
    intro sl ch hsl hch hx hy hpl mm
    have hsc : sCell S h A x y = nI (tb (4 * sl + ch)) := by
      unfold sCell
      rw [hx, hy, znd_g hsl (by omega), znd_g hch (by omega)]
      dsimp only
      rw [h12, if_pos hpl, if_neg (by decide)]
      exact htb hpl _ (by omega)
    induction mm with
    | zero =>
      intro o hmm hl h0
      have hl : o = none := hl
      subst hl
      refine z_eqL (ls2 := [some (.ref (zad g 0 0)), some (.int x), some (.int y), some .null]) rfl ?_
      refine z_aload_nN X d_SM_cell_33 rfl ?_
      refine z_ifnullN (tgt := 65) X d_SM_cell_34 (by decide) ?_
      refine z_iconst (v := nI 0) X d_SM_cell_65 rfl ?_
      exact z_iret X hret rfl (Nat.zero_le _) (Nat.zero_le _) ⟨by rw [hsc, h0 (by omega)], rfl⟩ d_SM_cell_66
    | succ mm ih =>
      intro o hmm hl h0
      obtain ⟨z, a, b, rfl, l2, l3, l4, l5, l6, l7, l8, l9⟩ := hl
      have last : ¬ mm = ch → zV pP l eE (zrm 1 20 0 0) sS mM aA bB mE cC g 4 (MQ bB (zQi g (fun r u => r = sCell S h A x y ∧ u = (n, I, J, R))) aA sS 0 0 (zA g)) 0 0 33 [some (.ref (zad g 0 0)), some (.int x), some (.int y), some (va_rf ((R 4 z 2).map (zad g 4)))] [] n I J R := fun hne => by
        exact ih _ (by omega) l9 (fun q => h0 (by omega))
      have hz : z < 21 ∧ 6 ≤ z := by omega
      have tail : ¬ mm = ch → zV pP l eE (zrm 1 20 0 0) sS mM aA bB mE cC g 4 (MQ bB (zQi g (fun r u => r = sCell S h A x y ∧ u = (n, I, J, R))) aA sS 0 0 (zA g)) 0 0 57 [some (.ref (zad g 0 0)), some (.int x), some (.int y), some (.ref (zad g 4 z))] [] n I J R := fun hne => by
        have last := last hne
        refine z_aload_n X d_SM_cell_57 rfl ?_
        rcases ho : R 4 z 2 with _ | z2
        · refine gn_SM_194 ho X (zo_c hW.2.1.2 (by omega) hW.1) d_SM_cell_58 ?_
          refine z_astore_nN X d_SM_cell_61 (by decide) rfl ?_
          refine z_goto (tgt := 33) X d_SM_cell_62 (by decide) ?_
          rw [ho] at last
          exact last
        · refine gr_SM_194 ho X (zo_c hW.2.1.2 (by omega) hW.1) d_SM_cell_58 ?_
          refine z_astore_n X d_SM_cell_61 (by decide) rfl ?_
          refine z_goto (tgt := 33) X d_SM_cell_62 (by decide) ?_
          rw [ho] at last
          exact last
      refine z_eqL (ls2 := [some (.ref (zad g 0 0)), some (.int x), some (.int y), some (.ref (zad g 4 z))]) rfl ?_
      refine z_aload_n X d_SM_cell_33 rfl ?_
      refine z_ifnull (tgt := 65) X d_SM_cell_34 (by decide) ?_
      refine z_aload_n X d_SM_cell_37 rfl ?_
      rcases l8 with ⟨y1, y2, y3, y4⟩ | ⟨y1, y2, y3, y4, y5⟩
      · refine z_instNo X w_28 (X.2.2.2.2.2.1.2.2.1) rfl (zsh4u y1 y2) (zo_c hW.2.1.2 (by omega) hW.1) d_SM_cell_38 ?_
        refine z_if_ne (tgt := 52) X d_SM_cell_41 (by decide) (fun hq => absurd hq (by decide)) (fun _ => ?_)
        refine z_aload_n X d_SM_cell_44 rfl ?_
        refine gf_SM_191 X (zo_c hW.2.1.2 (by omega) hW.1) d_SM_cell_45 ?_
        refine z_top (congrArg Value.int (l7)) ?_
        refine z_iload_n X d_SM_cell_48 rfl ?_
        refine z_top (v2 := .int (nI ch)) (congrArg Value.int hy) ?_
        refine z_icmpN_ne (tgt := 57) X d_SM_cell_49 (by decide) (by omega) (by omega) (fun h49 => ?_) (fun h49 => ?_)
        · exact tail h49
        · refine z_aload_n X d_SM_cell_52 rfl ?_
          refine z_ci (z_rU X cs_SM_287_Up rfl (zsh4u y1 y2) (zo_c hW.2.1.2 (by omega) hW.1).1 (zo_c hW.2.1.2 (by omega) hW.1).2 (c_Up_code l g hW ⟨y1, y2⟩ l2 l3 l5 l6) ⟨Nat.le_of_ble_eq_true rfl, Nat.le_of_ble_eq_true rfl⟩ rfl rfl (Nat.le_of_ble_eq_true rfl) ⟨Nat.le_of_ble_eq_true rfl, Nat.le_of_ble_eq_true rfl⟩ d_SM_cell_53) (fun r n2 I2 J2 R2 h => ?_)
          obtain ⟨rfl, e⟩ := h
          cases e
          exact z_iret X hret rfl (Nat.zero_le _) (Nat.zero_le _) ⟨by rw [hsc, ← h49]; exact (congrArg nI y4).symm, rfl⟩ d_SM_cell_56
      · refine z_instNo X w_28 (X.2.2.2.2.2.1.2.2.2) rfl (zsh4d y1) (zo_c hW.2.1.2 (by omega) hW.1) d_SM_cell_38 ?_
        refine z_if_ne (tgt := 52) X d_SM_cell_41 (by decide) (fun hq => absurd hq (by decide)) (fun _ => ?_)
        refine z_aload_n X d_SM_cell_44 rfl ?_
        refine gf_SM_191 X (zo_c hW.2.1.2 (by omega) hW.1) d_SM_cell_45 ?_
        refine z_top (congrArg Value.int (l7)) ?_
        refine z_iload_n X d_SM_cell_48 rfl ?_
        refine z_top (v2 := .int (nI ch)) (congrArg Value.int hy) ?_
        refine z_icmpN_ne (tgt := 57) X d_SM_cell_49 (by decide) (by omega) (by omega) (fun h49 => ?_) (fun h49 => ?_)
        · exact tail h49
        · refine z_aload_n X d_SM_cell_52 rfl ?_
          refine z_ci (z_rU X cs_SM_287_Down rfl (zsh4d y1) (zo_c hW.2.1.2 (by omega) hW.1).1 (zo_c hW.2.1.2 (by omega) hW.1).2 (c_Down_code l g hW ⟨y1, y2⟩ l2 l3 l5 l6) ⟨Nat.le_of_ble_eq_true rfl, Nat.le_of_ble_eq_true rfl⟩ rfl rfl (Nat.le_of_ble_eq_true rfl) ⟨Nat.le_of_ble_eq_true rfl, Nat.le_of_ble_eq_true rfl⟩ d_SM_cell_53) (fun r n2 I2 J2 R2 h => ?_)
          obtain ⟨rfl, e⟩ := h
          cases e
          exact z_iret X hret rfl (Nat.zero_le _) (Nat.zero_le _) ⟨by rw [hsc, ← h49]; exact (congrArg nI y5).symm, rfl⟩ d_SM_cell_56
  refine z_iload_n X d_SM_cell_0 rfl ?_
  refine z_if_lt (tgt := 24) X d_SM_cell_1 (by decide) (fun h1 => ?_) (fun h1 => ?_)
  · refine z_iconst (v := -1) X d_SM_cell_24 rfl ?_
    exact z_iret X hret rfl (Nat.zero_le _) (Nat.zero_le _) ⟨by unfold sCell; rw [znd_lo h1], rfl⟩ d_SM_cell_25
  · refine z_iload_n X d_SM_cell_4 rfl ?_
    refine z_aload_n X d_SM_cell_5 rfl ?_
    refine gf_SM_108 X (zo_s rfl hW.1) d_SM_cell_6 ?_
    refine z_top (congrArg Value.int (hW.2.2.2.2.2.2.1)) ?_
    refine z_icmp_ge (tgt := 24) X d_SM_cell_9 (by decide) (fun h9 => ?_) (fun h9 => ?_)
    · refine z_iconst (v := -1) X d_SM_cell_24 rfl ?_
      exact z_iret X hret rfl (Nat.zero_le _) (Nat.zero_le _) ⟨by unfold sCell; rw [znd_ge (by omega) h9], rfl⟩ d_SM_cell_25
    · refine z_iload_n X d_SM_cell_12 rfl ?_
      refine z_if_lt (tgt := 24) X d_SM_cell_13 (by decide) (fun h13 => ?_) (fun h13 => ?_)
      · refine z_iconst (v := -1) X d_SM_cell_24 rfl ?_
        exact z_iret X hret rfl (Nat.zero_le _) (Nat.zero_le _) ⟨by unfold sCell; rw [znd_lo (c := h) h13]; split <;> rfl, rfl⟩ d_SM_cell_25
      · refine z_iload_n X d_SM_cell_16 rfl ?_
        refine z_aload_n X d_SM_cell_17 rfl ?_
        refine gf_SM_111 X (zo_s rfl hW.1) d_SM_cell_18 ?_
        refine z_top (congrArg Value.int (hW.2.2.2.2.2.2.2.1)) ?_
        refine z_icmp_lt (tgt := 26) X d_SM_cell_21 (by decide) (fun h21 => ?_) (fun h21 => ?_)
        · obtain ⟨sl, hsl, hx⟩ := zgetg h1 (Int32.not_le.mp h9) (by omega)
          obtain ⟨ch, hch, hy⟩ := zgetg h13 h21 (by omega)
          refine z_aload_n X d_SM_cell_26 rfl ?_
          refine gr_SM_31 (hW.c (k := 0) (f := 10) rfl rfl (by decide) rfl) X (zo_s rfl hW.1) d_SM_cell_27 ?_
          refine z_iload_n X d_SM_cell_30 rfl ?_
          refine al_11 (j := sl) X (zo_s rfl hW.1) hx (by omega) d_SM_cell_31 ?_
          by_cases hpl : pl = true
          · rcases (hp.2.2 hpl).2 sl hsl with ⟨z, u, y1, y2, y3, y4, y5, y6⟩ | ⟨mm, y1, y2, y3, y4⟩
            · rw [y1]
              refine z_top (v2 := .ref (zad g 4 z)) rfl ?_
              refine z_astore_n X d_SM_cell_32 (by decide) rfl ?_
              refine z_aload_n X d_SM_cell_33 rfl ?_
              refine z_ifnull (tgt := 65) X d_SM_cell_34 (by decide) ?_
              refine z_aload_n X d_SM_cell_37 rfl ?_
              refine z_instY X w_28 v_829 rfl (zsh4a (by omega)) (zo_c hW.2.1.2 (by omega) hW.1) d_SM_cell_38 ?_
              refine z_if_ne (tgt := 52) X d_SM_cell_41 (by decide) (fun _ => ?_) (fun hq => absurd hq (by decide))
              refine z_aload_n X d_SM_cell_52 rfl ?_
              refine z_ci (z_rU X cs_SM_287_Advert rfl (zsh4a (by omega)) (zo_c hW.2.1.2 (by omega) hW.1).1 (zo_c hW.2.1.2 (by omega) hW.1).2 (c_Advert_code l g hW y2 y5 y4) ⟨Nat.le_of_ble_eq_true rfl, Nat.le_of_ble_eq_true rfl⟩ rfl rfl (Nat.le_of_ble_eq_true rfl) ⟨Nat.le_of_ble_eq_true rfl, Nat.le_of_ble_eq_true rfl⟩ d_SM_cell_53) (fun r n2 I2 J2 R2 h => ?_)
              obtain ⟨rfl, e⟩ := h
              cases e
              refine z_iret X hret rfl (Nat.zero_le _) (Nat.zero_le _) ⟨?_, rfl⟩ d_SM_cell_56
              unfold sCell
              rw [hx, hy, znd_g hsl (by omega), znd_g hch (by omega)]
              dsimp only
              rw [h12, if_pos hpl, if_neg (by decide), htb hpl _ (by omega)]
              exact (congrArg nI (y6 ch hch)).symm
            · have go := chain sl ch hsl hch hx hy hpl mm _ (by omega) y2 (fun q => y3 ch q hch)
              rcases ho : R 11 0 sl with _ | z
              · rw [ho] at go
                refine z_top (v2 := .null) rfl ?_
                refine z_astore_nN X d_SM_cell_32 (by decide) rfl ?_
                exact go
              · rw [ho] at go
                refine z_top (v2 := .ref (zad g 4 z)) rfl ?_
                refine z_astore_n X d_SM_cell_32 (by decide) rfl ?_
                exact go
          · have hpl : pl = false := Bool.eq_false_iff.mpr hpl
            rw [hp.2.1 hpl sl hsl]
            refine z_top (v2 := .null) rfl ?_
            refine z_astore_nN X d_SM_cell_32 (by decide) rfl ?_
            refine z_aload_nN X d_SM_cell_33 rfl ?_
            refine z_ifnullN (tgt := 65) X d_SM_cell_34 (by decide) ?_
            refine z_iconst (v := nI 0) X d_SM_cell_65 rfl ?_
            refine z_iret X hret rfl (Nat.zero_le _) (Nat.zero_le _) ⟨?_, rfl⟩ d_SM_cell_66
            unfold sCell
            rw [hx, hy, znd_g hsl (by omega), znd_g hch (by omega)]
            dsimp only
            rw [h12, hpl, if_pos (by decide)]
        · refine z_iconst (v := -1) X d_SM_cell_24 rfl ?_
          exact z_iret X hret rfl (Nat.zero_le _) (Nat.zero_le _) ⟨by unfold sCell; rw [znd_ge (c := h) (by omega) (Int32.not_lt.mp h21)]; split <;> rfl, rfl⟩ d_SM_cell_25

