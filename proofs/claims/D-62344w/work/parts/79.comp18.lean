/-! THE COMPONENT: hang, hangLink -/
theorem zsh16 : ∀ p, p < 400 → nI p >>> (nI 4 &&& 31) = nI (p / 16) := by decide +kernel
def zhgR (R : zR) (x a s : Nat) : zR := zu (zu (zu R 4 x 0 (some a)) 4 x 2 (R 11 0 s)) 11 0 s (some x)
theorem c_SM_hang (l : Launch) (g : zG) {S h n : Nat} {I : zI} {J : zJ} {R : zR} (hW : zW g S h n I R) (x a s ch : Nat) (hx : x < g.2.2.2 ∨ (6 ≤ x ∧ x < 21)) (ha : a < g.2.2.2) (hs : s < S) (hch : ch < 16) : zMet l g y_SM_hang b_SM_hang 4 none 0 0 0 0 (zPc g [.ref (zad g 0 0), .ref (zad g 4 x), .ref (zad g 1 a), .int (nI (16 * s + ch))] n I J R) (zQv g (fun u => u = (n, zu I 4 x 1 (nI ch), J, zhgR R x a s))) := by
  have hc := hW.2.1.2
  have hS := hW.2.2.1
  have hox : zo g n 4 x := zo_c hc hx hW.1
  refine zMet.of (by decide) [some (.ref (zad g 0 0)), some (.ref (zad g 4 x)), some (.ref (zad g 1 a)), some (.int (nI (16 * s + ch)))] rfl (Nat.le_of_ble_eq_true rfl) ?_
  intro pP eE sS mM aA bB mE cC X hret hnm
  have X : zC pP sS mM aA mE cC b_SM_hang "SlottedMesh" 4 g := X
  have hret : mE.sig.returnType = none := hret
  refine z_aload_n X d_SM_hang_0 rfl ?_
  refine z_aload_n X d_SM_hang_1 rfl ?_
  refine pf_SM_187 (some a) X hox rfl d_SM_hang_2 ?_
  refine z_aload_n X d_SM_hang_5 rfl ?_
  refine z_iload_n X d_SM_hang_6 rfl ?_
  refine z_bipush (v := nI 15) X d_SM_hang_7 rfl ?_
  refine z_iand X d_SM_hang_9 ?_
  refine z_top (v2 := .int (nI ch)) (congrArg Value.int (by rw [pk_andN (by omega) 4 (by decide), show (16 * s + ch) % 2 ^ 4 = ch by omega])) ?_
  refine pf_SM_191 X hox d_SM_hang_10 ?_
  refine z_aload_n X d_SM_hang_13 rfl ?_
  refine z_aload_n X d_SM_hang_14 rfl ?_
  refine gr_SM_31 (hW.c (k := 0) (f := 10) rfl rfl (by decide) rfl) X (zo_s rfl hW.1) d_SM_hang_15 ?_
  refine z_iload_n X d_SM_hang_18 rfl ?_
  refine z_iconst (v := nI 4) X d_SM_hang_19 rfl ?_
  refine z_ishr X d_SM_hang_20 ?_
  refine z_top (v2 := .int (nI s)) (congrArg Value.int (by rw [zsh16 _ (by omega), show (16 * s + ch) / 16 = s by omega])) ?_
  refine al_11 (j := s) X (zo_s rfl hW.1) rfl (by omega) d_SM_hang_21 ?_
  refine pf_SM_194 (R 11 0 s) X hox rfl d_SM_hang_22 ?_
  refine z_aload_n X d_SM_hang_25 rfl ?_
  refine gr_SM_31 (hW.c (k := 0) (f := 10) rfl rfl (by decide) rfl) X (zo_s rfl hW.1) d_SM_hang_26 ?_
  refine z_iload_n X d_SM_hang_29 rfl ?_
  refine z_iconst (v := nI 4) X d_SM_hang_30 rfl ?_
  refine z_ishr X d_SM_hang_31 ?_
  refine z_top (v2 := .int (nI s)) (congrArg Value.int (by rw [zsh16 _ (by omega), show (16 * s + ch) / 16 = s by omega])) ?_
  refine z_aload_n X d_SM_hang_32 rfl ?_
  rcases (show x < 6 ∨ (6 ≤ x ∧ x < 16) ∨ 16 ≤ x by omega) with h1 | h1 | h1
  · refine z_aast X (t := 5) s (by decide) rfl (Or.inr (X.2.2.2.2.2.1.2.1 _ v_830 rfl)) rfl rfl (zo_s rfl hW.1) hox (zsh4a h1) rfl (by omega) rfl (by decide) d_SM_hang_33 ?_
    exact z_vret X hret (Nat.zero_le _) (Nat.zero_le _) rfl d_SM_hang_34
  · refine z_aast X (t := 5) s (by decide) rfl (Or.inr (X.2.2.2.2.2.1.2.1 _ v_832 rfl)) rfl rfl (zo_s rfl hW.1) hox (zsh4u h1.1 h1.2) rfl (by omega) rfl (by decide) d_SM_hang_33 ?_
    exact z_vret X hret (Nat.zero_le _) (Nat.zero_le _) rfl d_SM_hang_34
  · refine z_aast X (t := 5) s (by decide) rfl (Or.inr (X.2.2.2.2.2.1.2.1 _ v_831 rfl)) rfl rfl (zo_s rfl hW.1) hox (zsh4d h1) rfl (by omega) rfl (by decide) d_SM_hang_33 ?_
    exact z_vret X hret (Nat.zero_le _) (Nat.zero_le _) rfl d_SM_hang_34
theorem c_SM_hangLink (l : Launch) (g : zG) {S h n : Nat} {I : zI} {J : zJ} {R : zR} (hW : zW g S h n I R) (x a b s ch : Nat) (hx : 6 ≤ x ∧ x < 21) (ha : a < g.2.2.2) (hb : b < g.2.2.2) (hs : s < S) (hch : ch < 16) : zMet l g y_SM_hangLink b_SM_hangLink 5 none 1 23 0 0 (zPc g [.ref (zad g 0 0), .ref (zad g 4 x), .ref (zad g 1 a), .ref (zad g 1 b), .int (nI (16 * s + ch))] n I J R) (zQv g (fun u => u = (n, zu I 4 x 1 (nI ch), J, zhgR (zu R 4 x 3 (some b)) x a s))) := by
  have hc := hW.2.1.2
  refine zMet.of (by decide) [some (.ref (zad g 0 0)), some (.ref (zad g 4 x)), some (.ref (zad g 1 a)), some (.ref (zad g 1 b)), some (.int (nI (16 * s + ch)))] rfl (Nat.le_of_ble_eq_true rfl) ?_
  intro pP eE sS mM aA bB mE cC X hret hnm
  have X : zC pP sS mM aA mE cC b_SM_hangLink "SlottedMesh" 5 g := X
  have hret : mE.sig.returnType = none := hret
  refine z_aload_n X d_SM_hangLink_0 rfl ?_
  refine z_aload_n X d_SM_hangLink_1 rfl ?_
  refine pf_SM_197 (some b) X (zo_c hc (Or.inr hx) hW.1) hx.1 rfl d_SM_hangLink_2 ?_
  refine z_aload_n X d_SM_hangLink_5 rfl ?_
  refine z_aload_n X d_SM_hangLink_6 rfl ?_
  refine z_aload_n X d_SM_hangLink_7 rfl ?_
  refine z_iload X d_SM_hangLink_8 rfl ?_
  refine z_cv (z_rV X cs_SM_202 rfl rfl (zo_s rfl hW.1).1 (zo_s rfl hW.1).2 (c_SM_hang l g (hW.upR rfl) x a s ch (Or.inr hx) ha hs hch) ⟨Nat.le_of_ble_eq_true rfl, Nat.le_of_ble_eq_true rfl⟩ rfl rfl (Nat.le_of_ble_eq_true rfl) ⟨Nat.le_of_ble_eq_true rfl, Nat.le_of_ble_eq_true rfl⟩ d_SM_hangLink_10) (fun n2 I2 J2 R2 h => ?_)
  cases h
  exact z_vret X hret (Nat.zero_le _) (Nat.zero_le _) rfl d_SM_hangLink_13

