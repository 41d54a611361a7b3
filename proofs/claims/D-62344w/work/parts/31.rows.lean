/-! ROWS OF FRAMES: at the level of single places -/
def zaddR (R : zR) (r f : Nat) : zR := zu (match R 2 r 1 with | none => zu R 2 r 0 (some f) | some j => zu R 3 j 3 (some f)) 2 r 1 (some f)
theorem c_Row_add (l : Launch) (g : zG) {n : Nat} {I : zI} {J : zJ} {R : zR} {r f : Nat} (hr : zo g n 2 r) (hf : zo g n 3 f) (hl : ∀ j, R 2 r 1 = some j → zo g n 3 j) : zMet l g y_Row_add b_Row_add 2 none 0 0 0 0 (zPc g [.ref (zad g 2 r), .ref (zad g 3 f)] n I J R) (zQv g (fun u => u = (n, zu I 2 r 2 (I 2 r 2 + nI 1), J, zaddR R r f))) := by
  refine zMet.of (by decide) [some (.ref (zad g 2 r)), some (.ref (zad g 3 f))] rfl (Nat.le_of_ble_eq_true rfl) ?_
  intro pP eE sS mM aA bB mE cC X hret hnm
  have X : zC pP sS mM aA mE cC b_Row_add "SlottedMesh$Row" 2 g := X
  have hret : mE.sig.returnType = none := hret
  refine z_aload_n X d_Row_add_0 rfl ?_
  rcases hx : R 2 r 1 with _ | j
  · refine gn_Row_7 hx X hr d_Row_add_1 ?_
    refine z_ifnonnullN (tgt := 15) X d_Row_add_4 (by decide) ?_
    refine z_aload_n X d_Row_add_7 rfl ?_
    refine z_aload_n X d_Row_add_8 rfl ?_
    refine pf_Row_13 (some f) X hr rfl d_Row_add_9 ?_
    refine z_goto (tgt := 23) X d_Row_add_12 (by decide) ?_
    refine z_aload_n X d_Row_add_23 rfl ?_
    refine z_aload_n X d_Row_add_24 rfl ?_
    refine pf_Row_7 (some f) X hr rfl d_Row_add_25 ?_
    refine z_aload_n X d_Row_add_28 rfl ?_
    refine z_dup X d_Row_add_29 rfl ?_
    refine gf_Row_21 X hr d_Row_add_30 ?_
    refine z_iconst (v := nI 1) X d_Row_add_33 rfl ?_
    refine z_iadd X d_Row_add_34 ?_
    refine pf_Row_21 X hr d_Row_add_35 ?_
    exact z_vret X hret (Nat.zero_le _) (Nat.zero_le _) (by simp only [zaddR, hx]) d_Row_add_38
  · refine gr_Row_7 hx X hr d_Row_add_1 ?_
    refine z_ifnonnull (tgt := 15) X d_Row_add_4 (by decide) ?_
    refine z_aload_n X d_Row_add_15 rfl ?_
    refine gr_Row_7 hx X hr d_Row_add_16 ?_
    refine z_aload_n X d_Row_add_19 rfl ?_
    refine pf_Row_16 (some f) X (hl j hx) rfl d_Row_add_20 ?_
    refine z_aload_n X d_Row_add_23 rfl ?_
    refine z_aload_n X d_Row_add_24 rfl ?_
    refine pf_Row_7 (some f) X hr rfl d_Row_add_25 ?_
    refine z_aload_n X d_Row_add_28 rfl ?_
    refine z_dup X d_Row_add_29 rfl ?_
    refine gf_Row_21 X hr d_Row_add_30 ?_
    refine z_iconst (v := nI 1) X d_Row_add_33 rfl ?_
    refine z_iadd X d_Row_add_34 ?_
    refine pf_Row_21 X hr d_Row_add_35 ?_
    exact z_vret X hret (Nat.zero_le _) (Nat.zero_le _) (by simp only [zaddR, hx]) d_Row_add_38
def ztakeR (R : zR) (r f : Nat) : zR := zu (zu (zu R 2 r 0 (R 3 f 3)) 2 r 1 (match R 3 f 3 with | none => none | some _ => R 2 r 1)) 3 f 3 none
theorem c_Row_take (l : Launch) (g : zG) {n : Nat} {I : zI} {J : zJ} {R : zR} {r f : Nat} (hr : zo g n 2 r) (hf : zo g n 3 f) (h0 : R 2 r 0 = some f) : zMet l g y_Row_take b_Row_take 2 (some (.object "SlottedMesh$Frame")) 0 0 0 0 (zPc g [.ref (zad g 2 r)] n I J R) (zQq g 3 (fun a u => a = some f ∧ u = (n, zu I 2 r 2 (I 2 r 2 - nI 1), J, ztakeR R r f))) := by
  refine zMet.of (by decide) [some (.ref (zad g 2 r)), none] rfl (Nat.le_of_ble_eq_true rfl) ?_
  intro pP eE sS mM aA bB mE cC X hret hnm
  have X : zC pP sS mM aA mE cC b_Row_take "SlottedMesh$Row" 2 g := X
  have hret : mE.sig.returnType = (some (.object "SlottedMesh$Frame")) := hret
  refine z_aload_n X d_Row_take_0 rfl ?_
  refine gr_Row_13 h0 X hr d_Row_take_1 ?_
  refine z_astore_n X d_Row_take_4 (by decide) rfl ?_
  refine z_aload_n X d_Row_take_5 rfl ?_
  refine z_aload_n X d_Row_take_6 rfl ?_
  refine gf_Row_16 X hf d_Row_take_7 ?_
  refine pf_Row_13 (R 3 f 3) X hr rfl d_Row_take_10 ?_
  refine z_aload_n X d_Row_take_13 rfl ?_
  refine z_aload_n X d_Row_take_14 rfl ?_
  rcases hx : R 3 f 3 with _ | j
  · refine gn_Row_13 zu_s X hr d_Row_take_15 ?_
    refine z_ifnonnullN (tgt := 25) X d_Row_take_18 (by decide) ?_
    refine z_null X d_Row_take_21 ?_
    refine z_goto (tgt := 29) X d_Row_take_22 (by decide) ?_
    refine pf_Row_7 none X hr rfl d_Row_take_29 ?_
    refine z_aload_n X d_Row_take_32 rfl ?_
    refine z_null X d_Row_take_33 ?_
    refine pf_Row_16 none X hf rfl d_Row_take_34 ?_
    refine z_aload_n X d_Row_take_37 rfl ?_
    refine z_dup X d_Row_take_38 rfl ?_
    refine gf_Row_21 X hr d_Row_take_39 ?_
    refine z_iconst (v := nI 1) X d_Row_take_42 rfl ?_
    refine z_isub X d_Row_take_43 ?_
    refine pf_Row_21 X hr d_Row_take_44 ?_
    refine z_aload_n X d_Row_take_47 rfl ?_
    exact z_aret (some f) X hret rfl (Nat.zero_le _) (Nat.zero_le _) ⟨rfl, by simp only [ztakeR, hx]⟩ d_Row_take_48
  · refine gr_Row_13 zu_s X hr d_Row_take_15 ?_
    refine z_ifnonnull (tgt := 25) X d_Row_take_18 (by decide) ?_
    refine z_aload_n X d_Row_take_25 rfl ?_
    refine gf_Row_7 X hr d_Row_take_26 ?_
    refine pf_Row_7 (R 2 r 1) X hr rfl d_Row_take_29 ?_
    refine z_aload_n X d_Row_take_32 rfl ?_
    refine z_null X d_Row_take_33 ?_
    refine pf_Row_16 none X hf rfl d_Row_take_34 ?_
    refine z_aload_n X d_Row_take_37 rfl ?_
    refine z_dup X d_Row_take_38 rfl ?_
    refine gf_Row_21 X hr d_Row_take_39 ?_
    refine z_iconst (v := nI 1) X d_Row_take_42 rfl ?_
    refine z_isub X d_Row_take_43 ?_
    refine pf_Row_21 X hr d_Row_take_44 ?_
    refine z_aload_n X d_Row_take_47 rfl ?_
    exact z_aret (some f) X hret rfl (Nat.zero_le _) (Nat.zero_le _) ⟨rfl, by simp only [ztakeR, hx]⟩ d_Row_take_48
theorem c_SM_release (l : Launch) (g : zG) {S h n : Nat} {I : zI} {J : zJ} {R : zR} {f : Nat} (hW : zW g S h n I R) (hf : zo g n 3 f) : zMet l g y_SM_release b_SM_release 2 none 0 0 0 0 (zPc g [.ref (zad g 0 0), .ref (zad g 3 f)] n I J R) (zQv g (fun u => u = (n, I, J, zu (zu R 3 f 3 (R 0 0 9)) 0 0 9 (some f)))) := by
  refine zMet.of (by decide) [some (.ref (zad g 0 0)), some (.ref (zad g 3 f))] rfl (Nat.le_of_ble_eq_true rfl) ?_
  intro pP eE sS mM aA bB mE cC X hret hnm
  have X : zC pP sS mM aA mE cC b_SM_release "SlottedMesh" 2 g := X
  have hret : mE.sig.returnType = none := hret
  refine z_aload_n X d_SM_release_0 rfl ?_
  refine z_aload_n X d_SM_release_1 rfl ?_
  refine gf_SM_130 X (zo_s rfl hW.1) d_SM_release_2 ?_
  refine pf_SM_137 (R 0 0 9) X hf rfl d_SM_release_5 ?_
  refine z_aload_n X d_SM_release_8 rfl ?_
  refine z_aload_n X d_SM_release_9 rfl ?_
  refine pf_SM_130 (some f) X (zo_s rfl hW.1) rfl d_SM_release_10 ?_
  exact z_vret X hret (Nat.zero_le _) (Nat.zero_le _) rfl d_SM_release_13
theorem c_Frame_init (l : Launch) (g : zG) {n : Nat} {I : zI} {J : zJ} {R : zR} (q : Nat) : zMet l g y_Frame_init b_Frame_init 1 none 1 12 0 0 (zPc g [.ref q] n I J R) (zQv g (fun u => u = (n, I, J, R))) := by
  refine zMet.of (by decide) [some (.ref q)] rfl (Nat.le_of_ble_eq_true rfl) ?_
  intro pP eE sS mM aA bB mE cC X hret hnm
  have X : zC pP sS mM aA mE cC b_Frame_init "SlottedMesh$Frame" 1 g := X
  have hret : mE.sig.returnType = none := hret
  refine z_aload_n X d_Frame_init_0 rfl ?_
  refine z_objInit X w_401 w_19 w_20 d_Frame_init_1 (by decide) (by decide) ?_
  exact z_vret X hret (Nat.zero_le _) (Nat.zero_le _) rfl d_Frame_init_4
theorem c_Row_init (l : Launch) (g : zG) {n : Nat} {I : zI} {J : zJ} {R : zR} (q : Nat) : zMet l g y_Row_init b_Row_init 1 none 1 12 0 0 (zPc g [.ref q] n I J R) (zQv g (fun u => u = (n, I, J, R))) := by
  refine zMet.of (by decide) [some (.ref q)] rfl (Nat.le_of_ble_eq_true rfl) ?_
  intro pP eE sS mM aA bB mE cC X hret hnm
  have X : zC pP sS mM aA mE cC b_Row_init "SlottedMesh$Row" 1 g := X
  have hret : mE.sig.returnType = none := hret
  refine z_aload_n X d_Row_init_0 rfl ?_
  refine z_objInit X w_52 w_19 w_20 d_Row_init_1 (by decide) (by decide) ?_
  exact z_vret X hret (Nat.zero_le _) (Nat.zero_le _) rfl d_Row_init_4
def zsetF (I : zI) (f : Nat) (a b v : Int32) : zI := zu (zu (zu I 3 f 0 a) 3 f 1 b) 3 f 2 v
theorem d_Frame : ∀ j, j < 4 → (zft 3 j = 0 ∧ defaultValue (t_Frame j) = .int 0) ∨ ((∃ t, zft 3 j = t + 2) ∧ defaultValue (t_Frame j) = .null) := by
  intro j hj
  rcases (show j = 0 ∨ j = 1 ∨ j = 2 ∨ j = 3 by omega) with rfl | rfl | rfl | rfl
  · exact Or.inl ⟨rfl, rfl⟩
  · exact Or.inl ⟨rfl, rfl⟩
  · exact Or.inl ⟨rfl, rfl⟩
  · exact Or.inr ⟨⟨3, rfl⟩, rfl⟩
theorem c_SM_frame (l : Launch) (g : zG) {S h n : Nat} {I : zI} {J : zJ} {R : zR} (hW : zW g S h n I R) (hs : ∀ j, R 0 0 9 = some j → zo g n 3 j) (a b v : Int32) : zMet l g y_SM_frame b_SM_frame 5 (some (.object "SlottedMesh$Frame")) 2 32 1 4 (zPc g [.ref (zad g 0 0), .int a, .int b, .int v] n I J R) (zQq g 3 (fun r u => (R 0 0 9 = none ∧ ∃ f, 78 + 6 * g.2.2.2 + f = n ∧ r = some f ∧ u = (n + 1, zsetF I f a b v, J, zu R 3 f 3 none)) ∨ (∃ f, R 0 0 9 = some f ∧ r = some f ∧ u = (n, zsetF I f a b v, J, zu (zu R 0 0 9 (R 3 f 3)) 3 f 3 none)))) := by
  refine zMet.of (by decide) [some (.ref (zad g 0 0)), some (.int a), some (.int b), some (.int v), none] rfl (Nat.le_of_ble_eq_true rfl) ?_
  intro pP eE sS mM aA bB mE cC X hret hnm
  have X : zC pP sS mM aA mE cC b_SM_frame "SlottedMesh" 5 g := X
  have hret : mE.sig.returnType = (some (.object "SlottedMesh$Frame")) := hret
  refine z_aload_n X d_SM_frame_0 rfl ?_
  rcases hx : R 0 0 9 with _ | f
  · refine gn_SM_130 hx X (zo_s rfl hW.1) d_SM_frame_1 ?_
    refine z_astoreN X d_SM_frame_4 (by decide) rfl ?_
    refine z_aloadN X d_SM_frame_6 rfl ?_
    refine z_ifnonnullN (tgt := 23) X d_SM_frame_8 (by decide) ?_
    obtain ⟨f, hf⟩ : ∃ f, 78 + 6 * g.2.2.2 + f = n := ⟨n - (78 + 6 * g.2.2.2), by have := hW.1; omega⟩
    have hz : zn g.2.2.2 3 f = n := by simp [zn]; exact hf
    have ho : zo g (n + 1) 3 f := zo_f (by omega)
    refine z_new X 3 f rfl rfl i_Frame t_Frame t_Frame_ok d_Frame w_396 w_397 w_12 (by simp [zv]) hz (Nat.le_of_ble_eq_true rfl) (Nat.le_of_ble_eq_true rfl) d_SM_frame_11 ?_
    refine z_dup X d_SM_frame_14 rfl ?_
    refine z_cv (z_rJ X cs_SM_136 (c_Frame_init l g _) ⟨Nat.le_of_ble_eq_true rfl, Nat.le_of_ble_eq_true rfl⟩ rfl rfl (Nat.le_of_ble_eq_true rfl) ⟨Nat.le_of_ble_eq_true rfl, Nat.le_of_ble_eq_true rfl⟩ d_SM_frame_15) (fun n2 I2 J2 R2 h => ?_)
    cases h
    refine z_astore X d_SM_frame_18 (by decide) rfl ?_
    refine z_goto (tgt := 32) X d_SM_frame_20 (by decide) ?_
    refine z_aload X d_SM_frame_32 rfl ?_
    refine z_null X d_SM_frame_34 ?_
    refine pf_SM_137 none X ho rfl d_SM_frame_35 ?_
    refine z_aload X d_SM_frame_38 rfl ?_
    refine z_iload_n X d_SM_frame_40 rfl ?_
    refine pf_SM_140 X ho d_SM_frame_41 ?_
    refine z_aload X d_SM_frame_44 rfl ?_
    refine z_iload_n X d_SM_frame_46 rfl ?_
    refine pf_SM_143 X ho d_SM_frame_47 ?_
    refine z_aload X d_SM_frame_50 rfl ?_
    refine z_iload_n X d_SM_frame_52 rfl ?_
    refine pf_SM_146 X ho d_SM_frame_53 ?_
    refine z_aload X d_SM_frame_56 rfl ?_
    exact z_aret (some f) X hret rfl (Nat.le_of_ble_eq_true rfl) (Nat.le_of_ble_eq_true rfl) (Or.inl ⟨rfl, f, hf, rfl, rfl⟩) d_SM_frame_58
  · have ho := hs f hx
    refine gr_SM_130 hx X (zo_s rfl hW.1) d_SM_frame_1 ?_
    refine z_astore X d_SM_frame_4 (by decide) rfl ?_
    refine z_aload X d_SM_frame_6 rfl ?_
    refine z_ifnonnull (tgt := 23) X d_SM_frame_8 (by decide) ?_
    refine z_aload_n X d_SM_frame_23 rfl ?_
    refine z_aload X d_SM_frame_24 rfl ?_
    refine gf_SM_137 X ho d_SM_frame_26 ?_
    refine pf_SM_130 (R 3 f 3) X (zo_s rfl hW.1) rfl d_SM_frame_29 ?_
    refine z_aload X d_SM_frame_32 rfl ?_
    refine z_null X d_SM_frame_34 ?_
    refine pf_SM_137 none X ho rfl d_SM_frame_35 ?_
    refine z_aload X d_SM_frame_38 rfl ?_
    refine z_iload_n X d_SM_frame_40 rfl ?_
    refine pf_SM_140 X ho d_SM_frame_41 ?_
    refine z_aload X d_SM_frame_44 rfl ?_
    refine z_iload_n X d_SM_frame_46 rfl ?_
    refine pf_SM_143 X ho d_SM_frame_47 ?_
    refine z_aload X d_SM_frame_50 rfl ?_
    refine z_iload_n X d_SM_frame_52 rfl ?_
    refine pf_SM_146 X ho d_SM_frame_53 ?_
    refine z_aload X d_SM_frame_56 rfl ?_
    exact z_aret (some f) X hret rfl (Nat.zero_le _) (Nat.zero_le _) (Or.inr ⟨f, rfl, rfl, rfl⟩) d_SM_frame_58

