/-! CONSTRUCTORS OF CELLS -/
theorem c_Cell_init (l : Launch) (g : zG) {n : Nat} {I : zI} {J : zJ} {R : zR} (q : Nat) : zMet l g y_Cell_init b_Cell_init 1 none 1 12 0 0 (zPc g [.ref q] n I J R) (zQv g (fun u => u = (n, I, J, R))) := by
  refine zMet.of (by decide) [some (.ref q)] rfl (Nat.le_of_ble_eq_true rfl) ?_
  intro pP eE sS mM aA bB mE cC X hret hnm
  have X : zC pP sS mM aA mE cC b_Cell_init "SlottedMesh$Cell" 1 g := X
  have hret : mE.sig.returnType = none := hret
  refine z_aload_n X d_Cell_init_0 rfl ?_
  refine z_objInit X w_156 w_19 w_20 d_Cell_init_1 (by decide) (by decide) ?_
  exact z_vret X hret (Nat.zero_le _) (Nat.zero_le _) rfl d_Cell_init_4
theorem c_Link_init (l : Launch) (g : zG) {n : Nat} {I : zI} {J : zJ} {R : zR} (q : Nat) : zMet l g y_Link_init b_Link_init 1 none 2 32 0 0 (zPc g [.ref q] n I J R) (zQv g (fun u => u = (n, I, J, R))) := by
  refine zMet.of (by decide) [some (.ref q)] rfl (Nat.le_of_ble_eq_true rfl) ?_
  intro pP eE sS mM aA bB mE cC X hret hnm
  have X : zC pP sS mM aA mE cC b_Link_init "SlottedMesh$Link" 1 g := X
  have hret : mE.sig.returnType = none := hret
  refine z_aload_n X d_Link_init_0 rfl ?_
  refine z_cv (z_rJ X cs_Link_1 (c_Cell_init l g q) ⟨Nat.le_of_ble_eq_true rfl, Nat.le_of_ble_eq_true rfl⟩ rfl rfl (Nat.le_of_ble_eq_true rfl) ⟨Nat.le_of_ble_eq_true rfl, Nat.le_of_ble_eq_true rfl⟩ d_Link_init_1) (fun n2 I2 J2 R2 h => ?_)
  cases h
  exact z_vret X hret (Nat.zero_le _) (Nat.zero_le _) rfl d_Link_init_4
theorem c_Advert_init (l : Launch) (g : zG) {n : Nat} {I : zI} {J : zJ} {R : zR} (q : Nat) : zMet l g y_Advert_init b_Advert_init 1 none 2 32 0 0 (zPc g [.ref q] n I J R) (zQv g (fun u => u = (n, I, J, R))) := by
  refine zMet.of (by decide) [some (.ref q)] rfl (Nat.le_of_ble_eq_true rfl) ?_
  intro pP eE sS mM aA bB mE cC X hret hnm
  have X : zC pP sS mM aA mE cC b_Advert_init "SlottedMesh$Advert" 1 g := X
  have hret : mE.sig.returnType = none := hret
  refine z_aload_n X d_Advert_init_0 rfl ?_
  refine z_cv (z_rJ X cs_Advert_1 (c_Cell_init l g q) ⟨Nat.le_of_ble_eq_true rfl, Nat.le_of_ble_eq_true rfl⟩ rfl rfl (Nat.le_of_ble_eq_true rfl) ⟨Nat.le_of_ble_eq_true rfl, Nat.le_of_ble_eq_true rfl⟩ d_Advert_init_1) (fun n2 I2 J2 R2 h => ?_)
  cases h
  exact z_vret X hret (Nat.zero_le _) (Nat.zero_le _) rfl d_Advert_init_4
theorem c_Up_init (l : Launch) (g : zG) {n : Nat} {I : zI} {J : zJ} {R : zR} (q : Nat) : zMet l g y_Up_init b_Up_init 1 none 3 52 0 0 (zPc g [.ref q] n I J R) (zQv g (fun u => u = (n, I, J, R))) := by
  refine zMet.of (by decide) [some (.ref q)] rfl (Nat.le_of_ble_eq_true rfl) ?_
  intro pP eE sS mM aA bB mE cC X hret hnm
  have X : zC pP sS mM aA mE cC b_Up_init "SlottedMesh$Up" 1 g := X
  have hret : mE.sig.returnType = none := hret
  refine z_aload_n X d_Up_init_0 rfl ?_
  refine z_cv (z_rJ X cs_Up_3 (c_Link_init l g q) ⟨Nat.le_of_ble_eq_true rfl, Nat.le_of_ble_eq_true rfl⟩ rfl rfl (Nat.le_of_ble_eq_true rfl) ⟨Nat.le_of_ble_eq_true rfl, Nat.le_of_ble_eq_true rfl⟩ d_Up_init_1) (fun n2 I2 J2 R2 h => ?_)
  cases h
  exact z_vret X hret (Nat.zero_le _) (Nat.zero_le _) rfl d_Up_init_4
theorem c_Down_init (l : Launch) (g : zG) {n : Nat} {I : zI} {J : zJ} {R : zR} (q : Nat) : zMet l g y_Down_init b_Down_init 1 none 3 52 0 0 (zPc g [.ref q] n I J R) (zQv g (fun u => u = (n, I, J, R))) := by
  refine zMet.of (by decide) [some (.ref q)] rfl (Nat.le_of_ble_eq_true rfl) ?_
  intro pP eE sS mM aA bB mE cC X hret hnm
  have X : zC pP sS mM aA mE cC b_Down_init "SlottedMesh$Down" 1 g := X
  have hret : mE.sig.returnType = none := hret
  refine z_aload_n X d_Down_init_0 rfl ?_
  refine z_cv (z_rJ X cs_Down_3 (c_Link_init l g q) ⟨Nat.le_of_ble_eq_true rfl, Nat.le_of_ble_eq_true rfl⟩ rfl rfl (Nat.le_of_ble_eq_true rfl) ⟨Nat.le_of_ble_eq_true rfl, Nat.le_of_ble_eq_true rfl⟩ d_Down_init_1) (fun n2 I2 J2 R2 h => ?_)
  cases h
  exact z_vret X hret (Nat.zero_le _) (Nat.zero_le _) rfl d_Down_init_4

