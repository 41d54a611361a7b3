/-! THE CONSTRUCTOR OF A NODE -/
theorem d_Row : ∀ j, j < 3 → (zft 2 j = 0 ∧ defaultValue (t_Row j) = .int 0) ∨ ((∃ t, zft 2 j = t + 2) ∧ defaultValue (t_Row j) = .null) := by
  intro j hj
  rcases (show j = 0 ∨ j = 1 ∨ j = 2 by omega) with rfl | rfl | rfl
  · exact Or.inr ⟨⟨3, rfl⟩, rfl⟩
  · exact Or.inr ⟨⟨3, rfl⟩, rfl⟩
  · exact Or.inl ⟨rfl, rfl⟩
def zndR (R : zR) (i : Nat) : zR := zu (zu (zu (zu R 1 i 9 (some i)) 1 i 10 (some (6 + i))) 1 i 11 (some i)) 1 i 12 (some (6 + i))
theorem c_Node_init (l : Launch) (g : zG) {n : Nat} {I : zI} {J : zJ} {R : zR} (i : Nat) (hi : i < g.2.2.2) (hc : g.2.2.2 ≤ 6) (hn : n = 35 + 6 * i) : zMet l g y_Node_init b_Node_init 2 none 2 32 4 18 (zPc g [.ref (zad g 1 i), .int (nI i)] n I J R) (zQv g (fun u => u = (n + 4, zu (zu I 1 i 13 (-1)) 1 i 0 (nI i), J, zndR R i))) := by
  have ho : ∀ m, n ≤ m → zo g m 1 i := fun m hm => ⟨by simp [zv]; exact hi, by simp [zn]; omega⟩
  refine zMet.of (by decide) [some (.ref (zad g 1 i)), some (.int (nI i))] rfl (Nat.le_of_ble_eq_true rfl) ?_
  intro pP eE sS mM aA bB mE cC X hret hnm
  have X : zC pP sS mM aA mE cC b_Node_init "SlottedMesh$Node" 2 g := X
  have hret : mE.sig.returnType = none := hret
  refine z_aload_n X d_Node_init_0 rfl ?_
  refine z_objInit X w_46 w_19 w_20 d_Node_init_1 (by decide) (by decide) ?_
  refine z_aload_n X d_Node_init_4 rfl ?_
  refine z_new X 2 i rfl rfl i_Row t_Row t_Row_ok d_Row w_47 w_48 w_4 (by simp [zv]; omega) (by simp [zn]; (try split) <;> omega) (Nat.le_of_ble_eq_true rfl) (Nat.le_of_ble_eq_true rfl) d_Node_init_5 ?_
  refine z_dup X d_Node_init_8 rfl ?_
  refine z_cv (z_rJ X cs_Node_11 (c_Row_init l g _) ⟨Nat.le_of_ble_eq_true rfl, Nat.le_of_ble_eq_true rfl⟩ rfl rfl (Nat.le_of_ble_eq_true rfl) ⟨Nat.le_of_ble_eq_true rfl, Nat.le_of_ble_eq_true rfl⟩ d_Node_init_9) (fun n2 I2 J2 R2 h => ?_)
  cases h
  refine pf_Node_12 (some i) X (ho _ (by omega)) hnm rfl d_Node_init_12 ?_
  refine z_aload_n X d_Node_init_15 rfl ?_
  refine z_new X 2 (6 + i) rfl rfl i_Row t_Row t_Row_ok d_Row w_47 w_48 w_4 (by simp [zv]; omega) (by simp [zn]; (try split) <;> omega) (Nat.le_of_ble_eq_true rfl) (Nat.le_of_ble_eq_true rfl) d_Node_init_16 ?_
  refine z_dup X d_Node_init_19 rfl ?_
  refine z_cv (z_rJ X cs_Node_11 (c_Row_init l g _) ⟨Nat.le_of_ble_eq_true rfl, Nat.le_of_ble_eq_true rfl⟩ rfl rfl (Nat.le_of_ble_eq_true rfl) ⟨Nat.le_of_ble_eq_true rfl, Nat.le_of_ble_eq_true rfl⟩ d_Node_init_20) (fun n2 I2 J2 R2 h => ?_)
  cases h
  refine pf_Node_18 (some (6 + i)) X (ho _ (by omega)) hnm rfl d_Node_init_23 ?_
  refine z_aload_n X d_Node_init_26 rfl ?_
  refine z_bipush (v := nI 6) X d_Node_init_27 rfl ?_
  refine z_newa X (atype := .int) (t := 0) (N := 6) 5 i rfl (by decide) w_70 rfl (fun _ _ => Or.inl ⟨rfl, rfl⟩) (by simp [zv]; omega) (by simp [zn]; (try split) <;> omega) (by decide) (Nat.le_of_ble_eq_true rfl) (Nat.le_of_ble_eq_true rfl) d_Node_init_29 ?_
  refine pf_Node_21 (some i) X (ho _ (by omega)) hnm rfl d_Node_init_31 ?_
  refine z_aload_n X d_Node_init_34 rfl ?_
  refine z_bipush (v := nI 6) X d_Node_init_35 rfl ?_
  refine z_newa X (atype := .int) (t := 0) (N := 6) 5 (6 + i) rfl (by decide) w_70 rfl (fun _ _ => Or.inl ⟨rfl, rfl⟩) (by simp [zv]; omega) (by simp [zn]; (try split) <;> omega) (by decide) (Nat.le_of_ble_eq_true rfl) (Nat.le_of_ble_eq_true rfl) d_Node_init_37 ?_
  refine pf_Node_25 (some (6 + i)) X (ho _ (by omega)) hnm rfl d_Node_init_39 ?_
  refine z_aload_n X d_Node_init_42 rfl ?_
  refine z_iconst (v := -1) X d_Node_init_43 rfl ?_
  refine pf_Node_28 X (ho _ (by omega)) d_Node_init_44 ?_
  refine z_aload_n X d_Node_init_47 rfl ?_
  refine z_iload_n X d_Node_init_48 rfl ?_
  refine pf_Node_32 X (ho _ (by omega)) hnm d_Node_init_49 ?_
  exact z_vret X hret (Nat.le_of_ble_eq_true rfl) (Nat.le_of_ble_eq_true rfl) rfl d_Node_init_52

