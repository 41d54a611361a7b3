/-! THE COMPONENT'S CONSTRUCTOR -/
theorem zmm {x a b : Int32} (h : a ≤ b) : (if a < (if x < b then x else b) then (if x < b then x else b) else a) = zcp x a b := by
  unfold zcp
  by_cases h1 : x < b
  · rw [if_pos h1]
    by_cases h2 : a < x
    · rw [if_pos h2, if_pos (Int32.le_of_lt h2), if_pos (Int32.le_of_lt h1)]
    · rw [if_neg h2]
      by_cases h3 : a ≤ x
      · rw [if_pos h3, if_pos (Int32.le_of_lt h1)]
        exact Int32.le_antisymm h3 (Int32.not_lt.mp h2)
      · rw [if_neg h3]
  · rw [if_neg h1]
    have h4 : b ≤ x := Int32.not_lt.mp h1
    have h5 : a ≤ x := Int32.le_trans h h4
    rw [if_pos h5]
    have e : (if x ≤ b then x else b) = b := by
      split
      next q => exact Int32.le_antisymm q h4
      next => rfl
    rw [e]
    split
    next => rfl
    next q => exact Int32.le_antisymm h (Int32.not_lt.mp q)
theorem d_Node : ∀ j, j < 16 → (zft 1 j = 0 ∧ defaultValue (t_Node j) = .int 0) ∨ ((∃ t, zft 1 j = t + 2) ∧ defaultValue (t_Node j) = .null) := by
  intro j hj
  rcases (show j = 0 ∨ j = 1 ∨ j = 2 ∨ j = 3 ∨ j = 4 ∨ j = 5 ∨ j = 6 ∨ j = 7 ∨ j = 8 ∨ j = 9 ∨ j = 10 ∨ j = 11 ∨ j = 12 ∨ j = 13 ∨ j = 14 ∨ j = 15 by omega) with rfl | rfl | rfl | rfl | rfl | rfl | rfl | rfl | rfl | rfl | rfl | rfl | rfl | rfl | rfl | rfl
  all_goals first | exact Or.inl ⟨rfl, rfl⟩ | exact Or.inr ⟨⟨_, rfl⟩, rfl⟩
theorem d_Advert : ∀ j, j < 3 → (zft 4 j = 0 ∧ defaultValue (t_Advert j) = .int 0) ∨ ((∃ t, zft 4 j = t + 2) ∧ defaultValue (t_Advert j) = .null) := by
  intro j hj
  rcases (show j = 0 ∨ j = 1 ∨ j = 2 by omega) with rfl | rfl | rfl
  all_goals first | exact Or.inl ⟨rfl, rfl⟩ | exact Or.inr ⟨⟨_, rfl⟩, rfl⟩
theorem d_Up : ∀ j, j < 4 → (zft 4 j = 0 ∧ defaultValue (t_Up j) = .int 0) ∨ ((∃ t, zft 4 j = t + 2) ∧ defaultValue (t_Up j) = .null) := by
  intro j hj
  rcases (show j = 0 ∨ j = 1 ∨ j = 2 ∨ j = 3 by omega) with rfl | rfl | rfl | rfl
  all_goals first | exact Or.inl ⟨rfl, rfl⟩ | exact Or.inr ⟨⟨_, rfl⟩, rfl⟩
theorem d_Down : ∀ j, j < 4 → (zft 4 j = 0 ∧ defaultValue (t_Down j) = .int 0) ∨ ((∃ t, zft 4 j = t + 2) ∧ defaultValue (t_Down j) = .null) := by
  intro j hj
  rcases (show j = 0 ∨ j = 1 ∨ j = 2 ∨ j = 3 by omega) with rfl | rfl | rfl | rfl
  all_goals first | exact Or.inl ⟨rfl, rfl⟩ | exact Or.inr ⟨⟨_, rfl⟩, rfl⟩
theorem d_SM : ∀ j, j < 28 → (zft 0 j = 0 ∧ defaultValue (t_SM j) = .int 0) ∨ ((∃ t, zft 0 j = t + 2) ∧ defaultValue (t_SM j) = .null) := by
  intro j hj
  rcases (show j = 0 ∨ j = 1 ∨ j = 2 ∨ j = 3 ∨ j = 4 ∨ j = 5 ∨ j = 6 ∨ j = 7 ∨ j = 8 ∨ j = 9 ∨ j = 10 ∨ j = 11 ∨ j = 12 ∨ j = 13 ∨ j = 14 ∨ j = 15 ∨ j = 16 ∨ j = 17 ∨ j = 18 ∨ j = 19 ∨ j = 20 ∨ j = 21 ∨ j = 22 ∨ j = 23 ∨ j = 24 ∨ j = 25 ∨ j = 26 ∨ j = 27 by omega) with rfl | rfl | rfl | rfl | rfl | rfl | rfl | rfl | rfl | rfl | rfl | rfl | rfl | rfl | rfl | rfl | rfl | rfl | rfl | rfl | rfl | rfl | rfl | rfl | rfl | rfl | rfl | rfl
  all_goals first | exact Or.inl ⟨rfl, rfl⟩ | exact Or.inr ⟨⟨_, rfl⟩, rfl⟩
theorem d_Model : ∀ j, j < 34 → (zft 29 j = 0 ∧ defaultValue (t_Model j) = .int 0) ∨ ((∃ t, zft 29 j = t + 2) ∧ defaultValue (t_Model j) = .null) := by
  intro j hj
  rcases (show j = 0 ∨ j = 1 ∨ j = 2 ∨ j = 3 ∨ j = 4 ∨ j = 5 ∨ j = 6 ∨ j = 7 ∨ j = 8 ∨ j = 9 ∨ j = 10 ∨ j = 11 ∨ j = 12 ∨ j = 13 ∨ j = 14 ∨ j = 15 ∨ j = 16 ∨ j = 17 ∨ j = 18 ∨ j = 19 ∨ j = 20 ∨ j = 21 ∨ j = 22 ∨ j = 23 ∨ j = 24 ∨ j = 25 ∨ j = 26 ∨ j = 27 ∨ j = 28 ∨ j = 29 ∨ j = 30 ∨ j = 31 ∨ j = 32 ∨ j = 33 by omega) with rfl | rfl | rfl | rfl | rfl | rfl | rfl | rfl | rfl | rfl | rfl | rfl | rfl | rfl | rfl | rfl | rfl | rfl | rfl | rfl | rfl | rfl | rfl | rfl | rfl | rfl | rfl | rfl | rfl | rfl | rfl | rfl | rfl | rfl
  all_goals first | exact Or.inl ⟨rfl, rfl⟩ | exact Or.inr ⟨⟨_, rfl⟩, rfl⟩
def zsR (R : zR) : zR := zu (zu (zu (zu (zu (zu (zmW (zu (zu (zu (zu (zu (zu (zu (zu (zu (zu (zu (zu (zu (zu (zmW (zu R 0 0 3 (some 0)) 7 6) 0 0 4 (some 0)) 0 0 5 (some 0)) 0 0 6 (some 0)) 0 0 10 (some 0)) 0 0 11 (some 0)) 0 0 12 (some 0)) 0 0 13 (some 0)) 0 0 14 (some 0)) 0 0 15 (some 0)) 0 0 16 (some 0)) 0 0 17 (some 0)) 0 0 18 (some 0)) 0 0 19 (some 0)) 0 0 20 (some 0)) 22 6) 0 0 22 (some 0)) 0 0 23 (some 0)) 0 0 24 (some 0)) 0 0 25 (some 0)) 0 0 26 (some 0)) 0 0 27 (some 0)
def zsJ (J : zJ) : zJ := zu (zu (zu (zu (zu (zu (zu (zu J 9 0 0 (-1)) 9 0 1 (-1)) 9 0 2 (-1)) 9 0 3 (-1)) 10 0 0 (-1)) 10 0 1 (-1)) 10 0 2 (-1)) 10 0 3 (-1)
def zsI (I : zI) (c S h : Nat) : zI := zu (zu (zu I 0 0 0 (nI c)) 0 0 1 (nI S)) 0 0 2 (nI h)
def zlI (I : zI) : Nat → zI
  | 0 => I
  | i + 1 => zu (zu (zlI I i) 1 i 13 (-1)) 1 i 0 (nI i)
def zlR (R : zR) : Nat → zR
  | 0 => R
  | i + 1 => zu (zu (zndR (zlR R i) i) 6 0 i (some i)) 12 0 i (some i)
def zlU (R : zR) (k b : Nat) : Nat → zR
  | 0 => R
  | i + 1 => zu (zlU R k b i) k 0 i (some (b + i))
theorem zlI_k (I : zI) {k : Nat} (hk : k ≠ 1) (i' j : Nat) : ∀ m, zlI I m k i' j = I k i' j
  | 0 => rfl
  | m + 1 => by unfold zlI; rw [zu_k hk, zu_k hk]; exact zlI_k I hk i' j m
theorem zlR_k (R : zR) {k : Nat} (h1 : k ≠ 1) (h2 : k ≠ 6) (h3 : k ≠ 12) (i' j : Nat) : ∀ m, zlR R m k i' j = R k i' j
  | 0 => rfl
  | m + 1 => by unfold zlR zndR; rw [zu_k h3, zu_k h2, zu_k h1, zu_k h1, zu_k h1, zu_k h1]; exact zlR_k R h1 h2 h3 i' j m
theorem zlU_k (R : zR) {k k2 : Nat} (hk : k2 ≠ k) (b i' j : Nat) : ∀ m, zlU R k b m k2 i' j = R k2 i' j
  | 0 => rfl
  | m + 1 => by unfold zlU; rw [zu_k hk]; exact zlU_k R hk b i' j m
theorem zlR_6 (R : zR) (j : Nat) : ∀ m, zlR R m 6 0 j = if j < m then some j else R 6 0 j
  | 0 => by rw [if_neg (by omega)]; rfl
  | m + 1 => by
    unfold zlR zndR
    rw [zu_k (by decide), zu_if]
    by_cases h : j = m
    · subst h; rw [if_pos ⟨rfl, rfl, rfl⟩, if_pos (by omega)]
    · rw [if_neg (fun q => h q.2.2), zu_k (by decide), zu_k (by decide), zu_k (by decide), zu_k (by decide), zlR_6 R j m]
      by_cases h2 : j < m
      · rw [if_pos h2, if_pos (by omega)]
      · rw [if_neg h2, if_neg (by omega)]
def zeI (I : zI) (c S h : Nat) : zI := zu (zu (zlI (zsI I c S h) c) 1 0 1 (nI 1)) 1 0 2 (nI 1)
def zeR (R : zR) (c : Nat) : zR := zlU (zlU (zlR (zsR R) c) 13 6 10) 14 16 5
theorem c_SM_init (l : Launch) (g : zG) {I : zI} {J : zJ} {R : zR} {S h : Nat} (hc : g.2.2.2 ≤ 6) (hc2 : 2 ≤ g.2.2.2) (x y z : Int32) (hx : zcp x (nI 2) (nI 6) = nI g.2.2.2) (hy : zcp y (nI 8) (nI 24) = nI S) (hz : zcp z (nI 1) (nI 4) = nI h) : zMet l g y_SM_init b_SM_init 5 none 4 72 84 530 (zPc g [.ref (zad g 0 0), .int x, .int y, .int z] 1 I J R) (zQv g (fun u => u = (49 + 6 * g.2.2.2, zeI I g.2.2.2 S h, zsJ J, zeR R g.2.2.2))) := by
  have ho : ∀ m, 1 ≤ m → zo g m 0 0 := fun m hm => ⟨by simp [zv], by simp [zn]; omega⟩
  refine zMet.of (by decide) [some (.ref (zad g 0 0)), some (.int x), some (.int y), some (.int z), none] rfl (Nat.le_of_ble_eq_true rfl) ?_
  intro pP eE sS mM aA bB mE cC X hret hnm
  have X : zC pP sS mM aA mE cC b_SM_init "SlottedMesh" 5 g := X
  have hret : mE.sig.returnType = none := hret
  have K378 : ∀ v, zV pP l eE (zrm 4 72 84 530) sS mM aA bB mE cC g 5 (MQ bB (zQv g (fun u => u = (49 + 6 * g.2.2.2, zeI I g.2.2.2 S h, zsJ J, zeR R g.2.2.2))) aA sS 84 530 (zA g)) (33 + 6 * g.2.2.2 + 15) (248 + 37 * g.2.2.2 + 60) 378 [some (.ref (zad g 0 0)), some (.int x), some (.int y), some (.int z), v] [] (49 + 6 * g.2.2.2) (zlI (zsI I g.2.2.2 S h) g.2.2.2) (zsJ J) (zeR R g.2.2.2) := by
    intro v
    have r3 : zeR R g.2.2.2 0 0 3 = some 0 := by unfold zeR; rw [zlU_k _ (by decide), zlU_k _ (by decide), zlR_k _ (by decide) (by decide) (by decide)]; rfl
    have r6 : zeR R g.2.2.2 6 0 0 = some 0 := by unfold zeR; rw [zlU_k _ (by decide), zlU_k _ (by decide), zlR_6, if_pos (by omega)]
    have h6 : zo g (49 + 6 * g.2.2.2) 6 0 := ⟨by simp [zv], by simp [zn]; omega⟩
    have h1 : zo g (49 + 6 * g.2.2.2) 1 0 := ⟨by simp [zv]; omega, by simp [zn]; omega⟩
    refine z_aload_n X d_SM_init_378 rfl ?_
    refine gr_SM_9 r3 X (ho _ (by omega)) d_SM_init_379 ?_
    refine z_iconst (v := nI 0) X d_SM_init_382 rfl ?_
    refine ar_6 (j := 0) X h6 rfl (by omega) r6 d_SM_init_383 ?_
    refine z_iconst (v := nI 1) X d_SM_init_384 rfl ?_
    refine pf_SM_120 X h1 (by decide) d_SM_init_385 ?_
    refine z_aload_n X d_SM_init_388 rfl ?_
    refine gr_SM_9 r3 X (ho _ (by omega)) d_SM_init_389 ?_
    refine z_iconst (v := nI 0) X d_SM_init_392 rfl ?_
    refine ar_6 (j := 0) X h6 rfl (by omega) r6 d_SM_init_393 ?_
    refine z_iconst (v := nI 1) X d_SM_init_394 rfl ?_
    refine pf_SM_124 X h1 (by decide) d_SM_init_395 ?_
    exact z_vret X hret (by omega) (by omega) rfl d_SM_init_398
  have K352 : ∀ m i, i + m = 5 → zV pP l eE (zrm 4 72 84 530) sS mM aA bB mE cC g 5 (MQ bB (zQv g (fun u => u = (49 + 6 * g.2.2.2, zeI I g.2.2.2 S h, zsJ J, zeR R g.2.2.2))) aA sS 84 530 (zA g)) (33 + 6 * g.2.2.2 + 10 + i) (248 + 37 * g.2.2.2 + 40 + 4 * i) 352 [some (.ref (zad g 0 0)), some (.int x), some (.int y), some (.int z), some (.int (nI i))] [] (44 + 6 * g.2.2.2 + i) (zlI (zsI I g.2.2.2 S h) g.2.2.2) (zsJ J) (zlU (zlU (zlR (zsR R) g.2.2.2) 13 6 10) 14 16 i) := by
    intro m
    induction m with
    | zero =>
      intro i hi
      have hi : i = 5 := by omega
      subst hi
      refine z_iload X d_SM_init_352 rfl ?_
      refine z_iconst (v := nI 5) X d_SM_init_354 rfl ?_
      refine z_icmp_ge (tgt := 378) X d_SM_init_355 (by decide) (fun _ => ?_) (fun hq => absurd hq (by decide))
      exact z_cs (by omega) (by omega) (by omega) (K378 _)
    | succ m ih =>
      intro i hi
      have r1 : zlU (zlU (zlR (zsR R) g.2.2.2) 13 6 10) 14 16 i 0 0 13 = some 0 := by rw [zlU_k _ (by decide), zlU_k _ (by decide), zlR_k _ (by decide) (by decide) (by decide)]; rfl
      have hA : zo g (44 + 6 * g.2.2.2 + i + 1) 14 0 := ⟨by simp [zv], by simp [zn]; omega⟩
      have h4 : zo g (44 + 6 * g.2.2.2 + i + 1) 4 (16 + i) := ⟨by simp [zv]; omega, by simp [zn]; omega⟩
      have hsh : zsh 4 (16 + i) = .inl (6, 4) := by unfold zsh; dsimp only; rw [if_neg (by omega), if_neg (by omega)]
      refine z_iload X d_SM_init_352 rfl ?_
      refine z_iconst (v := nI 5) X d_SM_init_354 rfl ?_
      refine z_icmp_ge (tgt := 378) X d_SM_init_355 (by decide) (fun hq => absurd hq (nI_ge (by omega) (by omega))) (fun _ => ?_)
      refine z_aload_n X d_SM_init_358 rfl ?_
      refine gr_SM_49 r1 X (ho _ (by omega)) d_SM_init_359 ?_
      refine z_iload X d_SM_init_362 rfl ?_
      refine z_new X 4 (16 + i) rfl hsh i_Down t_Down t_Down_ok d_Down w_32 w_197 w_9 (by simp [zv]; omega) (by simp [zn]; omega) (by show _ ≤ 84; omega) (by show _ ≤ 530; omega) d_SM_init_364 ?_
      refine z_dup X d_SM_init_367 rfl ?_
      refine z_cv (z_rJ X cs_SM_119 (c_Down_init l g _) ⟨Nat.le_of_ble_eq_true rfl, Nat.le_of_ble_eq_true rfl⟩ rfl rfl (Nat.le_of_ble_eq_true rfl) ⟨by show _ ≤ 84; omega, by show _ ≤ 530; omega⟩ d_SM_init_368) (fun n2 I2 J2 R2 h => ?_)
      cases h
      refine z_aast X (t := 8) i (by decide) rfl (Or.inl rfl) rfl rfl hA h4 hsh rfl (by omega) rfl (by decide) d_SM_init_371 ?_
      refine z_iinc X d_SM_init_372 rfl (zinc _) (by decide) rfl ?_
      refine z_goto (tgt := 352) X d_SM_init_375 (by decide) ?_
      exact z_cs (by omega) (by omega) (by omega) (ih (i + 1) (by omega))
  have K322 : ∀ m i, i + m = 10 → zV pP l eE (zrm 4 72 84 530) sS mM aA bB mE cC g 5 (MQ bB (zQv g (fun u => u = (49 + 6 * g.2.2.2, zeI I g.2.2.2 S h, zsJ J, zeR R g.2.2.2))) aA sS 84 530 (zA g)) (33 + 6 * g.2.2.2 + i) (248 + 37 * g.2.2.2 + 4 * i) 322 [some (.ref (zad g 0 0)), some (.int x), some (.int y), some (.int z), some (.int (nI i))] [] (34 + 6 * g.2.2.2 + i) (zlI (zsI I g.2.2.2 S h) g.2.2.2) (zsJ J) (zlU (zlR (zsR R) g.2.2.2) 13 6 i) := by
    intro m
    induction m with
    | zero =>
      intro i hi
      have hi : i = 10 := by omega
      subst hi
      refine z_iload X d_SM_init_322 rfl ?_
      refine z_bipush (v := nI 10) X d_SM_init_324 rfl ?_
      refine z_icmp_ge (tgt := 349) X d_SM_init_326 (by decide) (fun _ => ?_) (fun hq => absurd hq (by decide))
      refine z_iconst (v := nI 0) X d_SM_init_349 rfl ?_
      refine z_istore X d_SM_init_350 (by decide) rfl ?_
      exact z_cs (by omega) (by omega) (by omega) (K352 5 0 rfl)
    | succ m ih =>
      intro i hi
      have r1 : zlU (zlR (zsR R) g.2.2.2) 13 6 i 0 0 12 = some 0 := by rw [zlU_k _ (by decide), zlR_k _ (by decide) (by decide) (by decide)]; rfl
      have hA : zo g (34 + 6 * g.2.2.2 + i + 1) 13 0 := ⟨by simp [zv], by simp [zn]; omega⟩
      have h4 : zo g (34 + 6 * g.2.2.2 + i + 1) 4 (6 + i) := ⟨by simp [zv]; omega, by simp [zn]; omega⟩
      have hsh : zsh 4 (6 + i) = .inl (5, 4) := by unfold zsh; dsimp only; rw [if_neg (by omega), if_pos (by omega)]
      refine z_iload X d_SM_init_322 rfl ?_
      refine z_bipush (v := nI 10) X d_SM_init_324 rfl ?_
      refine z_icmp_ge (tgt := 349) X d_SM_init_326 (by decide) (fun hq => absurd hq (nI_ge (by omega) (by omega))) (fun _ => ?_)
      refine z_aload_n X d_SM_init_329 rfl ?_
      refine gr_SM_43 r1 X (ho _ (by omega)) d_SM_init_330 ?_
      refine z_iload X d_SM_init_333 rfl ?_
      refine z_new X 4 (6 + i) rfl hsh i_Up t_Up t_Up_ok d_Up w_30 w_177 w_8 (by simp [zv]; omega) (by simp [zn]; omega) (by show _ ≤ 84; omega) (by show _ ≤ 530; omega) d_SM_init_335 ?_
      refine z_dup X d_SM_init_338 rfl ?_
      refine z_cv (z_rJ X cs_SM_118 (c_Up_init l g _) ⟨Nat.le_of_ble_eq_true rfl, Nat.le_of_ble_eq_true rfl⟩ rfl rfl (Nat.le_of_ble_eq_true rfl) ⟨by show _ ≤ 84; omega, by show _ ≤ 530; omega⟩ d_SM_init_339) (fun n2 I2 J2 R2 h => ?_)
      cases h
      refine z_aast X (t := 7) i (by decide) rfl (Or.inl rfl) rfl rfl hA h4 hsh rfl (by omega) rfl (by decide) d_SM_init_342 ?_
      refine z_iinc X d_SM_init_343 rfl (zinc _) (by decide) rfl ?_
      refine z_goto (tgt := 322) X d_SM_init_346 (by decide) ?_
      exact z_cs (by omega) (by omega) (by omega) (ih (i + 1) (by omega))
  have K274 : ∀ m i, i + m = g.2.2.2 → zV pP l eE (zrm 4 72 84 530) sS mM aA bB mE cC g 5 (MQ bB (zQv g (fun u => u = (49 + 6 * g.2.2.2, zeI I g.2.2.2 S h, zsJ J, zeR R g.2.2.2))) aA sS 84 530 (zA g)) (33 + 6 * i) (248 + 37 * i) 274 [some (.ref (zad g 0 0)), some (.int x), some (.int y), some (.int z), some (.int (nI i))] [] (34 + 6 * i) (zlI (zsI I g.2.2.2 S h) i) (zsJ J) (zlR (zsR R) i) := by
    intro m
    induction m with
    | zero =>
      intro i hi
      have hi : i = g.2.2.2 := by omega
      subst hi
      refine z_iload X d_SM_init_274 rfl ?_
      refine z_aload_n X d_SM_init_276 rfl ?_
      refine gf_SM_104 X (ho _ (by omega)) d_SM_init_277 ?_
      refine z_top (congrArg Value.int ((zlI_k (zsI I g.2.2.2 S h) (by decide) 0 0 g.2.2.2).trans (rfl : zsI I g.2.2.2 S h 0 0 0 = nI g.2.2.2))) ?_
      refine z_icmp_ge (tgt := 319) X d_SM_init_280 (by decide) (fun _ => ?_) (fun hq => absurd hq (fun q => q (Int32.le_refl _)))
      refine z_iconst (v := nI 0) X d_SM_init_319 rfl ?_
      refine z_istore X d_SM_init_320 (by decide) rfl ?_
      exact z_cs (by omega) (by omega) (by omega) (K322 10 0 rfl)
    | succ m ih =>
      intro i hi
      have r1 : zlR (zsR R) i 0 0 3 = some 0 := by rw [zlR_k _ (by decide) (by decide) (by decide)]; rfl
      have r2 : zu (zndR (zlR (zsR R) i) i) 6 0 i (some i) 0 0 11 = some 0 := by
        unfold zndR
        rw [zu_k (by decide), zu_k (by decide), zu_k (by decide), zu_k (by decide), zu_k (by decide), zlR_k _ (by decide) (by decide) (by decide)]; rfl
      have h6 : zo g (34 + 6 * i + 1 + 4) 6 0 := ⟨by simp [zv], by simp [zn]; omega⟩
      have h1 : zo g (34 + 6 * i + 1 + 4) 1 i := ⟨by simp [zv]; omega, by simp [zn]; omega⟩
      have h12 : zo g (34 + 6 * i + 1 + 4 + 1) 12 0 := ⟨by simp [zv], by simp [zn]; omega⟩
      have h4 : zo g (34 + 6 * i + 1 + 4 + 1) 4 i := ⟨by simp [zv]; omega, by simp [zn, show i < 6 by omega]; omega⟩
      have hsh : zsh 4 i = .inl (4, 3) := by unfold zsh; dsimp only; rw [if_pos (by omega)]
      refine z_iload X d_SM_init_274 rfl ?_
      refine z_aload_n X d_SM_init_276 rfl ?_
      refine gf_SM_104 X (ho _ (by omega)) d_SM_init_277 ?_
      refine z_top (congrArg Value.int ((zlI_k (zsI I g.2.2.2 S h) (by decide) 0 0 i).trans (rfl : zsI I g.2.2.2 S h 0 0 0 = nI g.2.2.2))) ?_
      refine z_icmp_ge (tgt := 319) X d_SM_init_280 (by decide) (fun hq => absurd hq (nI_ge (by omega) (by omega))) (fun _ => ?_)
      refine z_aload_n X d_SM_init_283 rfl ?_
      refine gr_SM_9 r1 X (ho _ (by omega)) d_SM_init_284 ?_
      refine z_iload X d_SM_init_287 rfl ?_
      refine z_new X 1 i rfl rfl i_Node t_Node t_Node_ok d_Node w_21 w_42 w_3 (by simp [zv]; omega) (by simp [zn]) (by show _ ≤ 84; omega) (by show _ ≤ 530; omega) d_SM_init_289 ?_
      refine z_dup X d_SM_init_292 rfl ?_
      refine z_iload X d_SM_init_293 rfl ?_
      refine z_cv (z_rI X cs_SM_114 (c_Node_init l g i (by omega) hc (by omega)) ⟨Nat.le_of_ble_eq_true rfl, Nat.le_of_ble_eq_true rfl⟩ rfl rfl (Nat.le_of_ble_eq_true rfl) ⟨by show _ ≤ 84; omega, by show _ ≤ 530; omega⟩ d_SM_init_295) (fun n2 I2 J2 R2 h => ?_)
      cases h
      refine z_aast X (t := 3) i (by decide) rfl (Or.inl rfl) rfl rfl h6 h1 rfl rfl (by omega) rfl (by decide) d_SM_init_298 ?_
      refine z_aload_n X d_SM_init_299 rfl ?_
      refine gr_SM_37 r2 X (ho _ (by omega)) d_SM_init_300 ?_
      refine z_iload X d_SM_init_303 rfl ?_
      refine z_new X 4 i rfl hsh i_Advert t_Advert t_Advert_ok d_Advert w_28 w_149 w_6 (by simp [zv]; omega) (by simp [zn, show i < 6 by omega]; omega) (by show _ ≤ 84; omega) (by show _ ≤ 530; omega) d_SM_init_305 ?_
      refine z_dup X d_SM_init_308 rfl ?_
      refine z_cv (z_rJ X cs_SM_117 (c_Advert_init l g _) ⟨Nat.le_of_ble_eq_true rfl, Nat.le_of_ble_eq_true rfl⟩ rfl rfl (Nat.le_of_ble_eq_true rfl) ⟨by show _ ≤ 84; omega, by show _ ≤ 530; omega⟩ d_SM_init_309) (fun n2 I2 J2 R2 h => ?_)
      cases h
      refine z_aast X (t := 6) i (by decide) rfl (Or.inl rfl) rfl rfl h12 h4 hsh rfl (by omega) rfl (by decide) d_SM_init_312 ?_
      refine z_iinc X d_SM_init_313 rfl (zinc _) (by decide) rfl ?_
      refine z_goto (tgt := 274) X d_SM_init_316 (by decide) ?_
      exact z_cs (by omega) (by omega) (by omega) (ih (i + 1) (by omega))
  refine z_aload_n X d_SM_init_0 rfl ?_
  refine z_objInit X w_18 w_19 w_20 d_SM_init_1 (by decide) (by decide) ?_
  refine z_aload_n X d_SM_init_4 rfl ?_
  refine z_bipush (v := nI 6) X d_SM_init_5 rfl ?_
  refine z_anewa X (t := 3) (N := 6) 6 0 w_21 v_22 rfl (by decide) rfl (fun _ _ => ⟨_, rfl⟩) (by simp [zv]) (by simp [zn]) (by decide) (Nat.le_of_ble_eq_true rfl) (Nat.le_of_ble_eq_true rfl) d_SM_init_7 ?_
  refine pf_SM_9 (some 0) X (ho _ (by omega)) hnm rfl d_SM_init_10 ?_
  refine z_aload_n X d_SM_init_13 rfl ?_
  refine z_bipush (v := nI 6) X d_SM_init_14 rfl ?_
  refine z_bipush (v := nI 6) X d_SM_init_16 rfl ?_
  refine z_mnew X (t := 4) (u := 1) (N := 6) (M := 6) 7 8 rfl rfl (by decide) (by decide) w_23 v_24 w_68 rfl (fun _ => rfl) (fun _ _ => rfl) (fun _ => rfl) (Or.inl rfl) (Or.inl rfl) rfl (by decide) (by simp [zn]) (fun j hj => by simp [zn]) rfl (Nat.le_of_ble_eq_true rfl) (Nat.le_of_ble_eq_true rfl) d_SM_init_18 ?_
  refine pf_SM_17 (some 0) X (ho _ (by omega)) hnm rfl d_SM_init_22 ?_
  refine z_aload_n X d_SM_init_25 rfl ?_
  refine z_iconst (v := nI 4) X d_SM_init_26 rfl ?_
  refine z_newa X (atype := .long) (t := 2) (N := 4) 9 0 rfl (by decide) w_69 rfl (fun _ _ => Or.inr ⟨rfl, rfl⟩) (by simp [zv]) (by simp [zn]) (by decide) (Nat.le_of_ble_eq_true rfl) (Nat.le_of_ble_eq_true rfl) d_SM_init_27 ?_
  refine z_dup X d_SM_init_29 rfl ?_
  refine z_iconst (v := nI 0) X d_SM_init_30 rfl ?_
  refine z_ldc2 X w_25 d_SM_init_31 ?_
  refine as_9 (j := 0) X ⟨by simp [zv], by simp [zn]⟩ rfl (by decide) d_SM_init_34 ?_
  refine z_dup X d_SM_init_35 rfl ?_
  refine z_iconst (v := nI 1) X d_SM_init_36 rfl ?_
  refine z_ldc2 X w_25 d_SM_init_37 ?_
  refine as_9 (j := 1) X ⟨by simp [zv], by simp [zn]⟩ rfl (by decide) d_SM_init_40 ?_
  refine z_dup X d_SM_init_41 rfl ?_
  refine z_iconst (v := nI 2) X d_SM_init_42 rfl ?_
  refine z_ldc2 X w_25 d_SM_init_43 ?_
  refine as_9 (j := 2) X ⟨by simp [zv], by simp [zn]⟩ rfl (by decide) d_SM_init_46 ?_
  refine z_dup X d_SM_init_47 rfl ?_
  refine z_iconst (v := nI 3) X d_SM_init_48 rfl ?_
  refine z_ldc2 X w_25 d_SM_init_49 ?_
  refine as_9 (j := 3) X ⟨by simp [zv], by simp [zn]⟩ rfl (by decide) d_SM_init_52 ?_
  refine pf_SM_22 (some 0) X (ho _ (by omega)) hnm rfl d_SM_init_53 ?_
  refine z_aload_n X d_SM_init_56 rfl ?_
  refine z_iconst (v := nI 4) X d_SM_init_57 rfl ?_
  refine z_newa X (atype := .long) (t := 2) (N := 4) 10 0 rfl (by decide) w_69 rfl (fun _ _ => Or.inr ⟨rfl, rfl⟩) (by simp [zv]) (by simp [zn]) (by decide) (Nat.le_of_ble_eq_true rfl) (Nat.le_of_ble_eq_true rfl) d_SM_init_58 ?_
  refine z_dup X d_SM_init_60 rfl ?_
  refine z_iconst (v := nI 0) X d_SM_init_61 rfl ?_
  refine z_ldc2 X w_25 d_SM_init_62 ?_
  refine as_10 (j := 0) X ⟨by simp [zv], by simp [zn]⟩ rfl (by decide) d_SM_init_65 ?_
  refine z_dup X d_SM_init_66 rfl ?_
  refine z_iconst (v := nI 1) X d_SM_init_67 rfl ?_
  refine z_ldc2 X w_25 d_SM_init_68 ?_
  refine as_10 (j := 1) X ⟨by simp [zv], by simp [zn]⟩ rfl (by decide) d_SM_init_71 ?_
  refine z_dup X d_SM_init_72 rfl ?_
  refine z_iconst (v := nI 2) X d_SM_init_73 rfl ?_
  refine z_ldc2 X w_25 d_SM_init_74 ?_
  refine as_10 (j := 2) X ⟨by simp [zv], by simp [zn]⟩ rfl (by decide) d_SM_init_77 ?_
  refine z_dup X d_SM_init_78 rfl ?_
  refine z_iconst (v := nI 3) X d_SM_init_79 rfl ?_
  refine z_ldc2 X w_25 d_SM_init_80 ?_
  refine as_10 (j := 3) X ⟨by simp [zv], by simp [zn]⟩ rfl (by decide) d_SM_init_83 ?_
  refine pf_SM_26 (some 0) X (ho _ (by omega)) hnm rfl d_SM_init_84 ?_
  refine z_aload_n X d_SM_init_87 rfl ?_
  refine z_bipush (v := nI 24) X d_SM_init_88 rfl ?_
  refine z_anewa X (t := 5) (N := 24) 11 0 w_26 v_27 rfl (by decide) rfl (fun _ _ => ⟨_, rfl⟩) (by simp [zv]) (by simp [zn]) (by decide) (Nat.le_of_ble_eq_true rfl) (Nat.le_of_ble_eq_true rfl) d_SM_init_90 ?_
  refine pf_SM_31 (some 0) X (ho _ (by omega)) hnm rfl d_SM_init_93 ?_
  refine z_aload_n X d_SM_init_96 rfl ?_
  refine z_bipush (v := nI 6) X d_SM_init_97 rfl ?_
  refine z_anewa X (t := 6) (N := 6) 12 0 w_28 v_29 rfl (by decide) rfl (fun _ _ => ⟨_, rfl⟩) (by simp [zv]) (by simp [zn]) (by decide) (Nat.le_of_ble_eq_true rfl) (Nat.le_of_ble_eq_true rfl) d_SM_init_99 ?_
  refine pf_SM_37 (some 0) X (ho _ (by omega)) hnm rfl d_SM_init_102 ?_
  refine z_aload_n X d_SM_init_105 rfl ?_
  refine z_bipush (v := nI 10) X d_SM_init_106 rfl ?_
  refine z_anewa X (t := 7) (N := 10) 13 0 w_30 v_31 rfl (by decide) rfl (fun _ _ => ⟨_, rfl⟩) (by simp [zv]) (by simp [zn]) (by decide) (Nat.le_of_ble_eq_true rfl) (Nat.le_of_ble_eq_true rfl) d_SM_init_108 ?_
  refine pf_SM_43 (some 0) X (ho _ (by omega)) hnm rfl d_SM_init_111 ?_
  refine z_aload_n X d_SM_init_114 rfl ?_
  refine z_iconst (v := nI 5) X d_SM_init_115 rfl ?_
  refine z_anewa X (t := 8) (N := 5) 14 0 w_32 v_33 rfl (by decide) rfl (fun _ _ => ⟨_, rfl⟩) (by simp [zv]) (by simp [zn]) (by decide) (Nat.le_of_ble_eq_true rfl) (Nat.le_of_ble_eq_true rfl) d_SM_init_116 ?_
  refine pf_SM_49 (some 0) X (ho _ (by omega)) hnm rfl d_SM_init_119 ?_
  refine z_aload_n X d_SM_init_122 rfl ?_
  refine z_bipush (v := nI 6) X d_SM_init_123 rfl ?_
  refine z_newa X (atype := .int) (t := 0) (N := 6) 15 0 rfl (by decide) w_70 rfl (fun _ _ => Or.inl ⟨rfl, rfl⟩) (by simp [zv]) (by simp [zn]) (by decide) (Nat.le_of_ble_eq_true rfl) (Nat.le_of_ble_eq_true rfl) d_SM_init_125 ?_
  refine pf_SM_53 (some 0) X (ho _ (by omega)) hnm rfl d_SM_init_127 ?_
  refine z_aload_n X d_SM_init_130 rfl ?_
  refine z_bipush (v := nI 6) X d_SM_init_131 rfl ?_
  refine z_newa X (atype := .int) (t := 0) (N := 6) 16 0 rfl (by decide) w_70 rfl (fun _ _ => Or.inl ⟨rfl, rfl⟩) (by simp [zv]) (by simp [zn]) (by decide) (Nat.le_of_ble_eq_true rfl) (Nat.le_of_ble_eq_true rfl) d_SM_init_133 ?_
  refine pf_SM_57 (some 0) X (ho _ (by omega)) hnm rfl d_SM_init_135 ?_
  refine z_aload_n X d_SM_init_138 rfl ?_
  refine z_bipush (v := nI 6) X d_SM_init_139 rfl ?_
  refine z_newa X (atype := .int) (t := 0) (N := 6) 17 0 rfl (by decide) w_70 rfl (fun _ _ => Or.inl ⟨rfl, rfl⟩) (by simp [zv]) (by simp [zn]) (by decide) (Nat.le_of_ble_eq_true rfl) (Nat.le_of_ble_eq_true rfl) d_SM_init_141 ?_
  refine pf_SM_60 (some 0) X (ho _ (by omega)) hnm rfl d_SM_init_143 ?_
  refine z_aload_n X d_SM_init_146 rfl ?_
  refine z_bipush (v := nI 6) X d_SM_init_147 rfl ?_
  refine z_newa X (atype := .int) (t := 0) (N := 6) 18 0 rfl (by decide) w_70 rfl (fun _ _ => Or.inl ⟨rfl, rfl⟩) (by simp [zv]) (by simp [zn]) (by decide) (Nat.le_of_ble_eq_true rfl) (Nat.le_of_ble_eq_true rfl) d_SM_init_149 ?_
  refine pf_SM_63 (some 0) X (ho _ (by omega)) hnm rfl d_SM_init_151 ?_
  refine z_aload_n X d_SM_init_154 rfl ?_
  refine z_bipush (v := nI 24) X d_SM_init_155 rfl ?_
  refine z_newa X (atype := .int) (t := 0) (N := 24) 19 0 rfl (by decide) w_70 rfl (fun _ _ => Or.inl ⟨rfl, rfl⟩) (by simp [zv]) (by simp [zn]) (by decide) (Nat.le_of_ble_eq_true rfl) (Nat.le_of_ble_eq_true rfl) d_SM_init_157 ?_
  refine pf_SM_66 (some 0) X (ho _ (by omega)) hnm rfl d_SM_init_159 ?_
  refine z_aload_n X d_SM_init_162 rfl ?_
  refine z_bipush (v := nI 24) X d_SM_init_163 rfl ?_
  refine z_newa X (atype := .int) (t := 0) (N := 24) 20 0 rfl (by decide) w_70 rfl (fun _ _ => Or.inl ⟨rfl, rfl⟩) (by simp [zv]) (by simp [zn]) (by decide) (Nat.le_of_ble_eq_true rfl) (Nat.le_of_ble_eq_true rfl) d_SM_init_165 ?_
  refine pf_SM_69 (some 0) X (ho _ (by omega)) hnm rfl d_SM_init_167 ?_
  refine z_aload_n X d_SM_init_170 rfl ?_
  refine z_bipush (v := nI 21) X d_SM_init_171 rfl ?_
  refine z_newa X (atype := .int) (t := 0) (N := 21) 21 0 rfl (by decide) w_70 rfl (fun _ _ => Or.inl ⟨rfl, rfl⟩) (by simp [zv]) (by simp [zn]) (by decide) (Nat.le_of_ble_eq_true rfl) (Nat.le_of_ble_eq_true rfl) d_SM_init_173 ?_
  refine pf_SM_72 (some 0) X (ho _ (by omega)) hnm rfl d_SM_init_175 ?_
  refine z_aload_n X d_SM_init_178 rfl ?_
  refine z_bipush (v := nI 6) X d_SM_init_179 rfl ?_
  refine z_iconst (v := nI 3) X d_SM_init_181 rfl ?_
  refine z_mnew X (t := 9) (u := 0) (N := 6) (M := 3) 22 23 rfl rfl (by decide) (by decide) w_34 v_35 w_70 rfl (fun _ => rfl) (fun _ _ => rfl) (fun _ => rfl) (Or.inr rfl) (Or.inr rfl) rfl (by decide) (by simp [zn]) (fun j hj => by simp [zn]) rfl (Nat.le_of_ble_eq_true rfl) (Nat.le_of_ble_eq_true rfl) d_SM_init_182 ?_
  refine pf_SM_77 (some 0) X (ho _ (by omega)) hnm rfl d_SM_init_186 ?_
  refine z_aload_n X d_SM_init_189 rfl ?_
  refine z_bipush (v := nI 6) X d_SM_init_190 rfl ?_
  refine z_newa X (atype := .int) (t := 0) (N := 6) 24 0 rfl (by decide) w_70 rfl (fun _ _ => Or.inl ⟨rfl, rfl⟩) (by simp [zv]) (by simp [zn]) (by decide) (Nat.le_of_ble_eq_true rfl) (Nat.le_of_ble_eq_true rfl) d_SM_init_192 ?_
  refine pf_SM_80 (some 0) X (ho _ (by omega)) hnm rfl d_SM_init_194 ?_
  refine z_aload_n X d_SM_init_197 rfl ?_
  refine z_bipush (v := nI 6) X d_SM_init_198 rfl ?_
  refine z_newa X (atype := .int) (t := 0) (N := 6) 25 0 rfl (by decide) w_70 rfl (fun _ _ => Or.inl ⟨rfl, rfl⟩) (by simp [zv]) (by simp [zn]) (by decide) (Nat.le_of_ble_eq_true rfl) (Nat.le_of_ble_eq_true rfl) d_SM_init_200 ?_
  refine pf_SM_83 (some 0) X (ho _ (by omega)) hnm rfl d_SM_init_202 ?_
  refine z_aload_n X d_SM_init_205 rfl ?_
  refine z_bipush (v := nI 6) X d_SM_init_206 rfl ?_
  refine z_newa X (atype := .int) (t := 0) (N := 6) 26 0 rfl (by decide) w_70 rfl (fun _ _ => Or.inl ⟨rfl, rfl⟩) (by simp [zv]) (by simp [zn]) (by decide) (Nat.le_of_ble_eq_true rfl) (Nat.le_of_ble_eq_true rfl) d_SM_init_208 ?_
  refine pf_SM_86 (some 0) X (ho _ (by omega)) hnm rfl d_SM_init_210 ?_
  refine z_aload_n X d_SM_init_213 rfl ?_
  refine z_bipush (v := nI 6) X d_SM_init_214 rfl ?_
  refine z_newa X (atype := .int) (t := 0) (N := 6) 27 0 rfl (by decide) w_70 rfl (fun _ _ => Or.inl ⟨rfl, rfl⟩) (by simp [zv]) (by simp [zn]) (by decide) (Nat.le_of_ble_eq_true rfl) (Nat.le_of_ble_eq_true rfl) d_SM_init_216 ?_
  refine pf_SM_89 (some 0) X (ho _ (by omega)) hnm rfl d_SM_init_218 ?_
  refine z_aload_n X d_SM_init_221 rfl ?_
  refine z_bipush (v := nI 6) X d_SM_init_222 rfl ?_
  refine z_newa X (atype := .int) (t := 0) (N := 6) 28 0 rfl (by decide) w_70 rfl (fun _ _ => Or.inl ⟨rfl, rfl⟩) (by simp [zv]) (by simp [zn]) (by decide) (Nat.le_of_ble_eq_true rfl) (Nat.le_of_ble_eq_true rfl) d_SM_init_224 ?_
  refine pf_SM_92 (some 0) X (ho _ (by omega)) hnm rfl d_SM_init_226 ?_
  refine z_aload_n X d_SM_init_229 rfl ?_
  refine z_iconst (v := nI 2) X d_SM_init_230 rfl ?_
  refine z_bipush (v := nI 6) X d_SM_init_231 rfl ?_
  refine z_iload_n X d_SM_init_233 rfl ?_
  refine z_ci (z_rS X cs_SM_95 (c_Math_min l g (nI 6) x) ⟨Nat.le_of_ble_eq_true rfl, Nat.le_of_ble_eq_true rfl⟩ rfl rfl (Nat.le_of_ble_eq_true rfl) ⟨Nat.le_of_ble_eq_true rfl, Nat.le_of_ble_eq_true rfl⟩ d_SM_init_234) (fun r n2 I2 J2 R2 h => ?_)
  obtain ⟨rfl, e⟩ := h
  cases e
  refine z_ci (z_rS X cs_SM_101 (c_Math_max l g (nI 2) _) ⟨Nat.le_of_ble_eq_true rfl, Nat.le_of_ble_eq_true rfl⟩ rfl rfl (Nat.le_of_ble_eq_true rfl) ⟨Nat.le_of_ble_eq_true rfl, Nat.le_of_ble_eq_true rfl⟩ d_SM_init_237) (fun r n2 I2 J2 R2 h => ?_)
  obtain ⟨rfl, e⟩ := h
  cases e
  refine z_top (congrArg Value.int ((zmm (nI_le (by omega) (by omega))).trans hx)) ?_
  refine pf_SM_104 X (ho _ (by omega)) hnm d_SM_init_240 ?_
  refine z_aload_n X d_SM_init_243 rfl ?_
  refine z_bipush (v := nI 8) X d_SM_init_244 rfl ?_
  refine z_bipush (v := nI 24) X d_SM_init_246 rfl ?_
  refine z_iload_n X d_SM_init_248 rfl ?_
  refine z_ci (z_rS X cs_SM_95 (c_Math_min l g (nI 24) y) ⟨Nat.le_of_ble_eq_true rfl, Nat.le_of_ble_eq_true rfl⟩ rfl rfl (Nat.le_of_ble_eq_true rfl) ⟨Nat.le_of_ble_eq_true rfl, Nat.le_of_ble_eq_true rfl⟩ d_SM_init_249) (fun r n2 I2 J2 R2 h => ?_)
  obtain ⟨rfl, e⟩ := h
  cases e
  refine z_ci (z_rS X cs_SM_101 (c_Math_max l g (nI 8) _) ⟨Nat.le_of_ble_eq_true rfl, Nat.le_of_ble_eq_true rfl⟩ rfl rfl (Nat.le_of_ble_eq_true rfl) ⟨Nat.le_of_ble_eq_true rfl, Nat.le_of_ble_eq_true rfl⟩ d_SM_init_252) (fun r n2 I2 J2 R2 h => ?_)
  obtain ⟨rfl, e⟩ := h
  cases e
  refine z_top (congrArg Value.int ((zmm (nI_le (by omega) (by omega))).trans hy)) ?_
  refine pf_SM_108 X (ho _ (by omega)) hnm d_SM_init_255 ?_
  refine z_aload_n X d_SM_init_258 rfl ?_
  refine z_iconst (v := nI 1) X d_SM_init_259 rfl ?_
  refine z_iconst (v := nI 4) X d_SM_init_260 rfl ?_
  refine z_iload_n X d_SM_init_261 rfl ?_
  refine z_ci (z_rS X cs_SM_95 (c_Math_min l g (nI 4) z) ⟨Nat.le_of_ble_eq_true rfl, Nat.le_of_ble_eq_true rfl⟩ rfl rfl (Nat.le_of_ble_eq_true rfl) ⟨Nat.le_of_ble_eq_true rfl, Nat.le_of_ble_eq_true rfl⟩ d_SM_init_262) (fun r n2 I2 J2 R2 h => ?_)
  obtain ⟨rfl, e⟩ := h
  cases e
  refine z_ci (z_rS X cs_SM_101 (c_Math_max l g (nI 1) _) ⟨Nat.le_of_ble_eq_true rfl, Nat.le_of_ble_eq_true rfl⟩ rfl rfl (Nat.le_of_ble_eq_true rfl) ⟨Nat.le_of_ble_eq_true rfl, Nat.le_of_ble_eq_true rfl⟩ d_SM_init_265) (fun r n2 I2 J2 R2 h => ?_)
  obtain ⟨rfl, e⟩ := h
  cases e
  refine z_top (congrArg Value.int ((zmm (nI_le (by omega) (by omega))).trans hz)) ?_
  refine pf_SM_111 X (ho _ (by omega)) hnm d_SM_init_268 ?_
  refine z_iconst (v := nI 0) X d_SM_init_271 rfl ?_
  refine z_istore X d_SM_init_272 (by decide) rfl ?_
  exact K274 g.2.2.2 0 (by omega)

