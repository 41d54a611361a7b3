/-! THE TWIN'S CONSTRUCTOR -/
def zcp (x a b : Int32) : Int32 := if a ≤ x then (if x ≤ b then x else b) else a
def zmR (R : zR) : zR := zu (zu (zu (zu (zu (zu (zu (zu (zu (zu (zu (zu (zu (zu (zu (zu (zu (zu (zu (zu (zu (zu (zu (zu (zu (zu (zu (zu R 29 0 5 (some 0)) 29 0 6 (some 0)) 29 0 7 (some 0)) 29 0 8 (some 0)) 29 0 9 (some 0)) 29 0 10 (some 0)) 29 0 11 (some 0)) 29 0 13 (some 0)) 29 0 14 (some 0)) 29 0 15 (some 0)) 29 0 16 (some 0)) 29 0 17 (some 0)) 29 0 18 (some 0)) 29 0 19 (some 0)) 29 0 20 (some 0)) 29 0 21 (some 0)) 29 0 22 (some 0)) 29 0 23 (some 0)) 29 0 24 (some 0)) 29 0 25 (some 0)) 29 0 26 (some 0)) 29 0 27 (some 0)) 29 0 28 (some 0)) 29 0 29 (some 0)) 29 0 30 (some 0)) 29 0 31 (some 0)) 29 0 32 (some 0)) 29 0 33 (some 0)
def zmJ (J : zJ) : zJ := zu (zu (zu (zu (zu (zu (zu (zu J 35 0 0 (-1)) 36 0 0 (-1)) 35 0 1 (-1)) 36 0 1 (-1)) 35 0 2 (-1)) 36 0 2 (-1)) 35 0 3 (-1)) 36 0 3 (-1)
def zmI (I : zI) (c S h : Nat) : zI := zu (zu (zu (zu (zu I 29 0 0 (nI c)) 29 0 1 (nI S)) 29 0 2 (nI h)) 31 0 0 (nI 1)) 32 0 0 (nI 1)
theorem c_Model_init (l : Launch) (g : zG) {n : Nat} {I : zI} {J : zJ} {R : zR} {S h : Nat} (hc : g.2.2.2 ≤ 6) (hn : n = 50 + 6 * g.2.2.2) (x y z : Int32) (hx : zcp x (nI 2) (nI 6) = nI g.2.2.2) (hy : zcp y (nI 8) (nI 24) = nI S) (hz : zcp z (nI 1) (nI 4) = nI h) : zMet l g y_Model_init b_Model_init 5 none 1 12 28 596 (zPc g [.ref (zad g 29 0), .int x, .int y, .int z] n I J R) (zQv g (fun u => u = (n + 28, zmI I g.2.2.2 S h, zmJ J, zmR R))) := by
  have ho : ∀ m, n ≤ m → zo g m 29 0 := fun m hm => ⟨by simp [zv], by simp [zn]; omega⟩
  refine zMet.of (by decide) [some (.ref (zad g 29 0)), some (.int x), some (.int y), some (.int z), none] rfl (Nat.le_of_ble_eq_true rfl) ?_
  intro pP eE sS mM aA bB mE cC X hret hnm
  have X : zC pP sS mM aA mE cC b_Model_init "SlottedMeshModel" 5 g := X
  have hret : mE.sig.returnType = none := hret
  refine z_aload_n X d_Model_init_0 rfl ?_
  refine z_objInit X w_570 w_19 w_20 d_Model_init_1 (by decide) (by decide) ?_
  refine z_aload_n X d_Model_init_4 rfl ?_
  refine z_bipush (v := nI 36) X d_Model_init_5 rfl ?_
  refine z_newa X (atype := .boolean) (t := 1) (N := 36) 30 0 rfl (by decide) w_68 rfl (fun _ _ => Or.inl ⟨rfl, rfl⟩) (by simp [zv]) (by simp [zn]; omega) (by decide) (Nat.le_of_ble_eq_true rfl) (Nat.le_of_ble_eq_true rfl) d_Model_init_7 ?_
  refine pf_Model_7 (some 0) X (ho _ (by omega)) hnm rfl d_Model_init_9 ?_
  refine z_aload_n X d_Model_init_12 rfl ?_
  refine z_bipush (v := nI 6) X d_Model_init_13 rfl ?_
  refine z_newa X (atype := .boolean) (t := 1) (N := 6) 31 0 rfl (by decide) w_68 rfl (fun _ _ => Or.inl ⟨rfl, rfl⟩) (by simp [zv]) (by simp [zn]; omega) (by decide) (Nat.le_of_ble_eq_true rfl) (Nat.le_of_ble_eq_true rfl) d_Model_init_15 ?_
  refine pf_Model_13 (some 0) X (ho _ (by omega)) hnm rfl d_Model_init_17 ?_
  refine z_aload_n X d_Model_init_20 rfl ?_
  refine z_bipush (v := nI 6) X d_Model_init_21 rfl ?_
  refine z_newa X (atype := .boolean) (t := 1) (N := 6) 32 0 rfl (by decide) w_68 rfl (fun _ _ => Or.inl ⟨rfl, rfl⟩) (by simp [zv]) (by simp [zn]; omega) (by decide) (Nat.le_of_ble_eq_true rfl) (Nat.le_of_ble_eq_true rfl) d_Model_init_23 ?_
  refine pf_Model_16 (some 0) X (ho _ (by omega)) hnm rfl d_Model_init_25 ?_
  refine z_aload_n X d_Model_init_28 rfl ?_
  refine z_bipush (v := nI 6) X d_Model_init_29 rfl ?_
  refine z_newa X (atype := .int) (t := 0) (N := 6) 33 0 rfl (by decide) w_70 rfl (fun _ _ => Or.inl ⟨rfl, rfl⟩) (by simp [zv]) (by simp [zn]; omega) (by decide) (Nat.le_of_ble_eq_true rfl) (Nat.le_of_ble_eq_true rfl) d_Model_init_31 ?_
  refine pf_Model_19 (some 0) X (ho _ (by omega)) hnm rfl d_Model_init_33 ?_
  refine z_aload_n X d_Model_init_36 rfl ?_
  refine z_bipush (v := nI 6) X d_Model_init_37 rfl ?_
  refine z_newa X (atype := .int) (t := 0) (N := 6) 34 0 rfl (by decide) w_70 rfl (fun _ _ => Or.inl ⟨rfl, rfl⟩) (by simp [zv]) (by simp [zn]; omega) (by decide) (Nat.le_of_ble_eq_true rfl) (Nat.le_of_ble_eq_true rfl) d_Model_init_39 ?_
  refine pf_Model_23 (some 0) X (ho _ (by omega)) hnm rfl d_Model_init_41 ?_
  refine z_aload_n X d_Model_init_44 rfl ?_
  refine z_iconst (v := nI 4) X d_Model_init_45 rfl ?_
  refine z_newa X (atype := .long) (t := 2) (N := 4) 35 0 rfl (by decide) w_69 rfl (fun _ _ => Or.inr ⟨rfl, rfl⟩) (by simp [zv]) (by simp [zn]; omega) (by decide) (Nat.le_of_ble_eq_true rfl) (Nat.le_of_ble_eq_true rfl) d_Model_init_46 ?_
  refine pf_Model_26 (some 0) X (ho _ (by omega)) hnm rfl d_Model_init_48 ?_
  refine z_aload_n X d_Model_init_51 rfl ?_
  refine z_iconst (v := nI 4) X d_Model_init_52 rfl ?_
  refine z_newa X (atype := .long) (t := 2) (N := 4) 36 0 rfl (by decide) w_69 rfl (fun _ _ => Or.inr ⟨rfl, rfl⟩) (by simp [zv]) (by simp [zn]; omega) (by decide) (Nat.le_of_ble_eq_true rfl) (Nat.le_of_ble_eq_true rfl) d_Model_init_53 ?_
  refine pf_Model_30 (some 0) X (ho _ (by omega)) hnm rfl d_Model_init_55 ?_
  refine z_aload_n X d_Model_init_58 rfl ?_
  refine z_bipush (v := nI 6) X d_Model_init_59 rfl ?_
  refine z_newa X (atype := .int) (t := 0) (N := 6) 37 0 rfl (by decide) w_70 rfl (fun _ _ => Or.inl ⟨rfl, rfl⟩) (by simp [zv]) (by simp [zn]; omega) (by decide) (Nat.le_of_ble_eq_true rfl) (Nat.le_of_ble_eq_true rfl) d_Model_init_61 ?_
  refine pf_Model_33 (some 0) X (ho _ (by omega)) hnm rfl d_Model_init_63 ?_
  refine z_aload_n X d_Model_init_66 rfl ?_
  refine z_bipush (v := nI 12) X d_Model_init_67 rfl ?_
  refine z_newa X (atype := .int) (t := 0) (N := 12) 38 0 rfl (by decide) w_70 rfl (fun _ _ => Or.inl ⟨rfl, rfl⟩) (by simp [zv]) (by simp [zn]; omega) (by decide) (Nat.le_of_ble_eq_true rfl) (Nat.le_of_ble_eq_true rfl) d_Model_init_69 ?_
  refine pf_Model_36 (some 0) X (ho _ (by omega)) hnm rfl d_Model_init_71 ?_
  refine z_aload_n X d_Model_init_74 rfl ?_
  refine z_bipush (v := nI 96) X d_Model_init_75 rfl ?_
  refine z_newa X (atype := .int) (t := 0) (N := 96) 39 0 rfl (by decide) w_70 rfl (fun _ _ => Or.inl ⟨rfl, rfl⟩) (by simp [zv]) (by simp [zn]; omega) (by decide) (Nat.le_of_ble_eq_true rfl) (Nat.le_of_ble_eq_true rfl) d_Model_init_77 ?_
  refine pf_Model_39 (some 0) X (ho _ (by omega)) hnm rfl d_Model_init_79 ?_
  refine z_aload_n X d_Model_init_82 rfl ?_
  refine z_bipush (v := nI 6) X d_Model_init_83 rfl ?_
  refine z_newa X (atype := .int) (t := 0) (N := 6) 40 0 rfl (by decide) w_70 rfl (fun _ _ => Or.inl ⟨rfl, rfl⟩) (by simp [zv]) (by simp [zn]; omega) (by decide) (Nat.le_of_ble_eq_true rfl) (Nat.le_of_ble_eq_true rfl) d_Model_init_85 ?_
  refine pf_Model_42 (some 0) X (ho _ (by omega)) hnm rfl d_Model_init_87 ?_
  refine z_aload_n X d_Model_init_90 rfl ?_
  refine z_bipush (v := nI 12) X d_Model_init_91 rfl ?_
  refine z_newa X (atype := .int) (t := 0) (N := 12) 41 0 rfl (by decide) w_70 rfl (fun _ _ => Or.inl ⟨rfl, rfl⟩) (by simp [zv]) (by simp [zn]; omega) (by decide) (Nat.le_of_ble_eq_true rfl) (Nat.le_of_ble_eq_true rfl) d_Model_init_93 ?_
  refine pf_Model_45 (some 0) X (ho _ (by omega)) hnm rfl d_Model_init_95 ?_
  refine z_aload_n X d_Model_init_98 rfl ?_
  refine z_bipush (v := nI 96) X d_Model_init_99 rfl ?_
  refine z_newa X (atype := .int) (t := 0) (N := 96) 42 0 rfl (by decide) w_70 rfl (fun _ _ => Or.inl ⟨rfl, rfl⟩) (by simp [zv]) (by simp [zn]; omega) (by decide) (Nat.le_of_ble_eq_true rfl) (Nat.le_of_ble_eq_true rfl) d_Model_init_101 ?_
  refine pf_Model_48 (some 0) X (ho _ (by omega)) hnm rfl d_Model_init_103 ?_
  refine z_aload_n X d_Model_init_106 rfl ?_
  refine z_bipush (v := nI 12) X d_Model_init_107 rfl ?_
  refine z_newa X (atype := .int) (t := 0) (N := 12) 43 0 rfl (by decide) w_70 rfl (fun _ _ => Or.inl ⟨rfl, rfl⟩) (by simp [zv]) (by simp [zn]; omega) (by decide) (Nat.le_of_ble_eq_true rfl) (Nat.le_of_ble_eq_true rfl) d_Model_init_109 ?_
  refine pf_Model_51 (some 0) X (ho _ (by omega)) hnm rfl d_Model_init_111 ?_
  refine z_aload_n X d_Model_init_114 rfl ?_
  refine z_bipush (v := nI 48) X d_Model_init_115 rfl ?_
  refine z_newa X (atype := .int) (t := 0) (N := 48) 44 0 rfl (by decide) w_70 rfl (fun _ _ => Or.inl ⟨rfl, rfl⟩) (by simp [zv]) (by simp [zn]; omega) (by decide) (Nat.le_of_ble_eq_true rfl) (Nat.le_of_ble_eq_true rfl) d_Model_init_117 ?_
  refine pf_Model_54 (some 0) X (ho _ (by omega)) hnm rfl d_Model_init_119 ?_
  refine z_aload_n X d_Model_init_122 rfl ?_
  refine z_bipush (v := nI 48) X d_Model_init_123 rfl ?_
  refine z_newa X (atype := .int) (t := 0) (N := 48) 45 0 rfl (by decide) w_70 rfl (fun _ _ => Or.inl ⟨rfl, rfl⟩) (by simp [zv]) (by simp [zn]; omega) (by decide) (Nat.le_of_ble_eq_true rfl) (Nat.le_of_ble_eq_true rfl) d_Model_init_125 ?_
  refine pf_Model_57 (some 0) X (ho _ (by omega)) hnm rfl d_Model_init_127 ?_
  refine z_aload_n X d_Model_init_130 rfl ?_
  refine z_bipush (v := nI 48) X d_Model_init_131 rfl ?_
  refine z_newa X (atype := .int) (t := 0) (N := 48) 46 0 rfl (by decide) w_70 rfl (fun _ _ => Or.inl ⟨rfl, rfl⟩) (by simp [zv]) (by simp [zn]; omega) (by decide) (Nat.le_of_ble_eq_true rfl) (Nat.le_of_ble_eq_true rfl) d_Model_init_133 ?_
  refine pf_Model_60 (some 0) X (ho _ (by omega)) hnm rfl d_Model_init_135 ?_
  refine z_aload_n X d_Model_init_138 rfl ?_
  refine z_bipush (v := nI 6) X d_Model_init_139 rfl ?_
  refine z_newa X (atype := .int) (t := 0) (N := 6) 47 0 rfl (by decide) w_70 rfl (fun _ _ => Or.inl ⟨rfl, rfl⟩) (by simp [zv]) (by simp [zn]; omega) (by decide) (Nat.le_of_ble_eq_true rfl) (Nat.le_of_ble_eq_true rfl) d_Model_init_141 ?_
  refine pf_Model_63 (some 0) X (ho _ (by omega)) hnm rfl d_Model_init_143 ?_
  refine z_aload_n X d_Model_init_146 rfl ?_
  refine z_bipush (v := nI 6) X d_Model_init_147 rfl ?_
  refine z_newa X (atype := .int) (t := 0) (N := 6) 48 0 rfl (by decide) w_70 rfl (fun _ _ => Or.inl ⟨rfl, rfl⟩) (by simp [zv]) (by simp [zn]; omega) (by decide) (Nat.le_of_ble_eq_true rfl) (Nat.le_of_ble_eq_true rfl) d_Model_init_149 ?_
  refine pf_Model_66 (some 0) X (ho _ (by omega)) hnm rfl d_Model_init_151 ?_
  refine z_aload_n X d_Model_init_154 rfl ?_
  refine z_bipush (v := nI 72) X d_Model_init_155 rfl ?_
  refine z_newa X (atype := .int) (t := 0) (N := 72) 49 0 rfl (by decide) w_70 rfl (fun _ _ => Or.inl ⟨rfl, rfl⟩) (by simp [zv]) (by simp [zn]; omega) (by decide) (Nat.le_of_ble_eq_true rfl) (Nat.le_of_ble_eq_true rfl) d_Model_init_157 ?_
  refine pf_Model_69 (some 0) X (ho _ (by omega)) hnm rfl d_Model_init_159 ?_
  refine z_aload_n X d_Model_init_162 rfl ?_
  refine z_bipush (v := nI 6) X d_Model_init_163 rfl ?_
  refine z_newa X (atype := .int) (t := 0) (N := 6) 50 0 rfl (by decide) w_70 rfl (fun _ _ => Or.inl ⟨rfl, rfl⟩) (by simp [zv]) (by simp [zn]; omega) (by decide) (Nat.le_of_ble_eq_true rfl) (Nat.le_of_ble_eq_true rfl) d_Model_init_165 ?_
  refine pf_Model_72 (some 0) X (ho _ (by omega)) hnm rfl d_Model_init_167 ?_
  refine z_aload_n X d_Model_init_170 rfl ?_
  refine z_bipush (v := nI 18) X d_Model_init_171 rfl ?_
  refine z_newa X (atype := .int) (t := 0) (N := 18) 51 0 rfl (by decide) w_70 rfl (fun _ _ => Or.inl ⟨rfl, rfl⟩) (by simp [zv]) (by simp [zn]; omega) (by decide) (Nat.le_of_ble_eq_true rfl) (Nat.le_of_ble_eq_true rfl) d_Model_init_173 ?_
  refine pf_Model_75 (some 0) X (ho _ (by omega)) hnm rfl d_Model_init_175 ?_
  refine z_aload_n X d_Model_init_178 rfl ?_
  refine z_bipush (v := nI 6) X d_Model_init_179 rfl ?_
  refine z_newa X (atype := .int) (t := 0) (N := 6) 52 0 rfl (by decide) w_70 rfl (fun _ _ => Or.inl ⟨rfl, rfl⟩) (by simp [zv]) (by simp [zn]; omega) (by decide) (Nat.le_of_ble_eq_true rfl) (Nat.le_of_ble_eq_true rfl) d_Model_init_181 ?_
  refine pf_Model_78 (some 0) X (ho _ (by omega)) hnm rfl d_Model_init_183 ?_
  refine z_aload_n X d_Model_init_186 rfl ?_
  refine z_bipush (v := nI 6) X d_Model_init_187 rfl ?_
  refine z_newa X (atype := .int) (t := 0) (N := 6) 53 0 rfl (by decide) w_70 rfl (fun _ _ => Or.inl ⟨rfl, rfl⟩) (by simp [zv]) (by simp [zn]; omega) (by decide) (Nat.le_of_ble_eq_true rfl) (Nat.le_of_ble_eq_true rfl) d_Model_init_189 ?_
  refine pf_Model_81 (some 0) X (ho _ (by omega)) hnm rfl d_Model_init_191 ?_
  refine z_aload_n X d_Model_init_194 rfl ?_
  refine z_bipush (v := nI 6) X d_Model_init_195 rfl ?_
  refine z_newa X (atype := .int) (t := 0) (N := 6) 54 0 rfl (by decide) w_70 rfl (fun _ _ => Or.inl ⟨rfl, rfl⟩) (by simp [zv]) (by simp [zn]; omega) (by decide) (Nat.le_of_ble_eq_true rfl) (Nat.le_of_ble_eq_true rfl) d_Model_init_197 ?_
  refine pf_Model_84 (some 0) X (ho _ (by omega)) hnm rfl d_Model_init_199 ?_
  refine z_aload_n X d_Model_init_202 rfl ?_
  refine z_bipush (v := nI 6) X d_Model_init_203 rfl ?_
  refine z_newa X (atype := .int) (t := 0) (N := 6) 55 0 rfl (by decide) w_70 rfl (fun _ _ => Or.inl ⟨rfl, rfl⟩) (by simp [zv]) (by simp [zn]; omega) (by decide) (Nat.le_of_ble_eq_true rfl) (Nat.le_of_ble_eq_true rfl) d_Model_init_205 ?_
  refine pf_Model_87 (some 0) X (ho _ (by omega)) hnm rfl d_Model_init_207 ?_
  refine z_aload_n X d_Model_init_210 rfl ?_
  refine z_bipush (v := nI 6) X d_Model_init_211 rfl ?_
  refine z_newa X (atype := .int) (t := 0) (N := 6) 56 0 rfl (by decide) w_70 rfl (fun _ _ => Or.inl ⟨rfl, rfl⟩) (by simp [zv]) (by simp [zn]; omega) (by decide) (Nat.le_of_ble_eq_true rfl) (Nat.le_of_ble_eq_true rfl) d_Model_init_213 ?_
  refine pf_Model_90 (some 0) X (ho _ (by omega)) hnm rfl d_Model_init_215 ?_
  refine z_aload_n X d_Model_init_218 rfl ?_
  refine z_bipush (v := nI 6) X d_Model_init_219 rfl ?_
  refine z_newa X (atype := .int) (t := 0) (N := 6) 57 0 rfl (by decide) w_70 rfl (fun _ _ => Or.inl ⟨rfl, rfl⟩) (by simp [zv]) (by simp [zn]; omega) (by decide) (Nat.le_of_ble_eq_true rfl) (Nat.le_of_ble_eq_true rfl) d_Model_init_221 ?_
  refine pf_Model_93 (some 0) X (ho _ (by omega)) hnm rfl d_Model_init_223 ?_
  have hob : ∀ k, zsk k = true → zo g (n + 28) k 0 := fun k hk => zo_s hk (by omega)
  have K298 : zV pP l eE (zrm 1 12 28 596) sS mM aA bB mE cC g 5 (MQ bB (zQv g (fun u => u = (n + 28, zmI I g.2.2.2 S h, zmJ J, zmR R))) aA sS 28 596 (zA g)) 28 596 298 [some (.ref (zad g 29 0)), some (.int x), some (.int y), some (.int z), none] [.int (nI h), .ref (zad g 29 0)] (n + 28) (zu (zu I 29 0 0 (nI g.2.2.2)) 29 0 1 (nI S)) J (zmR R) := by
    refine pf_Model_103 X (ho _ (by omega)) hnm d_Model_init_298 ?_
    refine z_aload_n X d_Model_init_301 rfl ?_
    refine gr_Model_13 rfl X (ho _ (by omega)) d_Model_init_302 ?_
    refine z_iconst (v := nI 0) X d_Model_init_305 rfl ?_
    refine z_iconst (v := nI 1) X d_Model_init_306 rfl ?_
    refine as_31 (j := 0) X (hob 31 rfl) rfl (by decide) (by decide) d_Model_init_307 ?_
    refine z_aload_n X d_Model_init_308 rfl ?_
    refine gr_Model_16 rfl X (ho _ (by omega)) d_Model_init_309 ?_
    refine z_iconst (v := nI 0) X d_Model_init_312 rfl ?_
    refine z_iconst (v := nI 1) X d_Model_init_313 rfl ?_
    refine as_32 (j := 0) X (hob 32 rfl) rfl (by decide) (by decide) d_Model_init_314 ?_
    refine z_iconst (v := nI 0) X d_Model_init_315 rfl ?_
    refine z_istore X d_Model_init_316 (by decide) rfl ?_
    refine z_iload X d_Model_init_318 rfl ?_
    refine z_iconst (v := nI 4) X d_Model_init_320 rfl ?_
    refine z_icmp_ge (tgt := 350) X d_Model_init_321 (by decide) (fun hq => absurd hq (by decide)) (fun _ => ?_)
    refine z_aload_n X d_Model_init_324 rfl ?_
    refine gr_Model_26 rfl X (ho _ (by omega)) d_Model_init_325 ?_
    refine z_iload X d_Model_init_328 rfl ?_
    refine z_ldc2 X w_571 d_Model_init_330 ?_
    refine as_35 (j := 0) X (hob 35 rfl) rfl (by decide) d_Model_init_333 ?_
    refine z_aload_n X d_Model_init_334 rfl ?_
    refine gr_Model_30 rfl X (ho _ (by omega)) d_Model_init_335 ?_
    refine z_iload X d_Model_init_338 rfl ?_
    refine z_ldc2 X w_571 d_Model_init_340 ?_
    refine as_36 (j := 0) X (hob 36 rfl) rfl (by decide) d_Model_init_343 ?_
    refine z_iinc X d_Model_init_344 rfl (zinc _) (by decide) rfl ?_
    refine z_goto (tgt := 318) X d_Model_init_347 (by decide) ?_
    refine z_iload X d_Model_init_318 rfl ?_
    refine z_iconst (v := nI 4) X d_Model_init_320 rfl ?_
    refine z_icmp_ge (tgt := 350) X d_Model_init_321 (by decide) (fun hq => absurd hq (by decide)) (fun _ => ?_)
    refine z_aload_n X d_Model_init_324 rfl ?_
    refine gr_Model_26 rfl X (ho _ (by omega)) d_Model_init_325 ?_
    refine z_iload X d_Model_init_328 rfl ?_
    refine z_ldc2 X w_571 d_Model_init_330 ?_
    refine as_35 (j := 1) X (hob 35 rfl) rfl (by decide) d_Model_init_333 ?_
    refine z_aload_n X d_Model_init_334 rfl ?_
    refine gr_Model_30 rfl X (ho _ (by omega)) d_Model_init_335 ?_
    refine z_iload X d_Model_init_338 rfl ?_
    refine z_ldc2 X w_571 d_Model_init_340 ?_
    refine as_36 (j := 1) X (hob 36 rfl) rfl (by decide) d_Model_init_343 ?_
    refine z_iinc X d_Model_init_344 rfl (zinc _) (by decide) rfl ?_
    refine z_goto (tgt := 318) X d_Model_init_347 (by decide) ?_
    refine z_iload X d_Model_init_318 rfl ?_
    refine z_iconst (v := nI 4) X d_Model_init_320 rfl ?_
    refine z_icmp_ge (tgt := 350) X d_Model_init_321 (by decide) (fun hq => absurd hq (by decide)) (fun _ => ?_)
    refine z_aload_n X d_Model_init_324 rfl ?_
    refine gr_Model_26 rfl X (ho _ (by omega)) d_Model_init_325 ?_
    refine z_iload X d_Model_init_328 rfl ?_
    refine z_ldc2 X w_571 d_Model_init_330 ?_
    refine as_35 (j := 2) X (hob 35 rfl) rfl (by decide) d_Model_init_333 ?_
    refine z_aload_n X d_Model_init_334 rfl ?_
    refine gr_Model_30 rfl X (ho _ (by omega)) d_Model_init_335 ?_
    refine z_iload X d_Model_init_338 rfl ?_
    refine z_ldc2 X w_571 d_Model_init_340 ?_
    refine as_36 (j := 2) X (hob 36 rfl) rfl (by decide) d_Model_init_343 ?_
    refine z_iinc X d_Model_init_344 rfl (zinc _) (by decide) rfl ?_
    refine z_goto (tgt := 318) X d_Model_init_347 (by decide) ?_
    refine z_iload X d_Model_init_318 rfl ?_
    refine z_iconst (v := nI 4) X d_Model_init_320 rfl ?_
    refine z_icmp_ge (tgt := 350) X d_Model_init_321 (by decide) (fun hq => absurd hq (by decide)) (fun _ => ?_)
    refine z_aload_n X d_Model_init_324 rfl ?_
    refine gr_Model_26 rfl X (ho _ (by omega)) d_Model_init_325 ?_
    refine z_iload X d_Model_init_328 rfl ?_
    refine z_ldc2 X w_571 d_Model_init_330 ?_
    refine as_35 (j := 3) X (hob 35 rfl) rfl (by decide) d_Model_init_333 ?_
    refine z_aload_n X d_Model_init_334 rfl ?_
    refine gr_Model_30 rfl X (ho _ (by omega)) d_Model_init_335 ?_
    refine z_iload X d_Model_init_338 rfl ?_
    refine z_ldc2 X w_571 d_Model_init_340 ?_
    refine as_36 (j := 3) X (hob 36 rfl) rfl (by decide) d_Model_init_343 ?_
    refine z_iinc X d_Model_init_344 rfl (zinc _) (by decide) rfl ?_
    refine z_goto (tgt := 318) X d_Model_init_347 (by decide) ?_
    refine z_iload X d_Model_init_318 rfl ?_
    refine z_iconst (v := nI 4) X d_Model_init_320 rfl ?_
    refine z_icmp_ge (tgt := 350) X d_Model_init_321 (by decide) (fun _ => ?_) (fun hq => absurd hq (by decide))
    exact z_vret X hret (Nat.le_refl _) (Nat.le_refl _) rfl d_Model_init_350
  have K275 : zV pP l eE (zrm 1 12 28 596) sS mM aA bB mE cC g 5 (MQ bB (zQv g (fun u => u = (n + 28, zmI I g.2.2.2 S h, zmJ J, zmR R))) aA sS 28 596 (zA g)) 28 596 275 [some (.ref (zad g 29 0)), some (.int x), some (.int y), some (.int z), none] [.int (nI S), .ref (zad g 29 0)] (n + 28) (zu I 29 0 0 (nI g.2.2.2)) J (zmR R) := by
    refine pf_Model_100 X (ho _ (by omega)) hnm d_Model_init_275 ?_
    unfold zcp at hz
    refine z_aload_n X d_Model_init_278 rfl ?_
    refine z_iload_n X d_Model_init_279 rfl ?_
    refine z_iconst (v := nI 1) X d_Model_init_280 rfl ?_
    refine z_icmp_ge (tgt := 288) X d_Model_init_281 (by decide) (fun h281 => ?_) (fun h281 => ?_)
    · refine z_iload_n X d_Model_init_288 rfl ?_
      refine z_iconst (v := nI 4) X d_Model_init_289 rfl ?_
      refine z_icmp_le (tgt := 297) X d_Model_init_290 (by decide) (fun h290 => ?_) (fun h290 => ?_)
      · refine z_iload_n X d_Model_init_297 rfl ?_
        exact (by first | (rw [if_pos h281, if_pos h290] at hz; exact z_top (congrArg Value.int hz) K298) | (rw [if_pos h281, if_neg h290] at hz; exact z_top (congrArg Value.int hz) K298) | (rw [if_neg h281] at hz; exact z_top (congrArg Value.int hz) K298))
      · refine z_iconst (v := nI 4) X d_Model_init_293 rfl ?_
        refine z_goto (tgt := 298) X d_Model_init_294 (by decide) ?_
        exact (by first | (rw [if_pos h281, if_pos h290] at hz; exact z_top (congrArg Value.int hz) K298) | (rw [if_pos h281, if_neg h290] at hz; exact z_top (congrArg Value.int hz) K298) | (rw [if_neg h281] at hz; exact z_top (congrArg Value.int hz) K298))
    · refine z_iconst (v := nI 1) X d_Model_init_284 rfl ?_
      refine z_goto (tgt := 298) X d_Model_init_285 (by decide) ?_
      exact (by first | (rw [if_pos h281, if_pos h290] at hz; exact z_top (congrArg Value.int hz) K298) | (rw [if_pos h281, if_neg h290] at hz; exact z_top (congrArg Value.int hz) K298) | (rw [if_neg h281] at hz; exact z_top (congrArg Value.int hz) K298))
  have K248 : zV pP l eE (zrm 1 12 28 596) sS mM aA bB mE cC g 5 (MQ bB (zQv g (fun u => u = (n + 28, zmI I g.2.2.2 S h, zmJ J, zmR R))) aA sS 28 596 (zA g)) 28 596 248 [some (.ref (zad g 29 0)), some (.int x), some (.int y), some (.int z), none] [.int (nI g.2.2.2), .ref (zad g 29 0)] (n + 28) I J (zmR R) := by
    refine pf_Model_96 X (ho _ (by omega)) hnm d_Model_init_248 ?_
    unfold zcp at hy
    refine z_aload_n X d_Model_init_251 rfl ?_
    refine z_iload_n X d_Model_init_252 rfl ?_
    refine z_bipush (v := nI 8) X d_Model_init_253 rfl ?_
    refine z_icmp_ge (tgt := 263) X d_Model_init_255 (by decide) (fun h255 => ?_) (fun h255 => ?_)
    · refine z_iload_n X d_Model_init_263 rfl ?_
      refine z_bipush (v := nI 24) X d_Model_init_264 rfl ?_
      refine z_icmp_le (tgt := 274) X d_Model_init_266 (by decide) (fun h266 => ?_) (fun h266 => ?_)
      · refine z_iload_n X d_Model_init_274 rfl ?_
        exact (by first | (rw [if_pos h255, if_pos h266] at hy; exact z_top (congrArg Value.int hy) K275) | (rw [if_pos h255, if_neg h266] at hy; exact z_top (congrArg Value.int hy) K275) | (rw [if_neg h255] at hy; exact z_top (congrArg Value.int hy) K275))
      · refine z_bipush (v := nI 24) X d_Model_init_269 rfl ?_
        refine z_goto (tgt := 275) X d_Model_init_271 (by decide) ?_
        exact (by first | (rw [if_pos h255, if_pos h266] at hy; exact z_top (congrArg Value.int hy) K275) | (rw [if_pos h255, if_neg h266] at hy; exact z_top (congrArg Value.int hy) K275) | (rw [if_neg h255] at hy; exact z_top (congrArg Value.int hy) K275))
    · refine z_bipush (v := nI 8) X d_Model_init_258 rfl ?_
      refine z_goto (tgt := 275) X d_Model_init_260 (by decide) ?_
      exact (by first | (rw [if_pos h255, if_pos h266] at hy; exact z_top (congrArg Value.int hy) K275) | (rw [if_pos h255, if_neg h266] at hy; exact z_top (congrArg Value.int hy) K275) | (rw [if_neg h255] at hy; exact z_top (congrArg Value.int hy) K275))
  unfold zcp at hx
  refine z_aload_n X d_Model_init_226 rfl ?_
  refine z_iload_n X d_Model_init_227 rfl ?_
  refine z_iconst (v := nI 2) X d_Model_init_228 rfl ?_
  refine z_icmp_ge (tgt := 236) X d_Model_init_229 (by decide) (fun h229 => ?_) (fun h229 => ?_)
  · refine z_iload_n X d_Model_init_236 rfl ?_
    refine z_bipush (v := nI 6) X d_Model_init_237 rfl ?_
    refine z_icmp_le (tgt := 247) X d_Model_init_239 (by decide) (fun h239 => ?_) (fun h239 => ?_)
    · refine z_iload_n X d_Model_init_247 rfl ?_
      exact (by first | (rw [if_pos h229, if_pos h239] at hx; exact z_top (congrArg Value.int hx) K248) | (rw [if_pos h229, if_neg h239] at hx; exact z_top (congrArg Value.int hx) K248) | (rw [if_neg h229] at hx; exact z_top (congrArg Value.int hx) K248))
    · refine z_bipush (v := nI 6) X d_Model_init_242 rfl ?_
      refine z_goto (tgt := 248) X d_Model_init_244 (by decide) ?_
      exact (by first | (rw [if_pos h229, if_pos h239] at hx; exact z_top (congrArg Value.int hx) K248) | (rw [if_pos h229, if_neg h239] at hx; exact z_top (congrArg Value.int hx) K248) | (rw [if_neg h229] at hx; exact z_top (congrArg Value.int hx) K248))
  · refine z_iconst (v := nI 2) X d_Model_init_232 rfl ?_
    refine z_goto (tgt := 248) X d_Model_init_233 (by decide) ?_
    exact (by first | (rw [if_pos h229, if_pos h239] at hx; exact z_top (congrArg Value.int hx) K248) | (rw [if_pos h229, if_neg h239] at hx; exact z_top (congrArg Value.int hx) K248) | (rw [if_neg h229] at hx; exact z_top (congrArg Value.int hx) K248))

