/-! THE TWIN'S PLACEALL -/
def zrowF (c : Nat) (x : Nat → Nat) (r a : Nat) : List Nat := ((List.range c).drop a).filter (fun a => x a == r)
theorem zrowF_0 (c : Nat) (x : Nat → Nat) (r : Nat) : zrowF c x r 0 = zrow c x r := rfl
theorem zrowF_s {c : Nat} (x : Nat → Nat) (r : Nat) {a : Nat} (h : a < c) : zrowF c x r a = (if x a = r then [a] else []) ++ zrowF c x r (a + 1) := by
  unfold zrowF
  rw [List.drop_eq_getElem_cons (by simpa using h)]
  simp only [List.getElem_range, List.filter_cons]
  by_cases e : x a = r <;> simp [e]
theorem zrowF_e {c : Nat} (x : Nat → Nat) (r : Nat) {a : Nat} (h : c ≤ a) : zrowF c x r a = [] := by
  unfold zrowF
  rw [List.drop_of_length_le (by simpa using h)]
  rfl
def zl2 (a p : Nat) (l2 : List Nat) : List Nat := match l2 with | [] => [300 + 10 * p + a] | q :: _ => [200 + 10 * a + q, 300 + 10 * p + a]
theorem zlks_cons {c : Nat} {f : Nat → Int32} {x : Nat → Nat} {a p : Nat} {l2 : List Nat} (h : zpl c f x c a = p :: l2) : zlks c f x a = (200 + 10 * a + p) :: zl2 a p l2 := by
  unfold zlks
  rw [h]
  cases l2 <;> rfl
theorem zpl_mem {c : Nat} {f : Nat → Int32} {x : Nat → Nat} {b a u : Nat} (h : u ∈ zpl c f x b a) : u < b ∧ f (6 * a + u) ≠ 0 ∧ x u + 1 = x a := by
  unfold zpl at h
  rw [List.mem_filter, List.mem_range] at h
  simp only [Bool.and_eq_true, Bool.not_eq_true', beq_eq_false_iff_ne, beq_iff_eq] at h
  exact h
theorem c_Model_placeAll (l : Launch) (g : zG) {S h n : Nat} {I : zI} {J : zJ} {R : zR} (hW : zW g S h n I R) (x : Nat → Nat) (hx : ∀ a, a < 6 → I 40 0 a = nI (x a) ∧ x a ≤ 99) (hp : ∀ a, a < g.2.2.2 → I 41 0 (2 * a) = zo1 (zpl g.2.2.2 (I 30 0) x g.2.2.2 a)[0]? ∧ I 41 0 (2 * a + 1) = zo1 (zpl g.2.2.2 (I 30 0) x g.2.2.2 a)[1]?) (hpn : ∀ a, a < g.2.2.2 → 1 ≤ x a → x a ≤ 5 → zpl g.2.2.2 (I 30 0) x g.2.2.2 a ≠ []) : zMet l g y_Model_placeAll b_Model_placeAll 6 (some .boolean) 2 47 0 0 (zPc g [.ref (zad g 29 0)] n I J R) (zQi g (fun r u => ∃ I2, u = (n, I2, J, R) ∧ (∀ k i j, k ≠ 42 → I2 k i j = I k i j) ∧ ((r = nI 0 ∧ zplan g.2.2.2 S h (I 30 0) x = none) ∨ (r = nI 1 ∧ ∃ T, zplan g.2.2.2 S h (I 30 0) x = some T ∧ zTT T I2)))) := by
  have hc := hW.2.1.2
  have h2c := hW.2.1.1
  refine zMet.of (by decide) [some (.ref (zad g 29 0)), none, none, none, none, none] rfl (Nat.le_of_ble_eq_true rfl) ?_
  intro pP eE sS mM aA bB mE cC X hret hnm
  have X : zC pP sS mM aA mE cC b_Model_placeAll "SlottedMeshModel" 6 g := X
  have hret : mE.sig.returnType = (some .boolean) := hret
  generalize hZ : zplan g.2.2.2 S h (I 30 0) x = Z
  -- links
  have KL : ∀ (sr r : Nat) (I2 : zI) (T : Nat → Nat) (d : Bool), r + sr = 6 → 1 ≤ r → zW g S h n I2 R → (∀ k i j, k ≠ 42 → I2 k i j = I k i j) → (d = true → zTT T I2 ∧ Z = zreqL S h ((zord g.2.2.2 x sr r).flatMap (zlks g.2.2.2 (I 30 0) x)) T) → (d = false → Z = none) → zV pP l eE (zrm 2 47 0 0) sS mM aA bB mE cC g 6 (MQ bB (zQi g (fun r u => ∃ I2, u = (n, I2, J, R) ∧ (∀ k i j, k ≠ 42 → I2 k i j = I k i j) ∧ ((r = nI 0 ∧ Z = none) ∨ (r = nI 1 ∧ ∃ T, Z = some T ∧ zTT T I2)))) aA sS 0 0 (zA g)) 0 0 75 [some (.ref (zad g 29 0)), some (.int (if d = true then nI 1 else nI 0)), some (.int (nI r)), none, none, none] [] n I2 J R := by
    intro sr
    induction sr with
    | zero =>
      intro r I2 T d hr hr1 hW hk h1 h2
      refine z_iload_n X d_Model_placeAll_75 rfl ?_
      refine z_bipush (v := nI 6) X d_Model_placeAll_76 rfl ?_
      refine z_icmp_ge (tgt := 203) X d_Model_placeAll_78 (by decide) (fun _ => ?_) (fun hq => absurd hq (fun z => z (nI_le (by omega) (by omega))))
      cases d with
      | true =>
        refine z_iload_n X d_Model_placeAll_203 rfl ?_
        exact z_iret X hret rfl (Nat.zero_le _) (Nat.zero_le _) ⟨I2, rfl, hk, Or.inr ⟨rfl, T, (h1 rfl).2, (h1 rfl).1⟩⟩ d_Model_placeAll_204
      | false =>
        refine z_iload_n X d_Model_placeAll_203 rfl ?_
        exact z_iret X hret rfl (Nat.zero_le _) (Nat.zero_le _) ⟨I2, rfl, hk, Or.inl ⟨rfl, h2 rfl⟩⟩ d_Model_placeAll_204
    | succ sr ihr =>
      intro r I2 T d hr hr1 hW hk h1 h2
      refine z_iload_n X d_Model_placeAll_75 rfl ?_
      refine z_bipush (v := nI 6) X d_Model_placeAll_76 rfl ?_
      refine z_icmp_ge (tgt := 203) X d_Model_placeAll_78 (by decide) (fun hq => absurd hq (nI_ge (by omega) (by omega))) (fun _ => ?_)
      refine z_iconst (v := nI 0) X d_Model_placeAll_81 rfl ?_
      refine z_istore_n X d_Model_placeAll_82 (by decide) rfl ?_
      have KA : ∀ (sa a : Nat) (I3 : zI) (T : Nat → Nat) (d : Bool), a + sa = g.2.2.2 → zW g S h n I3 R → (∀ k i j, k ≠ 42 → I3 k i j = I k i j) → (d = true → zTT T I3 ∧ Z = zreqL S h ((zrowF g.2.2.2 x r a ++ zord g.2.2.2 x sr (r + 1)).flatMap (zlks g.2.2.2 (I 30 0) x)) T) → (d = false → Z = none) → zV pP l eE (zrm 2 47 0 0) sS mM aA bB mE cC g 6 (MQ bB (zQi g (fun r u => ∃ I2, u = (n, I2, J, R) ∧ (∀ k i j, k ≠ 42 → I2 k i j = I k i j) ∧ ((r = nI 0 ∧ Z = none) ∨ (r = nI 1 ∧ ∃ T, Z = some T ∧ zTT T I2)))) aA sS 0 0 (zA g)) 0 0 83 [some (.ref (zad g 29 0)), some (.int (if d = true then nI 1 else nI 0)), some (.int (nI r)), some (.int (nI a)), none, none] [] n I3 J R := by
        have nxt : ∀ (I3 : zI) (T : Nat → Nat) (d : Bool), zW g S h n I3 R → (∀ k i j, k ≠ 42 → I3 k i j = I k i j) → (d = true → zTT T I3 ∧ Z = zreqL S h ((zord g.2.2.2 x sr (r + 1)).flatMap (zlks g.2.2.2 (I 30 0) x)) T) → (d = false → Z = none) → zV pP l eE (zrm 2 47 0 0) sS mM aA bB mE cC g 6 (MQ bB (zQi g (fun r u => ∃ I2, u = (n, I2, J, R) ∧ (∀ k i j, k ≠ 42 → I2 k i j = I k i j) ∧ ((r = nI 0 ∧ Z = none) ∨ (r = nI 1 ∧ ∃ T, Z = some T ∧ zTT T I2)))) aA sS 0 0 (zA g)) 0 0 197 [some (.ref (zad g 29 0)), some (.int (if d = true then nI 1 else nI 0)), some (.int (nI r)), none, none, none] [] n I3 J R := by
          intro I3 T d hW hk h1 h2
          refine z_iinc X d_Model_placeAll_197 rfl (zinc _) (by decide) rfl ?_
          refine z_goto (tgt := 75) X d_Model_placeAll_200 (by decide) ?_
          exact ihr (r + 1) I3 T d (by omega) (by omega) hW hk h1 h2
        intro sa
        induction sa with
        | zero =>
          intro a I3 T d ha hW hk h1 h2
          refine z_iload_n X d_Model_placeAll_83 rfl ?_
          refine z_aload_n X d_Model_placeAll_84 rfl ?_
          refine gf_Model_96 X (zo_s rfl hW.1) d_Model_placeAll_85 ?_
          refine z_top (congrArg Value.int (hW.2.2.2.2.2.2.2.2.2.1)) ?_
          refine z_icmp_ge (tgt := 197) X d_Model_placeAll_88 (by decide) (fun _ => ?_) (fun hq => absurd hq (fun z => z (nI_le (by omega) (by omega))))
          refine z_wk (ls2 := [some (.ref (zad g 29 0)), some (.int (if d = true then nI 1 else nI 0)), some (.int (nI r)), none, none, none]) ⟨rfl, rfl, rfl, trivial⟩ ?_
          exact nxt I3 T d hW hk (fun z => by have := h1 z; rw [zrowF_e x r (by omega), List.nil_append] at this; exact this) h2
        | succ sa iha =>
          intro a I3 T d ha hW hk h1 h2
          refine z_iload_n X d_Model_placeAll_83 rfl ?_
          refine z_aload_n X d_Model_placeAll_84 rfl ?_
          refine gf_Model_96 X (zo_s rfl hW.1) d_Model_placeAll_85 ?_
          refine z_top (congrArg Value.int (hW.2.2.2.2.2.2.2.2.2.1)) ?_
          refine z_icmp_ge (tgt := 197) X d_Model_placeAll_88 (by decide) (fun hq => absurd hq (nI_ge (by omega) (by omega))) (fun _ => ?_)
          cases d with
          | false =>
            refine z_iload_n X d_Model_placeAll_91 rfl ?_
            refine z_if_eq (tgt := 197) X d_Model_placeAll_92 (by decide) (fun _ => ?_) (fun hq => absurd hq (by decide))
            refine z_wk (ls2 := [some (.ref (zad g 29 0)), some (.int (nI 0)), some (.int (nI r)), none, none, none]) ⟨rfl, rfl, rfl, trivial⟩ ?_
            exact nxt I3 T false hW hk (fun z => by cases z) h2
          | true =>
            obtain ⟨hT, hz⟩ := h1 rfl
            rw [zrowF_s x r (by omega)] at hz
            refine z_iload_n X d_Model_placeAll_91 rfl ?_
            refine z_if_eq (tgt := 197) X d_Model_placeAll_92 (by decide) (fun hq => absurd hq (by decide)) (fun _ => ?_)
            have p0 := (hk 41 0 (2 * a) (by decide)).trans (hp a (by omega)).1
            have p1 := (hk 41 0 (2 * a + 1) (by decide)).trans (hp a (by omega)).2
            have x0 := (hk 40 0 a (by decide)).trans (hx a (by omega)).1
            have x9 := (hx a (by omega)).2
            refine z_aload_n X d_Model_placeAll_95 rfl ?_
            refine gr_Model_45 (hW.c (k := 29) (f := 17) rfl rfl (by decide) rfl) X (zo_s rfl hW.1) d_Model_placeAll_96 ?_
            refine z_iconst (v := nI 2) X d_Model_placeAll_99 rfl ?_
            refine z_iload_n X d_Model_placeAll_100 rfl ?_
            refine z_imul X d_Model_placeAll_101 ?_
            refine al_41 (j := 2 * a) X (zo_s rfl hW.1) (pk_mul 2 a) (by omega) d_Model_placeAll_102 ?_
            refine z_top (congrArg Value.int p0) ?_
            refine z_istore X d_Model_placeAll_103 (by decide) rfl ?_
            refine z_aload_n X d_Model_placeAll_105 rfl ?_
            refine gr_Model_45 (hW.c (k := 29) (f := 17) rfl rfl (by decide) rfl) X (zo_s rfl hW.1) d_Model_placeAll_106 ?_
            refine z_iconst (v := nI 2) X d_Model_placeAll_109 rfl ?_
            refine z_iload_n X d_Model_placeAll_110 rfl ?_
            refine z_imul X d_Model_placeAll_111 ?_
            refine z_iconst (v := nI 1) X d_Model_placeAll_112 rfl ?_
            refine z_iadd X d_Model_placeAll_113 ?_
            refine al_41 (j := 2 * a + 1) X (zo_s rfl hW.1) (by rw [pk_mul, nI_add]) (by omega) d_Model_placeAll_114 ?_
            refine z_top (congrArg Value.int p1) ?_
            refine z_istore X d_Model_placeAll_115 (by decide) rfl ?_
            refine z_aload_n X d_Model_placeAll_117 rfl ?_
            refine gr_Model_42 (hW.c (k := 29) (f := 16) rfl rfl (by decide) rfl) X (zo_s rfl hW.1) d_Model_placeAll_118 ?_
            refine z_iload_n X d_Model_placeAll_121 rfl ?_
            refine al_40 X (zo_s rfl hW.1) rfl (by omega) d_Model_placeAll_122 ?_
            refine z_top (congrArg Value.int x0) ?_
            refine z_iload_n X d_Model_placeAll_123 rfl ?_
            -- the next node
            have nx : ∀ (I4 : zI) (T : Nat → Nat) (d : Bool), zW g S h n I4 R → (∀ k i j, k ≠ 42 → I4 k i j = I k i j) → (d = true → zTT T I4 ∧ Z = zreqL S h ((zrowF g.2.2.2 x r (a + 1) ++ zord g.2.2.2 x sr (r + 1)).flatMap (zlks g.2.2.2 (I 30 0) x)) T) → (d = false → Z = none) → zV pP l eE (zrm 2 47 0 0) sS mM aA bB mE cC g 6 (MQ bB (zQi g (fun r u => ∃ I2, u = (n, I2, J, R) ∧ (∀ k i j, k ≠ 42 → I2 k i j = I k i j) ∧ ((r = nI 0 ∧ Z = none) ∨ (r = nI 1 ∧ ∃ T, Z = some T ∧ zTT T I2)))) aA sS 0 0 (zA g)) 0 0 191 [some (.ref (zad g 29 0)), some (.int (if d = true then nI 1 else nI 0)), some (.int (nI r)), some (.int (nI a)), none, none] [] n I4 J R := by
              intro I4 T d hW hk h1 h2
              refine z_iinc X d_Model_placeAll_191 rfl (zinc _) (by decide) rfl ?_
              refine z_goto (tgt := 83) X d_Model_placeAll_194 (by decide) ?_
              exact iha (a + 1) I4 T d (by omega) hW hk h1 h2
            refine z_icmpN_eq (tgt := 130) X d_Model_placeAll_124 (by decide) (by omega) (by omega) (fun h124 => ?_) (fun h124 => ?_)
            · rw [if_pos h124, List.append_assoc, List.singleton_append, List.flatMap_cons] at hz
              have hne := hpn a (by omega) (by omega) (by omega)
              generalize hrest : List.flatMap (zlks g.2.2.2 (I 30 0) x) (zrowF g.2.2.2 x r (a + 1) ++ zord g.2.2.2 x sr (r + 1)) = LR at hz
              -- the last of the three: down
              have KD : ∀ (p : Nat) (I4 : zI) (T : Nat → Nat) (d : Bool) (q : Option Nat), p < g.2.2.2 → zW g S h n I4 R → (∀ k i j, k ≠ 42 → I4 k i j = I k i j) → (d = true → zTT T I4 ∧ Z = zreqL S h ((300 + 10 * p + a) :: LR) T) → (d = false → Z = none) → zV pP l eE (zrm 2 47 0 0) sS mM aA bB mE cC g 6 (MQ bB (zQi g (fun r u => ∃ I2, u = (n, I2, J, R) ∧ (∀ k i j, k ≠ 42 → I2 k i j = I k i j) ∧ ((r = nI 0 ∧ Z = none) ∨ (r = nI 1 ∧ ∃ T, Z = some T ∧ zTT T I2)))) aA sS 0 0 (zA g)) 0 0 171 [some (.ref (zad g 29 0)), some (.int (if d = true then nI 1 else nI 0)), some (.int (nI r)), some (.int (nI a)), some (.int (nI p)), none] [] n I4 J R := by
                intro p I4 T d q hpc hW hk h1 h2
                cases d with
                | false =>
                  refine z_iload_n X d_Model_placeAll_171 rfl ?_
                  refine z_if_eq (tgt := 191) X d_Model_placeAll_172 (by decide) (fun _ => ?_) (fun hq => absurd hq (by decide))
                  refine z_wk (ls2 := [some (.ref (zad g 29 0)), some (.int (nI 0)), some (.int (nI r)), some (.int (nI a)), none, none]) ⟨rfl, rfl, rfl, rfl, trivial⟩ ?_
                  exact nx I4 T false hW hk (fun z => by cases z) h2
                | true =>
                  obtain ⟨hT, hz⟩ := h1 rfl
                  refine z_iload_n X d_Model_placeAll_171 rfl ?_
                  refine z_if_eq (tgt := 191) X d_Model_placeAll_172 (by decide) (fun hq => absurd hq (by decide)) (fun _ => ?_)
                  refine z_aload_n X d_Model_placeAll_175 rfl ?_
                  refine z_sipush (v := nI 300) X d_Model_placeAll_176 rfl ?_
                  refine z_bipush (v := nI 10) X d_Model_placeAll_179 rfl ?_
                  refine z_iload X d_Model_placeAll_181 rfl ?_
                  refine z_imul X d_Model_placeAll_183 ?_
                  refine z_iadd X d_Model_placeAll_184 ?_
                  refine z_iload_n X d_Model_placeAll_185 rfl ?_
                  refine z_iadd X d_Model_placeAll_186 ?_
                  refine z_top (v2 := .int (nI (300 + 10 * p + a))) (congrArg Value.int (by rw [pk_mul, nI_add, nI_add])) ?_
                  refine z_ci (z_rV X cs_Model_122 rfl rfl (zo_s rfl hW.1).1 (zo_s rfl hW.1).2 (c_Model_place l g hW T hT (300 + 10 * p + a) (by omega) (by omega)) ⟨Nat.le_of_ble_eq_true rfl, Nat.le_of_ble_eq_true rfl⟩ rfl rfl (Nat.le_of_ble_eq_true rfl) ⟨Nat.le_of_ble_eq_true rfl, Nat.le_of_ble_eq_true rfl⟩ d_Model_placeAll_187) (fun r9 n9 I9 J9 R9 h9 => ?_)
                  unfold zreqL at hz
                  rcases h9 with ⟨e1, e2, e3⟩ | ⟨s, ch, e1, e2, e3, e4⟩
                  · cases e3
                    subst e2
                    rw [e1] at hz
                    refine z_istore_n X d_Model_placeAll_190 (by decide) rfl ?_
                    refine z_wk (ls2 := [some (.ref (zad g 29 0)), some (.int (nI 0)), some (.int (nI r)), some (.int (nI a)), none, none]) ⟨rfl, rfl, rfl, rfl, trivial⟩ ?_
                    exact nx _ T false hW hk (fun z => by cases z) (fun _ => hz)
                  · cases e4
                    subst e3
                    rw [e1] at hz
                    dsimp only at hz
                    rw [e2] at hz
                    refine z_istore_n X d_Model_placeAll_190 (by decide) rfl ?_
                    refine z_wk (ls2 := [some (.ref (zad g 29 0)), some (.int (nI 1)), some (.int (nI r)), some (.int (nI a)), none, none]) ⟨rfl, rfl, rfl, rfl, trivial⟩ ?_
                    exact nx _ (zput (4 * s + ch) (300 + 10 * p + a) T) true (zW.upI hW rfl) (fun k i j hk2 => by rw [zu_k hk2]; exact hk k i j hk2) (fun _ => ⟨zTT.put hT (by omega), by rw [hrest]; exact hz⟩) (fun z => by cases z)
              rcases hl : zpl g.2.2.2 (I 30 0) x g.2.2.2 a with _ | ⟨p, l2⟩
              · exact absurd hl hne
              have hpm : p < g.2.2.2 := (zpl_mem (show p ∈ zpl g.2.2.2 (I 30 0) x g.2.2.2 a by rw [hl]; exact List.mem_cons_self)).1
              rw [hl] at p0 p1
              refine z_aload_n X d_Model_placeAll_130 rfl ?_
              refine z_sipush (v := nI 200) X d_Model_placeAll_131 rfl ?_
              refine z_bipush (v := nI 10) X d_Model_placeAll_134 rfl ?_
              refine z_iload_n X d_Model_placeAll_136 rfl ?_
              refine z_imul X d_Model_placeAll_137 ?_
              refine z_iadd X d_Model_placeAll_138 ?_
              refine z_iload X d_Model_placeAll_139 rfl ?_
              refine z_top (v2 := .int (nI p)) rfl ?_
              refine z_iadd X d_Model_placeAll_141 ?_
              refine z_top (v2 := .int (nI (200 + 10 * a + p))) (congrArg Value.int (by rw [pk_mul, nI_add, nI_add])) ?_
              refine z_ci (z_rV X cs_Model_122 rfl rfl (zo_s rfl hW.1).1 (zo_s rfl hW.1).2 (c_Model_place l g hW T hT (200 + 10 * a + p) (by omega) (by omega)) ⟨Nat.le_of_ble_eq_true rfl, Nat.le_of_ble_eq_true rfl⟩ rfl rfl (Nat.le_of_ble_eq_true rfl) ⟨Nat.le_of_ble_eq_true rfl, Nat.le_of_ble_eq_true rfl⟩ d_Model_placeAll_142) (fun r9 n9 I9 J9 R9 h9 => ?_)
              have hz0 : Z = zreqL S h ((200 + 10 * a + p) :: (zl2 a p l2 ++ LR)) T := by
                rw [hz, zlks_cons hl]
                rfl
              unfold zreqL at hz0
              rcases h9 with ⟨e1, e2, e3⟩ | ⟨s, ch, e1, e2, e3, e4⟩
              · cases e3
                subst e2
                rw [e1] at hz0
                refine z_istore_n X d_Model_placeAll_145 (by decide) rfl ?_
                refine z_iload_n X d_Model_placeAll_146 rfl ?_
                refine z_if_eq (tgt := 171) X d_Model_placeAll_147 (by decide) (fun _ => ?_) (fun hq => absurd hq (by decide))
                refine z_wk (ls2 := [some (.ref (zad g 29 0)), some (.int (nI 0)), some (.int (nI r)), some (.int (nI a)), some (.int (nI p)), none]) ⟨rfl, rfl, rfl, rfl, rfl, trivial⟩ ?_
                exact KD p _ T false none hpm hW hk (fun z => by cases z) (fun _ => hz0)
              · cases e4
                subst e3
                rw [e1] at hz0
                dsimp only at hz0
                rw [e2] at hz0
                refine z_istore_n X d_Model_placeAll_145 (by decide) rfl ?_
                refine z_iload_n X d_Model_placeAll_146 rfl ?_
                refine z_if_eq (tgt := 171) X d_Model_placeAll_147 (by decide) (fun hq => absurd hq (by decide)) (fun _ => ?_)
                refine z_iload X d_Model_placeAll_150 rfl ?_
                rcases l2 with _ | ⟨q, l3⟩
                · refine z_if_lt (tgt := 171) X d_Model_placeAll_152 (by decide) (fun _ => ?_) (fun hq => absurd hq (fun z => z (show (-1 : Int32) < 0 by decide)))
                  refine z_wk (ls2 := [some (.ref (zad g 29 0)), some (.int (nI 1)), some (.int (nI r)), some (.int (nI a)), some (.int (nI p)), none]) ⟨rfl, rfl, rfl, rfl, rfl, trivial⟩ ?_
                  exact KD p _ (zput (4 * s + ch) (200 + 10 * a + p) T) true none hpm (zW.upI hW rfl) (fun k i j hk2 => by rw [zu_k hk2]; exact hk k i j hk2) (fun _ => ⟨zTT.put hT (by omega), hz0⟩) (fun z => by cases z)
                · have hqm : q < g.2.2.2 := (zpl_mem (show q ∈ zpl g.2.2.2 (I 30 0) x g.2.2.2 a by rw [hl]; exact List.mem_cons_of_mem _ List.mem_cons_self)).1
                  refine z_top (v2 := .int (nI q)) rfl ?_
                  refine z_if_lt (tgt := 171) X d_Model_placeAll_152 (by decide) (fun hq => absurd hq (nI_pos (by omega))) (fun _ => ?_)
                  refine z_aload_n X d_Model_placeAll_155 rfl ?_
                  refine z_sipush (v := nI 200) X d_Model_placeAll_156 rfl ?_
                  refine z_bipush (v := nI 10) X d_Model_placeAll_159 rfl ?_
                  refine z_iload_n X d_Model_placeAll_161 rfl ?_
                  refine z_imul X d_Model_placeAll_162 ?_
                  refine z_iadd X d_Model_placeAll_163 ?_
                  refine z_iload (x := nI q) X d_Model_placeAll_164 rfl ?_
                  refine z_iadd X d_Model_placeAll_166 ?_
                  refine z_top (v2 := .int (nI (200 + 10 * a + q))) (congrArg Value.int (by rw [pk_mul, nI_add, nI_add])) ?_
                  refine z_ci (z_rV X cs_Model_122 rfl rfl (zo_s rfl hW.1).1 (zo_s rfl hW.1).2 (c_Model_place l g (zW.upI hW rfl) (zput (4 * s + ch) (200 + 10 * a + p) T) (zTT.put hT (by omega)) (200 + 10 * a + q) (by omega) (by omega)) ⟨Nat.le_of_ble_eq_true rfl, Nat.le_of_ble_eq_true rfl⟩ rfl rfl (Nat.le_of_ble_eq_true rfl) ⟨Nat.le_of_ble_eq_true rfl, Nat.le_of_ble_eq_true rfl⟩ d_Model_placeAll_167) (fun r9 n9 I9 J9 R9 h9 => ?_)
                  have hz1 : Z = zreqL S h ((200 + 10 * a + q) :: ([300 + 10 * p + a] ++ LR)) (zput (4 * s + ch) (200 + 10 * a + p) T) := hz0
                  unfold zreqL at hz1
                  rcases h9 with ⟨f1, f2, f3⟩ | ⟨s2, ch2, f1, f2, f3, f4⟩
                  · cases f3
                    subst f2
                    rw [f1] at hz1
                    refine z_istore_n X d_Model_placeAll_170 (by decide) rfl ?_
                    refine z_wk (ls2 := [some (.ref (zad g 29 0)), some (.int (nI 0)), some (.int (nI r)), some (.int (nI a)), some (.int (nI p)), none]) ⟨rfl, rfl, rfl, rfl, rfl, trivial⟩ ?_
                    exact KD p _ T false none hpm (zW.upI hW rfl) (fun k i j hk2 => by rw [zu_k hk2]; exact hk k i j hk2) (fun z => by cases z) (fun _ => hz1)
                  · cases f4
                    subst f3
                    rw [f1] at hz1
                    dsimp only at hz1
                    rw [f2] at hz1
                    refine z_istore_n X d_Model_placeAll_170 (by decide) rfl ?_
                    refine z_wk (ls2 := [some (.ref (zad g 29 0)), some (.int (nI 1)), some (.int (nI r)), some (.int (nI a)), some (.int (nI p)), none]) ⟨rfl, rfl, rfl, rfl, rfl, trivial⟩ ?_
                    exact KD p _ (zput (4 * s2 + ch2) (200 + 10 * a + q) (zput (4 * s + ch) (200 + 10 * a + p) T)) true none hpm (zW.upI (zW.upI hW rfl) rfl) (fun k i j hk2 => by rw [zu_k hk2, zu_k hk2]; exact hk k i j hk2) (fun _ => ⟨zTT.put (zTT.put hT (by omega)) (by omega), hz1⟩) (fun z => by cases z)
            · rw [if_neg h124, List.nil_append] at hz
              refine z_goto (tgt := 191) X d_Model_placeAll_127 (by decide) ?_
              refine z_wk (ls2 := [some (.ref (zad g 29 0)), some (.int (nI 1)), some (.int (nI r)), some (.int (nI a)), none, none]) ⟨rfl, rfl, rfl, rfl, trivial⟩ ?_
              exact nx I3 T true hW hk (fun _ => ⟨hT, hz⟩) h2
      exact KA g.2.2.2 0 I2 T d (by omega) hW hk h1 h2
  -- adverts
  have KB : ∀ (sr r : Nat) (I2 : zI) (T : Nat → Nat) (d : Bool), r + sr = 6 → zW g S h n I2 R → (∀ k i j, k ≠ 42 → I2 k i j = I k i j) → (d = true → zTT T I2 ∧ Z = match zreqA S h (zord g.2.2.2 x sr r) T with | none => none | some T2 => zreqL S h ((zord g.2.2.2 x 5 1).flatMap (zlks g.2.2.2 (I 30 0) x)) T2) → (d = false → Z = none) → zV pP l eE (zrm 2 47 0 0) sS mM aA bB mE cC g 6 (MQ bB (zQi g (fun r u => ∃ I2, u = (n, I2, J, R) ∧ (∀ k i j, k ≠ 42 → I2 k i j = I k i j) ∧ ((r = nI 0 ∧ Z = none) ∨ (r = nI 1 ∧ ∃ T, Z = some T ∧ zTT T I2)))) aA sS 0 0 (zA g)) 0 0 25 [some (.ref (zad g 29 0)), some (.int (if d = true then nI 1 else nI 0)), some (.int (nI r)), none, none, none] [] n I2 J R := by
    intro sr
    induction sr with
    | zero =>
      intro r I2 T d hr hW hk h1 h2
      refine z_iload_n X d_Model_placeAll_25 rfl ?_
      refine z_bipush (v := nI 6) X d_Model_placeAll_26 rfl ?_
      refine z_icmp_ge (tgt := 73) X d_Model_placeAll_28 (by decide) (fun _ => ?_) (fun hq => absurd hq (fun z => z (nI_le (by omega) (by omega))))
      refine z_iconst (v := nI 1) X d_Model_placeAll_73 rfl ?_
      refine z_istore_n X d_Model_placeAll_74 (by decide) rfl ?_
      exact KL 5 1 I2 T d (by omega) (by omega) hW hk h1 h2
    | succ sr ihr =>
      intro r I2 T d hr hW hk h1 h2
      refine z_iload_n X d_Model_placeAll_25 rfl ?_
      refine z_bipush (v := nI 6) X d_Model_placeAll_26 rfl ?_
      refine z_icmp_ge (tgt := 73) X d_Model_placeAll_28 (by decide) (fun hq => absurd hq (nI_ge (by omega) (by omega))) (fun _ => ?_)
      refine z_iconst (v := nI 0) X d_Model_placeAll_31 rfl ?_
      refine z_istore_n X d_Model_placeAll_32 (by decide) rfl ?_
      have KA : ∀ (sa a : Nat) (I3 : zI) (T : Nat → Nat) (d : Bool), a + sa = g.2.2.2 → zW g S h n I3 R → (∀ k i j, k ≠ 42 → I3 k i j = I k i j) → (d = true → zTT T I3 ∧ Z = match zreqA S h (zrowF g.2.2.2 x r a ++ zord g.2.2.2 x sr (r + 1)) T with | none => none | some T2 => zreqL S h ((zord g.2.2.2 x 5 1).flatMap (zlks g.2.2.2 (I 30 0) x)) T2) → (d = false → Z = none) → zV pP l eE (zrm 2 47 0 0) sS mM aA bB mE cC g 6 (MQ bB (zQi g (fun r u => ∃ I2, u = (n, I2, J, R) ∧ (∀ k i j, k ≠ 42 → I2 k i j = I k i j) ∧ ((r = nI 0 ∧ Z = none) ∨ (r = nI 1 ∧ ∃ T, Z = some T ∧ zTT T I2)))) aA sS 0 0 (zA g)) 0 0 33 [some (.ref (zad g 29 0)), some (.int (if d = true then nI 1 else nI 0)), some (.int (nI r)), some (.int (nI a)), none, none] [] n I3 J R := by
        have nxt : ∀ (I3 : zI) (T : Nat → Nat) (d : Bool), zW g S h n I3 R → (∀ k i j, k ≠ 42 → I3 k i j = I k i j) → (d = true → zTT T I3 ∧ Z = match zreqA S h (zord g.2.2.2 x sr (r + 1)) T with | none => none | some T2 => zreqL S h ((zord g.2.2.2 x 5 1).flatMap (zlks g.2.2.2 (I 30 0) x)) T2) → (d = false → Z = none) → zV pP l eE (zrm 2 47 0 0) sS mM aA bB mE cC g 6 (MQ bB (zQi g (fun r u => ∃ I2, u = (n, I2, J, R) ∧ (∀ k i j, k ≠ 42 → I2 k i j = I k i j) ∧ ((r = nI 0 ∧ Z = none) ∨ (r = nI 1 ∧ ∃ T, Z = some T ∧ zTT T I2)))) aA sS 0 0 (zA g)) 0 0 67 [some (.ref (zad g 29 0)), some (.int (if d = true then nI 1 else nI 0)), some (.int (nI r)), none, none, none] [] n I3 J R := by
          intro I3 T d hW hk h1 h2
          refine z_iinc X d_Model_placeAll_67 rfl (zinc _) (by decide) rfl ?_
          refine z_goto (tgt := 25) X d_Model_placeAll_70 (by decide) ?_
          exact ihr (r + 1) I3 T d (by omega) hW hk h1 h2
        intro sa
        induction sa with
        | zero =>
          intro a I3 T d ha hW hk h1 h2
          refine z_iload_n X d_Model_placeAll_33 rfl ?_
          refine z_aload_n X d_Model_placeAll_34 rfl ?_
          refine gf_Model_96 X (zo_s rfl hW.1) d_Model_placeAll_35 ?_
          refine z_top (congrArg Value.int (hW.2.2.2.2.2.2.2.2.2.1)) ?_
          refine z_icmp_ge (tgt := 67) X d_Model_placeAll_38 (by decide) (fun _ => ?_) (fun hq => absurd hq (fun z => z (nI_le (by omega) (by omega))))
          refine z_wk (ls2 := [some (.ref (zad g 29 0)), some (.int (if d = true then nI 1 else nI 0)), some (.int (nI r)), none, none, none]) ⟨rfl, rfl, rfl, trivial⟩ ?_
          exact nxt I3 T d hW hk (fun z => by have := h1 z; rw [zrowF_e x r (by omega), List.nil_append] at this; exact this) h2
        | succ sa iha =>
          intro a I3 T d ha hW hk h1 h2
          refine z_iload_n X d_Model_placeAll_33 rfl ?_
          refine z_aload_n X d_Model_placeAll_34 rfl ?_
          refine gf_Model_96 X (zo_s rfl hW.1) d_Model_placeAll_35 ?_
          refine z_top (congrArg Value.int (hW.2.2.2.2.2.2.2.2.2.1)) ?_
          refine z_icmp_ge (tgt := 67) X d_Model_placeAll_38 (by decide) (fun hq => absurd hq (nI_ge (by omega) (by omega))) (fun _ => ?_)
          cases d with
          | false =>
            refine z_iload_n X d_Model_placeAll_41 rfl ?_
            refine z_if_eq (tgt := 67) X d_Model_placeAll_42 (by decide) (fun _ => ?_) (fun hq => absurd hq (by decide))
            refine z_wk (ls2 := [some (.ref (zad g 29 0)), some (.int (nI 0)), some (.int (nI r)), none, none, none]) ⟨rfl, rfl, rfl, trivial⟩ ?_
            exact nxt I3 T false hW hk (fun z => by cases z) h2
          | true =>
            obtain ⟨hT, hz⟩ := h1 rfl
            rw [zrowF_s x r (by omega)] at hz
            have x0 := (hk 40 0 a (by decide)).trans (hx a (by omega)).1
            have x9 := (hx a (by omega)).2
            refine z_iload_n X d_Model_placeAll_41 rfl ?_
            refine z_if_eq (tgt := 67) X d_Model_placeAll_42 (by decide) (fun hq => absurd hq (by decide)) (fun _ => ?_)
            refine z_aload_n X d_Model_placeAll_45 rfl ?_
            refine gr_Model_42 (hW.c (k := 29) (f := 16) rfl rfl (by decide) rfl) X (zo_s rfl hW.1) d_Model_placeAll_46 ?_
            refine z_iload_n X d_Model_placeAll_49 rfl ?_
            refine al_40 X (zo_s rfl hW.1) rfl (by omega) d_Model_placeAll_50 ?_
            refine z_top (congrArg Value.int x0) ?_
            refine z_iload_n X d_Model_placeAll_51 rfl ?_
            refine z_icmpN_ne (tgt := 61) X d_Model_placeAll_52 (by decide) (by omega) (by omega) (fun h52 => ?_) (fun h52 => ?_)
            · rw [if_neg h52, List.nil_append] at hz
              refine z_iinc X d_Model_placeAll_61 rfl (zinc _) (by decide) rfl ?_
              refine z_goto (tgt := 33) X d_Model_placeAll_64 (by decide) ?_
              exact iha (a + 1) I3 T true (by omega) hW hk (fun _ => ⟨hT, hz⟩) h2
            · rw [if_pos h52, List.append_assoc, List.singleton_append] at hz
              unfold zreqA at hz
              refine z_aload_n X d_Model_placeAll_55 rfl ?_
              refine z_iload_n X d_Model_placeAll_56 rfl ?_
              refine z_ci (z_rV X cs_Model_119 rfl rfl (zo_s rfl hW.1).1 (zo_s rfl hW.1).2 (c_Model_placeAdvert l g hW T hT a (by omega)) ⟨Nat.le_of_ble_eq_true rfl, Nat.le_of_ble_eq_true rfl⟩ rfl rfl (Nat.le_of_ble_eq_true rfl) ⟨Nat.le_of_ble_eq_true rfl, Nat.le_of_ble_eq_true rfl⟩ d_Model_placeAll_57) (fun r9 n9 I9 J9 R9 h9 => ?_)
              rcases h9 with ⟨e1, e2, e3⟩ | ⟨s, e1, e2, I4, e3, e4, e5⟩
              · cases e3
                subst e2
                rw [e1] at hz
                refine z_istore_n X d_Model_placeAll_60 (by decide) rfl ?_
                refine z_iinc X d_Model_placeAll_61 rfl (zinc _) (by decide) rfl ?_
                refine z_goto (tgt := 33) X d_Model_placeAll_64 (by decide) ?_
                exact iha (a + 1) _ T false (by omega) hW hk (fun z => by cases z) (fun _ => hz)
              · cases e3
                subst e2
                rw [e1] at hz
                refine z_istore_n X d_Model_placeAll_60 (by decide) rfl ?_
                refine z_iinc X d_Model_placeAll_61 rfl (zinc _) (by decide) rfl ?_
                refine z_goto (tgt := 33) X d_Model_placeAll_64 (by decide) ?_
                exact iha (a + 1) _ (zputA h s a T) true (by omega) (hW.low (fun k i j hk => e5 k i j (by omega)) (fun j hj => e5 29 0 j (by decide))) (fun k i j hk2 => by rw [e5 k i j hk2]; exact hk k i j hk2) (fun _ => ⟨e4, hz⟩) (fun z => by cases z)
      exact KA g.2.2.2 0 I2 T d (by omega) hW hk h1 h2
  -- clearing
  have KC : ∀ (s k : Nat) (I2 : zI), k + s = 96 → zW g S h n I2 R → (∀ j, j < k → I2 42 0 j = nI 0) → (∀ k i j, k ≠ 42 → I2 k i j = I k i j) → zV pP l eE (zrm 2 47 0 0) sS mM aA bB mE cC g 6 (MQ bB (zQi g (fun r u => ∃ I2, u = (n, I2, J, R) ∧ (∀ k i j, k ≠ 42 → I2 k i j = I k i j) ∧ ((r = nI 0 ∧ Z = none) ∨ (r = nI 1 ∧ ∃ T, Z = some T ∧ zTT T I2)))) aA sS 0 0 (zA g)) 0 0 4 [some (.ref (zad g 29 0)), some (.int (nI 1)), some (.int (nI k)), none, none, none] [] n I2 J R := by
    intro s
    induction s with
    | zero =>
      intro k I2 hk hW h0 hk2
      refine z_iload_n X d_Model_placeAll_4 rfl ?_
      refine z_bipush (v := nI 96) X d_Model_placeAll_5 rfl ?_
      refine z_icmp_ge (tgt := 23) X d_Model_placeAll_7 (by decide) (fun _ => ?_) (fun hq => absurd hq (fun z => z (nI_le (by omega) (by omega))))
      refine z_iconst (v := nI 0) X d_Model_placeAll_23 rfl ?_
      refine z_istore_n X d_Model_placeAll_24 (by decide) rfl ?_
      exact KB 6 0 I2 (fun _ => 0) true (by omega) hW hk2 (fun _ => ⟨fun j hj => ⟨h0 j (by omega), by show 0 < 400; decide⟩, by rw [← hZ]; rfl⟩) (fun z => by cases z)
    | succ s ih =>
      intro k I2 hk hW h0 hk2
      refine z_iload_n X d_Model_placeAll_4 rfl ?_
      refine z_bipush (v := nI 96) X d_Model_placeAll_5 rfl ?_
      refine z_icmp_ge (tgt := 23) X d_Model_placeAll_7 (by decide) (fun hq => absurd hq (nI_ge (by omega) (by omega))) (fun _ => ?_)
      refine z_aload_n X d_Model_placeAll_10 rfl ?_
      refine gr_Model_48 (hW.c (k := 29) (f := 18) rfl rfl (by decide) rfl) X (zo_s rfl hW.1) d_Model_placeAll_11 ?_
      refine z_iload_n X d_Model_placeAll_14 rfl ?_
      refine z_iconst (v := nI 0) X d_Model_placeAll_15 rfl ?_
      refine as_42 X (zo_s rfl hW.1) rfl (by omega) d_Model_placeAll_16 ?_
      refine z_iinc X d_Model_placeAll_17 rfl (zinc _) (by decide) rfl ?_
      refine z_goto (tgt := 4) X d_Model_placeAll_20 (by decide) ?_
      exact ih (k + 1) _ (by omega) (zW.upI hW rfl) (fun j hj => by rw [zu_if]; by_cases e : j = k; rw [if_pos ⟨rfl, rfl, e⟩]; rw [if_neg (fun z => e z.2.2)]; exact h0 j (by omega)) (fun a i j ha => by rw [zu_k ha]; exact hk2 a i j ha)
  refine z_iconst (v := nI 1) X d_Model_placeAll_0 rfl ?_
  refine z_istore_n X d_Model_placeAll_1 (by decide) rfl ?_
  refine z_iconst (v := nI 0) X d_Model_placeAll_2 rfl ?_
  refine z_istore_n X d_Model_placeAll_3 (by decide) rfl ?_
  exact KC 96 0 I rfl hW (fun j hj => by omega) (fun _ _ _ _ => rfl)

