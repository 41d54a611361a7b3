/-! THE TWIN'S PARENTS AND PLACES -/
theorem zsub1 {a b : Nat} (ha : a < 2 ^ 30) (hb : b < 2 ^ 30) : nI a = nI b - nI 1 ↔ a + 1 = b := by
  constructor
  · intro h
    have h1 : (nI a).toInt = (nI b - nI 1).toInt := by rw [h]
    rw [nI_toInt (by omega), pk_sub_toInt (by omega) (by omega)] at h1
    omega
  · intro h
    subst h
    exact (nI_pred a).symm
theorem c_Model_findParents (l : Launch) (g : zG) {S h n : Nat} {I : zI} {J : zJ} {R : zR} (hW : zW g S h n I R) (x : Nat → Nat) (hx : ∀ a, a < 6 → I 40 0 a = nI (x a) ∧ x a ≤ 99) : zMet l g y_Model_findParents b_Model_findParents 4 none 0 0 0 0 (zPc g [.ref (zad g 29 0)] n I J R) (zQv g (fun u => ∃ I2, u = (n, I2, J, R) ∧ (∀ a, a < g.2.2.2 → I2 41 0 (2 * a) = zo1 (zpl g.2.2.2 (I 30 0) x g.2.2.2 a)[0]? ∧ I2 41 0 (2 * a + 1) = zo1 (zpl g.2.2.2 (I 30 0) x g.2.2.2 a)[1]?) ∧ ∀ k i j, k ≠ 41 → I2 k i j = I k i j)) := by
  have hc := hW.2.1.2
  have h2c := hW.2.1.1
  refine zMet.of (by decide) [some (.ref (zad g 29 0)), none, none, none] rfl (Nat.le_of_ble_eq_true rfl) ?_
  intro pP eE sS mM aA bB mE cC X hret hnm
  have X : zC pP sS mM aA mE cC b_Model_findParents "SlottedMeshModel" 4 g := X
  have hret : mE.sig.returnType = none := hret
  have KO : ∀ (s a : Nat) (I2 : zI), a + s = g.2.2.2 → zW g S h n I2 R → (∀ b, b < a → I2 41 0 (2 * b) = zo1 (zpl g.2.2.2 (I 30 0) x g.2.2.2 b)[0]? ∧ I2 41 0 (2 * b + 1) = zo1 (zpl g.2.2.2 (I 30 0) x g.2.2.2 b)[1]?) → (∀ k i j, k ≠ 41 → I2 k i j = I k i j) → zV pP l eE (zrm 0 0 0 0) sS mM aA bB mE cC g 4 (MQ bB (zQv g (fun u => ∃ I2, u = (n, I2, J, R) ∧ (∀ a, a < g.2.2.2 → I2 41 0 (2 * a) = zo1 (zpl g.2.2.2 (I 30 0) x g.2.2.2 a)[0]? ∧ I2 41 0 (2 * a + 1) = zo1 (zpl g.2.2.2 (I 30 0) x g.2.2.2 a)[1]?) ∧ ∀ k i j, k ≠ 41 → I2 k i j = I k i j)) aA sS 0 0 (zA g)) 0 0 2 [some (.ref (zad g 29 0)), some (.int (nI a)), none, none] [] n I2 J R := by
    intro s
    induction s with
    | zero =>
      intro a I2 ha hW hp hk
      refine z_iload_n X d_Model_findParents_2 rfl ?_
      refine z_aload_n X d_Model_findParents_3 rfl ?_
      refine gf_Model_96 X (zo_s rfl hW.1) d_Model_findParents_4 ?_
      refine z_top (congrArg Value.int (hW.2.2.2.2.2.2.2.2.2.1)) ?_
      refine z_icmp_ge (tgt := 104) X d_Model_findParents_7 (by decide) (fun _ => ?_) (fun hq => absurd hq (fun z => z (nI_le (by omega) (by omega))))
      exact z_vret X hret (Nat.zero_le _) (Nat.zero_le _) ⟨I2, rfl, fun b hb => hp b (by omega), hk⟩ d_Model_findParents_104
    | succ s ih =>
      intro a I2 ha hW hp hk
      refine z_iload_n X d_Model_findParents_2 rfl ?_
      refine z_aload_n X d_Model_findParents_3 rfl ?_
      refine gf_Model_96 X (zo_s rfl hW.1) d_Model_findParents_4 ?_
      refine z_top (congrArg Value.int (hW.2.2.2.2.2.2.2.2.2.1)) ?_
      refine z_icmp_ge (tgt := 104) X d_Model_findParents_7 (by decide) (fun hq => absurd hq (nI_ge (by omega) (by omega))) (fun _ => ?_)
      refine z_iconst (v := nI 0) X d_Model_findParents_10 rfl ?_
      refine z_istore_n X d_Model_findParents_11 (by decide) rfl ?_
      refine z_aload_n X d_Model_findParents_12 rfl ?_
      refine gr_Model_45 (hW.c (k := 29) (f := 17) rfl rfl (by decide) rfl) X (zo_s rfl hW.1) d_Model_findParents_13 ?_
      refine z_iconst (v := nI 2) X d_Model_findParents_16 rfl ?_
      refine z_iload_n X d_Model_findParents_17 rfl ?_
      refine z_imul X d_Model_findParents_18 ?_
      refine z_iconst (v := -1) X d_Model_findParents_19 rfl ?_
      refine as_41 (j := 2 * a) X (zo_s rfl hW.1) (pk_mul 2 a) (by omega) d_Model_findParents_20 ?_
      refine z_aload_n X d_Model_findParents_21 rfl ?_
      refine gr_Model_45 (hW.c (k := 29) (f := 17) rfl rfl (by decide) rfl) X (zo_s rfl hW.1) d_Model_findParents_22 ?_
      refine z_iconst (v := nI 2) X d_Model_findParents_25 rfl ?_
      refine z_iload_n X d_Model_findParents_26 rfl ?_
      refine z_imul X d_Model_findParents_27 ?_
      refine z_iconst (v := nI 1) X d_Model_findParents_28 rfl ?_
      refine z_iadd X d_Model_findParents_29 ?_
      refine z_iconst (v := -1) X d_Model_findParents_30 rfl ?_
      refine as_41 (j := 2 * a + 1) X (zo_s rfl hW.1) (by rw [pk_mul, nI_add]) (by omega) d_Model_findParents_31 ?_
      refine z_iconst (v := nI 0) X d_Model_findParents_32 rfl ?_
      refine z_istore_n X d_Model_findParents_33 (by decide) rfl ?_
      have KI : ∀ (sb b m : Nat) (I3 : zI), b + sb = g.2.2.2 → zW g S h n I3 R → (zpl g.2.2.2 (I 30 0) x b a).length = m → m ≤ 2 → I3 41 0 (2 * a) = zo1 (zpl g.2.2.2 (I 30 0) x b a)[0]? → I3 41 0 (2 * a + 1) = zo1 (zpl g.2.2.2 (I 30 0) x b a)[1]? → (∀ d, d < a → I3 41 0 (2 * d) = zo1 (zpl g.2.2.2 (I 30 0) x g.2.2.2 d)[0]? ∧ I3 41 0 (2 * d + 1) = zo1 (zpl g.2.2.2 (I 30 0) x g.2.2.2 d)[1]?) → (∀ k i j, k ≠ 41 → I3 k i j = I k i j) → zV pP l eE (zrm 0 0 0 0) sS mM aA bB mE cC g 4 (MQ bB (zQv g (fun u => ∃ I2, u = (n, I2, J, R) ∧ (∀ a, a < g.2.2.2 → I2 41 0 (2 * a) = zo1 (zpl g.2.2.2 (I 30 0) x g.2.2.2 a)[0]? ∧ I2 41 0 (2 * a + 1) = zo1 (zpl g.2.2.2 (I 30 0) x g.2.2.2 a)[1]?) ∧ ∀ k i j, k ≠ 41 → I2 k i j = I k i j)) aA sS 0 0 (zA g)) 0 0 34 [some (.ref (zad g 29 0)), some (.int (nI a)), some (.int (nI m)), some (.int (nI b))] [] n I3 J R := by
        have fin : ∀ (b m : Nat) (I3 : zI), b ≤ g.2.2.2 → zW g S h n I3 R → (zpl g.2.2.2 (I 30 0) x b a).length = m → (b = g.2.2.2 ∨ m = 2) → I3 41 0 (2 * a) = zo1 (zpl g.2.2.2 (I 30 0) x b a)[0]? → I3 41 0 (2 * a + 1) = zo1 (zpl g.2.2.2 (I 30 0) x b a)[1]? → (∀ d, d < a → I3 41 0 (2 * d) = zo1 (zpl g.2.2.2 (I 30 0) x g.2.2.2 d)[0]? ∧ I3 41 0 (2 * d + 1) = zo1 (zpl g.2.2.2 (I 30 0) x g.2.2.2 d)[1]?) → (∀ k i j, k ≠ 41 → I3 k i j = I k i j) → zV pP l eE (zrm 0 0 0 0) sS mM aA bB mE cC g 4 (MQ bB (zQv g (fun u => ∃ I2, u = (n, I2, J, R) ∧ (∀ a, a < g.2.2.2 → I2 41 0 (2 * a) = zo1 (zpl g.2.2.2 (I 30 0) x g.2.2.2 a)[0]? ∧ I2 41 0 (2 * a + 1) = zo1 (zpl g.2.2.2 (I 30 0) x g.2.2.2 a)[1]?) ∧ ∀ k i j, k ≠ 41 → I2 k i j = I k i j)) aA sS 0 0 (zA g)) 0 0 98 [some (.ref (zad g 29 0)), some (.int (nI a)), none, none] [] n I3 J R := by
          intro b m I3 hb hW hm he h0 h1 hd hk3
          refine z_iinc X d_Model_findParents_98 rfl (zinc _) (by decide) rfl ?_
          refine z_goto (tgt := 2) X d_Model_findParents_101 (by decide) ?_
          refine ih (a + 1) I3 (by omega) hW (fun d hd2 => ?_) hk3
          rcases Nat.lt_or_ge d a with z | z
          · exact hd d z
          · have e : d = a := by omega
            subst e
            obtain ⟨t, ht⟩ := zpl_pre g.2.2.2 (I 30 0) x b d (g.2.2.2 - b)
            rw [show b + (g.2.2.2 - b) = g.2.2.2 by omega] at ht
            rcases he with z | z
            · rw [← z]; rw [z] at h0 h1; rw [z]; exact ⟨h0, h1⟩
            · rw [ht, List.getElem?_append_left (by omega), List.getElem?_append_left (by omega)]
              exact ⟨h0, h1⟩
        intro sb
        induction sb with
        | zero =>
          intro b m I3 hb hW hm hm2 h0 h1 hd hk3
          refine z_iload_n X d_Model_findParents_34 rfl ?_
          refine z_aload_n X d_Model_findParents_35 rfl ?_
          refine gf_Model_96 X (zo_s rfl hW.1) d_Model_findParents_36 ?_
          refine z_top (congrArg Value.int (hW.2.2.2.2.2.2.2.2.2.1)) ?_
          refine z_icmp_ge (tgt := 98) X d_Model_findParents_39 (by decide) (fun _ => ?_) (fun hq => absurd hq (fun z => z (nI_le (by omega) (by omega))))
          refine z_wk (ls2 := [some (.ref (zad g 29 0)), some (.int (nI a)), none, none]) ⟨rfl, rfl, trivial⟩ ?_
          exact fin b m I3 (by omega) hW hm (Or.inl (by omega)) h0 h1 hd hk3
        | succ sb ihb =>
          intro b m I3 hb hW hm hm2 h0 h1 hd hk3
          refine z_iload_n X d_Model_findParents_34 rfl ?_
          refine z_aload_n X d_Model_findParents_35 rfl ?_
          refine gf_Model_96 X (zo_s rfl hW.1) d_Model_findParents_36 ?_
          refine z_top (congrArg Value.int (hW.2.2.2.2.2.2.2.2.2.1)) ?_
          refine z_icmp_ge (tgt := 98) X d_Model_findParents_39 (by decide) (fun hq => absurd hq (nI_ge (by omega) (by omega))) (fun _ => ?_)
          refine z_iload_n X d_Model_findParents_42 rfl ?_
          refine z_iconst (v := nI 2) X d_Model_findParents_43 rfl ?_
          refine z_icmpN_ge (tgt := 98) X d_Model_findParents_44 (by decide) (by omega) (by omega) (fun h44 => ?_) (fun h44 => ?_)
          · refine z_wk (ls2 := [some (.ref (zad g 29 0)), some (.int (nI a)), none, none]) ⟨rfl, rfl, trivial⟩ ?_
            exact fin b m I3 (by omega) hW hm (Or.inr (by omega)) h0 h1 hd hk3
          have hs := zpl_succ g.2.2.2 (I 30 0) x b a
          refine z_aload_n X d_Model_findParents_47 rfl ?_
          refine gr_Model_7 (hW.c (k := 29) (f := 5) rfl rfl (by decide) rfl) X (zo_s rfl hW.1) d_Model_findParents_48 ?_
          refine z_bipush (v := nI 6) X d_Model_findParents_51 rfl ?_
          refine z_iload_n X d_Model_findParents_53 rfl ?_
          refine z_imul X d_Model_findParents_54 ?_
          refine z_iload_n X d_Model_findParents_55 rfl ?_
          refine z_iadd X d_Model_findParents_56 ?_
          refine al_30 (j := 6 * a + b) X (zo_s rfl hW.1) (zidx a b) (by omega) d_Model_findParents_57 ?_
          refine z_top (v2 := .int (I 30 0 (6 * a + b))) (congrArg Value.int (hk3 30 0 _ (by decide))) ?_
          refine z_if_eq (tgt := 92) X d_Model_findParents_58 (by decide) (fun h58 => ?_) (fun h58 => ?_)
          · rw [if_neg (fun z => z.1 h58), List.append_nil] at hs
            refine z_iinc X d_Model_findParents_92 rfl (zinc _) (by decide) rfl ?_
            refine z_goto (tgt := 34) X d_Model_findParents_95 (by decide) ?_
            exact ihb (b + 1) m I3 (by omega) hW (by rw [hs]; exact hm) hm2 (by rw [hs]; exact h0) (by rw [hs]; exact h1) hd hk3
          refine z_aload_n X d_Model_findParents_61 rfl ?_
          refine gr_Model_42 (hW.c (k := 29) (f := 16) rfl rfl (by decide) rfl) X (zo_s rfl hW.1) d_Model_findParents_62 ?_
          refine z_iload_n X d_Model_findParents_65 rfl ?_
          refine al_40 X (zo_s rfl hW.1) rfl (by omega) d_Model_findParents_66 ?_
          refine z_top (v2 := .int (nI (x b))) (congrArg Value.int ((hk3 40 0 _ (by decide)).trans (hx b (by omega)).1)) ?_
          refine z_aload_n X d_Model_findParents_67 rfl ?_
          refine gr_Model_42 (hW.c (k := 29) (f := 16) rfl rfl (by decide) rfl) X (zo_s rfl hW.1) d_Model_findParents_68 ?_
          refine z_iload_n X d_Model_findParents_71 rfl ?_
          refine al_40 X (zo_s rfl hW.1) rfl (by omega) d_Model_findParents_72 ?_
          refine z_top (v2 := .int (nI (x a))) (congrArg Value.int ((hk3 40 0 _ (by decide)).trans (hx a (by omega)).1)) ?_
          have hxa := (hx a (by omega)).2
          have hxb := (hx b (by omega)).2
          refine z_iconst (v := nI 1) X d_Model_findParents_73 rfl ?_
          refine z_isub X d_Model_findParents_74 ?_
          refine z_icmp_ne (tgt := 92) X d_Model_findParents_75 (by decide) (fun h75 => ?_) (fun h75 => ?_)
          · rw [if_neg (fun z => h75 ((zsub1 (by omega) (by omega)).mpr z.2)), List.append_nil] at hs
            refine z_iinc X d_Model_findParents_92 rfl (zinc _) (by decide) rfl ?_
            refine z_goto (tgt := 34) X d_Model_findParents_95 (by decide) ?_
            exact ihb (b + 1) m I3 (by omega) hW (by rw [hs]; exact hm) hm2 (by rw [hs]; exact h0) (by rw [hs]; exact h1) hd hk3
          · rw [if_pos ⟨h58, (zsub1 (by omega) (by omega)).mp h75⟩] at hs
            refine z_aload_n X d_Model_findParents_78 rfl ?_
            refine gr_Model_45 (hW.c (k := 29) (f := 17) rfl rfl (by decide) rfl) X (zo_s rfl hW.1) d_Model_findParents_79 ?_
            refine z_iconst (v := nI 2) X d_Model_findParents_82 rfl ?_
            refine z_iload_n X d_Model_findParents_83 rfl ?_
            refine z_imul X d_Model_findParents_84 ?_
            refine z_iload_n X d_Model_findParents_85 rfl ?_
            refine z_iadd X d_Model_findParents_86 ?_
            refine z_iload_n X d_Model_findParents_87 rfl ?_
            refine as_41 (j := 2 * a + m) X (zo_s rfl hW.1) (by rw [pk_mul, nI_add]) (by omega) d_Model_findParents_88 ?_
            refine z_iinc X d_Model_findParents_89 rfl (zinc _) (by decide) rfl ?_
            refine z_iinc X d_Model_findParents_92 rfl (zinc _) (by decide) rfl ?_
            refine z_goto (tgt := 34) X d_Model_findParents_95 (by decide) ?_
            refine ihb (b + 1) (m + 1) _ (by omega) (zW.upI hW rfl) (by rw [hs, List.length_append, hm]; rfl) (by omega) ?_ ?_ (fun d hd2 => ?_) (fun k i j hk => by rw [zu_k hk]; exact hk3 k i j hk)
            · rw [hs, zu_if]
              rcases (show m = 0 ∨ m = 1 by omega) with z | z
              · rw [if_pos ⟨rfl, rfl, by omega⟩, List.getElem?_append_right (by omega), hm, z]; rfl
              · rw [if_neg (by omega), List.getElem?_append_left (by omega)]; exact h0
            · rw [hs, zu_if]
              rcases (show m = 0 ∨ m = 1 by omega) with z | z
              · rw [if_neg (by omega), h1, List.getElem?_eq_none (by omega), List.getElem?_eq_none (by rw [List.length_append, hm, z]; exact Nat.le_refl _)]
              · rw [if_pos ⟨rfl, rfl, by omega⟩, List.getElem?_append_right (by omega), hm, z]; rfl
            · rw [zu_j (by omega), zu_j (by omega)]; exact hd d hd2
      refine KI g.2.2.2 0 0 _ (by omega) (zW.upI (zW.upI hW rfl) rfl) rfl (by omega) (by rw [zu_j (by omega), zu_s]; rfl) (by rw [zu_s]; rfl) (fun d hd => by rw [zu_j (by omega), zu_j (by omega), zu_j (by omega), zu_j (by omega)]; exact hp d hd) (fun k i j hk2 => by rw [zu_k hk2, zu_k hk2]; exact hk k i j hk2)
  refine z_iconst (v := nI 0) X d_Model_findParents_0 rfl ?_
  refine z_istore_n X d_Model_findParents_1 (by decide) rfl ?_
  exact KO g.2.2.2 0 I (by omega) hW (fun b hb => by omega) (fun _ _ _ _ => rfl)
theorem c_Model_placeAdvert (l : Launch) (g : zG) {S h n : Nat} {I : zI} {J : zJ} {R : zR} (hW : zW g S h n I R) (T : Nat → Nat) (hT : zTT T I) (a : Nat) (ha : a < 6) : zMet l g y_Model_placeAdvert b_Model_placeAdvert 4 (some .boolean) 0 0 0 0 (zPc g [.ref (zad g 29 0), .int (nI a)] n I J R) (zQi g (fun r u => (zafr S T = none ∧ r = nI 0 ∧ u = (n, I, J, R)) ∨ (∃ s, zafr S T = some s ∧ r = nI 1 ∧ ∃ I2, u = (n, I2, J, R) ∧ zTT (zputA h s a T) I2 ∧ ∀ k i j, k ≠ 42 → I2 k i j = I k i j))) := by
  have hS := hW.2.2.1
  have hh := hW.2.2.2.1
  refine zMet.of (by decide) [some (.ref (zad g 29 0)), some (.int (nI a)), none, none] rfl (Nat.le_of_ble_eq_true rfl) ?_
  intro pP eE sS mM aA bB mE cC X hret hnm
  have X : zC pP sS mM aA mE cC b_Model_placeAdvert "SlottedMeshModel" 4 g := X
  have hret : mE.sig.returnType = (some .boolean) := hret
  have KO : ∀ (k s : Nat), s + k = S → zafr S T = zfnd (fun s => T (4 * s) == 0) k s → zV pP l eE (zrm 0 0 0 0) sS mM aA bB mE cC g 4 (MQ bB (zQi g (fun r u => (zafr S T = none ∧ r = nI 0 ∧ u = (n, I, J, R)) ∨ (∃ s, zafr S T = some s ∧ r = nI 1 ∧ ∃ I2, u = (n, I2, J, R) ∧ zTT (zputA h s a T) I2 ∧ ∀ k i j, k ≠ 42 → I2 k i j = I k i j))) aA sS 0 0 (zA g)) 0 0 2 [some (.ref (zad g 29 0)), some (.int (nI a)), some (.int (nI s)), none] [] n I J R := by
    intro k
    induction k with
    | zero =>
      intro s hs hz
      refine z_iload_n X d_Model_placeAdvert_2 rfl ?_
      refine z_aload_n X d_Model_placeAdvert_3 rfl ?_
      refine gf_Model_100 X (zo_s rfl hW.1) d_Model_placeAdvert_4 ?_
      refine z_top (congrArg Value.int (hW.2.2.2.2.2.2.2.2.2.2.1)) ?_
      refine z_icmp_ge (tgt := 62) X d_Model_placeAdvert_7 (by decide) (fun _ => ?_) (fun hq => absurd hq (fun z => z (nI_le (by omega) (by omega))))
      refine z_iconst (v := nI 0) X d_Model_placeAdvert_62 rfl ?_
      exact z_iret X hret rfl (Nat.zero_le _) (Nat.zero_le _) (Or.inl ⟨hz, rfl, rfl⟩) d_Model_placeAdvert_63
    | succ k ih =>
      intro s hs hz
      refine z_iload_n X d_Model_placeAdvert_2 rfl ?_
      refine z_aload_n X d_Model_placeAdvert_3 rfl ?_
      refine gf_Model_100 X (zo_s rfl hW.1) d_Model_placeAdvert_4 ?_
      refine z_top (congrArg Value.int (hW.2.2.2.2.2.2.2.2.2.2.1)) ?_
      refine z_icmp_ge (tgt := 62) X d_Model_placeAdvert_7 (by decide) (fun hq => absurd hq (nI_ge (by omega) (by omega))) (fun _ => ?_)
      refine z_aload_n X d_Model_placeAdvert_10 rfl ?_
      refine gr_Model_48 (hW.c (k := 29) (f := 18) rfl rfl (by decide) rfl) X (zo_s rfl hW.1) d_Model_placeAdvert_11 ?_
      refine z_iconst (v := nI 4) X d_Model_placeAdvert_14 rfl ?_
      refine z_iload_n X d_Model_placeAdvert_15 rfl ?_
      refine z_imul X d_Model_placeAdvert_16 ?_
      refine al_42 (j := 4 * s) X (zo_s rfl hW.1) (pk_mul 4 s) (by omega) d_Model_placeAdvert_17 ?_
      refine z_top (v2 := .int (nI (T (4 * s)))) (congrArg Value.int (hT _ (by omega)).1) ?_
      have h400 := (hT (4 * s) (by omega)).2
      unfold zfnd at hz
      by_cases e : T (4 * s) = 0
      · rw [if_pos (by simp [e])] at hz
        refine z_if_ne (tgt := 56) X d_Model_placeAdvert_18 (by decide) (fun hq => absurd hq (fun z => z (by rw [e]; rfl))) (fun _ => ?_)
        refine z_iconst (v := nI 0) X d_Model_placeAdvert_21 rfl ?_
        refine z_istore_n X d_Model_placeAdvert_22 (by decide) rfl ?_
        have KI : ∀ (m b : Nat) (I2 : zI), b + m = h → zW g S h n I2 R → (∀ j, j < 96 → I2 42 0 j = if 4 * s ≤ j ∧ j < 4 * s + b then nI (100 + 10 * a) else nI (T j)) → (∀ k i j, k ≠ 42 → I2 k i j = I k i j) → zV pP l eE (zrm 0 0 0 0) sS mM aA bB mE cC g 4 (MQ bB (zQi g (fun r u => (zafr S T = none ∧ r = nI 0 ∧ u = (n, I, J, R)) ∨ (∃ s, zafr S T = some s ∧ r = nI 1 ∧ ∃ I2, u = (n, I2, J, R) ∧ zTT (zputA h s a T) I2 ∧ ∀ k i j, k ≠ 42 → I2 k i j = I k i j))) aA sS 0 0 (zA g)) 0 0 23 [some (.ref (zad g 29 0)), some (.int (nI a)), some (.int (nI s)), some (.int (nI b))] [] n I2 J R := by
          intro m
          induction m with
          | zero =>
            intro b I2 hb hW hI hk
            refine z_iload_n X d_Model_placeAdvert_23 rfl ?_
            refine z_aload_n X d_Model_placeAdvert_24 rfl ?_
            refine gf_Model_103 X (zo_s rfl hW.1) d_Model_placeAdvert_25 ?_
            refine z_top (congrArg Value.int (hW.2.2.2.2.2.2.2.2.2.2.2)) ?_
            refine z_icmp_ge (tgt := 54) X d_Model_placeAdvert_28 (by decide) (fun _ => ?_) (fun hq => absurd hq (fun z => z (nI_le (by omega) (by omega))))
            refine z_iconst (v := nI 1) X d_Model_placeAdvert_54 rfl ?_
            have hb : b = h := by omega
            subst hb
            exact z_iret X hret rfl (Nat.zero_le _) (Nat.zero_le _) (Or.inr ⟨s, hz, rfl, I2, rfl, fun j hj => by rw [hI j hj]; unfold zputA; have := (hT j hj).2; by_cases e : 4 * s ≤ j ∧ j < 4 * s + b; rw [if_pos e, if_pos e]; exact ⟨rfl, by omega⟩; rw [if_neg e, if_neg e]; exact ⟨rfl, this⟩, hk⟩) d_Model_placeAdvert_55
          | succ m ihm =>
            intro b I2 hb hW hI hk
            refine z_iload_n X d_Model_placeAdvert_23 rfl ?_
            refine z_aload_n X d_Model_placeAdvert_24 rfl ?_
            refine gf_Model_103 X (zo_s rfl hW.1) d_Model_placeAdvert_25 ?_
            refine z_top (congrArg Value.int (hW.2.2.2.2.2.2.2.2.2.2.2)) ?_
            refine z_icmp_ge (tgt := 54) X d_Model_placeAdvert_28 (by decide) (fun hq => absurd hq (nI_ge (by omega) (by omega))) (fun _ => ?_)
            refine z_aload_n X d_Model_placeAdvert_31 rfl ?_
            refine gr_Model_48 (hW.c (k := 29) (f := 18) rfl rfl (by decide) rfl) X (zo_s rfl hW.1) d_Model_placeAdvert_32 ?_
            refine z_iconst (v := nI 4) X d_Model_placeAdvert_35 rfl ?_
            refine z_iload_n X d_Model_placeAdvert_36 rfl ?_
            refine z_imul X d_Model_placeAdvert_37 ?_
            refine z_iload_n X d_Model_placeAdvert_38 rfl ?_
            refine z_iadd X d_Model_placeAdvert_39 ?_
            refine z_bipush (v := nI 100) X d_Model_placeAdvert_40 rfl ?_
            refine z_bipush (v := nI 10) X d_Model_placeAdvert_42 rfl ?_
            refine z_iload_n X d_Model_placeAdvert_44 rfl ?_
            refine z_imul X d_Model_placeAdvert_45 ?_
            refine z_iadd X d_Model_placeAdvert_46 ?_
            refine as_42 (j := 4 * s + b) X (zo_s rfl hW.1) (zidx4 s b) (by omega) d_Model_placeAdvert_47 ?_
            refine z_iinc X d_Model_placeAdvert_48 rfl (zinc _) (by decide) rfl ?_
            refine z_goto (tgt := 23) X d_Model_placeAdvert_51 (by decide) ?_
            refine ihm (b + 1) _ (by omega) (zW.upI hW rfl) (fun j hj => ?_) (fun k i j hk2 => by rw [zu_k hk2]; exact hk k i j hk2)
            rw [zu_if, hI j hj]
            by_cases e : j = 4 * s + b
            · rw [if_pos ⟨rfl, rfl, e⟩, if_pos (by omega), pk_mul, nI_add]
            · rw [if_neg (fun z => e z.2.2)]
              by_cases e2 : 4 * s ≤ j ∧ j < 4 * s + b
              · rw [if_pos e2, if_pos (by omega)]
              · rw [if_neg e2, if_neg (by omega)]
        exact KI h 0 I (by omega) hW (fun j hj => by rw [if_neg (by omega)]; exact (hT j hj).1) (fun _ _ _ _ => rfl)
      · rw [if_neg (by simp [e])] at hz
        refine z_if_ne (tgt := 56) X d_Model_placeAdvert_18 (by decide) (fun _ => ?_) (fun hq => absurd hq (fun z => e (nI_inj (b := 0) (by omega) (by omega) z)))
        refine z_iinc X d_Model_placeAdvert_56 rfl (zinc _) (by decide) rfl ?_
        refine z_goto (tgt := 2) X d_Model_placeAdvert_59 (by decide) ?_
        exact ih (s + 1) (by omega) hz
  refine z_iconst (v := nI 0) X d_Model_placeAdvert_0 rfl ?_
  refine z_istore_n X d_Model_placeAdvert_1 (by decide) rfl ?_
  exact KO S 0 (by omega) rfl

