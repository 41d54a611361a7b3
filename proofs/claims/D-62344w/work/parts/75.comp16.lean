/-! THE COMPONENT: placeAdvert, placeLink -/
def zBT (c h S : Nat) (T : Nat → Nat) (I : zI) : Prop := ∀ s, s < S → zBu c h T s (I 19 0 s) (I 20 0 s)
def zKq (I I2 : zI) : Prop := ∀ k i j, k ≠ 19 → k ≠ 20 → k ≠ 21 → ¬ (k = 0 ∧ j = 21) → I2 k i j = I k i j
theorem zKq.rf {I : zI} : zKq I I := fun _ _ _ _ _ _ _ => rfl
theorem zKq.tr {I I2 I3 : zI} (h : zKq I I2) (h2 : zKq I2 I3) : zKq I I3 := fun k i j a b c d => (h2 k i j a b c d).trans (h k i j a b c d)
theorem zKq.W {g : zG} {S h n : Nat} {I I2 : zI} {R : zR} (hK : zKq I I2) (hW : zW g S h n I R) : zW g S h n I2 R := by
  obtain ⟨a1, a2, a3, a4, a5, a6⟩ := hW
  exact ⟨a1, a2, a3, a4, a5, a6.of (fun k i f hc => hK k i f (fun e => by subst e; cases hc) (fun e => by subst e; cases hc) (fun e => by subst e; cases hc) (fun e => by rw [e.1, e.2] at hc; cases hc))⟩
def zPd (I I2 : zI) (p pl : Nat) : Prop := I2 0 0 21 = nI (p + 1) ∧ I2 21 0 p = nI pl ∧ (∀ j, j < p → I2 21 0 j = I 21 0 j) ∧ zKq I I2
theorem zPd.mk {I : zI} {s p pl : Nat} {B U : Int32} : zPd I (zu (zu (zu (zu I 19 0 s B) 20 0 s U) 21 0 p (nI pl)) 0 0 21 (nI (p + 1))) p pl := ⟨zu_s, (zu_k (by decide)).trans zu_s, fun j hj => (zu_k (by decide)).trans ((zu_j (by omega)).trans ((zu_k (by decide)).trans (zu_k (by decide)))), fun k i j a b c d => (zu_oth (fun e => d ⟨e.1, e.2.2⟩)).trans ((zu_k c).trans ((zu_k b).trans (zu_k a)))⟩
theorem zBT.put {c h S s p : Nat} {T T2 : Nat → Nat} {I : zI} {B U w w2 : Int32} (hB : zBT c h S T I) (hs : zBu c h T2 s B U) (e : ∀ s2 ch, s2 ≠ s → ch < h → T2 (4 * s2 + ch) = T (4 * s2 + ch)) : zBT c h S T2 (zu (zu (zu (zu I 19 0 s B) 20 0 s U) 21 0 p w) 0 0 21 w2) := fun s2 hs2 => by
  show zBu c h T2 s2 (zu I 19 0 s B 19 0 s2) (zu (zu I 19 0 s B) 20 0 s U 20 0 s2)
  by_cases es : s2 = s
  · subst es
    rw [zu_s, zu_s]
    exact hs
  · rw [zu_j es, zu_j es, zu_k (by decide)]
    exact (hB s2 hs2).congr (fun ch hch => e s2 ch es hch)
theorem c_SM_placeAdvert (l : Launch) (g : zG) {S h n : Nat} {I : zI} {J : zJ} {R : zR} (hW : zW g S h n I R) (T : Nat → Nat) (hT : zBT g.2.2.2 h S T I) (p : Nat) (hp : p < 21) (h21 : I 0 0 21 = nI p) (a : Nat) (ha : a < g.2.2.2) : zMet l g y_SM_placeAdvert b_SM_placeAdvert 2 (some .boolean) 1 22 0 0 (zPc g [.ref (zad g 0 0)] n I J R) (zQi g (fun r u => (∃ s, zafr S T = some s ∧ s < S ∧ r = nI 1 ∧ ∃ I2, u = (n, I2, J, R) ∧ zBT g.2.2.2 h S (zputA h s a T) I2 ∧ zPd I I2 p (16 * s)) ∨ (zafr S T = none ∧ r = nI 0 ∧ u = (n, I, J, R)))) := by
  have hc := hW.2.1.2
  have hh := hW.2.2.2.1
  have hS := hW.2.2.1
  refine zMet.of (by decide) [some (.ref (zad g 0 0)), none] rfl (Nat.le_of_ble_eq_true rfl) ?_
  intro pP eE sS mM aA bB mE cC X hret hnm
  have X : zC pP sS mM aA mE cC b_SM_placeAdvert "SlottedMesh" 2 g := X
  have hret : mE.sig.returnType = (some .boolean) := hret
  have key : ∀ w k, k + w = S → zfnd (fun s => T (4 * s) == 0) w k = zafr S T → zV pP l eE (zrm 1 22 0 0) sS mM aA bB mE cC g 2 (MQ bB (zQi g (fun r u => (∃ s, zafr S T = some s ∧ s < S ∧ r = nI 1 ∧ ∃ I2, u = (n, I2, J, R) ∧ zBT g.2.2.2 h S (zputA h s a T) I2 ∧ zPd I I2 p (16 * s)) ∨ (zafr S T = none ∧ r = nI 0 ∧ u = (n, I, J, R)))) aA sS 0 0 (zA g)) 0 0 2 [some (.ref (zad g 0 0)), some (.int (nI k))] [] n I J R := by
    intro w
    induction w with
    | zero =>
      intro k hk he
      have hk : k = S := by omega
      subst hk
      refine z_iload_n X d_SM_placeAdvert_2 rfl ?_
      refine z_aload_n X d_SM_placeAdvert_3 rfl ?_
      refine gf_SM_108 X (zo_s rfl hW.1) d_SM_placeAdvert_4 ?_
      refine z_top (congrArg Value.int (hW.2.2.2.2.2.2.1)) ?_
      refine z_icmp_ge (tgt := 49) X d_SM_placeAdvert_7 (by decide) (fun _ => ?_) (fun hq => absurd hq (fun z => z (Int32.le_refl _)))
      refine z_iconst (v := nI 0) X d_SM_placeAdvert_49 rfl ?_
      exact z_iret X hret rfl (Nat.zero_le _) (Nat.zero_le _) (Or.inr ⟨he.symm, rfl, rfl⟩) d_SM_placeAdvert_50
    | succ w ih =>
      intro k hk he
      have hkS : k < S := by omega
      have hbu := hT k hkS
      have hb0 := hbu.busy0 hc hh.1
      refine z_iload_n X d_SM_placeAdvert_2 rfl ?_
      refine z_aload_n X d_SM_placeAdvert_3 rfl ?_
      refine gf_SM_108 X (zo_s rfl hW.1) d_SM_placeAdvert_4 ?_
      refine z_top (congrArg Value.int (hW.2.2.2.2.2.2.1)) ?_
      refine z_icmp_ge (tgt := 49) X d_SM_placeAdvert_7 (by decide) (fun hq => absurd hq (nI_ge (by omega) (by omega))) (fun _ => ?_)
      refine z_aload_n X d_SM_placeAdvert_10 rfl ?_
      refine gr_SM_66 (hW.c (k := 0) (f := 18) rfl rfl (by decide) rfl) X (zo_s rfl hW.1) d_SM_placeAdvert_11 ?_
      refine z_iload_n X d_SM_placeAdvert_14 rfl ?_
      refine al_19 X (zo_s rfl hW.1) rfl (by omega) d_SM_placeAdvert_15 ?_
      refine z_if_ne (tgt := 43) X d_SM_placeAdvert_16 (by decide) (fun h16 => ?_) (fun h16 => ?_)
      · refine z_iinc X d_SM_placeAdvert_43 rfl (zinc _) (by decide) rfl ?_
        refine z_goto (tgt := 2) X d_SM_placeAdvert_46 (by decide) ?_
        refine ih (k + 1) (by omega) ?_
        rw [← he]
        conv => rhs; unfold zfnd
        rw [if_neg (by simp; exact fun z => h16 (hb0.mpr z))]
      · have hz : zafr S T = some k := by
          rw [← he]
          unfold zfnd
          rw [if_pos (by simp; exact hb0.mp h16)]
        refine z_aload_n X d_SM_placeAdvert_19 rfl ?_
        refine gr_SM_66 (hW.c (k := 0) (f := 18) rfl rfl (by decide) rfl) X (zo_s rfl hW.1) d_SM_placeAdvert_20 ?_
        refine z_iload_n X d_SM_placeAdvert_23 rfl ?_
        refine z_bipush (v := nI 63) X d_SM_placeAdvert_24 rfl ?_
        refine as_19 X (zo_s rfl hW.1) rfl (by omega) d_SM_placeAdvert_26 ?_
        refine z_aload_n X d_SM_placeAdvert_27 rfl ?_
        refine gr_SM_69 (hW.c (k := 0) (f := 19) rfl rfl (by decide) rfl) X (zo_s rfl hW.1) d_SM_placeAdvert_28 ?_
        refine z_iload_n X d_SM_placeAdvert_31 rfl ?_
        refine z_bipush (v := nI 15) X d_SM_placeAdvert_32 rfl ?_
        refine as_20 X (zo_s rfl hW.1) rfl (by omega) d_SM_placeAdvert_34 ?_
        refine z_aload_n X d_SM_placeAdvert_35 rfl ?_
        refine z_iload_n X d_SM_placeAdvert_36 rfl ?_
        refine z_iconst (v := nI 0) X d_SM_placeAdvert_37 rfl ?_
        refine z_cv (z_rV X cs_SM_169 rfl rfl (zo_s rfl hW.1).1 (zo_s rfl hW.1).2 (c_SM_note l g ((hW.upI rfl).upI rfl) k 0 p hp (by exact h21)) ⟨Nat.le_of_ble_eq_true rfl, Nat.le_of_ble_eq_true rfl⟩ rfl rfl (Nat.le_of_ble_eq_true rfl) ⟨Nat.le_of_ble_eq_true rfl, Nat.le_of_ble_eq_true rfl⟩ d_SM_placeAdvert_38) (fun n2 I2 J2 R2 h => ?_)
        cases h
        refine z_iconst (v := nI 1) X d_SM_placeAdvert_41 rfl ?_
        exact z_iret X hret rfl (Nat.zero_le _) (Nat.zero_le _) (Or.inl ⟨k, hz, hkS, rfl, _, rfl, hT.put (zBu.adv ha) (fun s2 ch h1 h2 => by unfold zputA; rw [if_neg (by omega)]), zPd.mk⟩) d_SM_placeAdvert_42
  refine z_iconst (v := nI 0) X d_SM_placeAdvert_0 rfl ?_
  refine z_istore_n X d_SM_placeAdvert_1 (by decide) rfl ?_
  exact key S 0 (by omega) rfl
theorem c_SM_placeLink (l : Launch) (g : zG) {S h n : Nat} {I : zI} {J : zJ} {R : zR} (hW : zW g S h n I R) (T : Nat → Nat) (hT : zBT g.2.2.2 h S T I) (p : Nat) (hp : p < 21) (h21 : I 0 0 21 = nI p) (k a b : Nat) (hk : zlc g.2.2.2 k a b) : zMet l g y_SM_placeLink b_SM_placeLink 8 (some .boolean) 1 22 0 0 (zPc g [.ref (zad g 0 0), .int (nI a), .int (nI b)] n I J R) (zQi g (fun r u => (∃ s ch, zlfr S h T k = some s ∧ zfnd (zfrc T s) h 0 = some ch ∧ s < S ∧ ch < h ∧ r = nI 1 ∧ ∃ I2, u = (n, I2, J, R) ∧ zBT g.2.2.2 h S (zput (4 * s + ch) k T) I2 ∧ zPd I I2 p (16 * s + ch)) ∨ (zlfr S h T k = none ∧ r = nI 0 ∧ u = (n, I, J, R)))) := by
  have hc := hW.2.1.2
  have hh := hW.2.2.2.1
  have hS := hW.2.2.1
  have ha : a < 6 := by have := hk.1; omega
  have hb : b < 6 := by have := hk.2.1; omega
  obtain ⟨bo, hbo⟩ : ∃ bo, bo = 2 ^ a ||| 2 ^ b := ⟨_, rfl⟩
  refine zMet.of (by decide) [some (.ref (zad g 0 0)), some (.int (nI a)), some (.int (nI b)), none, none, none, none, none] rfl (Nat.le_of_ble_eq_true rfl) ?_
  intro pP eE sS mM aA bB mE cC X hret hnm
  have X : zC pP sS mM aA mE cC b_SM_placeLink "SlottedMesh" 8 g := X
  have hret : mE.sig.returnType = (some .boolean) := hret
  have key : ∀ w s, s + w = S → zfnd (zfit h T k) w s = zlfr S h T k → zV pP l eE (zrm 1 22 0 0) sS mM aA bB mE cC g 8 (MQ bB (zQi g (fun r u => (∃ s ch, zlfr S h T k = some s ∧ zfnd (zfrc T s) h 0 = some ch ∧ s < S ∧ ch < h ∧ r = nI 1 ∧ ∃ I2, u = (n, I2, J, R) ∧ zBT g.2.2.2 h S (zput (4 * s + ch) k T) I2 ∧ zPd I I2 p (16 * s + ch)) ∨ (zlfr S h T k = none ∧ r = nI 0 ∧ u = (n, I, J, R)))) aA sS 0 0 (zA g)) 0 0 21 [some (.ref (zad g 0 0)), some (.int (nI a)), some (.int (nI b)), some (.int (nI bo)), some (.int (nI (2 ^ h - 1))), some (.int (nI s)), none, none] [] n I J R := by
    intro w
    induction w with
    | zero =>
      intro s hs he
      have hs : s = S := by omega
      subst hs
      refine z_iload X d_SM_placeLink_21 rfl ?_
      refine z_aload_n X d_SM_placeLink_23 rfl ?_
      refine gf_SM_108 X (zo_s rfl hW.1) d_SM_placeLink_24 ?_
      refine z_top (congrArg Value.int (hW.2.2.2.2.2.2.1)) ?_
      refine z_icmp_ge (tgt := 109) X d_SM_placeLink_27 (by decide) (fun _ => ?_) (fun hq => absurd hq (fun z => z (Int32.le_refl _)))
      refine z_iconst (v := nI 0) X d_SM_placeLink_109 rfl ?_
      exact z_iret X hret rfl (Nat.zero_le _) (Nat.zero_le _) (Or.inr ⟨he.symm, rfl, rfl⟩) d_SM_placeLink_110
    | succ w ih =>
      intro s hs he
      have hsS : s < S := by omega
      have skip : zfit h T k s = false → zV pP l eE (zrm 1 22 0 0) sS mM aA bB mE cC g 8 (MQ bB (zQi g (fun r u => (∃ s ch, zlfr S h T k = some s ∧ zfnd (zfrc T s) h 0 = some ch ∧ s < S ∧ ch < h ∧ r = nI 1 ∧ ∃ I2, u = (n, I2, J, R) ∧ zBT g.2.2.2 h S (zput (4 * s + ch) k T) I2 ∧ zPd I I2 p (16 * s + ch)) ∨ (zlfr S h T k = none ∧ r = nI 0 ∧ u = (n, I, J, R)))) aA sS 0 0 (zA g)) 0 0 21 [some (.ref (zad g 0 0)), some (.int (nI a)), some (.int (nI b)), some (.int (nI bo)), some (.int (nI (2 ^ h - 1))), some (.int (nI (s + 1))), none, none] [] n I J R := fun hz => ih (s + 1) (by omega) (by rw [← he]; conv => rhs; unfold zfnd; rw [if_neg (by rw [hz]; decide)])
      refine z_iload X d_SM_placeLink_21 rfl ?_
      refine z_aload_n X d_SM_placeLink_23 rfl ?_
      refine gf_SM_108 X (zo_s rfl hW.1) d_SM_placeLink_24 ?_
      refine z_top (congrArg Value.int (hW.2.2.2.2.2.2.1)) ?_
      refine z_icmp_ge (tgt := 109) X d_SM_placeLink_27 (by decide) (fun hq => absurd hq (nI_ge (by omega) (by omega))) (fun _ => ?_)
      refine z_iload X d_SM_placeLink_30 rfl ?_
      refine z_aload_n X d_SM_placeLink_32 rfl ?_
      refine gr_SM_69 (hW.c (k := 0) (f := 19) rfl rfl (by decide) rfl) X (zo_s rfl hW.1) d_SM_placeLink_33 ?_
      refine z_iload X d_SM_placeLink_36 rfl ?_
      refine al_20 X (zo_s rfl hW.1) rfl (by omega) d_SM_placeLink_38 ?_
      refine z_iconst (v := -1) X d_SM_placeLink_39 rfl ?_
      refine z_ixor X d_SM_placeLink_40 ?_
      refine z_iand X d_SM_placeLink_41 ?_
      refine z_istore X d_SM_placeLink_42 (by decide) rfl ?_
      refine z_aload_n X d_SM_placeLink_44 rfl ?_
      refine gr_SM_66 (hW.c (k := 0) (f := 18) rfl rfl (by decide) rfl) X (zo_s rfl hW.1) d_SM_placeLink_45 ?_
      refine z_iload X d_SM_placeLink_48 rfl ?_
      refine al_19 X (zo_s rfl hW.1) rfl (by omega) d_SM_placeLink_50 ?_
      refine z_iload_n X d_SM_placeLink_51 rfl ?_
      refine z_iand X d_SM_placeLink_52 ?_
      have hfit := (hT s hsS).fit hc hh hk
      rw [← hbo] at hfit
      rcases hfit with ⟨f1, f2⟩ | ⟨m, f1, f2, f3, f4, f5, f6, f7⟩
      · have nx := skip f1
        refine z_if_ne (tgt := 103) X d_SM_placeLink_53 (by decide) (fun h53 => ?_) (fun h53 => ?_)
        · refine z_iinc X d_SM_placeLink_103 rfl (zinc _) (by decide) rfl ?_
          refine z_goto (tgt := 21) X d_SM_placeLink_106 (by decide) ?_
          refine z_wk (ls2 := [some (.ref (zad g 0 0)), some (.int (nI a)), some (.int (nI b)), some (.int (nI bo)), some (.int (nI (2 ^ h - 1))), some (.int (nI (s + 1))), none, none]) ⟨rfl, rfl, rfl, rfl, rfl, rfl, trivial⟩ ?_
          exact nx
        · refine z_iload X d_SM_placeLink_56 rfl ?_
          refine z_if_eq (tgt := 103) X d_SM_placeLink_58 (by decide) (fun _ => ?_) (fun hq => absurd hq (fun z => z (f2.elim (fun q => absurd h53 q) id)))
          refine z_iinc X d_SM_placeLink_103 rfl (zinc _) (by decide) rfl ?_
          refine z_goto (tgt := 21) X d_SM_placeLink_106 (by decide) ?_
          refine z_wk (ls2 := [some (.ref (zad g 0 0)), some (.int (nI a)), some (.int (nI b)), some (.int (nI bo)), some (.int (nI (2 ^ h - 1))), some (.int (nI (s + 1))), none, none]) ⟨rfl, rfl, rfl, rfl, rfl, rfl, trivial⟩ ?_
          exact nx
      · have hz : zlfr S h T k = some s := by
          rw [← he]
          unfold zfnd
          rw [if_pos f2]
        refine z_eqL (ls2 := [some (.ref (zad g 0 0)), some (.int (nI a)), some (.int (nI b)), some (.int (nI bo)), some (.int (nI (2 ^ h - 1))), some (.int (nI s)), some (.int (nI (2 ^ h - 2 ^ m))), none]) (by rw [← f4]; rfl) ?_
        refine z_if_ne (tgt := 103) X d_SM_placeLink_53 (by decide) (fun hq => absurd hq (fun z => z f3)) (fun _ => ?_)
        refine z_iload X d_SM_placeLink_56 rfl ?_
        refine z_if_eq (tgt := 103) X d_SM_placeLink_58 (by decide) (fun hq => absurd hq f5) (fun _ => ?_)
        refine z_iload X d_SM_placeLink_61 rfl ?_
        refine z_ci (z_rS X cs_SM_173 (c_ntz l g h m (by omega) f1) ⟨Nat.le_of_ble_eq_true rfl, Nat.le_of_ble_eq_true rfl⟩ rfl rfl (Nat.le_of_ble_eq_true rfl) ⟨Nat.le_of_ble_eq_true rfl, Nat.le_of_ble_eq_true rfl⟩ d_SM_placeLink_63) (fun r n2 I2 J2 R2 h => ?_)
        obtain ⟨rfl, e⟩ := h
        cases e
        refine z_istore X d_SM_placeLink_66 (by decide) rfl ?_
        refine z_aload_n X d_SM_placeLink_68 rfl ?_
        refine gr_SM_66 (hW.c (k := 0) (f := 18) rfl rfl (by decide) rfl) X (zo_s rfl hW.1) d_SM_placeLink_69 ?_
        refine z_iload X d_SM_placeLink_72 rfl ?_
        refine z_dup2 X d_SM_placeLink_74 rfl rfl ?_
        refine al_19 X (zo_s rfl hW.1) rfl (by omega) d_SM_placeLink_75 ?_
        refine z_iload_n X d_SM_placeLink_76 rfl ?_
        refine z_ior X d_SM_placeLink_77 ?_
        refine as_19 X (zo_s rfl hW.1) rfl (by omega) d_SM_placeLink_78 ?_
        refine z_aload_n X d_SM_placeLink_79 rfl ?_
        refine gr_SM_69 (hW.c (k := 0) (f := 19) rfl rfl (by decide) rfl) X (zo_s rfl hW.1) d_SM_placeLink_80 ?_
        refine z_iload X d_SM_placeLink_83 rfl ?_
        refine z_dup2 X d_SM_placeLink_85 rfl rfl ?_
        refine al_20 X (zo_s rfl hW.1) rfl (by omega) d_SM_placeLink_86 ?_
        refine z_iconst (v := nI 1) X d_SM_placeLink_87 rfl ?_
        refine z_iload X d_SM_placeLink_88 rfl ?_
        refine z_ishl X d_SM_placeLink_90 ?_
        refine z_ior X d_SM_placeLink_91 ?_
        refine as_20 X (zo_s rfl hW.1) rfl (by omega) d_SM_placeLink_92 ?_
        refine z_aload_n X d_SM_placeLink_93 rfl ?_
        refine z_iload X d_SM_placeLink_94 rfl ?_
        refine z_iload X d_SM_placeLink_96 rfl ?_
        refine z_cv (z_rV X cs_SM_169 rfl rfl (zo_s rfl hW.1).1 (zo_s rfl hW.1).2 (c_SM_note l g ((hW.upI rfl).upI rfl) s m p hp (by exact h21)) ⟨Nat.le_of_ble_eq_true rfl, Nat.le_of_ble_eq_true rfl⟩ rfl rfl (Nat.le_of_ble_eq_true rfl) ⟨Nat.le_of_ble_eq_true rfl, Nat.le_of_ble_eq_true rfl⟩ d_SM_placeLink_98) (fun n2 I2 J2 R2 h => ?_)
        cases h
        refine z_iconst (v := nI 1) X d_SM_placeLink_101 rfl ?_
        exact z_iret X hret rfl (Nat.zero_le _) (Nat.zero_le _) (Or.inl ⟨s, m, hz, f6, hsS, f1, rfl, _, rfl, hT.put f7 (fun s2 ch h1 h2 => by unfold zput; rw [if_neg (by omega)]), zPd.mk⟩) d_SM_placeLink_102
  refine z_iconst (v := nI 1) X d_SM_placeLink_0 rfl ?_
  refine z_iload_n X d_SM_placeLink_1 rfl ?_
  refine z_ishl X d_SM_placeLink_2 ?_
  refine z_iconst (v := nI 1) X d_SM_placeLink_3 rfl ?_
  refine z_iload_n X d_SM_placeLink_4 rfl ?_
  refine z_ishl X d_SM_placeLink_5 ?_
  refine z_ior X d_SM_placeLink_6 ?_
  refine z_top (v2 := .int (nI bo)) (congrArg Value.int (by rw [zb_both a ha b hb, hbo])) ?_
  refine z_istore_n X d_SM_placeLink_7 (by decide) rfl ?_
  refine z_iconst (v := nI 1) X d_SM_placeLink_8 rfl ?_
  refine z_aload_n X d_SM_placeLink_9 rfl ?_
  refine gf_SM_111 X (zo_s rfl hW.1) d_SM_placeLink_10 ?_
  refine z_top (congrArg Value.int (hW.2.2.2.2.2.2.2.1)) ?_
  refine z_ishl X d_SM_placeLink_13 ?_
  refine z_iconst (v := nI 1) X d_SM_placeLink_14 rfl ?_
  refine z_isub X d_SM_placeLink_15 ?_
  refine z_top (v2 := .int (nI (2 ^ h - 1))) (congrArg Value.int (zb_all h (by omega))) ?_
  refine z_istore X d_SM_placeLink_16 (by decide) rfl ?_
  refine z_iconst (v := nI 0) X d_SM_placeLink_18 rfl ?_
  refine z_istore X d_SM_placeLink_19 (by decide) rfl ?_
  exact key S 0 (by omega) rfl

