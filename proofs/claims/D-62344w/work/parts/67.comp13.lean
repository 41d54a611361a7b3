/-! THE COMPONENT'S STOP -/
theorem zstop_5 (A : zI) (i k j : Nat) : zu (zu (zu (zu (zu A 31 0 i (nI 0)) 32 0 i (nI 0)) 47 0 i (nI 0)) 48 0 i (nI 0)) 33 0 i (nI 0) k 0 j = if (k = 31 ∨ k = 32 ∨ k = 33 ∨ k = 47 ∨ k = 48) ∧ j = i then nI 0 else A k 0 j := by
  simp only [zu_if]
  grind (splits := 40)
theorem c_SM_stop (l : Launch) (g : zG) {S h n N : Nat} {I : zI} {J : zJ} {R : zR} {fl : zfl} {A : zI} {q : zq} (hW : zW g S h n I R) (hC : zRC g.2.2.2 n N I R fl A q) (a : Int32) : zMet l g y_SM_stop b_SM_stop 4 (some .boolean) 2 42 0 0 (zPc g [.ref (zad g 0 0), .int a] n I J R) (zQi g (fun r u => (∃ i, zgStop g.2.2.2 (A 31 0) a i ∧ r = 1 ∧ zOp g n N I R J (zstop A i) (qu (qu q i []) (6 + i) []) u) ∨ ((¬ ∃ i, zgStop g.2.2.2 (A 31 0) a i) ∧ r = 0 ∧ u = (n, I, J, R)))) := by
  have hc := hW.2.1.2
  have hWW := hW
  refine zMet.of (by decide) [some (.ref (zad g 0 0)), some (.int a), none, none] rfl (Nat.le_of_ble_eq_true rfl) ?_
  intro pP eE sS mM aA bB mE cC X hret hnm
  have X : zC pP sS mM aA mE cC b_SM_stop "SlottedMesh" 4 g := X
  have hret : mE.sig.returnType = (some .boolean) := hret
  have KL : ∀ (i : Nat) (A5 : zI) (R2 : zR) (fl2 : zfl), a = nI i → i < g.2.2.2 → i ≠ 0 → A 31 0 i ≠ 0 → (∀ k j, A5 k 0 j = if (k = 31 ∨ k = 32 ∨ k = 33 ∨ k = 47 ∨ k = 48) ∧ j = i then nI 0 else A k 0 j) → zRk2 R R2 → ∀ (s b : Nat) (I3 A3 : zI), b + s = 6 → zRC g.2.2.2 n N I3 R2 fl2 A3 (qu (qu q i []) (6 + i) []) → zId I I3 → (∀ k j, A3 k 0 j = if k = 49 ∧ ((6 * i ≤ j ∧ j < 6 * i + b) ∨ (36 + 6 * i ≤ j ∧ j < 36 + 6 * i + b ∧ j ≠ 36 + 6 * i + i)) then nI 0 else A5 k 0 j) → zV pP l eE (zrm 2 42 0 0) sS mM aA bB mE cC g 4 (MQ bB (zQi g (fun r u => (∃ i, zgStop g.2.2.2 (A 31 0) a i ∧ r = 1 ∧ zOp g n N I R J (zstop A i) (qu (qu q i []) (6 + i) []) u) ∨ ((¬ ∃ i, zgStop g.2.2.2 (A 31 0) a i) ∧ r = 0 ∧ u = (n, I, J, R)))) aA sS 0 0 (zA g)) 0 0 62 [some (.ref (zad g 0 0)), some (.int a), some (.ref (zad g 1 i)), some (.int (nI b))] [] n I3 J R2 := by
    intro i A5 R2 fl2 ha hi h0 hst hA5 hR2 s
    have hr6 : zrv g.2.2.2 (6 + i) := Or.inr ⟨by omega, by omega⟩
    induction s with
    | zero =>
      intro b I3 A3 hb hC3 hI3 hA3
      have hb : b = 6 := by omega
      subst hb
      refine z_iload_n X d_SM_stop_62 rfl ?_
      refine z_bipush (v := nI 6) X d_SM_stop_63 rfl ?_
      refine z_icmp_ge (tgt := 102) X d_SM_stop_65 (by decide) (fun _ => ?_) (fun hq => absurd hq (by decide))
      refine z_iconst (v := nI 1) X d_SM_stop_102 rfl ?_
      exact z_iret X hret rfl (Nat.zero_le _) (Nat.zero_le _) (Or.inl ⟨i, ⟨hi, ha, h0, hst⟩, rfl, n, I3, R2, fl2, rfl, Nat.le_refl _, by omega, (hC3.ofA (fun k j => by rw [hA3, hA5]; unfold zstop; grind)).mono (by omega), hI3, hR2⟩) d_SM_stop_103
    | succ s ih =>
      intro b I3 A3 hb hC3 hI3 hA3
      have hW := hWW.id (Nat.le_refl _) hI3 hR2
      have hC4 := hC3.put (v := nI 0) (zco.tk (c := g.2.2.2) (r := i) (s := b) (Or.inl hi) (by omega))
      have hI4 := hI3.tr (zId.put (k := 5) (i := i) (j := b) (v := nI 0) rfl)
      refine z_iload_n X d_SM_stop_62 rfl ?_
      refine z_bipush (v := nI 6) X d_SM_stop_63 rfl ?_
      refine z_icmp_ge (tgt := 102) X d_SM_stop_65 (by decide) (fun hq => absurd hq (nI_ge (by omega) (by omega))) (fun _ => ?_)
      refine z_aload_n X d_SM_stop_68 rfl ?_
      refine gr_SM_254 (hW.up (by omega)).2.2.1 X (zo_n (by omega) hW.1) d_SM_stop_69 ?_
      refine z_iload_n X d_SM_stop_72 rfl ?_
      refine z_iconst (v := nI 0) X d_SM_stop_73 rfl ?_
      refine as_5 X (zo_t (Or.inl hi) hW.1) rfl (by omega) d_SM_stop_74 ?_
      refine z_aload_n X d_SM_stop_75 rfl ?_
      refine gr_SM_257 (hW.up (by omega)).2.2.2 X (zo_n (by omega) hW.1) d_SM_stop_76 ?_
      refine z_iload_n X d_SM_stop_79 rfl ?_
      refine z_iload_n X d_SM_stop_80 rfl ?_
      refine z_iload_n X d_SM_stop_81 rfl ?_
      refine z_top (v2 := .int (nI i)) (congrArg Value.int ha) ?_
      refine z_icmpN_ne (tgt := 94) X d_SM_stop_82 (by decide) (by omega) (by omega) (fun h82 => ?_) (fun h82 => ?_)
      · refine z_iconst (v := nI 0) X d_SM_stop_94 rfl ?_
        refine as_5 X (zo_t hr6 hW.1) rfl (by omega) d_SM_stop_95 ?_
        refine z_iinc X d_SM_stop_96 rfl (zinc _) (by decide) rfl ?_
        refine z_goto (tgt := 62) X d_SM_stop_99 (by decide) ?_
        exact ih (b + 1) _ _ (by omega) (hC4.put (v := nI 0) (zco.tkd hr6 (by omega))) (hI4.tr (zId.put rfl)) (fun k j => by rw [zu_if, zu_if, hA3]; grind)
      · subst h82
        refine z_aload_n X d_SM_stop_85 rfl ?_
        refine gr_SM_257 (hW.up (by omega)).2.2.2 X (zo_n (by omega) hW.1) d_SM_stop_86 ?_
        refine z_iload_n X d_SM_stop_89 rfl ?_
        refine al_5 X (zo_t hr6 hW.1) rfl (by omega) d_SM_stop_90 ?_
        refine z_top (v2 := .int (I3 5 (6 + b) b)) (congrArg Value.int (zu_i (by omega))) ?_
        refine z_goto (tgt := 95) X d_SM_stop_91 (by decide) ?_
        refine as_5 X (zo_t hr6 hW.1) rfl (by omega) d_SM_stop_95 ?_
        refine z_iinc X d_SM_stop_96 rfl (zinc _) (by decide) rfl ?_
        refine z_goto (tgt := 62) X d_SM_stop_99 (by decide) ?_
        exact ih (b + 1) _ (zu (zu A3 49 0 (6 * b + b) (nI 0)) 49 0 (36 + 6 * b + b) (I3 5 (6 + b) b)) (by omega) (hC4.put (v := I3 5 (6 + b) b) (zco.tkd hr6 (by omega))) (hI4.tr (zId.put rfl)) (fun k j => by
          have e5 : I3 5 (6 + b) b = A3 49 0 (36 + 6 * b + b) := hC3.1 _ _ _ _ _ (zco.tkd hr6 (by omega))
          rw [e5, zu_if, zu_if, hA3, hA3]; grind)
  refine z_aload_n X d_SM_stop_0 rfl ?_
  refine z_iload_n X d_SM_stop_1 rfl ?_
  rcases hz_i : znf g.2.2.2 a with _ | i
  · refine z_cq (z_rV X cs_SM_245 rfl rfl (zo_s rfl hW.1).1 (zo_s rfl hW.1).2 (c_SM_field l g hW _) ⟨Nat.le_of_ble_eq_true rfl, Nat.le_of_ble_eq_true rfl⟩ rfl rfl (Nat.le_of_ble_eq_true rfl) ⟨Nat.le_of_ble_eq_true rfl, Nat.le_of_ble_eq_true rfl⟩ d_SM_stop_2) (fun r n2 I2 J2 R2 h => ?_)
    obtain ⟨rfl, e⟩ := h
    cases e
    refine z_top (v2 := .null) (by rw [hz_i]; rfl) ?_
    refine z_astore_nN X d_SM_stop_5 (by decide) rfl ?_
    refine z_aload_nN X d_SM_stop_6 rfl ?_
    refine z_ifnullN (tgt := 17) X d_SM_stop_7 (by decide) ?_
    refine z_iconst (v := nI 0) X d_SM_stop_17 rfl ?_
    exact z_iret X hret rfl (Nat.zero_le _) (Nat.zero_le _) (Or.inr ⟨fun ⟨i, q⟩ => znf_not hz_i q.1 hc q.2.2.1 q.2.1, rfl, rfl⟩) d_SM_stop_18
  · obtain ⟨hi_i, rfl, h0_i⟩ := znf_some hc hz_i
    refine z_cq (z_rV X cs_SM_245 rfl rfl (zo_s rfl hW.1).1 (zo_s rfl hW.1).2 (c_SM_field l g hW _) ⟨Nat.le_of_ble_eq_true rfl, Nat.le_of_ble_eq_true rfl⟩ rfl rfl (Nat.le_of_ble_eq_true rfl) ⟨Nat.le_of_ble_eq_true rfl, Nat.le_of_ble_eq_true rfl⟩ d_SM_stop_2) (fun r n2 I2 J2 R2 h => ?_)
    obtain ⟨rfl, e⟩ := h
    cases e
    refine z_top (v2 := .ref (zad g 1 i)) (by rw [hz_i]; rfl) ?_
    refine z_astore_n X d_SM_stop_5 (by decide) rfl ?_
    refine z_aload_n X d_SM_stop_6 rfl ?_
    refine z_ifnull (tgt := 17) X d_SM_stop_7 (by decide) ?_
    refine z_aload_n X d_SM_stop_10 rfl ?_
    refine gf_SM_120 X (zo_n (by omega) hW.1) d_SM_stop_11 ?_
    refine z_top (congrArg Value.int ((hC.1.nd hi_i).1)) ?_
    refine z_if_ne (tgt := 19) X d_SM_stop_14 (by decide) (fun h14 => ?_) (fun h14 => ?_)
    · have hC5 := ((((hC.put (v := nI 0) (zco.n hi_i (j := 1) (k' := 31) (by decide))).put (v := nI 0) (zco.n hi_i (j := 2) (k' := 32) (by decide))).put (v := nI 0) (zco.n hi_i (j := 5) (k' := 47) (by decide))).put (v := nI 0) (zco.n hi_i (j := 6) (k' := 48) (by decide))).put (v := nI 0) (zco.n hi_i (j := 3) (k' := 33) (by decide))
      have hI5 := ((((zId.put (I := I) (k := 1) (i := i) (j := 1) (v := nI 0) rfl).tr (zId.put (k := 1) (i := i) (j := 2) (v := nI 0) rfl)).tr (zId.put (k := 1) (i := i) (j := 5) (v := nI 0) rfl)).tr (zId.put (k := 1) (i := i) (j := 6) (v := nI 0) rfl)).tr (zId.put (k := 1) (i := i) (j := 3) (v := nI 0) rfl)
      have hW5 := hWW.id (Nat.le_refl _) hI5 (zRk2.rf (R := R))
      refine z_aload_n X d_SM_stop_19 rfl ?_
      refine z_iconst (v := nI 0) X d_SM_stop_20 rfl ?_
      refine pf_SM_120 X (zo_n (by omega) hW.1) (by decide) d_SM_stop_21 ?_
      refine z_aload_n X d_SM_stop_24 rfl ?_
      refine z_iconst (v := nI 0) X d_SM_stop_25 rfl ?_
      refine pf_SM_124 X (zo_n (by omega) hW.1) (by decide) d_SM_stop_26 ?_
      refine z_aload_n X d_SM_stop_29 rfl ?_
      refine z_iconst (v := nI 0) X d_SM_stop_30 rfl ?_
      refine pf_SM_215 X (zo_n (by omega) hW.1) d_SM_stop_31 ?_
      refine z_aload_n X d_SM_stop_34 rfl ?_
      refine z_iconst (v := nI 0) X d_SM_stop_35 rfl ?_
      refine pf_SM_218 X (zo_n (by omega) hW.1) d_SM_stop_36 ?_
      refine z_aload_n X d_SM_stop_39 rfl ?_
      refine z_iconst (v := nI 0) X d_SM_stop_40 rfl ?_
      refine pf_SM_248 X (zo_n (by omega) hW.1) d_SM_stop_41 ?_
      refine z_aload_n X d_SM_stop_44 rfl ?_
      refine z_aload_n X d_SM_stop_45 rfl ?_
      refine gr_SM_251 (hW.up (by omega)).1 X (zo_n (by omega) hW.1) d_SM_stop_46 ?_
      refine z_cv (z_rV X cs_SM_225 rfl rfl (zo_s rfl hW.1).1 (zo_s rfl hW.1).2 (c_SM_empty l g hW5 hC5 (r := i) (Or.inl hi_i)) ⟨Nat.le_of_ble_eq_true rfl, Nat.le_of_ble_eq_true rfl⟩ rfl rfl (Nat.le_of_ble_eq_true rfl) ⟨Nat.le_of_ble_eq_true rfl, Nat.le_of_ble_eq_true rfl⟩ d_SM_stop_49) (fun n1 I1 J1 R1 h9 => ?_)
      obtain ⟨Ix, Rx, fl1, ex, b1, b2, b3⟩ := h9
      cases ex
      have hI6 := hI5.tr b2.ik.id
      have hW := hWW.id (Nat.le_refl _) hI6 b3
      refine z_aload_n X d_SM_stop_52 rfl ?_
      refine z_aload_n X d_SM_stop_53 rfl ?_
      refine gr_SM_221 (hW.up (by omega)).2.1 X (zo_n (by omega) hW.1) d_SM_stop_54 ?_
      refine z_cv (z_rV X cs_SM_225 rfl rfl (zo_s rfl hW.1).1 (zo_s rfl hW.1).2 (c_SM_empty l g hW b1 (r := 6 + i) (Or.inr ⟨by omega, by omega⟩)) ⟨Nat.le_of_ble_eq_true rfl, Nat.le_of_ble_eq_true rfl⟩ rfl rfl (Nat.le_of_ble_eq_true rfl) ⟨Nat.le_of_ble_eq_true rfl, Nat.le_of_ble_eq_true rfl⟩ d_SM_stop_57) (fun n2 I2 J2 R2 h8 => ?_)
      obtain ⟨Iy, Ry, fl2, ey, d1, d2, d3⟩ := h8
      cases ey
      have hW := hWW.id (Nat.le_refl _) (hI6.tr d2.ik.id) (b3.tr d3)
      refine z_iconst (v := nI 0) X d_SM_stop_60 rfl ?_
      refine z_istore_n X d_SM_stop_61 (by decide) rfl ?_
      exact KL i _ R2 fl2 rfl hi_i h0_i h14 (zstop_5 A i) (b3.tr d3) 6 0 _ _ rfl d1 (hI6.tr d2.ik.id) (fun k j => by rw [if_neg (by omega)])
    · refine z_iconst (v := nI 0) X d_SM_stop_17 rfl ?_
      exact z_iret X hret rfl (Nat.zero_le _) (Nat.zero_le _) (Or.inr ⟨fun ⟨i2, q1, q2, q3, q4⟩ => by rw [nI_eq (by omega) (by omega)] at q2; subst q2; exact q4 h14, rfl, rfl⟩) d_SM_stop_18

