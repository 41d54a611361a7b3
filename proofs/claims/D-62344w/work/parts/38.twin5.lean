/-! THE TWIN'S ADVERT, SLOT, RUN -/
theorem zad1_W {g : zG} {S h n u b : Nat} {I : zI} {R : zR} (hW : zW g S h n I R) : zW g S h n (zad1 u b I) R := by
  unfold zad1
  split
  · exact hW
  split
  · exact zW.upI (zW.upI (zW.upI hW rfl) rfl) rfl
  split
  · exact zW.upI hW rfl
  · exact hW
theorem c_Model_advert (l : Launch) (g : zG) {S h n : Nat} {I : zI} {J : zJ} {R : zR} (hW : zW g S h n I R) (u t : Nat) (hu : u < g.2.2.2) (ht : t < 2 ^ 30) (h3 : I 29 0 3 = nI t) : zMet l g y_Model_advert b_Model_advert 3 none 1 23 0 0 (zPc g [.ref (zad g 29 0), .int (nI u)] n I J R) (zQv g (fun x => x = (n, zadv g.2.2.2 u (zbit (J 35 0 (t % h)) t) I, J, R))) := by
  have hc := hW.2.1.2
  have h2c := hW.2.1.1
  have hh := hW.2.2.2.1
  refine zMet.of (by decide) [some (.ref (zad g 29 0)), some (.int (nI u)), none] rfl (Nat.le_of_ble_eq_true rfl) ?_
  intro pP eE sS mM aA bB mE cC X hret hnm
  have X : zC pP sS mM aA mE cC b_Model_advert "SlottedMeshModel" 3 g := X
  have hret : mE.sig.returnType = none := hret
  have key : ∀ (s b : Nat) (I1 : zI), b + s = g.2.2.2 → zW g S h n I1 R → zadv g.2.2.2 u (zbit (J 35 0 (t % h)) t) I = zadL u s b I1 → zV pP l eE (zrm 1 23 0 0) sS mM aA bB mE cC g 3 (MQ bB (zQv g (fun x => x = (n, zadv g.2.2.2 u (zbit (J 35 0 (t % h)) t) I, J, R))) aA sS 0 0 (zA g)) 0 0 36 [some (.ref (zad g 29 0)), some (.int (nI u)), some (.int (nI b))] [] n I1 J R := by
    intro s
    induction s with
    | zero =>
      intro b I1 hb hW hz
      refine z_iload_n X d_Model_advert_36 rfl ?_
      refine z_aload_n X d_Model_advert_37 rfl ?_
      refine gf_Model_96 X (zo_s rfl hW.1) d_Model_advert_38 ?_
      refine z_top (congrArg Value.int (hW.2.2.2.2.2.2.2.2.2.1)) ?_
      refine z_icmp_ge (tgt := 147) X d_Model_advert_41 (by decide) (fun _ => ?_) (fun hq => absurd hq (fun q => q (nI_le (by omega) (by omega))))
      exact z_vret X hret (Nat.zero_le _) (Nat.zero_le _) (by rw [hz]; rfl) d_Model_advert_147
    | succ s ih =>
      intro b I1 hb hW hz
      have hz2 : zadv g.2.2.2 u (zbit (J 35 0 (t % h)) t) I = zadL u s (b + 1) (zad1 u b I1) := hz
      have fin : zV pP l eE (zrm 1 23 0 0) sS mM aA bB mE cC g 3 (MQ bB (zQv g (fun x => x = (n, zadv g.2.2.2 u (zbit (J 35 0 (t % h)) t) I, J, R))) aA sS 0 0 (zA g)) 0 0 141 [some (.ref (zad g 29 0)), some (.int (nI u)), some (.int (nI b))] [] n (zad1 u b I1) J R := by
        refine z_iinc X d_Model_advert_141 rfl (zinc _) (by decide) rfl ?_
        refine z_goto (tgt := 36) X d_Model_advert_144 (by decide) ?_
        exact ih (b + 1) _ (by omega) (zad1_W hW) hz2
      refine z_iload_n X d_Model_advert_36 rfl ?_
      refine z_aload_n X d_Model_advert_37 rfl ?_
      refine gf_Model_96 X (zo_s rfl hW.1) d_Model_advert_38 ?_
      refine z_top (congrArg Value.int (hW.2.2.2.2.2.2.2.2.2.1)) ?_
      refine z_icmp_ge (tgt := 147) X d_Model_advert_41 (by decide) (fun hq => absurd hq (nI_ge (by omega) (by omega))) (fun _ => ?_)
      refine z_aload_n X d_Model_advert_44 rfl ?_
      refine gr_Model_7 (hW.c (k := 29) (f := 5) rfl rfl (by decide) rfl) X (zo_s rfl hW.1) d_Model_advert_45 ?_
      refine z_bipush (v := nI 6) X d_Model_advert_48 rfl ?_
      refine z_iload_n X d_Model_advert_50 rfl ?_
      refine z_imul X d_Model_advert_51 ?_
      refine z_iload_n X d_Model_advert_52 rfl ?_
      refine z_iadd X d_Model_advert_53 ?_
      refine al_30 (j := 6 * u + b) X (zo_s rfl hW.1) (zidx u b) (by omega) d_Model_advert_54 ?_
      refine z_if_eq (tgt := 141) X d_Model_advert_55 (by decide) (fun h55 => ?_) (fun h55 => ?_)
      · refine z_eqI (I2 := zad1 u b I1) ?_ fin
        unfold zad1
        first | rw [if_pos (Or.inl h55)] | rw [if_pos (Or.inr h64)] | (rw [if_neg (fun q => q.elim h55 h64), if_pos h76]; rfl) | (rw [if_neg (fun q => q.elim h55 h64), if_neg h76, if_neg (fun q => h117 q.1)]) | (rw [if_neg (fun q => q.elim h55 h64), if_neg h76, if_neg (fun q => by rw [zif0 h126] at q; exact absurd q.2 (by decide))]) | (rw [if_neg (fun q => q.elim h55 h64), if_neg h76, if_pos ⟨h117, zif1 h126⟩])
      · refine z_aload_n X d_Model_advert_58 rfl ?_
        refine gr_Model_13 (hW.c (k := 29) (f := 6) rfl rfl (by decide) rfl) X (zo_s rfl hW.1) d_Model_advert_59 ?_
        refine z_iload_n X d_Model_advert_62 rfl ?_
        refine al_31 X (zo_s rfl hW.1) rfl (by omega) d_Model_advert_63 ?_
        refine z_if_ne (tgt := 70) X d_Model_advert_64 (by decide) (fun h64 => ?_) (fun h64 => ?_)
        · refine z_aload_n X d_Model_advert_70 rfl ?_
          refine gr_Model_16 (hW.c (k := 29) (f := 7) rfl rfl (by decide) rfl) X (zo_s rfl hW.1) d_Model_advert_71 ?_
          refine z_iload_n X d_Model_advert_74 rfl ?_
          refine al_32 X (zo_s rfl hW.1) rfl (by omega) d_Model_advert_75 ?_
          refine z_if_ne (tgt := 108) X d_Model_advert_76 (by decide) (fun h76 => ?_) (fun h76 => ?_)
          · refine z_aload_n X d_Model_advert_108 rfl ?_
            refine gr_Model_36 (hW.c (k := 29) (f := 14) rfl rfl (by decide) rfl) X (zo_s rfl hW.1) d_Model_advert_109 ?_
            refine z_iconst (v := nI 2) X d_Model_advert_112 rfl ?_
            refine z_iload_n X d_Model_advert_113 rfl ?_
            refine z_imul X d_Model_advert_114 ?_
            refine al_38 (j := 2 * b) X (zo_s rfl hW.1) (pk_mul 2 b) (by omega) d_Model_advert_115 ?_
            refine z_iload_n X d_Model_advert_116 rfl ?_
            refine z_icmp_ne (tgt := 141) X d_Model_advert_117 (by decide) (fun h117 => ?_) (fun h117 => ?_)
            · refine z_eqI (I2 := zad1 u b I1) ?_ fin
              unfold zad1
              first | rw [if_pos (Or.inl h55)] | rw [if_pos (Or.inr h64)] | (rw [if_neg (fun q => q.elim h55 h64), if_pos h76]; rfl) | (rw [if_neg (fun q => q.elim h55 h64), if_neg h76, if_neg (fun q => h117 q.1)]) | (rw [if_neg (fun q => q.elim h55 h64), if_neg h76, if_neg (fun q => by rw [zif0 h126] at q; exact absurd q.2 (by decide))]) | (rw [if_neg (fun q => q.elim h55 h64), if_neg h76, if_pos ⟨h117, zif1 h126⟩])
            · refine z_aload_n X d_Model_advert_120 rfl ?_
              refine z_iload_n X d_Model_advert_121 rfl ?_
              refine z_iload_n X d_Model_advert_122 rfl ?_
              refine z_ci (z_rV X cs_Model_154 rfl rfl (zo_s rfl hW.1).1 (zo_s rfl hW.1).2 (c_Model_close l g hW u b (by omega) (by omega)) ⟨Nat.le_of_ble_eq_true rfl, Nat.le_of_ble_eq_true rfl⟩ rfl rfl (Nat.le_of_ble_eq_true rfl) ⟨Nat.le_of_ble_eq_true rfl, Nat.le_of_ble_eq_true rfl⟩ d_Model_advert_123) (fun r n2 I2 J2 R2 h => ?_)
              obtain ⟨rfl, e⟩ := h
              cases e
              refine z_if_eq (tgt := 141) X d_Model_advert_126 (by decide) (fun h126 => ?_) (fun h126 => ?_)
              · refine z_eqI (I2 := zad1 u b I1) ?_ fin
                unfold zad1
                first | rw [if_pos (Or.inl h55)] | rw [if_pos (Or.inr h64)] | (rw [if_neg (fun q => q.elim h55 h64), if_pos h76]; rfl) | (rw [if_neg (fun q => q.elim h55 h64), if_neg h76, if_neg (fun q => h117 q.1)]) | (rw [if_neg (fun q => q.elim h55 h64), if_neg h76, if_neg (fun q => by rw [zif0 h126] at q; exact absurd q.2 (by decide))]) | (rw [if_neg (fun q => q.elim h55 h64), if_neg h76, if_pos ⟨h117, zif1 h126⟩])
              · refine z_aload_n X d_Model_advert_129 rfl ?_
                refine gr_Model_19 (hW.c (k := 29) (f := 8) rfl rfl (by decide) rfl) X (zo_s rfl hW.1) d_Model_advert_130 ?_
                refine z_iload_n X d_Model_advert_133 rfl ?_
                refine z_aload_n X d_Model_advert_134 rfl ?_
                refine gr_Model_19 (hW.c (k := 29) (f := 8) rfl rfl (by decide) rfl) X (zo_s rfl hW.1) d_Model_advert_135 ?_
                refine z_iload_n X d_Model_advert_138 rfl ?_
                refine al_33 X (zo_s rfl hW.1) rfl (by omega) d_Model_advert_139 ?_
                refine as_33 X (zo_s rfl hW.1) rfl (by omega) d_Model_advert_140 ?_
                refine z_eqI (I2 := zad1 u b I1) ?_ fin
                unfold zad1
                first | rw [if_pos (Or.inl h55)] | rw [if_pos (Or.inr h64)] | (rw [if_neg (fun q => q.elim h55 h64), if_pos h76]; rfl) | (rw [if_neg (fun q => q.elim h55 h64), if_neg h76, if_neg (fun q => h117 q.1)]) | (rw [if_neg (fun q => q.elim h55 h64), if_neg h76, if_neg (fun q => by rw [zif0 h126] at q; exact absurd q.2 (by decide))]) | (rw [if_neg (fun q => q.elim h55 h64), if_neg h76, if_pos ⟨h117, zif1 h126⟩])
          · refine z_aload_n X d_Model_advert_79 rfl ?_
            refine gr_Model_16 (hW.c (k := 29) (f := 7) rfl rfl (by decide) rfl) X (zo_s rfl hW.1) d_Model_advert_80 ?_
            refine z_iload_n X d_Model_advert_83 rfl ?_
            refine z_iconst (v := nI 1) X d_Model_advert_84 rfl ?_
            refine as_32 X (zo_s rfl hW.1) rfl (by omega) (by decide) d_Model_advert_85 ?_
            refine z_aload_n X d_Model_advert_86 rfl ?_
            refine gr_Model_19 (hW.c (k := 29) (f := 8) rfl rfl (by decide) rfl) X (zo_s rfl hW.1) d_Model_advert_87 ?_
            refine z_iload_n X d_Model_advert_90 rfl ?_
            refine z_aload_n X d_Model_advert_91 rfl ?_
            refine gr_Model_19 (hW.c (k := 29) (f := 8) rfl rfl (by decide) rfl) X (zo_s rfl hW.1) d_Model_advert_92 ?_
            refine z_iload_n X d_Model_advert_95 rfl ?_
            refine al_33 X (zo_s rfl hW.1) rfl (by omega) d_Model_advert_96 ?_
            refine as_33 X (zo_s rfl hW.1) rfl (by omega) d_Model_advert_97 ?_
            refine z_aload_n X d_Model_advert_98 rfl ?_
            refine gr_Model_63 (hW.c (k := 29) (f := 23) rfl rfl (by decide) rfl) X (zo_s rfl hW.1) d_Model_advert_99 ?_
            refine z_iload_n X d_Model_advert_102 rfl ?_
            refine z_iconst (v := nI 0) X d_Model_advert_103 rfl ?_
            refine as_47 X (zo_s rfl hW.1) rfl (by omega) d_Model_advert_104 ?_
            refine z_goto (tgt := 141) X d_Model_advert_105 (by decide) ?_
            refine z_eqI (I2 := zad1 u b I1) ?_ fin
            unfold zad1
            first | rw [if_pos (Or.inl h55)] | rw [if_pos (Or.inr h64)] | (rw [if_neg (fun q => q.elim h55 h64), if_pos h76]; rfl) | (rw [if_neg (fun q => q.elim h55 h64), if_neg h76, if_neg (fun q => h117 q.1)]) | (rw [if_neg (fun q => q.elim h55 h64), if_neg h76, if_neg (fun q => by rw [zif0 h126] at q; exact absurd q.2 (by decide))]) | (rw [if_neg (fun q => q.elim h55 h64), if_neg h76, if_pos ⟨h117, zif1 h126⟩])
        · refine z_goto (tgt := 141) X d_Model_advert_67 (by decide) ?_
          refine z_eqI (I2 := zad1 u b I1) ?_ fin
          unfold zad1
          first | rw [if_pos (Or.inl h55)] | rw [if_pos (Or.inr h64)] | (rw [if_neg (fun q => q.elim h55 h64), if_pos h76]; rfl) | (rw [if_neg (fun q => q.elim h55 h64), if_neg h76, if_neg (fun q => h117 q.1)]) | (rw [if_neg (fun q => q.elim h55 h64), if_neg h76, if_neg (fun q => by rw [zif0 h126] at q; exact absurd q.2 (by decide))]) | (rw [if_neg (fun q => q.elim h55 h64), if_neg h76, if_pos ⟨h117, zif1 h126⟩])
  refine z_aload_n X d_Model_advert_0 rfl ?_
  refine gr_Model_16 (hW.c (k := 29) (f := 7) rfl rfl (by decide) rfl) X (zo_s rfl hW.1) d_Model_advert_1 ?_
  refine z_iload_n X d_Model_advert_4 rfl ?_
  refine al_32 X (zo_s rfl hW.1) rfl (by omega) d_Model_advert_5 ?_
  refine z_if_eq (tgt := 33) X d_Model_advert_6 (by decide) (fun h6 => ?_) (fun h6 => ?_)
  · exact z_vret X hret (Nat.zero_le _) (Nat.zero_le _) (by unfold zadv; first | rw [if_pos (Or.inl h6)] | rw [if_pos (Or.inr (zif0 h30))]) d_Model_advert_33
  · refine z_aload_n X d_Model_advert_9 rfl ?_
    refine gr_Model_26 (hW.c (k := 29) (f := 10) rfl rfl (by decide) rfl) X (zo_s rfl hW.1) d_Model_advert_10 ?_
    refine z_aload_n X d_Model_advert_13 rfl ?_
    refine gf_Model_147 X (zo_s rfl hW.1) d_Model_advert_14 ?_
    refine z_top (congrArg Value.int (h3)) ?_
    refine z_aload_n X d_Model_advert_17 rfl ?_
    refine gf_Model_103 X (zo_s rfl hW.1) d_Model_advert_18 ?_
    refine z_top (congrArg Value.int (hW.2.2.2.2.2.2.2.2.2.2.2)) ?_
    refine z_irem X d_Model_advert_21 (nI_ne0 (by omega) (by omega)) ?_
    refine z_top (v2 := .int (nI (t % h))) (congrArg Value.int (pk_rem (by omega) (by omega) (by omega))) ?_
    refine al_35 X (zo_s rfl hW.1) rfl (by have := Nat.mod_lt t (show h > 0 by omega); omega) d_Model_advert_22 ?_
    refine z_aload_n X d_Model_advert_23 rfl ?_
    refine gf_Model_147 X (zo_s rfl hW.1) d_Model_advert_24 ?_
    refine z_top (congrArg Value.int (h3)) ?_
    refine z_ci (z_rS X cs_Model_150 (c_Model_bit l g _ t ht) ⟨Nat.le_of_ble_eq_true rfl, Nat.le_of_ble_eq_true rfl⟩ rfl rfl (Nat.le_of_ble_eq_true rfl) ⟨Nat.le_of_ble_eq_true rfl, Nat.le_of_ble_eq_true rfl⟩ d_Model_advert_27) (fun r n2 I2 J2 R2 h => ?_)
    obtain ⟨rfl, e⟩ := h
    cases e
    refine z_if_ne (tgt := 34) X d_Model_advert_30 (by decide) (fun h30 => ?_) (fun h30 => ?_)
    · refine z_iconst (v := nI 1) X d_Model_advert_34 rfl ?_
      refine z_istore_n X d_Model_advert_35 (by decide) rfl ?_
      exact key (g.2.2.2 - 1) 1 I (by omega) hW (by unfold zadv; rw [if_neg (fun q => q.elim h6 (fun z => by rw [zif1 h30] at z; cases z))])
    · exact z_vret X hret (Nat.zero_le _) (Nat.zero_le _) (by unfold zadv; first | rw [if_pos (Or.inl h6)] | rw [if_pos (Or.inr (zif0 h30))]) d_Model_advert_33

