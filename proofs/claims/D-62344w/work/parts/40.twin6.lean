/-! THE TWIN'S SLOT AND RUN -/
theorem zdr1_W {g : zG} {S h n b : Nat} {I : zI} {R : zR} (hW : zW g S h n I R) : zW g S h n (zdr1 b I) R := zW.upI hW rfl
/-- what the twin's plan must be for its slots -/
def zPl (c : Nat) (pl : Bool) (pf tb : Nat → Nat) (A : zI) : Prop := A 29 0 12 = (if pl = true then nI 1 else nI 0) ∧ (pl = true → (∀ x, x < 96 → A 39 0 x = nI (tb x)) ∧ zTbl c tb ∧ ∀ k, 0 < k → k < c → pf k < c ∧ A 38 0 (2 * k) = nI (pf k))
theorem zPl.of {c : Nat} {pl : Bool} {pf tb : Nat → Nat} {A A2 : zI} (h : zPl c pl pf tb A) (h1 : A2 29 0 12 = A 29 0 12) (h2 : ∀ x, A2 39 0 x = A 39 0 x) (h3 : ∀ x, A2 38 0 x = A 38 0 x) : zPl c pl pf tb A2 := by
  refine ⟨h1.trans h.1, fun hp => ?_⟩
  obtain ⟨a1, a2, a3⟩ := h.2 hp
  exact ⟨fun x hx => (h2 x).trans (a1 x hx), a2, fun k h0 hk => ⟨(a3 k h0 hk).1, (h3 _).trans (a3 k h0 hk).2⟩⟩
theorem c_Model_slot (l : Launch) (g : zG) {S h n : Nat} {I : zI} {J : zJ} {R : zR} (hW : zW g S h n I R) (q : zq) (hq : zRT g.2.2.2 I q) (pl : Bool) (pf tb : Nat → Nat) (hpl : zPl g.2.2.2 pl pf tb I) (t : Nat) (ht : t < 2 ^ 29) (h3 : I 29 0 3 = nI t) : zMet l g y_Model_slot b_Model_slot 6 none 3 77 0 0 (zPc g [.ref (zad g 29 0)] n I J R) (zQv g (fun u => ∃ I2, u = (n, I2, J, R) ∧ zcan I2 = zu (zslot g.2.2.2 S h pl pf tb J t (zcan I) q).1 29 0 3 (nI (t + 1)) ∧ zRT g.2.2.2 I2 (zslot g.2.2.2 S h pl pf tb J t (zcan I) q).2 ∧ ∀ k i j, k < 29 → I2 k i j = I k i j)) := by
  have hc := hW.2.1.2
  have h2c := hW.2.1.1
  have hS := hW.2.2.1
  have hh := hW.2.2.2.1
  have hsS : t % S < S := Nat.mod_lt t (by omega)
  refine zMet.of (by decide) [some (.ref (zad g 29 0)), none, none, none, none, none] rfl (Nat.le_of_ble_eq_true rfl) ?_
  intro pP eE sS mM aA bB mE cC X hret hnm
  have X : zC pP sS mM aA mE cC b_Model_slot "SlottedMeshModel" 6 g := X
  have hret : mE.sig.returnType = none := hret
  -- the end
  have KE : ∀ (I1 : zI), zcan I1 = (zslot g.2.2.2 S h pl pf tb J t (zcan I) q).1 → zRT g.2.2.2 I1 (zslot g.2.2.2 S h pl pf tb J t (zcan I) q).2 → (∀ k i j, k < 29 → I1 k i j = I k i j) → zW g S h n I1 R → I1 29 0 3 = nI t → zV pP l eE (zrm 3 77 0 0) sS mM aA bB mE cC g 6 (MQ bB (zQv g (fun u => ∃ I2, u = (n, I2, J, R) ∧ zcan I2 = zu (zslot g.2.2.2 S h pl pf tb J t (zcan I) q).1 29 0 3 (nI (t + 1)) ∧ zRT g.2.2.2 I2 (zslot g.2.2.2 S h pl pf tb J t (zcan I) q).2 ∧ ∀ k i j, k < 29 → I2 k i j = I k i j)) aA sS 0 0 (zA g)) 0 0 207 [some (.ref (zad g 29 0)), none, none, none, none, none] [] n I1 J R := by
    intro I1 hcn hr hlow hW h31
    refine z_aload_n X d_Model_slot_207 rfl ?_
    refine z_dup X d_Model_slot_208 rfl ?_
    refine gf_Model_147 X (zo_s rfl hW.1) d_Model_slot_209 ?_
    refine z_top (congrArg Value.int (h31)) ?_
    refine z_iconst (v := nI 1) X d_Model_slot_212 rfl ?_
    refine z_iadd X d_Model_slot_213 ?_
    refine z_top (v2 := .int (nI (t + 1))) (congrArg Value.int (nI_1 t)) ?_
    refine pf_Model_147 X (zo_s rfl hW.1) d_Model_slot_214 ?_
    exact z_vret X hret (Nat.zero_le _) (Nat.zero_le _) ⟨_, rfl, by rw [zc_29, hcn], zRT.put hr rfl, fun k i j hk => by rw [zu_k (by omega)]; exact hlow k i j hk⟩ d_Model_slot_217
  -- behind the drifting
  have KD : ∀ (I1 : zI), I1 = zdrift g.2.2.2 I → zW g S h n I1 R → zV pP l eE (zrm 3 77 0 0) sS mM aA bB mE cC g 6 (MQ bB (zQv g (fun u => ∃ I2, u = (n, I2, J, R) ∧ zcan I2 = zu (zslot g.2.2.2 S h pl pf tb J t (zcan I) q).1 29 0 3 (nI (t + 1)) ∧ zRT g.2.2.2 I2 (zslot g.2.2.2 S h pl pf tb J t (zcan I) q).2 ∧ ∀ k i j, k < 29 → I2 k i j = I k i j)) aA sS 0 0 (zA g)) 0 0 44 [some (.ref (zad g 29 0)), none, none, none, none, none] [] n I1 J R := by
    intro I1 hI1 hW
    have hcd : zcan I1 = zdrift g.2.2.2 (zcan I) := by rw [hI1]; exact zcan_drift
    have h31 : I1 29 0 3 = nI t := by rw [hI1, zdrift_keep (by decide)]; exact h3
    have hq1 : zRT g.2.2.2 I1 q := hq.of (fun k j h1 h2 => by rw [hI1]; exact zdrift_keep (by omega))
    have hlow : ∀ k i j, k < 29 → I1 k i j = I k i j := fun k i j hk => by rw [hI1]; exact zdrift_keep (by omega)
    have hpl1 : zPl g.2.2.2 pl pf tb I1 := hpl.of (by rw [hI1]; exact zdrift_keep (by decide)) (fun x => by rw [hI1]; exact zdrift_keep (by decide)) (fun x => by rw [hI1]; exact zdrift_keep (by decide))
    refine z_aload_n X d_Model_slot_44 rfl ?_
    refine gf_Model_147 X (zo_s rfl hW.1) d_Model_slot_45 ?_
    refine z_top (congrArg Value.int (h31)) ?_
    refine z_aload_n X d_Model_slot_48 rfl ?_
    refine gf_Model_100 X (zo_s rfl hW.1) d_Model_slot_49 ?_
    refine z_top (congrArg Value.int (hW.2.2.2.2.2.2.2.2.2.2.1)) ?_
    refine z_irem X d_Model_slot_52 (nI_ne0 (by omega) (by omega)) ?_
    refine z_top (v2 := .int (nI (t % S))) (congrArg Value.int (pk_rem (by omega) (by omega) (by omega))) ?_
    refine z_istore_n X d_Model_slot_53 (by decide) rfl ?_
    refine z_aload_n X d_Model_slot_54 rfl ?_
    refine gf_Model_135 X (zo_s rfl hW.1) d_Model_slot_55 ?_
    refine z_top (congrArg Value.int (hpl1.1)) ?_
    cases hpe : pl with
    | false =>
      have hzs : zslot g.2.2.2 S h pl pf tb J t (zcan I) q = (zdrift g.2.2.2 (zcan I), q) := by unfold zslot; rw [if_neg (by rw [hpe]; decide)]
      rw [hpe] at hzs hpl1 KE
      refine z_if_eq (tgt := 72) X d_Model_slot_58 (by decide) (fun _ => ?_) (fun hq => absurd hq (by decide))
      refine z_iconst (v := nI 0) X d_Model_slot_72 rfl ?_
      refine z_istore_n X d_Model_slot_73 (by decide) rfl ?_
      refine z_iload_n X d_Model_slot_74 rfl ?_
      refine z_bipush (v := nI 100) X d_Model_slot_75 rfl ?_
      refine z_icmp_lt (tgt := 95) X d_Model_slot_77 (by decide) (fun _ => ?_) (fun hq => absurd hq (by decide))
      refine z_iconst (v := nI 0) X d_Model_slot_95 rfl ?_
      refine z_istore_n X d_Model_slot_96 (by decide) rfl ?_
      refine z_iload_n X d_Model_slot_97 rfl ?_
      refine z_aload_n X d_Model_slot_98 rfl ?_
      refine gf_Model_103 X (zo_s rfl hW.1) d_Model_slot_99 ?_
      refine z_top (congrArg Value.int (hW.2.2.2.2.2.2.2.2.2.2.2)) ?_
      refine z_icmp_ge (tgt := 207) X d_Model_slot_102 (by decide) (fun hq => absurd hq (nI_ge (a := 0) (by omega) (by omega))) (fun _ => ?_)
      refine z_aload_n X d_Model_slot_105 rfl ?_
      refine gf_Model_135 X (zo_s rfl hW.1) d_Model_slot_106 ?_
      refine z_top (congrArg Value.int (hpl1.1)) ?_
      refine z_if_eq (tgt := 207) X d_Model_slot_109 (by decide) (fun _ => ?_) (fun hq => absurd hq (by decide))
      refine z_wk (ls2 := [some (.ref (zad g 29 0)), none, none, none, none, none]) ⟨rfl, trivial⟩ ?_
      exact KE I1 (by rw [hzs]; exact hcd) (by rw [hzs]; exact hq1) hlow hW h31
    | true =>
      rw [hpe] at hpl1 KE
      obtain ⟨ht1, ht2, ht3⟩ := hpl1.2 rfl
      have hzs : zslot g.2.2.2 S h true pf tb J t (zcan I) q = zwork g.2.2.2 pf (fun x => tb (4 * (t % S) + x)) J h t (zdrift g.2.2.2 (zcan I)) q := by unfold zslot; rw [if_pos rfl]
      obtain ⟨b1, b2, b3⟩ := ht2 (4 * (t % S)) (by omega)
      refine z_if_eq (tgt := 72) X d_Model_slot_58 (by decide) (fun hq => absurd hq (by decide)) (fun _ => ?_)
      refine z_aload_n X d_Model_slot_61 rfl ?_
      refine gr_Model_39 (hW.c (k := 29) (f := 15) rfl rfl (by decide) rfl) X (zo_s rfl hW.1) d_Model_slot_62 ?_
      refine z_iconst (v := nI 4) X d_Model_slot_65 rfl ?_
      refine z_iload_n X d_Model_slot_66 rfl ?_
      refine z_imul X d_Model_slot_67 ?_
      refine al_39 (j := 4 * (t % S)) X (zo_s rfl hW.1) (pk_mul 4 (t % S)) (by omega) d_Model_slot_68 ?_
      refine z_top (v2 := .int (nI (tb (4 * (t % S))))) (congrArg Value.int (ht1 _ (by omega))) ?_
      refine z_goto (tgt := 73) X d_Model_slot_69 (by decide) ?_
      refine z_istore_n X d_Model_slot_73 (by decide) rfl ?_
      -- the channels
      have KC : ∀ (s x : Nat) (I2 : zI) (q2 : zq), x + s = h → ¬ (100 ≤ tb (4 * (t % S)) ∧ tb (4 * (t % S)) < 200) → zW g S h n I2 R → I2 29 0 3 = nI t → zRT g.2.2.2 I2 q2 → (∀ k i j, k < 29 → I2 k i j = I k i j) → zPl g.2.2.2 true pf tb I2 → zslot g.2.2.2 S h true pf tb J t (zcan I) q = zchL pf (fun x => tb (4 * (t % S) + x)) J h t s x (zcan I2) q2 → zV pP l eE (zrm 3 77 0 0) sS mM aA bB mE cC g 6 (MQ bB (zQv g (fun u => ∃ I2, u = (n, I2, J, R) ∧ zcan I2 = zu (zslot g.2.2.2 S h true pf tb J t (zcan I) q).1 29 0 3 (nI (t + 1)) ∧ zRT g.2.2.2 I2 (zslot g.2.2.2 S h true pf tb J t (zcan I) q).2 ∧ ∀ k i j, k < 29 → I2 k i j = I k i j)) aA sS 0 0 (zA g)) 0 0 97 [some (.ref (zad g 29 0)), some (.int (nI (t % S))), some (.int (nI (tb (4 * (t % S))))), some (.int (nI x)), none, none] [] n I2 J R := by
        intro s
        induction s with
        | zero =>
          intro x I2 q2 hx hal hW h32 hq2 hlow2 hpl2 hz
          refine z_iload_n X d_Model_slot_97 rfl ?_
          refine z_aload_n X d_Model_slot_98 rfl ?_
          refine gf_Model_103 X (zo_s rfl hW.1) d_Model_slot_99 ?_
          refine z_top (congrArg Value.int (hW.2.2.2.2.2.2.2.2.2.2.2)) ?_
          refine z_icmp_ge (tgt := 207) X d_Model_slot_102 (by decide) (fun _ => ?_) (fun hq => absurd hq (fun z => z (nI_le (by omega) (by omega))))
          refine z_wk (ls2 := [some (.ref (zad g 29 0)), none, none, none, none, none]) ⟨rfl, trivial⟩ ?_
          exact KE I2 (by rw [hz]; rfl) (by rw [hz]; exact hq2) hlow2 hW h32
        | succ s ih =>
          intro x I2 q2 hx hal hW h32 hq2 hlow2 hpl2 hz
          obtain ⟨c1, c2, c3⟩ := hpl2.2 rfl
          obtain ⟨d1, d2, d3⟩ := c2 (4 * (t % S) + x) (by omega)
          have hch : (x + t) % h < h := Nat.mod_lt _ (by omega)
          have hz2 : zslot g.2.2.2 S h true pf tb J t (zcan I) q = zchL pf (fun x => tb (4 * (t % S) + x)) J h t s (x + 1) (zcell pf (tb (4 * (t % S) + x)) (zbit (J 35 0 ((x + t) % h)) t) (zbit (J 36 0 ((x + t) % h)) t) (zcan I2) q2).1 (zcell pf (tb (4 * (t % S) + x)) (zbit (J 35 0 ((x + t) % h)) t) (zbit (J 36 0 ((x + t) % h)) t) (zcan I2) q2).2 := hz
          -- behind a cell
          have KN : ∀ (I3 : zI), zcan I3 = (zcell pf (tb (4 * (t % S) + x)) (zbit (J 35 0 ((x + t) % h)) t) (zbit (J 36 0 ((x + t) % h)) t) (zcan I2) q2).1 → zRT g.2.2.2 I3 (zcell pf (tb (4 * (t % S) + x)) (zbit (J 35 0 ((x + t) % h)) t) (zbit (J 36 0 ((x + t) % h)) t) (zcan I2) q2).2 → (∀ k i j, k < 29 → I3 k i j = I k i j) → zV pP l eE (zrm 3 77 0 0) sS mM aA bB mE cC g 6 (MQ bB (zQv g (fun u => ∃ I2, u = (n, I2, J, R) ∧ zcan I2 = zu (zslot g.2.2.2 S h true pf tb J t (zcan I) q).1 29 0 3 (nI (t + 1)) ∧ zRT g.2.2.2 I2 (zslot g.2.2.2 S h true pf tb J t (zcan I) q).2 ∧ ∀ k i j, k < 29 → I2 k i j = I k i j)) aA sS 0 0 (zA g)) 0 0 201 [some (.ref (zad g 29 0)), some (.int (nI (t % S))), some (.int (nI (tb (4 * (t % S))))), some (.int (nI x)), none, none] [] n I3 J R := by
            intro I3 e1 e2 e3
            have kp : ∀ k j, zmv k j = false → zjk k = false → I3 k 0 j = I2 k 0 j := fun k j hk hj => by
              have := congrFun (congrFun (congrFun e1 k) 0) j
              rw [zcell_keep hk] at this
              unfold zcan at this
              rw [hj] at this
              exact this
            refine z_iinc X d_Model_slot_201 rfl (zinc _) (by decide) rfl ?_
            refine z_goto (tgt := 97) X d_Model_slot_204 (by decide) ?_
            exact ih (x + 1) I3 _ (by omega) hal (hW.low (fun k i j hk => by rw [e3 k i j hk, hlow2 k i j hk]) (fun j hj => kp 29 j (by rcases (show j = 0 ∨ j = 1 ∨ j = 2 by omega) with rfl | rfl | rfl <;> rfl) rfl)) (by rw [kp 29 3 rfl rfl]; exact h32) e2 e3 (hpl2.of (kp 29 12 rfl rfl) (fun y => kp 39 y rfl rfl) (fun y => kp 38 y rfl rfl)) (by rw [hz2, e1])
          refine z_iload_n X d_Model_slot_97 rfl ?_
          refine z_aload_n X d_Model_slot_98 rfl ?_
          refine gf_Model_103 X (zo_s rfl hW.1) d_Model_slot_99 ?_
          refine z_top (congrArg Value.int (hW.2.2.2.2.2.2.2.2.2.2.2)) ?_
          refine z_icmp_ge (tgt := 207) X d_Model_slot_102 (by decide) (fun hq => absurd hq (nI_ge (by omega) (by omega))) (fun _ => ?_)
          refine z_aload_n X d_Model_slot_105 rfl ?_
          refine gf_Model_135 X (zo_s rfl hW.1) d_Model_slot_106 ?_
          refine z_top (congrArg Value.int (hpl2.1)) ?_
          refine z_if_eq (tgt := 207) X d_Model_slot_109 (by decide) (fun hq => absurd hq (by decide)) (fun _ => ?_)
          refine z_iload_n X d_Model_slot_112 rfl ?_
          refine z_bipush (v := nI 100) X d_Model_slot_113 rfl ?_
          have K125 : zV pP l eE (zrm 3 77 0 0) sS mM aA bB mE cC g 6 (MQ bB (zQv g (fun u => ∃ I2, u = (n, I2, J, R) ∧ zcan I2 = zu (zslot g.2.2.2 S h true pf tb J t (zcan I) q).1 29 0 3 (nI (t + 1)) ∧ zRT g.2.2.2 I2 (zslot g.2.2.2 S h true pf tb J t (zcan I) q).2 ∧ ∀ k i j, k < 29 → I2 k i j = I k i j)) aA sS 0 0 (zA g)) 0 0 125 [some (.ref (zad g 29 0)), some (.int (nI (t % S))), some (.int (nI (tb (4 * (t % S))))), some (.int (nI x)), none, none] [] n I2 J R := by
            refine z_aload_n X d_Model_slot_125 rfl ?_
            refine gr_Model_39 (hW.c (k := 29) (f := 15) rfl rfl (by decide) rfl) X (zo_s rfl hW.1) d_Model_slot_126 ?_
            refine z_iconst (v := nI 4) X d_Model_slot_129 rfl ?_
            refine z_iload_n X d_Model_slot_130 rfl ?_
            refine z_imul X d_Model_slot_131 ?_
            refine z_iload_n X d_Model_slot_132 rfl ?_
            refine z_iadd X d_Model_slot_133 ?_
            refine al_39 (j := 4 * (t % S) + x) X (zo_s rfl hW.1) (zidx4 (t % S) x) (by omega) d_Model_slot_134 ?_
            refine z_top (v2 := .int (nI (tb (4 * (t % S) + x)))) (congrArg Value.int (c1 _ (by omega))) ?_
            refine z_istore X d_Model_slot_135 (by decide) rfl ?_
            refine z_iload_n X d_Model_slot_137 rfl ?_
            refine z_aload_n X d_Model_slot_138 rfl ?_
            refine gf_Model_147 X (zo_s rfl hW.1) d_Model_slot_139 ?_
            refine z_top (congrArg Value.int (h32)) ?_
            refine z_iadd X d_Model_slot_142 ?_
            refine z_top (v2 := .int (nI (x + t))) (congrArg Value.int (nI_add x t)) ?_
            refine z_aload_n X d_Model_slot_143 rfl ?_
            refine gf_Model_103 X (zo_s rfl hW.1) d_Model_slot_144 ?_
            refine z_top (congrArg Value.int (hW.2.2.2.2.2.2.2.2.2.2.2)) ?_
            refine z_irem X d_Model_slot_147 (nI_ne0 (by omega) (by omega)) ?_
            refine z_top (v2 := .int (nI ((x + t) % h))) (congrArg Value.int (pk_rem (by omega) (by omega) (by omega))) ?_
            refine z_istore X d_Model_slot_148 (by decide) rfl ?_
            refine z_iload X d_Model_slot_150 rfl ?_
            refine z_sipush (v := nI 300) X d_Model_slot_152 rfl ?_
            refine z_icmpN_lt (tgt := 177) X d_Model_slot_155 (by decide) (by omega) (by omega) (fun h155 => ?_) (fun h155 => ?_)
            · refine z_iload X d_Model_slot_177 rfl ?_
              refine z_sipush (v := nI 200) X d_Model_slot_179 rfl ?_
              refine z_icmpN_lt (tgt := 201) X d_Model_slot_182 (by decide) (by omega) (by omega) (fun h182 => ?_) (fun h182 => ?_)
              · refine z_wk (ls2 := [some (.ref (zad g 29 0)), some (.int (nI (t % S))), some (.int (nI (tb (4 * (t % S))))), some (.int (nI x)), none, none]) ⟨rfl, rfl, rfl, rfl, trivial⟩ ?_
                have hcl : zcell pf (tb (4 * (t % S) + x)) (zbit (J 35 0 ((x + t) % h)) t) (zbit (J 36 0 ((x + t) % h)) t) (zcan I2) q2 = (zcan I2, q2) := by unfold zcell; rw [if_neg (by omega), if_neg (by omega)]
                exact KN I2 (by rw [hcl]) (by rw [hcl]; exact hq2) hlow2
              · obtain ⟨x1, x2, x3⟩ := d3 h182
                have hcl : zcell pf (tb (4 * (t % S) + x)) (zbit (J 35 0 ((x + t) % h)) t) (zbit (J 36 0 ((x + t) % h)) t) (zcan I2) q2 = zup (tb (4 * (t % S) + x) / 10 % 10) (tb (4 * (t % S) + x) % 10) (zbit (J 35 0 ((x + t) % h)) t) (zbit (J 36 0 ((x + t) % h)) t) (zcan I2) q2 := by unfold zcell; rw [if_neg (by omega), if_pos h182]
                refine z_aload_n X d_Model_slot_185 rfl ?_
                refine z_iload X d_Model_slot_186 rfl ?_
                refine z_ci (z_rS X cs_Model_112 (c_Model_first l g _ (by omega)) ⟨Nat.le_of_ble_eq_true rfl, Nat.le_of_ble_eq_true rfl⟩ rfl rfl (Nat.le_of_ble_eq_true rfl) ⟨Nat.le_of_ble_eq_true rfl, Nat.le_of_ble_eq_true rfl⟩ d_Model_slot_188) (fun r n2 I2 J2 R2 h => ?_)
                obtain ⟨rfl, e⟩ := h
                cases e
                rw [if_neg (by omega)]
                refine z_iload X d_Model_slot_191 rfl ?_
                refine z_ci (z_rS X cs_Model_116 (c_Model_second l g _ (by omega)) ⟨Nat.le_of_ble_eq_true rfl, Nat.le_of_ble_eq_true rfl⟩ rfl rfl (Nat.le_of_ble_eq_true rfl) ⟨Nat.le_of_ble_eq_true rfl, Nat.le_of_ble_eq_true rfl⟩ d_Model_slot_193) (fun r n2 I2 J2 R2 h => ?_)
                obtain ⟨rfl, e⟩ := h
                cases e
                rw [if_neg (by omega)]
                refine z_iload X d_Model_slot_196 rfl ?_
                refine z_cv (z_rV X cs_Model_182 rfl rfl (zo_s rfl hW.1).1 (zo_s rfl hW.1).2 (c_Model_up l g hW q2 hq2 _ _ _ t x1 x2 x3 (by omega) (by omega) h32) ⟨Nat.le_of_ble_eq_true rfl, Nat.le_of_ble_eq_true rfl⟩ rfl rfl (Nat.le_of_ble_eq_true rfl) ⟨Nat.le_of_ble_eq_true rfl, Nat.le_of_ble_eq_true rfl⟩ d_Model_slot_198) (fun n3 I3 J3 R3 h => ?_)
                obtain ⟨I4, e, e1, e2, e3⟩ := h
                cases e
                refine z_wk (ls2 := [some (.ref (zad g 29 0)), some (.int (nI (t % S))), some (.int (nI (tb (4 * (t % S))))), some (.int (nI x)), none, none]) ⟨rfl, rfl, rfl, rfl, trivial⟩ ?_
                exact KN I3 (by rw [hcl]; exact e1) (by rw [hcl]; exact e2) (fun k i j hk => by rw [e3 k i j hk, hlow2 k i j hk])
            · obtain ⟨x1, x2, x3⟩ := d3 (by omega)
              have hcl : zcell pf (tb (4 * (t % S) + x)) (zbit (J 35 0 ((x + t) % h)) t) (zbit (J 36 0 ((x + t) % h)) t) (zcan I2) q2 = zdow pf (tb (4 * (t % S) + x) / 10 % 10) (tb (4 * (t % S) + x) % 10) (zbit (J 35 0 ((x + t) % h)) t) (zbit (J 36 0 ((x + t) % h)) t) (zcan I2) q2 := by unfold zcell; rw [if_pos h155]
              refine z_aload_n X d_Model_slot_158 rfl ?_
              refine z_iload X d_Model_slot_159 rfl ?_
              refine z_ci (z_rS X cs_Model_112 (c_Model_first l g _ (by omega)) ⟨Nat.le_of_ble_eq_true rfl, Nat.le_of_ble_eq_true rfl⟩ rfl rfl (Nat.le_of_ble_eq_true rfl) ⟨Nat.le_of_ble_eq_true rfl, Nat.le_of_ble_eq_true rfl⟩ d_Model_slot_161) (fun r n2 I2 J2 R2 h => ?_)
              obtain ⟨rfl, e⟩ := h
              cases e
              rw [if_neg (by omega)]
              refine z_iload X d_Model_slot_164 rfl ?_
              refine z_ci (z_rS X cs_Model_116 (c_Model_second l g _ (by omega)) ⟨Nat.le_of_ble_eq_true rfl, Nat.le_of_ble_eq_true rfl⟩ rfl rfl (Nat.le_of_ble_eq_true rfl) ⟨Nat.le_of_ble_eq_true rfl, Nat.le_of_ble_eq_true rfl⟩ d_Model_slot_166) (fun r n2 I2 J2 R2 h => ?_)
              obtain ⟨rfl, e⟩ := h
              cases e
              rw [if_neg (by omega)]
              refine z_iload X d_Model_slot_169 rfl ?_
              refine z_cv (z_rV X cs_Model_179 rfl rfl (zo_s rfl hW.1).1 (zo_s rfl hW.1).2 (c_Model_down l g hW q2 hq2 pf c3 _ _ _ t x1 x2 x3 (by omega) (by omega) h32) ⟨Nat.le_of_ble_eq_true rfl, Nat.le_of_ble_eq_true rfl⟩ rfl rfl (Nat.le_of_ble_eq_true rfl) ⟨Nat.le_of_ble_eq_true rfl, Nat.le_of_ble_eq_true rfl⟩ d_Model_slot_171) (fun n3 I3 J3 R3 h => ?_)
              obtain ⟨I4, e, e1, e2, e3⟩ := h
              cases e
              refine z_goto (tgt := 201) X d_Model_slot_174 (by decide) ?_
              refine z_wk (ls2 := [some (.ref (zad g 29 0)), some (.int (nI (t % S))), some (.int (nI (tb (4 * (t % S))))), some (.int (nI x)), none, none]) ⟨rfl, rfl, rfl, rfl, trivial⟩ ?_
              exact KN I3 (by rw [hcl]; exact e1) (by rw [hcl]; exact e2) (fun k i j hk => by rw [e3 k i j hk, hlow2 k i j hk])
          refine z_icmpN_lt (tgt := 125) X d_Model_slot_115 (by decide) (by omega) (by omega) (fun h115 => ?_) (fun h115 => ?_)
          · exact K125
          · refine z_iload_n X d_Model_slot_118 rfl ?_
            refine z_sipush (v := nI 200) X d_Model_slot_119 rfl ?_
            refine z_icmpN_lt (tgt := 207) X d_Model_slot_122 (by decide) (by omega) (by omega) (fun h122 => ?_) (fun h122 => ?_)
            · exact absurd ⟨h115, h122⟩ hal
            · exact K125
      refine z_iload_n X d_Model_slot_74 rfl ?_
      refine z_bipush (v := nI 100) X d_Model_slot_75 rfl ?_
      refine z_icmpN_lt (tgt := 95) X d_Model_slot_77 (by decide) (by omega) (by omega) (fun h77 => ?_) (fun h77 => ?_)
      · have hal : ¬ (100 ≤ tb (4 * (t % S)) ∧ tb (4 * (t % S)) < 200) := by omega
        refine z_iconst (v := nI 0) X d_Model_slot_95 rfl ?_
        refine z_istore_n X d_Model_slot_96 (by decide) rfl ?_
        exact KC h 0 I1 q (by omega) hal hW h31 hq1 hlow hpl1 (by rw [hzs, hcd]; exact if_neg hal)
      · refine z_iload_n X d_Model_slot_80 rfl ?_
        refine z_sipush (v := nI 200) X d_Model_slot_81 rfl ?_
        refine z_icmpN_ge (tgt := 95) X d_Model_slot_84 (by decide) (by omega) (by omega) (fun h84 => ?_) (fun h84 => ?_)
        · have hal : ¬ (100 ≤ tb (4 * (t % S)) ∧ tb (4 * (t % S)) < 200) := by omega
          refine z_iconst (v := nI 0) X d_Model_slot_95 rfl ?_
          refine z_istore_n X d_Model_slot_96 (by decide) rfl ?_
          exact KC h 0 I1 q (by omega) hal hW h31 hq1 hlow hpl1 (by rw [hzs, hcd]; exact if_neg hal)
        · have hal : 100 ≤ tb (4 * (t % S)) ∧ tb (4 * (t % S)) < 200 := ⟨h77, h84⟩
          refine z_aload_n X d_Model_slot_87 rfl ?_
          refine z_iload_n X d_Model_slot_88 rfl ?_
          refine z_ci (z_rS X cs_Model_112 (c_Model_first l g _ (by omega)) ⟨Nat.le_of_ble_eq_true rfl, Nat.le_of_ble_eq_true rfl⟩ rfl rfl (Nat.le_of_ble_eq_true rfl) ⟨Nat.le_of_ble_eq_true rfl, Nat.le_of_ble_eq_true rfl⟩ d_Model_slot_89) (fun r n2 I2 J2 R2 h => ?_)
          obtain ⟨rfl, e⟩ := h
          cases e
          rw [if_neg (by omega)]
          refine z_cv (z_rV X cs_Model_176 rfl rfl (zo_s rfl hW.1).1 (zo_s rfl hW.1).2 (c_Model_advert l g hW _ t (b2 h77 h84) (by omega) h31) ⟨Nat.le_of_ble_eq_true rfl, Nat.le_of_ble_eq_true rfl⟩ rfl rfl (Nat.le_of_ble_eq_true rfl) ⟨Nat.le_of_ble_eq_true rfl, Nat.le_of_ble_eq_true rfl⟩ d_Model_slot_92) (fun n2 I2 J2 R2 h => ?_)
          cases h
          generalize hI2 : zadv g.2.2.2 (tb (4 * (t % S)) / 10 % 10) (zbit (J 35 0 (t % h)) t) I1 = I2 at *
          have kp : ∀ k j, zmv k j = false → I2 k 0 j = I1 k 0 j := fun k j hk => by rw [← hI2]; exact zadv_keep hk
          have hW2 : zW g S h n I2 R := hW.low (fun k i j hk => by rw [← hI2]; exact zadv_keep (by rcases (show k < 29 from hk) with _; unfold zmv; simp; omega)) (fun j hj => kp 29 j (by rcases (show j = 0 ∨ j = 1 ∨ j = 2 by omega) with rfl | rfl | rfl <;> rfl))
          refine z_iconst (v := nI 0) X d_Model_slot_95 rfl ?_
          refine z_istore_n X d_Model_slot_96 (by decide) rfl ?_
          refine z_iload_n X d_Model_slot_97 rfl ?_
          refine z_aload_n X d_Model_slot_98 rfl ?_
          refine gf_Model_103 X (zo_s rfl hW.1) d_Model_slot_99 ?_
          refine z_top (congrArg Value.int (hW2.2.2.2.2.2.2.2.2.2.2.2)) ?_
          refine z_icmp_ge (tgt := 207) X d_Model_slot_102 (by decide) (fun hq => absurd hq (nI_ge (a := 0) (by omega) (by omega))) (fun _ => ?_)
          refine z_aload_n X d_Model_slot_105 rfl ?_
          refine gf_Model_135 X (zo_s rfl hW.1) d_Model_slot_106 ?_
          refine z_top (congrArg Value.int ((kp 29 12 rfl).trans hpl1.1)) ?_
          refine z_if_eq (tgt := 207) X d_Model_slot_109 (by decide) (fun hq => absurd hq (by decide)) (fun _ => ?_)
          refine z_iload_n X d_Model_slot_112 rfl ?_
          refine z_bipush (v := nI 100) X d_Model_slot_113 rfl ?_
          refine z_icmp_lt (tgt := 125) X d_Model_slot_115 (by decide) (fun hq => absurd hq (nI_nlt (by omega) (by omega))) (fun _ => ?_)
          refine z_iload_n X d_Model_slot_118 rfl ?_
          refine z_sipush (v := nI 200) X d_Model_slot_119 rfl ?_
          refine z_icmp_lt (tgt := 207) X d_Model_slot_122 (by decide) (fun _ => ?_) (fun hq => absurd hq (fun z => z (nI_lt (by omega) (by omega))))
          refine z_wk (ls2 := [some (.ref (zad g 29 0)), none, none, none, none, none]) ⟨rfl, trivial⟩ ?_
          have hzw : zslot g.2.2.2 S h true pf tb J t (zcan I) q = (zcan I2, q) := by rw [hzs, ← hcd]; exact (if_pos hal).trans (by rw [← hI2, zcan_adv]; rfl)
          exact KE I2 (by rw [hzw]) (by rw [hzw]; exact hq1.of (fun k j h1 h2 => kp k j (by unfold zmv; simp; omega))) (fun k i j hk => by rw [← hI2, zadv_keep (by unfold zmv; simp; omega)]; exact hlow k i j hk) hW2 (by rw [kp 29 3 rfl]; exact h31)
  -- the drifting
  have KL : ∀ (s b : Nat) (I1 : zI), b + s = g.2.2.2 → zW g S h n I1 R → zdrift g.2.2.2 I = zdrL s b I1 → zV pP l eE (zrm 3 77 0 0) sS mM aA bB mE cC g 6 (MQ bB (zQv g (fun u => ∃ I2, u = (n, I2, J, R) ∧ zcan I2 = zu (zslot g.2.2.2 S h pl pf tb J t (zcan I) q).1 29 0 3 (nI (t + 1)) ∧ zRT g.2.2.2 I2 (zslot g.2.2.2 S h pl pf tb J t (zcan I) q).2 ∧ ∀ k i j, k < 29 → I2 k i j = I k i j)) aA sS 0 0 (zA g)) 0 0 2 [some (.ref (zad g 29 0)), some (.int (nI b)), none, none, none, none] [] n I1 J R := by
    intro s
    induction s with
    | zero =>
      intro b I1 hb hW hz
      refine z_iload_n X d_Model_slot_2 rfl ?_
      refine z_aload_n X d_Model_slot_3 rfl ?_
      refine gf_Model_96 X (zo_s rfl hW.1) d_Model_slot_4 ?_
      refine z_top (congrArg Value.int (hW.2.2.2.2.2.2.2.2.2.1)) ?_
      refine z_icmp_ge (tgt := 44) X d_Model_slot_7 (by decide) (fun _ => ?_) (fun hq => absurd hq (fun z => z (nI_le (by omega) (by omega))))
      refine z_wk (ls2 := [some (.ref (zad g 29 0)), none, none, none, none, none]) ⟨rfl, trivial⟩ ?_
      exact KD I1 hz.symm hW
    | succ s ih =>
      intro b I1 hb hW hz
      have hz2 : zdrift g.2.2.2 I = zdrL s (b + 1) (zdr1 b I1) := hz
      refine z_iload_n X d_Model_slot_2 rfl ?_
      refine z_aload_n X d_Model_slot_3 rfl ?_
      refine gf_Model_96 X (zo_s rfl hW.1) d_Model_slot_4 ?_
      refine z_top (congrArg Value.int (hW.2.2.2.2.2.2.2.2.2.1)) ?_
      refine z_icmp_ge (tgt := 44) X d_Model_slot_7 (by decide) (fun hq => absurd hq (nI_ge (by omega) (by omega))) (fun _ => ?_)
      refine z_aload_n X d_Model_slot_10 rfl ?_
      refine gr_Model_19 (hW.c (k := 29) (f := 8) rfl rfl (by decide) rfl) X (zo_s rfl hW.1) d_Model_slot_11 ?_
      refine z_iload_n X d_Model_slot_14 rfl ?_
      refine z_dup2 X d_Model_slot_15 rfl rfl ?_
      refine al_33 X (zo_s rfl hW.1) rfl (by omega) d_Model_slot_16 ?_
      refine z_aload_n X d_Model_slot_17 rfl ?_
      refine gr_Model_13 (hW.c (k := 29) (f := 6) rfl rfl (by decide) rfl) X (zo_s rfl hW.1) d_Model_slot_18 ?_
      refine z_iload_n X d_Model_slot_21 rfl ?_
      refine al_31 X (zo_s rfl hW.1) rfl (by omega) d_Model_slot_22 ?_
      refine z_if_eq (tgt := 35) X d_Model_slot_23 (by decide) (fun h23 => ?_) (fun h23 => ?_)
      · refine z_iconst (v := nI 0) X d_Model_slot_35 rfl ?_
        refine z_iadd X d_Model_slot_36 ?_
        refine as_33 X (zo_s rfl hW.1) rfl (by omega) d_Model_slot_37 ?_
        refine z_eqI (I2 := zdr1 b I1) (by unfold zdr1; first | rw [if_pos h23] | rw [if_neg h23]) ?_
        refine z_iinc X d_Model_slot_38 rfl (zinc _) (by decide) rfl ?_
        refine z_goto (tgt := 2) X d_Model_slot_41 (by decide) ?_
        exact ih (b + 1) _ (by omega) (zdr1_W hW) hz2
      · refine z_aload_n X d_Model_slot_26 rfl ?_
        refine gr_Model_23 (hW.c (k := 29) (f := 9) rfl rfl (by decide) rfl) X (zo_s rfl hW.1) d_Model_slot_27 ?_
        refine z_iload_n X d_Model_slot_30 rfl ?_
        refine al_34 X (zo_s rfl hW.1) rfl (by omega) d_Model_slot_31 ?_
        refine z_goto (tgt := 36) X d_Model_slot_32 (by decide) ?_
        refine z_iadd X d_Model_slot_36 ?_
        refine as_33 X (zo_s rfl hW.1) rfl (by omega) d_Model_slot_37 ?_
        refine z_eqI (I2 := zdr1 b I1) (by unfold zdr1; first | rw [if_pos h23] | rw [if_neg h23]) ?_
        refine z_iinc X d_Model_slot_38 rfl (zinc _) (by decide) rfl ?_
        refine z_goto (tgt := 2) X d_Model_slot_41 (by decide) ?_
        exact ih (b + 1) _ (by omega) (zdr1_W hW) hz2
  refine z_iconst (v := nI 1) X d_Model_slot_0 rfl ?_
  refine z_istore_n X d_Model_slot_1 (by decide) rfl ?_
  exact KL (g.2.2.2 - 1) 1 I (by omega) hW rfl
theorem zslot_keep {c S h : Nat} {pl : Bool} {pf tb : Nat → Nat} {J : zJ} {t : Nat} {A : zI} {q : zq} {k i j : Nat} (hk : zmv k j = false) : (zslot c S h pl pf tb J t A q).1 k i j = A k i j := by
  have h33 : k ≠ 33 := (zmv_n hk).2.2.1
  unfold zslot
  split
  · rw [zwork_keep hk, zdrift_keep h33]
  · exact zdrift_keep h33
def zgRun (x : Int32) (m : Nat) : Prop := 1 ≤ m ∧ m ≤ 64 ∧ x = nI m
theorem c_Model_run (l : Launch) (g : zG) {S h n : Nat} {I : zI} {J : zJ} {R : zR} (hW : zW g S h n I R) (q : zq) (hq : zRT g.2.2.2 I q) (pl : Bool) (pf tb : Nat → Nat) (hpl : zPl g.2.2.2 pl pf tb I) (t : Nat) (ht : t < 2 ^ 28) (h3 : I 29 0 3 = nI t) (x : Int32) : zMet l g y_Model_run b_Model_run 3 (some .int) 4 102 0 0 (zPc g [.ref (zad g 29 0), .int x] n I J R) (zQi g (fun r u => (∃ m, zgRun x m ∧ r = nI (t + m) ∧ ∃ I2, u = (n, I2, J, R) ∧ zcan I2 = (zrun g.2.2.2 S h pl pf tb J m t (zcan I) q).1 ∧ zRT g.2.2.2 I2 (zrun g.2.2.2 S h pl pf tb J m t (zcan I) q).2 ∧ ∀ k i j, k < 29 → I2 k i j = I k i j) ∨ ((¬ ∃ m, zgRun x m) ∧ r = -1 ∧ u = (n, I, J, R)))) := by
  refine zMet.of (by decide) [some (.ref (zad g 29 0)), some (.int x), none] rfl (Nat.le_of_ble_eq_true rfl) ?_
  intro pP eE sS mM aA bB mE cC X hret hnm
  have X : zC pP sS mM aA mE cC b_Model_run "SlottedMeshModel" 3 g := X
  have hret : mE.sig.returnType = (some .int) := hret
  have KL : ∀ (m s k : Nat) (I1 : zI) (q1 : zq), x = nI m → 1 ≤ m → m ≤ 64 → k + s = m → zW g S h n I1 R → zRT g.2.2.2 I1 q1 → zPl g.2.2.2 pl pf tb I1 → I1 29 0 3 = nI (t + k) → (∀ k i j, k < 29 → I1 k i j = I k i j) → zrun g.2.2.2 S h pl pf tb J m t (zcan I) q = zrun g.2.2.2 S h pl pf tb J s (t + k) (zcan I1) q1 → zV pP l eE (zrm 4 102 0 0) sS mM aA bB mE cC g 3 (MQ bB (zQi g (fun r u => (∃ m, zgRun x m ∧ r = nI (t + m) ∧ ∃ I2, u = (n, I2, J, R) ∧ zcan I2 = (zrun g.2.2.2 S h pl pf tb J m t (zcan I) q).1 ∧ zRT g.2.2.2 I2 (zrun g.2.2.2 S h pl pf tb J m t (zcan I) q).2 ∧ ∀ k i j, k < 29 → I2 k i j = I k i j) ∨ ((¬ ∃ m, zgRun x m) ∧ r = -1 ∧ u = (n, I, J, R)))) aA sS 0 0 (zA g)) 0 0 15 [some (.ref (zad g 29 0)), some (.int x), some (.int (nI k))] [] n I1 J R := by
    intro m s
    induction s with
    | zero =>
      intro k I1 q1 hx h1 h2 hk hW hq1 hpl1 h31 hlow hz
      subst hx
      refine z_iload_n X d_Model_run_15 rfl ?_
      refine z_iload_n X d_Model_run_16 rfl ?_
      refine z_icmp_ge (tgt := 30) X d_Model_run_17 (by decide) (fun _ => ?_) (fun hq => absurd hq (fun z => z (nI_le (by omega) (by omega))))
      refine z_aload_n X d_Model_run_30 rfl ?_
      refine gf_Model_147 X (zo_s rfl hW.1) d_Model_run_31 ?_
      refine z_top (congrArg Value.int (h31)) ?_
      exact z_iret X hret rfl (Nat.zero_le _) (Nat.zero_le _) (Or.inl ⟨m, ⟨h1, h2, rfl⟩, by rw [show t + k = t + m by omega], I1, rfl, by rw [hz]; rfl, by rw [hz]; exact hq1, hlow⟩) d_Model_run_34
    | succ s ih =>
      intro k I1 q1 hx h1 h2 hk hW hq1 hpl1 h31 hlow hz
      have hx' := hx
      subst hx
      refine z_iload_n X d_Model_run_15 rfl ?_
      refine z_iload_n X d_Model_run_16 rfl ?_
      refine z_icmp_ge (tgt := 30) X d_Model_run_17 (by decide) (fun hq => absurd hq (nI_ge (by omega) (by omega))) (fun _ => ?_)
      refine z_aload_n X d_Model_run_20 rfl ?_
      refine z_cv (z_rV X cs_Model_185 rfl rfl (zo_s rfl hW.1).1 (zo_s rfl hW.1).2 (c_Model_slot l g hW q1 hq1 pl pf tb hpl1 (t + k) (by omega) h31) ⟨Nat.le_of_ble_eq_true rfl, Nat.le_of_ble_eq_true rfl⟩ rfl rfl (Nat.le_of_ble_eq_true rfl) ⟨Nat.le_of_ble_eq_true rfl, Nat.le_of_ble_eq_true rfl⟩ d_Model_run_21) (fun n3 I3 J3 R3 h => ?_)
      obtain ⟨I4, e, e1, e2, e3⟩ := h
      cases e
      have kp : ∀ k j, zmv k j = false → zjk k = false → ¬ (k = 29 ∧ j = 3) → I3 k 0 j = I1 k 0 j := fun k j hk hj h29 => by
        have := congrFun (congrFun (congrFun e1 k) 0) j
        rw [zu_oth (fun z => h29 ⟨z.1, z.2.2⟩), zslot_keep hk] at this
        unfold zcan at this
        rw [hj] at this
        exact this
      refine z_iinc X d_Model_run_24 rfl (zinc _) (by decide) rfl ?_
      refine z_goto (tgt := 15) X d_Model_run_27 (by decide) ?_
      exact ih (k + 1) I3 _ rfl h1 h2 (by omega) (hW.low e3 (fun j hj => kp 29 j (by rcases (show j = 0 ∨ j = 1 ∨ j = 2 by omega) with rfl | rfl | rfl <;> rfl) rfl (by omega))) e2 (hpl1.of (kp 29 12 rfl rfl (by omega)) (fun y => kp 39 y rfl rfl (by omega)) (fun y => kp 38 y rfl rfl (by omega))) (by show zcan I3 29 0 3 = _; rw [e1, zu_s]; rfl) (fun k i j hk => by rw [e3 k i j hk]; exact hlow k i j hk) (by rw [hz, e1]; rfl)
  refine z_iload_n X d_Model_run_0 rfl ?_
  refine z_iconst (v := nI 1) X d_Model_run_1 rfl ?_
  refine z_icmp_lt (tgt := 11) X d_Model_run_2 (by decide) (fun h2 => ?_) (fun h2 => ?_)
  · refine z_iconst (v := -1) X d_Model_run_11 rfl ?_
    exact z_iret X hret rfl (Nat.zero_le _) (Nat.zero_le _) (Or.inr ⟨fun ⟨m, q1, q2, q3⟩ => by first | (rw [q3] at h2; exact nI_nlt q1 (by omega) h2) | (rw [q3] at h8; exact h8 (nI_le q2 (by omega))), rfl, rfl⟩) d_Model_run_12
  · refine z_iload_n X d_Model_run_5 rfl ?_
    refine z_bipush (v := nI 64) X d_Model_run_6 rfl ?_
    refine z_icmp_le (tgt := 13) X d_Model_run_8 (by decide) (fun h8 => ?_) (fun h8 => ?_)
    · obtain ⟨m, hm, rfl⟩ : ∃ m, m ≤ 64 ∧ x = nI m := nI_of2 (M := nI 64) rfl (fun z => h2 (by rw [Int32.lt_iff_toInt_lt] at z ⊢; exact Int.lt_of_lt_of_le z (by decide))) h8
      have hm1 : 1 ≤ m := Nat.pos_of_ne_zero (fun z => h2 (by subst z; decide))
      refine z_iconst (v := nI 0) X d_Model_run_13 rfl ?_
      refine z_istore_n X d_Model_run_14 (by decide) rfl ?_
      exact KL m m 0 I q rfl hm1 hm (by omega) hW hq hpl h3 (fun _ _ _ _ => rfl) rfl
    · refine z_iconst (v := -1) X d_Model_run_11 rfl ?_
      exact z_iret X hret rfl (Nat.zero_le _) (Nat.zero_le _) (Or.inr ⟨fun ⟨m, q1, q2, q3⟩ => by first | (rw [q3] at h2; exact nI_nlt q1 (by omega) h2) | (rw [q3] at h8; exact h8 (nI_le q2 (by omega))), rfl, rfl⟩) d_Model_run_12

