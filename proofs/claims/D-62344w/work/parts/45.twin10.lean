/-! THE TWIN'S PLACE, PLACEALL -/
theorem zk1_lt (k : Nat) : zk1 k < 10 := by unfold zk1; split <;> omega
theorem zk2_lt (k : Nat) : zk2 k < 10 := by unfold zk2; split <;> omega
theorem nI_pred1 (n : Nat) : nI (n + 1) - nI 1 = nI n := nI_pred n
theorem zdec2 (i : Nat) : nI (i + 1) - nI 1 + Int32.ofInt (-1) = nI i - nI 1 := by
  rw [nI_pred1, Int32.sub_eq_add_neg]
  rfl
theorem zTT.put {T : Nat → Nat} {I : zI} {j k : Nat} (h : zTT T I) (hk : k < 400) : zTT (zput j k T) (zu I 42 0 j (nI k)) := by
  intro i hi
  obtain ⟨h1, h2⟩ := h i hi
  unfold zput
  rw [zu_if]
  by_cases e : i = j
  · rw [if_pos ⟨rfl, rfl, e⟩, if_pos e]; exact ⟨rfl, hk⟩
  · rw [if_neg (fun z => e z.2.2), if_neg e]; exact ⟨h1, h2⟩
theorem c_Model_place (l : Launch) (g : zG) {S h n : Nat} {I : zI} {J : zJ} {R : zR} (hW : zW g S h n I R) (T : Nat → Nat) (hT : zTT T I) (k : Nat) (hk : 200 ≤ k) (hk4 : k < 400) : zMet l g y_Model_place b_Model_place 8 (some .boolean) 1 20 0 0 (zPc g [.ref (zad g 29 0), .int (nI k)] n I J R) (zQi g (fun r u => (zlfr S h T k = none ∧ r = nI 0 ∧ u = (n, I, J, R)) ∨ (∃ s ch, zlfr S h T k = some s ∧ zfnd (zfrc T s) h 0 = some ch ∧ r = nI 1 ∧ u = (n, zu I 42 0 (4 * s + ch) (nI k), J, R)))) := by
  have hS := hW.2.2.1
  have hh := hW.2.2.2.1
  refine zMet.of (by decide) [some (.ref (zad g 29 0)), some (.int (nI k)), none, none, none, none, none, none] rfl (Nat.le_of_ble_eq_true rfl) ?_
  intro pP eE sS mM aA bB mE cC X hret hnm
  have X : zC pP sS mM aA mE cC b_Model_place "SlottedMeshModel" 8 g := X
  have hret : mE.sig.returnType = (some .boolean) := hret
  have KO : ∀ (m s : Nat), s + m = S → zlfr S h T k = zfnd (zfit h T k) m s → zV pP l eE (zrm 1 20 0 0) sS mM aA bB mE cC g 8 (MQ bB (zQi g (fun r u => (zlfr S h T k = none ∧ r = nI 0 ∧ u = (n, I, J, R)) ∨ (∃ s ch, zlfr S h T k = some s ∧ zfnd (zfrc T s) h 0 = some ch ∧ r = nI 1 ∧ u = (n, zu I 42 0 (4 * s + ch) (nI k), J, R)))) aA sS 0 0 (zA g)) 0 0 2 [some (.ref (zad g 29 0)), some (.int (nI k)), some (.int (nI s)), none, none, none, none, none] [] n I J R := by
    intro m
    induction m with
    | zero =>
      intro s hs hz
      refine z_iload_n X d_Model_place_2 rfl ?_
      refine z_aload_n X d_Model_place_3 rfl ?_
      refine gf_Model_100 X (zo_s rfl hW.1) d_Model_place_4 ?_
      refine z_top (congrArg Value.int (hW.2.2.2.2.2.2.2.2.2.2.1)) ?_
      refine z_icmp_ge (tgt := 195) X d_Model_place_7 (by decide) (fun _ => ?_) (fun hq => absurd hq (fun z => z (nI_le (by omega) (by omega))))
      refine z_iconst (v := nI 0) X d_Model_place_195 rfl ?_
      exact z_iret X hret rfl (Nat.zero_le _) (Nat.zero_le _) (Or.inl ⟨hz, rfl, rfl⟩) d_Model_place_196
    | succ m ih =>
      intro s hs hz
      unfold zfnd at hz
      have h400 := (hT (4 * s) (by omega)).2
      -- the channels
      have KI : ∀ (i : Nat), i ≤ h → zV pP l eE (zrm 1 20 0 0) sS mM aA bB mE cC g 8 (MQ bB (zQi g (fun r u => (zlfr S h T k = none ∧ r = nI 0 ∧ u = (n, I, J, R)) ∨ (∃ s ch, zlfr S h T k = some s ∧ zfnd (zfrc T s) h 0 = some ch ∧ r = nI 1 ∧ u = (n, zu I 42 0 (4 * s + ch) (nI k), J, R)))) aA sS 0 0 (zA g)) 0 0 54 [some (.ref (zad g 29 0)), some (.int (nI k)), some (.int (nI s)), some (.int (zo1 (zfnd (zfrc T s) (h - i) i))), some (.int (if (zlone T s && zall (zokc T k s) (h - i) i) = true then nI 1 else nI 0)), some (.int (nI i - nI 1)), none, none] [] n I J R := by
        intro i
        induction i with
        | zero =>
          intro _
          refine z_iload X d_Model_place_54 rfl ?_
          refine z_if_lt (tgt := 167) X d_Model_place_56 (by decide) (fun _ => ?_) (fun hq => absurd hq (fun z => z (by decide)))
          by_cases hft : zfit h T k s = true
          · rw [if_pos hft] at hz
            have hft2 := hft
            unfold zfit at hft2
            simp only [Bool.and_eq_true] at hft2
            obtain ⟨f1, f2, f3⟩ := hft2
            obtain ⟨ch, hch⟩ := Option.isSome_iff_exists.mp f3
            obtain ⟨-, c2, -⟩ := zfnd_some hch
            refine z_iload X d_Model_place_167 rfl ?_
            refine z_if_eq (tgt := 189) X d_Model_place_169 (by decide) (fun hq => absurd hq (by rw [Nat.sub_zero, f1, f2]; decide)) (fun _ => ?_)
            refine z_iload_n X d_Model_place_172 rfl ?_
            refine z_top (v2 := .int (nI ch)) (congrArg Value.int (by rw [Nat.sub_zero, hch]; rfl)) ?_
            refine z_if_lt (tgt := 189) X d_Model_place_173 (by decide) (fun hq => absurd hq (nI_pos (by omega))) (fun _ => ?_)
            refine z_aload_n X d_Model_place_176 rfl ?_
            refine gr_Model_48 (hW.c (k := 29) (f := 18) rfl rfl (by decide) rfl) X (zo_s rfl hW.1) d_Model_place_177 ?_
            refine z_iconst (v := nI 4) X d_Model_place_180 rfl ?_
            refine z_iload_n X d_Model_place_181 rfl ?_
            refine z_imul X d_Model_place_182 ?_
            refine z_iload_n X d_Model_place_183 rfl ?_
            refine z_iadd X d_Model_place_184 ?_
            refine z_iload_n X d_Model_place_185 rfl ?_
            refine as_42 (j := 4 * s + ch) X (zo_s rfl hW.1) (by rw [Nat.sub_zero, hch]; exact zidx4 s ch) (by omega) d_Model_place_186 ?_
            refine z_iconst (v := nI 1) X d_Model_place_187 rfl ?_
            exact z_iret X hret rfl (Nat.zero_le _) (Nat.zero_le _) (Or.inr ⟨s, ch, hz, hch, rfl, rfl⟩) d_Model_place_188
          · rw [if_neg hft] at hz
            have nxt : zV pP l eE (zrm 1 20 0 0) sS mM aA bB mE cC g 8 (MQ bB (zQi g (fun r u => (zlfr S h T k = none ∧ r = nI 0 ∧ u = (n, I, J, R)) ∨ (∃ s ch, zlfr S h T k = some s ∧ zfnd (zfrc T s) h 0 = some ch ∧ r = nI 1 ∧ u = (n, zu I 42 0 (4 * s + ch) (nI k), J, R)))) aA sS 0 0 (zA g)) 0 0 189 [some (.ref (zad g 29 0)), some (.int (nI k)), some (.int (nI s)), none, none, none, none, none] [] n I J R := by
              refine z_iinc X d_Model_place_189 rfl (zinc _) (by decide) rfl ?_
              refine z_goto (tgt := 2) X d_Model_place_192 (by decide) ?_
              exact ih (s + 1) (by omega) hz
            refine z_iload X d_Model_place_167 rfl ?_
            by_cases hgd : (zlone T s && zall (zokc T k s) h 0) = true
            · refine z_if_eq (tgt := 189) X d_Model_place_169 (by decide) (fun hq => absurd hq (by rw [Nat.sub_zero, hgd]; decide)) (fun _ => ?_)
              refine z_iload_n X d_Model_place_172 rfl ?_
              have hnn : zfnd (zfrc T s) h 0 = none := by
                cases hx : zfnd (zfrc T s) h 0 with
                | none => rfl
                | some ch =>
                  refine absurd ?_ hft
                  unfold zfit
                  rw [← Bool.and_assoc, hgd, hx]; rfl
              refine z_if_lt (tgt := 189) X d_Model_place_173 (by decide) (fun _ => ?_) (fun hq => absurd hq (fun z => z (by rw [Nat.sub_zero, hnn]; decide)))
              refine z_wk (ls2 := [some (.ref (zad g 29 0)), some (.int (nI k)), some (.int (nI s)), none, none, none, none, none]) ⟨rfl, rfl, rfl, trivial⟩ ?_
              exact nxt
            · refine z_if_eq (tgt := 189) X d_Model_place_169 (by decide) (fun _ => ?_) (fun hq => absurd hq (fun z => z (by rw [Nat.sub_zero, if_neg hgd]; rfl)))
              refine z_wk (ls2 := [some (.ref (zad g 29 0)), some (.int (nI k)), some (.int (nI s)), none, none, none, none, none]) ⟨rfl, rfl, rfl, trivial⟩ ?_
              exact nxt
        | succ ch ihc =>
          intro hch
          obtain ⟨o1, o2⟩ := hT (4 * s + ch) (by omega)
          have hsh : h - ch = (h - (ch + 1)) + 1 := by omega
          have efr : zfnd (zfrc T s) (h - ch) ch = if zfrc T s ch = true then some ch else zfnd (zfrc T s) (h - (ch + 1)) (ch + 1) := by rw [hsh]; rfl
          have eal : zall (zokc T k s) (h - ch) ch = (zokc T k s ch && zall (zokc T k s) (h - (ch + 1)) (ch + 1)) := by rw [hsh]; rfl
          have ihc := ihc (by omega)
          rw [eal] at ihc
          have K139 : zV pP l eE (zrm 1 20 0 0) sS mM aA bB mE cC g 8 (MQ bB (zQi g (fun r u => (zlfr S h T k = none ∧ r = nI 0 ∧ u = (n, I, J, R)) ∨ (∃ s ch, zlfr S h T k = some s ∧ zfnd (zfrc T s) h 0 = some ch ∧ r = nI 1 ∧ u = (n, zu I 42 0 (4 * s + ch) (nI k), J, R)))) aA sS 0 0 (zA g)) 0 0 139 [some (.ref (zad g 29 0)), some (.int (nI k)), some (.int (nI s)), some (.int (zo1 (zfnd (zfrc T s) (h - ch) ch))), some (.int (if (zlone T s && zall (zokc T k s) (h - (ch + 1)) (ch + 1)) = true then nI 1 else nI 0)), some (.int (nI (ch + 1) - nI 1)), some (.int (nI (T (4 * s + ch)))), some (.int (if zclash (T (4 * s + ch)) k = true then nI 1 else nI 0))] [] n I J R := by
            have K159 : ∀ (b : Bool), (zlone T s && (zokc T k s ch && zall (zokc T k s) (h - (ch + 1)) (ch + 1))) = b → zV pP l eE (zrm 1 20 0 0) sS mM aA bB mE cC g 8 (MQ bB (zQi g (fun r u => (zlfr S h T k = none ∧ r = nI 0 ∧ u = (n, I, J, R)) ∨ (∃ s ch, zlfr S h T k = some s ∧ zfnd (zfrc T s) h 0 = some ch ∧ r = nI 1 ∧ u = (n, zu I 42 0 (4 * s + ch) (nI k), J, R)))) aA sS 0 0 (zA g)) 0 0 159 [some (.ref (zad g 29 0)), some (.int (nI k)), some (.int (nI s)), some (.int (zo1 (zfnd (zfrc T s) (h - ch) ch))), none, some (.int (nI (ch + 1) - nI 1)), none, none] [.int (if b = true then nI 1 else nI 0)] n I J R := by
              intro b hb
              rw [hb] at ihc
              refine z_istore X d_Model_place_159 (by decide) rfl ?_
              refine z_iinc X d_Model_place_161 rfl (zdec2 ch) (by decide) rfl ?_
              refine z_goto (tgt := 54) X d_Model_place_164 (by decide) ?_
              exact ihc
            refine z_iload X d_Model_place_139 rfl ?_
            by_cases hg0 : (zlone T s && zall (zokc T k s) (h - (ch + 1)) (ch + 1)) = true
            · simp only [Bool.and_eq_true] at hg0
              refine z_if_eq (tgt := 158) X d_Model_place_141 (by decide) (fun hq => absurd hq (by rw [hg0.1, hg0.2]; decide)) (fun _ => ?_)
              refine z_iload X d_Model_place_144 rfl ?_
              by_cases ho : T (4 * s + ch) = 0
              · refine z_if_eq (tgt := 154) X d_Model_place_146 (by decide) (fun _ => ?_) (fun hq => absurd hq (fun z => z (by rw [ho]; rfl)))
                refine z_iconst (v := nI 1) X d_Model_place_154 rfl ?_
                refine z_goto (tgt := 159) X d_Model_place_155 (by decide) ?_
                refine z_wk (ls2 := [some (.ref (zad g 29 0)), some (.int (nI k)), some (.int (nI s)), some (.int (zo1 (zfnd (zfrc T s) (h - ch) ch))), none, some (.int (nI (ch + 1) - nI 1)), none, none]) ⟨rfl, rfl, rfl, rfl, rfl, trivial⟩ ?_
                exact K159 true (by rw [hg0.1, hg0.2]; unfold zokc; rw [ho]; rfl)
              · refine z_if_eq (tgt := 154) X d_Model_place_146 (by decide) (fun hq => absurd hq (fun z => ho (nI_inj (b := 0) (by omega) (by omega) z))) (fun _ => ?_)
                refine z_iload X d_Model_place_149 rfl ?_
                cases hcl : zclash (T (4 * s + ch)) k with
                | true =>
                  refine z_if_ne (tgt := 158) X d_Model_place_151 (by decide) (fun _ => ?_) (fun hq => absurd hq (by decide))
                  refine z_iconst (v := nI 0) X d_Model_place_158 rfl ?_
                  refine z_wk (ls2 := [some (.ref (zad g 29 0)), some (.int (nI k)), some (.int (nI s)), some (.int (zo1 (zfnd (zfrc T s) (h - ch) ch))), none, some (.int (nI (ch + 1) - nI 1)), none, none]) ⟨rfl, rfl, rfl, rfl, rfl, trivial⟩ ?_
                  exact K159 false (by rw [hg0.1]; unfold zokc; rw [hcl]; simp [ho])
                | false =>
                  refine z_if_ne (tgt := 158) X d_Model_place_151 (by decide) (fun hq => absurd hq (by decide)) (fun _ => ?_)
                  refine z_iconst (v := nI 1) X d_Model_place_154 rfl ?_
                  refine z_goto (tgt := 159) X d_Model_place_155 (by decide) ?_
                  refine z_wk (ls2 := [some (.ref (zad g 29 0)), some (.int (nI k)), some (.int (nI s)), some (.int (zo1 (zfnd (zfrc T s) (h - ch) ch))), none, some (.int (nI (ch + 1) - nI 1)), none, none]) ⟨rfl, rfl, rfl, rfl, rfl, trivial⟩ ?_
                  exact K159 true (by rw [hg0.1, hg0.2]; unfold zokc; rw [hcl]; simp)
            · refine z_if_eq (tgt := 158) X d_Model_place_141 (by decide) (fun _ => ?_) (fun hq => absurd hq (fun z => z (by rw [if_neg hg0]; rfl)))
              refine z_iconst (v := nI 0) X d_Model_place_158 rfl ?_
              refine z_wk (ls2 := [some (.ref (zad g 29 0)), some (.int (nI k)), some (.int (nI s)), some (.int (zo1 (zfnd (zfrc T s) (h - ch) ch))), none, some (.int (nI (ch + 1) - nI 1)), none, none]) ⟨rfl, rfl, rfl, rfl, rfl, trivial⟩ ?_
              exact K159 false (by
                cases h1 : zlone T s
                · rfl
                · cases h2 : zall (zokc T k s) (h - (ch + 1)) (ch + 1)
                  · simp
                  · exact absurd (by rw [h1, h2]; rfl) hg0)
          have K137 : ∀ (b : Bool), zclash (T (4 * s + ch)) k = b → zV pP l eE (zrm 1 20 0 0) sS mM aA bB mE cC g 8 (MQ bB (zQi g (fun r u => (zlfr S h T k = none ∧ r = nI 0 ∧ u = (n, I, J, R)) ∨ (∃ s ch, zlfr S h T k = some s ∧ zfnd (zfrc T s) h 0 = some ch ∧ r = nI 1 ∧ u = (n, zu I 42 0 (4 * s + ch) (nI k), J, R)))) aA sS 0 0 (zA g)) 0 0 137 [some (.ref (zad g 29 0)), some (.int (nI k)), some (.int (nI s)), some (.int (zo1 (zfnd (zfrc T s) (h - ch) ch))), some (.int (if (zlone T s && zall (zokc T k s) (h - (ch + 1)) (ch + 1)) = true then nI 1 else nI 0)), some (.int (nI (ch + 1) - nI 1)), some (.int (nI (T (4 * s + ch)))), none] [.int (if b = true then nI 1 else nI 0)] n I J R := by
            intro b hb
            rw [hb] at K139
            refine z_istore X d_Model_place_137 (by decide) rfl ?_
            exact K139
          have K84 : zV pP l eE (zrm 1 20 0 0) sS mM aA bB mE cC g 8 (MQ bB (zQi g (fun r u => (zlfr S h T k = none ∧ r = nI 0 ∧ u = (n, I, J, R)) ∨ (∃ s ch, zlfr S h T k = some s ∧ zfnd (zfrc T s) h 0 = some ch ∧ r = nI 1 ∧ u = (n, zu I 42 0 (4 * s + ch) (nI k), J, R)))) aA sS 0 0 (zA g)) 0 0 84 [some (.ref (zad g 29 0)), some (.int (nI k)), some (.int (nI s)), some (.int (zo1 (zfnd (zfrc T s) (h - ch) ch))), some (.int (if (zlone T s && zall (zokc T k s) (h - (ch + 1)) (ch + 1)) = true then nI 1 else nI 0)), some (.int (nI (ch + 1) - nI 1)), some (.int (nI (T (4 * s + ch)))), none] [] n I J R := by
            have b1 := zk1_lt k
            have b2 := zk2_lt k
            have b3 := zk1_lt (T (4 * s + ch))
            have b4 := zk2_lt (T (4 * s + ch))
            have fo : ∀ k : Nat, nI (if k = 0 then 9 else k / 10 % 10) = nI (zk1 k) := fun _ => rfl
            have so : ∀ k : Nat, nI (if k < 200 then 9 else k % 10) = nI (zk2 k) := fun _ => rfl
            refine z_iload X d_Model_place_84 rfl ?_
            refine z_ci (z_rS X cs_Model_112 (c_Model_first l g _ (by omega)) ⟨Nat.le_of_ble_eq_true rfl, Nat.le_of_ble_eq_true rfl⟩ rfl rfl (Nat.le_of_ble_eq_true rfl) ⟨Nat.le_of_ble_eq_true rfl, Nat.le_of_ble_eq_true rfl⟩ d_Model_place_86) (fun r n2 I2 J2 R2 h => ?_)
            obtain ⟨rfl, e⟩ := h
            cases e
            refine z_top (congrArg Value.int (fo _)) ?_
            refine z_iload_n X d_Model_place_89 rfl ?_
            refine z_ci (z_rS X cs_Model_112 (c_Model_first l g _ (by omega)) ⟨Nat.le_of_ble_eq_true rfl, Nat.le_of_ble_eq_true rfl⟩ rfl rfl (Nat.le_of_ble_eq_true rfl) ⟨Nat.le_of_ble_eq_true rfl, Nat.le_of_ble_eq_true rfl⟩ d_Model_place_90) (fun r n2 I2 J2 R2 h => ?_)
            obtain ⟨rfl, e⟩ := h
            cases e
            refine z_top (congrArg Value.int (fo _)) ?_
            refine z_icmpN_eq (tgt := 132) X d_Model_place_93 (by decide) (by omega) (by omega) (fun h93 => ?_) (fun h93 => ?_)
            · refine z_iconst (v := nI 1) X d_Model_place_132 rfl ?_
              refine z_goto (tgt := 137) X d_Model_place_133 (by decide) ?_
              exact K137 true (by unfold zclash; first | (simp [h93]; done) | (simp [h105]; done) | (simp [h117]; done) | (simp [h129]; done))
            · refine z_iload X d_Model_place_96 rfl ?_
              refine z_ci (z_rS X cs_Model_112 (c_Model_first l g _ (by omega)) ⟨Nat.le_of_ble_eq_true rfl, Nat.le_of_ble_eq_true rfl⟩ rfl rfl (Nat.le_of_ble_eq_true rfl) ⟨Nat.le_of_ble_eq_true rfl, Nat.le_of_ble_eq_true rfl⟩ d_Model_place_98) (fun r n2 I2 J2 R2 h => ?_)
              obtain ⟨rfl, e⟩ := h
              cases e
              refine z_top (congrArg Value.int (fo _)) ?_
              refine z_iload_n X d_Model_place_101 rfl ?_
              refine z_ci (z_rS X cs_Model_116 (c_Model_second l g _ (by omega)) ⟨Nat.le_of_ble_eq_true rfl, Nat.le_of_ble_eq_true rfl⟩ rfl rfl (Nat.le_of_ble_eq_true rfl) ⟨Nat.le_of_ble_eq_true rfl, Nat.le_of_ble_eq_true rfl⟩ d_Model_place_102) (fun r n2 I2 J2 R2 h => ?_)
              obtain ⟨rfl, e⟩ := h
              cases e
              refine z_top (congrArg Value.int (so _)) ?_
              refine z_icmpN_eq (tgt := 132) X d_Model_place_105 (by decide) (by omega) (by omega) (fun h105 => ?_) (fun h105 => ?_)
              · refine z_iconst (v := nI 1) X d_Model_place_132 rfl ?_
                refine z_goto (tgt := 137) X d_Model_place_133 (by decide) ?_
                exact K137 true (by unfold zclash; first | (simp [h93]; done) | (simp [h105]; done) | (simp [h117]; done) | (simp [h129]; done))
              · refine z_iload X d_Model_place_108 rfl ?_
                refine z_ci (z_rS X cs_Model_116 (c_Model_second l g _ (by omega)) ⟨Nat.le_of_ble_eq_true rfl, Nat.le_of_ble_eq_true rfl⟩ rfl rfl (Nat.le_of_ble_eq_true rfl) ⟨Nat.le_of_ble_eq_true rfl, Nat.le_of_ble_eq_true rfl⟩ d_Model_place_110) (fun r n2 I2 J2 R2 h => ?_)
                obtain ⟨rfl, e⟩ := h
                cases e
                refine z_top (congrArg Value.int (so _)) ?_
                refine z_iload_n X d_Model_place_113 rfl ?_
                refine z_ci (z_rS X cs_Model_112 (c_Model_first l g _ (by omega)) ⟨Nat.le_of_ble_eq_true rfl, Nat.le_of_ble_eq_true rfl⟩ rfl rfl (Nat.le_of_ble_eq_true rfl) ⟨Nat.le_of_ble_eq_true rfl, Nat.le_of_ble_eq_true rfl⟩ d_Model_place_114) (fun r n2 I2 J2 R2 h => ?_)
                obtain ⟨rfl, e⟩ := h
                cases e
                refine z_top (congrArg Value.int (fo _)) ?_
                refine z_icmpN_eq (tgt := 132) X d_Model_place_117 (by decide) (by omega) (by omega) (fun h117 => ?_) (fun h117 => ?_)
                · refine z_iconst (v := nI 1) X d_Model_place_132 rfl ?_
                  refine z_goto (tgt := 137) X d_Model_place_133 (by decide) ?_
                  exact K137 true (by unfold zclash; first | (simp [h93]; done) | (simp [h105]; done) | (simp [h117]; done) | (simp [h129]; done))
                · refine z_iload X d_Model_place_120 rfl ?_
                  refine z_ci (z_rS X cs_Model_116 (c_Model_second l g _ (by omega)) ⟨Nat.le_of_ble_eq_true rfl, Nat.le_of_ble_eq_true rfl⟩ rfl rfl (Nat.le_of_ble_eq_true rfl) ⟨Nat.le_of_ble_eq_true rfl, Nat.le_of_ble_eq_true rfl⟩ d_Model_place_122) (fun r n2 I2 J2 R2 h => ?_)
                  obtain ⟨rfl, e⟩ := h
                  cases e
                  refine z_top (congrArg Value.int (so _)) ?_
                  refine z_iload_n X d_Model_place_125 rfl ?_
                  refine z_ci (z_rS X cs_Model_116 (c_Model_second l g _ (by omega)) ⟨Nat.le_of_ble_eq_true rfl, Nat.le_of_ble_eq_true rfl⟩ rfl rfl (Nat.le_of_ble_eq_true rfl) ⟨Nat.le_of_ble_eq_true rfl, Nat.le_of_ble_eq_true rfl⟩ d_Model_place_126) (fun r n2 I2 J2 R2 h => ?_)
                  obtain ⟨rfl, e⟩ := h
                  cases e
                  refine z_top (congrArg Value.int (so _)) ?_
                  refine z_icmpN_ne (tgt := 136) X d_Model_place_129 (by decide) (by omega) (by omega) (fun h129 => ?_) (fun h129 => ?_)
                  · refine z_iconst (v := nI 0) X d_Model_place_136 rfl ?_
                    exact K137 false (by unfold zclash; simp [h93, h105, h117, h129])
                  · refine z_iconst (v := nI 1) X d_Model_place_132 rfl ?_
                    refine z_goto (tgt := 137) X d_Model_place_133 (by decide) ?_
                    exact K137 true (by unfold zclash; first | (simp [h93]; done) | (simp [h105]; done) | (simp [h117]; done) | (simp [h129]; done))
          refine z_iload X d_Model_place_54 rfl ?_
          refine z_top (v2 := .int (nI ch)) (congrArg Value.int (nI_pred ch)) ?_
          refine z_if_lt (tgt := 167) X d_Model_place_56 (by decide) (fun hq => absurd hq (nI_pos (by omega))) (fun _ => ?_)
          refine z_aload_n X d_Model_place_59 rfl ?_
          refine gr_Model_48 (hW.c (k := 29) (f := 18) rfl rfl (by decide) rfl) X (zo_s rfl hW.1) d_Model_place_60 ?_
          refine z_iconst (v := nI 4) X d_Model_place_63 rfl ?_
          refine z_iload_n X d_Model_place_64 rfl ?_
          refine z_imul X d_Model_place_65 ?_
          refine z_iload X d_Model_place_66 rfl ?_
          refine z_iadd X d_Model_place_68 ?_
          refine al_42 (j := 4 * s + ch) X (zo_s rfl hW.1) (by rw [nI_pred1]; exact zidx4 s ch) (by omega) d_Model_place_69 ?_
          refine z_top (v2 := .int (nI (T (4 * s + ch)))) (congrArg Value.int o1) ?_
          refine z_istore X d_Model_place_70 (by decide) rfl ?_
          refine z_iload X d_Model_place_72 rfl ?_
          by_cases ho : T (4 * s + ch) = 0
          · refine z_if_ne (tgt := 82) X d_Model_place_74 (by decide) (fun hq => absurd hq (fun z => z (by rw [ho]; rfl))) (fun _ => ?_)
            refine z_iload X d_Model_place_77 rfl ?_
            refine z_goto (tgt := 83) X d_Model_place_79 (by decide) ?_
            refine z_istore_n X d_Model_place_83 (by decide) rfl ?_
            refine z_eqL ?_ K84
            have e2 : zfnd (zfrc T s) (h - ch) ch = some ch := by rw [efr, if_pos (show zfrc T s ch = true by unfold zfrc; simp [ho])]
            rw [e2, nI_pred1]
            rfl
          · refine z_if_ne (tgt := 82) X d_Model_place_74 (by decide) (fun _ => ?_) (fun hq => absurd hq (fun z => ho (nI_inj (b := 0) (by omega) (by omega) z)))
            refine z_iload_n X d_Model_place_82 rfl ?_
            refine z_istore_n X d_Model_place_83 (by decide) rfl ?_
            refine z_eqL ?_ K84
            have e2 : zfnd (zfrc T s) (h - ch) ch = zfnd (zfrc T s) (h - (ch + 1)) (ch + 1) := by rw [efr, if_neg (show ¬ zfrc T s ch = true by unfold zfrc; simp [ho])]
            rw [e2]
            rfl
      have K44 : zV pP l eE (zrm 1 20 0 0) sS mM aA bB mE cC g 8 (MQ bB (zQi g (fun r u => (zlfr S h T k = none ∧ r = nI 0 ∧ u = (n, I, J, R)) ∨ (∃ s ch, zlfr S h T k = some s ∧ zfnd (zfrc T s) h 0 = some ch ∧ r = nI 1 ∧ u = (n, zu I 42 0 (4 * s + ch) (nI k), J, R)))) aA sS 0 0 (zA g)) 0 0 44 [some (.ref (zad g 29 0)), some (.int (nI k)), some (.int (nI s)), some (.int (-1)), none, none, none, none] [.int (if zlone T s = true then nI 1 else nI 0)] n I J R := by
        refine z_istore X d_Model_place_44 (by decide) rfl ?_
        refine z_aload_n X d_Model_place_46 rfl ?_
        refine gf_Model_103 X (zo_s rfl hW.1) d_Model_place_47 ?_
        refine z_top (congrArg Value.int (hW.2.2.2.2.2.2.2.2.2.2.2)) ?_
        refine z_iconst (v := nI 1) X d_Model_place_50 rfl ?_
        refine z_isub X d_Model_place_51 ?_
        refine z_istore X d_Model_place_52 (by decide) rfl ?_
        refine z_eqL ?_ (KI h (Nat.le_refl _))
        rw [Nat.sub_self]
        simp only [zall, Bool.and_true, zfnd, zo1]
        rfl
      refine z_iload_n X d_Model_place_2 rfl ?_
      refine z_aload_n X d_Model_place_3 rfl ?_
      refine gf_Model_100 X (zo_s rfl hW.1) d_Model_place_4 ?_
      refine z_top (congrArg Value.int (hW.2.2.2.2.2.2.2.2.2.2.1)) ?_
      refine z_icmp_ge (tgt := 195) X d_Model_place_7 (by decide) (fun hq => absurd hq (nI_ge (by omega) (by omega))) (fun _ => ?_)
      refine z_iconst (v := -1) X d_Model_place_10 rfl ?_
      refine z_istore_n X d_Model_place_11 (by decide) rfl ?_
      refine z_aload_n X d_Model_place_12 rfl ?_
      refine gr_Model_48 (hW.c (k := 29) (f := 18) rfl rfl (by decide) rfl) X (zo_s rfl hW.1) d_Model_place_13 ?_
      refine z_iconst (v := nI 4) X d_Model_place_16 rfl ?_
      refine z_iload_n X d_Model_place_17 rfl ?_
      refine z_imul X d_Model_place_18 ?_
      refine al_42 (j := 4 * s) X (zo_s rfl hW.1) (pk_mul 4 s) (by omega) d_Model_place_19 ?_
      refine z_top (v2 := .int (nI (T (4 * s)))) (congrArg Value.int (hT _ (by omega)).1) ?_
      refine z_bipush (v := nI 100) X d_Model_place_20 rfl ?_
      refine z_icmpN_lt (tgt := 39) X d_Model_place_22 (by decide) (by omega) (by omega) (fun h22 => ?_) (fun h22 => ?_)
      · refine z_iconst (v := nI 1) X d_Model_place_39 rfl ?_
        refine z_goto (tgt := 44) X d_Model_place_40 (by decide) ?_
        have e : zlone T s = true := by unfold zlone; simp [h22]
        rw [e] at K44
        exact K44
      · refine z_aload_n X d_Model_place_25 rfl ?_
        refine gr_Model_48 (hW.c (k := 29) (f := 18) rfl rfl (by decide) rfl) X (zo_s rfl hW.1) d_Model_place_26 ?_
        refine z_iconst (v := nI 4) X d_Model_place_29 rfl ?_
        refine z_iload_n X d_Model_place_30 rfl ?_
        refine z_imul X d_Model_place_31 ?_
        refine al_42 (j := 4 * s) X (zo_s rfl hW.1) (pk_mul 4 s) (by omega) d_Model_place_32 ?_
        refine z_top (v2 := .int (nI (T (4 * s)))) (congrArg Value.int (hT _ (by omega)).1) ?_
        refine z_sipush (v := nI 200) X d_Model_place_33 rfl ?_
        refine z_icmpN_lt (tgt := 43) X d_Model_place_36 (by decide) (by omega) (by omega) (fun h36 => ?_) (fun h36 => ?_)
        · refine z_iconst (v := nI 0) X d_Model_place_43 rfl ?_
          have e : zlone T s = false := by unfold zlone; simp; omega
          rw [e] at K44
          exact K44
        · refine z_iconst (v := nI 1) X d_Model_place_39 rfl ?_
          refine z_goto (tgt := 44) X d_Model_place_40 (by decide) ?_
          have e : zlone T s = true := by unfold zlone; simp [h36]
          rw [e] at K44
          exact K44
  refine z_iconst (v := nI 0) X d_Model_place_0 rfl ?_
  refine z_istore_n X d_Model_place_1 (by decide) rfl ?_
  exact KO S 0 (by omega) rfl

