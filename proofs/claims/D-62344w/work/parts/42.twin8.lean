/-! THE TWIN'S RANKS -/
/-- a walk of k steps from the gateway to v -/
def zWk (c : Nat) (f : Nat → Int32) : Nat → Nat → Prop
  | 0, v => v = 0
  | k + 1, v => ∃ u, u < c ∧ zWk c f k u ∧ f (6 * u + v) ≠ 0
/-- x is found by walks -/
def zRk (c : Nat) (f : Nat → Int32) (x : Nat → Nat) (I : zI) : Prop := ∀ a, a < 6 → I 40 0 a = nI (x a) ∧ x a ≤ 99 ∧ (x a = 99 ∨ zWk c f (x a) a)
theorem c_Model_ranks (l : Launch) (g : zG) {S h n : Nat} {I : zI} {J : zJ} {R : zR} (hW : zW g S h n I R) : zMet l g y_Model_ranks b_Model_ranks 4 (some .boolean) 0 0 0 0 (zPc g [.ref (zad g 29 0)] n I J R) (zQi g (fun r u => ∃ I2 x, u = (n, I2, J, R) ∧ zRk g.2.2.2 (I 30 0) x I2 ∧ (∀ k, k ≤ 6 → ∀ a, a < g.2.2.2 → zWk g.2.2.2 (I 30 0) k a → x a ≤ k) ∧ (∀ k i j, k ≠ 40 → I2 k i j = I k i j) ∧ ((r = nI 1 ∧ ∀ a, a < g.2.2.2 → x a < 99) ∨ (r = nI 0 ∧ ∃ a, a < g.2.2.2 ∧ x a = 99)))) := by
  have hc := hW.2.1.2
  have h2c := hW.2.1.1
  refine zMet.of (by decide) [some (.ref (zad g 29 0)), none, none, none] rfl (Nat.le_of_ble_eq_true rfl) ?_
  intro pP eE sS mM aA bB mE cC X hret hnm
  have X : zC pP sS mM aA mE cC b_Model_ranks "SlottedMeshModel" 4 g := X
  have hret : mE.sig.returnType = (some .boolean) := hret
  -- the last loop: whether all have a rank
  have K4 : ∀ (I2 : zI) (x : Nat → Nat), zW g S h n I2 R → zRk g.2.2.2 (I 30 0) x I2 → (∀ k, k ≤ 6 → ∀ a, a < g.2.2.2 → zWk g.2.2.2 (I 30 0) k a → x a ≤ k) → (∀ k i j, k ≠ 40 → I2 k i j = I k i j) → ∀ (s a : Nat) (d : Bool), a + s = g.2.2.2 → (d = true → ∀ b, b < a → x b < 99) → (d = false → ∃ b, b < g.2.2.2 ∧ x b = 99) → zV pP l eE (zrm 0 0 0 0) sS mM aA bB mE cC g 4 (MQ bB (zQi g (fun r u => ∃ I2 x, u = (n, I2, J, R) ∧ zRk g.2.2.2 (I 30 0) x I2 ∧ (∀ k, k ≤ 6 → ∀ a, a < g.2.2.2 → zWk g.2.2.2 (I 30 0) k a → x a ≤ k) ∧ (∀ k i j, k ≠ 40 → I2 k i j = I k i j) ∧ ((r = nI 1 ∧ ∀ a, a < g.2.2.2 → x a < 99) ∨ (r = nI 0 ∧ ∃ a, a < g.2.2.2 ∧ x a = 99)))) aA sS 0 0 (zA g)) 0 0 125 [some (.ref (zad g 29 0)), some (.int (if d = true then nI 1 else nI 0)), some (.int (nI a)), none] [] n I2 J R := by
    intro I2 x hW hx hx2 hk s
    induction s with
    | zero =>
      intro a d ha h1 h2
      refine z_iload_n X d_Model_ranks_125 rfl ?_
      refine z_aload_n X d_Model_ranks_126 rfl ?_
      refine gf_Model_96 X (zo_s rfl hW.1) d_Model_ranks_127 ?_
      refine z_top (congrArg Value.int (hW.2.2.2.2.2.2.2.2.2.1)) ?_
      refine z_icmp_ge (tgt := 160) X d_Model_ranks_130 (by decide) (fun _ => ?_) (fun hq => absurd hq (fun z => z (nI_le (by omega) (by omega))))
      cases d with
      | true =>
        refine z_iload_n X d_Model_ranks_160 rfl ?_
        exact z_iret X hret rfl (Nat.zero_le _) (Nat.zero_le _) ⟨I2, x, rfl, hx, hx2, hk, Or.inl ⟨rfl, fun b hb => h1 rfl b (by omega)⟩⟩ d_Model_ranks_161
      | false =>
        refine z_iload_n X d_Model_ranks_160 rfl ?_
        exact z_iret X hret rfl (Nat.zero_le _) (Nat.zero_le _) ⟨I2, x, rfl, hx, hx2, hk, Or.inr ⟨rfl, h2 rfl⟩⟩ d_Model_ranks_161
    | succ s ih =>
      intro a d ha h1 h2
      obtain ⟨e1, e2, e3⟩ := hx a (by omega)
      refine z_iload_n X d_Model_ranks_125 rfl ?_
      refine z_aload_n X d_Model_ranks_126 rfl ?_
      refine gf_Model_96 X (zo_s rfl hW.1) d_Model_ranks_127 ?_
      refine z_top (congrArg Value.int (hW.2.2.2.2.2.2.2.2.2.1)) ?_
      refine z_icmp_ge (tgt := 160) X d_Model_ranks_130 (by decide) (fun hq => absurd hq (nI_ge (by omega) (by omega))) (fun _ => ?_)
      cases d with
      | true =>
        refine z_iload_n X d_Model_ranks_133 rfl ?_
        refine z_if_eq (tgt := 152) X d_Model_ranks_134 (by decide) (fun hq => absurd hq (by decide)) (fun _ => ?_)
        refine z_aload_n X d_Model_ranks_137 rfl ?_
        refine gr_Model_42 (hW.c (k := 29) (f := 16) rfl rfl (by decide) rfl) X (zo_s rfl hW.1) d_Model_ranks_138 ?_
        refine z_iload_n X d_Model_ranks_141 rfl ?_
        refine al_40 X (zo_s rfl hW.1) rfl (by omega) d_Model_ranks_142 ?_
        refine z_top (v2 := .int (nI (x a))) (congrArg Value.int e1) ?_
        refine z_bipush (v := nI 99) X d_Model_ranks_143 rfl ?_
        refine z_icmpN_ge (tgt := 152) X d_Model_ranks_145 (by decide) (by omega) (by omega) (fun h145 => ?_) (fun h145 => ?_)
        · refine z_iconst (v := nI 0) X d_Model_ranks_152 rfl ?_
          refine z_istore_n X d_Model_ranks_153 (by decide) rfl ?_
          refine z_iinc X d_Model_ranks_154 rfl (zinc _) (by decide) rfl ?_
          refine z_goto (tgt := 125) X d_Model_ranks_157 (by decide) ?_
          exact ih (a + 1) false (by omega) (fun z => by cases z) (fun _ => ⟨a, by omega, by omega⟩)
        · refine z_iconst (v := nI 1) X d_Model_ranks_148 rfl ?_
          refine z_goto (tgt := 153) X d_Model_ranks_149 (by decide) ?_
          refine z_istore_n X d_Model_ranks_153 (by decide) rfl ?_
          refine z_iinc X d_Model_ranks_154 rfl (zinc _) (by decide) rfl ?_
          refine z_goto (tgt := 125) X d_Model_ranks_157 (by decide) ?_
          exact ih (a + 1) true (by omega) (fun _ b hb => by rcases Nat.lt_or_ge b a with z | z; exact h1 rfl b z; rw [show b = a by omega]; exact h145) (fun z => by cases z)
      | false =>
        refine z_iload_n X d_Model_ranks_133 rfl ?_
        refine z_if_eq (tgt := 152) X d_Model_ranks_134 (by decide) (fun _ => ?_) (fun hq => absurd hq (by decide))
        refine z_iconst (v := nI 0) X d_Model_ranks_152 rfl ?_
        refine z_istore_n X d_Model_ranks_153 (by decide) rfl ?_
        refine z_iinc X d_Model_ranks_154 rfl (zinc _) (by decide) rfl ?_
        refine z_goto (tgt := 125) X d_Model_ranks_157 (by decide) ?_
        exact ih (a + 1) false (by omega) (fun z => by cases z) (fun _ => h2 rfl)
  -- the rounds
  have K3 : ∀ (s r : Nat) (I2 : zI) (x : Nat → Nat), r + s = 6 → zW g S h n I2 R → zRk g.2.2.2 (I 30 0) x I2 → (∀ k, k ≤ r → ∀ a, a < g.2.2.2 → zWk g.2.2.2 (I 30 0) k a → x a ≤ k) → (∀ k i j, k ≠ 40 → I2 k i j = I k i j) → zV pP l eE (zrm 0 0 0 0) sS mM aA bB mE cC g 4 (MQ bB (zQi g (fun r u => ∃ I2 x, u = (n, I2, J, R) ∧ zRk g.2.2.2 (I 30 0) x I2 ∧ (∀ k, k ≤ 6 → ∀ a, a < g.2.2.2 → zWk g.2.2.2 (I 30 0) k a → x a ≤ k) ∧ (∀ k i j, k ≠ 40 → I2 k i j = I k i j) ∧ ((r = nI 1 ∧ ∀ a, a < g.2.2.2 → x a < 99) ∨ (r = nI 0 ∧ ∃ a, a < g.2.2.2 ∧ x a = 99)))) aA sS 0 0 (zA g)) 0 0 32 [some (.ref (zad g 29 0)), some (.int (nI r)), none, none] [] n I2 J R := by
    intro s
    induction s with
    | zero =>
      intro r I2 x hr hW hx hx2 hk
      refine z_iload_n X d_Model_ranks_32 rfl ?_
      refine z_bipush (v := nI 6) X d_Model_ranks_33 rfl ?_
      refine z_icmp_ge (tgt := 121) X d_Model_ranks_35 (by decide) (fun _ => ?_) (fun hq => absurd hq (fun z => z (nI_le (by omega) (by omega))))
      refine z_iconst (v := nI 1) X d_Model_ranks_121 rfl ?_
      refine z_istore_n X d_Model_ranks_122 (by decide) rfl ?_
      refine z_iconst (v := nI 0) X d_Model_ranks_123 rfl ?_
      refine z_istore_n X d_Model_ranks_124 (by decide) rfl ?_
      refine z_wk (ls2 := [some (.ref (zad g 29 0)), some (.int (nI 1)), some (.int (nI 0)), none]) ⟨rfl, rfl, rfl, trivial⟩ ?_
      exact K4 I2 x hW hx (fun k hk => hx2 k (by omega)) hk g.2.2.2 0 true (by omega) (fun _ b hb => by omega) (fun z => by cases z)
    | succ s ihr =>
      intro r I2 x hr hW hx hx2 hk
      refine z_iload_n X d_Model_ranks_32 rfl ?_
      refine z_bipush (v := nI 6) X d_Model_ranks_33 rfl ?_
      refine z_icmp_ge (tgt := 121) X d_Model_ranks_35 (by decide) (fun hq => absurd hq (nI_ge (by omega) (by omega))) (fun _ => ?_)
      refine z_iconst (v := nI 0) X d_Model_ranks_38 rfl ?_
      refine z_istore_n X d_Model_ranks_39 (by decide) rfl ?_
      -- rows: all pairs (u, v) with u < a are done
      have K2 : ∀ (sa a : Nat) (I3 : zI) (y : Nat → Nat), a + sa = g.2.2.2 → zW g S h n I3 R → zRk g.2.2.2 (I 30 0) y I3 → (∀ b, b < 6 → y b ≤ x b) → (∀ u v, u < a → v < g.2.2.2 → I 30 0 (6 * u + v) ≠ 0 → y v ≤ x u + 1) → (∀ k i j, k ≠ 40 → I3 k i j = I k i j) → zV pP l eE (zrm 0 0 0 0) sS mM aA bB mE cC g 4 (MQ bB (zQi g (fun r u => ∃ I2 x, u = (n, I2, J, R) ∧ zRk g.2.2.2 (I 30 0) x I2 ∧ (∀ k, k ≤ 6 → ∀ a, a < g.2.2.2 → zWk g.2.2.2 (I 30 0) k a → x a ≤ k) ∧ (∀ k i j, k ≠ 40 → I2 k i j = I k i j) ∧ ((r = nI 1 ∧ ∀ a, a < g.2.2.2 → x a < 99) ∨ (r = nI 0 ∧ ∃ a, a < g.2.2.2 ∧ x a = 99)))) aA sS 0 0 (zA g)) 0 0 40 [some (.ref (zad g 29 0)), some (.int (nI r)), some (.int (nI a)), none] [] n I3 J R := by
        intro sa
        induction sa with
        | zero =>
          intro a I3 y ha hW hy hyx hyd hk3
          refine z_iload_n X d_Model_ranks_40 rfl ?_
          refine z_aload_n X d_Model_ranks_41 rfl ?_
          refine gf_Model_96 X (zo_s rfl hW.1) d_Model_ranks_42 ?_
          refine z_top (congrArg Value.int (hW.2.2.2.2.2.2.2.2.2.1)) ?_
          refine z_icmp_ge (tgt := 115) X d_Model_ranks_45 (by decide) (fun _ => ?_) (fun hq => absurd hq (fun z => z (nI_le (by omega) (by omega))))
          refine z_iinc X d_Model_ranks_115 rfl (zinc _) (by decide) rfl ?_
          refine z_goto (tgt := 32) X d_Model_ranks_118 (by decide) ?_
          refine z_wk (ls2 := [some (.ref (zad g 29 0)), some (.int (nI (r + 1))), none, none]) ⟨rfl, rfl, trivial⟩ ?_
          refine ihr (r + 1) I3 y (by omega) hW hy (fun k hk v hv hw => ?_) hk3
          rcases Nat.lt_or_ge k (r + 1) with z | z
          · exact Nat.le_trans (hyx v (by omega)) (hx2 k (by omega) v hv hw)
          · have e : k = r + 1 := by omega
            subst e
            obtain ⟨u, hu, hwu, hn⟩ := hw
            exact Nat.le_trans (hyd u v (by omega) hv hn) (by have := hx2 r (by omega) u hu hwu; omega)
        | succ sa iha =>
          intro a I3 y ha hW hy hyx hyd hk3
          refine z_iload_n X d_Model_ranks_40 rfl ?_
          refine z_aload_n X d_Model_ranks_41 rfl ?_
          refine gf_Model_96 X (zo_s rfl hW.1) d_Model_ranks_42 ?_
          refine z_top (congrArg Value.int (hW.2.2.2.2.2.2.2.2.2.1)) ?_
          refine z_icmp_ge (tgt := 115) X d_Model_ranks_45 (by decide) (fun hq => absurd hq (nI_ge (by omega) (by omega))) (fun _ => ?_)
          refine z_iconst (v := nI 0) X d_Model_ranks_48 rfl ?_
          refine z_istore_n X d_Model_ranks_49 (by decide) rfl ?_
          have K1 : ∀ (sb b : Nat) (I4 : zI) (w : Nat → Nat), b + sb = g.2.2.2 → zW g S h n I4 R → zRk g.2.2.2 (I 30 0) w I4 → (∀ v, v < 6 → w v ≤ y v) → (∀ v, v < b → I 30 0 (6 * a + v) ≠ 0 → w v ≤ x a + 1) → (∀ k i j, k ≠ 40 → I4 k i j = I k i j) → zV pP l eE (zrm 0 0 0 0) sS mM aA bB mE cC g 4 (MQ bB (zQi g (fun r u => ∃ I2 x, u = (n, I2, J, R) ∧ zRk g.2.2.2 (I 30 0) x I2 ∧ (∀ k, k ≤ 6 → ∀ a, a < g.2.2.2 → zWk g.2.2.2 (I 30 0) k a → x a ≤ k) ∧ (∀ k i j, k ≠ 40 → I2 k i j = I k i j) ∧ ((r = nI 1 ∧ ∀ a, a < g.2.2.2 → x a < 99) ∨ (r = nI 0 ∧ ∃ a, a < g.2.2.2 ∧ x a = 99)))) aA sS 0 0 (zA g)) 0 0 50 [some (.ref (zad g 29 0)), some (.int (nI r)), some (.int (nI a)), some (.int (nI b))] [] n I4 J R := by
            intro sb
            induction sb with
            | zero =>
              intro b I4 w hb hW hw hwy hwd hk4
              refine z_iload_n X d_Model_ranks_50 rfl ?_
              refine z_aload_n X d_Model_ranks_51 rfl ?_
              refine gf_Model_96 X (zo_s rfl hW.1) d_Model_ranks_52 ?_
              refine z_top (congrArg Value.int (hW.2.2.2.2.2.2.2.2.2.1)) ?_
              refine z_icmp_ge (tgt := 109) X d_Model_ranks_55 (by decide) (fun _ => ?_) (fun hq => absurd hq (fun z => z (nI_le (by omega) (by omega))))
              refine z_iinc X d_Model_ranks_109 rfl (zinc _) (by decide) rfl ?_
              refine z_goto (tgt := 40) X d_Model_ranks_112 (by decide) ?_
              refine z_wk (ls2 := [some (.ref (zad g 29 0)), some (.int (nI r)), some (.int (nI (a + 1))), none]) ⟨rfl, rfl, rfl, trivial⟩ ?_
              refine iha (a + 1) I4 w (by omega) hW hw (fun v hv => Nat.le_trans (hwy v hv) (hyx v hv)) (fun u v hu hv hn => ?_) hk4
              rcases Nat.lt_or_ge u a with z | z
              · exact Nat.le_trans (hwy v (by omega)) (hyd u v z hv hn)
              · have e : u = a := by omega
                subst e
                exact hwd v (by omega) hn
            | succ sb ihb =>
              intro b I4 w hb hW hw hwy hwd hk4
              obtain ⟨a1, a2, a3⟩ := hw a (by omega)
              obtain ⟨b1, b2, b3⟩ := hw b (by omega)
              have hna : I4 30 0 (6 * a + b) = I 30 0 (6 * a + b) := hk4 30 0 _ (by decide)
              refine z_iload_n X d_Model_ranks_50 rfl ?_
              refine z_aload_n X d_Model_ranks_51 rfl ?_
              refine gf_Model_96 X (zo_s rfl hW.1) d_Model_ranks_52 ?_
              refine z_top (congrArg Value.int (hW.2.2.2.2.2.2.2.2.2.1)) ?_
              refine z_icmp_ge (tgt := 109) X d_Model_ranks_55 (by decide) (fun hq => absurd hq (nI_ge (by omega) (by omega))) (fun _ => ?_)
              refine z_aload_n X d_Model_ranks_58 rfl ?_
              refine gr_Model_7 (hW.c (k := 29) (f := 5) rfl rfl (by decide) rfl) X (zo_s rfl hW.1) d_Model_ranks_59 ?_
              refine z_bipush (v := nI 6) X d_Model_ranks_62 rfl ?_
              refine z_iload_n X d_Model_ranks_64 rfl ?_
              refine z_imul X d_Model_ranks_65 ?_
              refine z_iload_n X d_Model_ranks_66 rfl ?_
              refine z_iadd X d_Model_ranks_67 ?_
              refine al_30 (j := 6 * a + b) X (zo_s rfl hW.1) (zidx a b) (by omega) d_Model_ranks_68 ?_
              refine z_top (v2 := .int (I 30 0 (6 * a + b))) (congrArg Value.int hna) ?_
              refine z_if_eq (tgt := 103) X d_Model_ranks_69 (by decide) (fun h69 => ?_) (fun h69 => ?_)
              · refine z_iinc X d_Model_ranks_103 rfl (zinc _) (by decide) rfl ?_
                refine z_goto (tgt := 50) X d_Model_ranks_106 (by decide) ?_
                exact ihb (b + 1) I4 w (by omega) hW hw hwy (fun v hv hn => by rcases Nat.lt_or_ge v b with z | z; exact hwd v z hn; rw [show v = b by omega] at hn; exact absurd h69 hn) hk4
              · refine z_aload_n X d_Model_ranks_72 rfl ?_
                refine gr_Model_42 (hW.c (k := 29) (f := 16) rfl rfl (by decide) rfl) X (zo_s rfl hW.1) d_Model_ranks_73 ?_
                refine z_iload_n X d_Model_ranks_76 rfl ?_
                refine al_40 X (zo_s rfl hW.1) rfl (by omega) d_Model_ranks_77 ?_
                refine z_top (v2 := .int (nI (w a))) (congrArg Value.int a1) ?_
                refine z_iconst (v := nI 1) X d_Model_ranks_78 rfl ?_
                refine z_iadd X d_Model_ranks_79 ?_
                refine z_top (v2 := .int (nI (w a + 1))) (congrArg Value.int (nI_add (w a) 1)) ?_
                refine z_aload_n X d_Model_ranks_80 rfl ?_
                refine gr_Model_42 (hW.c (k := 29) (f := 16) rfl rfl (by decide) rfl) X (zo_s rfl hW.1) d_Model_ranks_81 ?_
                refine z_iload_n X d_Model_ranks_84 rfl ?_
                refine al_40 X (zo_s rfl hW.1) rfl (by omega) d_Model_ranks_85 ?_
                refine z_top (v2 := .int (nI (w b))) (congrArg Value.int b1) ?_
                refine z_icmpN_ge (tgt := 103) X d_Model_ranks_86 (by decide) (by omega) (by omega) (fun h86 => ?_) (fun h86 => ?_)
                · refine z_iinc X d_Model_ranks_103 rfl (zinc _) (by decide) rfl ?_
                  refine z_goto (tgt := 50) X d_Model_ranks_106 (by decide) ?_
                  exact ihb (b + 1) I4 w (by omega) hW hw hwy (fun v hv hn => by rcases Nat.lt_or_ge v b with z | z; exact hwd v z hn; rw [show v = b by omega]; have := hyx a (by omega); have := hwy a (by omega); omega) hk4
                · refine z_aload_n X d_Model_ranks_89 rfl ?_
                  refine gr_Model_42 (hW.c (k := 29) (f := 16) rfl rfl (by decide) rfl) X (zo_s rfl hW.1) d_Model_ranks_90 ?_
                  refine z_iload_n X d_Model_ranks_93 rfl ?_
                  refine z_aload_n X d_Model_ranks_94 rfl ?_
                  refine gr_Model_42 (hW.c (k := 29) (f := 16) rfl rfl (by decide) rfl) X (zo_s rfl hW.1) d_Model_ranks_95 ?_
                  refine z_iload_n X d_Model_ranks_98 rfl ?_
                  refine al_40 X (zo_s rfl hW.1) rfl (by omega) d_Model_ranks_99 ?_
                  refine z_top (v2 := .int (nI (w a))) (congrArg Value.int a1) ?_
                  refine z_iconst (v := nI 1) X d_Model_ranks_100 rfl ?_
                  refine z_iadd X d_Model_ranks_101 ?_
                  refine z_top (v2 := .int (nI (w a + 1))) (congrArg Value.int (nI_add (w a) 1)) ?_
                  refine as_40 X (zo_s rfl hW.1) rfl (by omega) d_Model_ranks_102 ?_
                  refine z_iinc X d_Model_ranks_103 rfl (zinc _) (by decide) rfl ?_
                  refine z_goto (tgt := 50) X d_Model_ranks_106 (by decide) ?_
                  refine ihb (b + 1) _ (fun v => if v = b then w a + 1 else w v) (by omega) (zW.upI hW rfl) (fun v hv => ?_) (fun v hv => ?_) (fun v hv hn => ?_) (fun k i j hk => by rw [zu_k hk]; exact hk4 k i j hk)
                  · obtain ⟨v1, v2, v3⟩ := hw v hv
                    by_cases e : v = b
                    · subst e
                      simp only [if_pos]
                      refine ⟨zu_s, by omega, Or.inr ⟨a, by omega, ?_, h69⟩⟩
                      rcases a3 with z | z
                      · omega
                      · exact z
                    · simp only [if_neg e]
                      exact ⟨by rw [zu_j e]; exact v1, v2, v3⟩
                  · by_cases e : v = b
                    · subst e; simp only [if_pos]; have := hwy v hv; omega
                    · simp only [if_neg e]; exact hwy v hv
                  · by_cases e : v = b
                    · subst e; simp only [if_pos]; have := hyx a (by omega); have := hwy a (by omega); omega
                    · simp only [if_neg e]; exact hwd v (by omega) hn
          exact K1 g.2.2.2 0 I3 y (by omega) hW hy (fun v _ => Nat.le_refl _) (fun v hv => by omega) hk3
      refine z_wk (ls2 := [some (.ref (zad g 29 0)), some (.int (nI r)), some (.int (nI 0)), none]) ⟨rfl, rfl, rfl, trivial⟩ ?_
      exact K2 g.2.2.2 0 I2 x (by omega) hW hx (fun b _ => Nat.le_refl _) (fun u v hu => by omega) hk
  -- the start
  have K0 : ∀ (s a : Nat) (I2 : zI), a + s = 6 → zW g S h n I2 R → (∀ b, b < a → I2 40 0 b = if b = 0 then nI 0 else nI 99) → (∀ k i j, k ≠ 40 → I2 k i j = I k i j) → zV pP l eE (zrm 0 0 0 0) sS mM aA bB mE cC g 4 (MQ bB (zQi g (fun r u => ∃ I2 x, u = (n, I2, J, R) ∧ zRk g.2.2.2 (I 30 0) x I2 ∧ (∀ k, k ≤ 6 → ∀ a, a < g.2.2.2 → zWk g.2.2.2 (I 30 0) k a → x a ≤ k) ∧ (∀ k i j, k ≠ 40 → I2 k i j = I k i j) ∧ ((r = nI 1 ∧ ∀ a, a < g.2.2.2 → x a < 99) ∨ (r = nI 0 ∧ ∃ a, a < g.2.2.2 ∧ x a = 99)))) aA sS 0 0 (zA g)) 0 0 2 [some (.ref (zad g 29 0)), some (.int (nI a)), none, none] [] n I2 J R := by
    intro s
    induction s with
    | zero =>
      intro a I2 ha hW hx hk
      refine z_iload_n X d_Model_ranks_2 rfl ?_
      refine z_bipush (v := nI 6) X d_Model_ranks_3 rfl ?_
      refine z_icmp_ge (tgt := 30) X d_Model_ranks_5 (by decide) (fun _ => ?_) (fun hq => absurd hq (fun z => z (nI_le (by omega) (by omega))))
      refine z_iconst (v := nI 0) X d_Model_ranks_30 rfl ?_
      refine z_istore_n X d_Model_ranks_31 (by decide) rfl ?_
      refine z_wk (ls2 := [some (.ref (zad g 29 0)), some (.int (nI 0)), none, none]) ⟨rfl, rfl, trivial⟩ ?_
      refine K3 6 0 I2 (fun b => if b = 0 then 0 else 99) (by omega) hW (fun b hb => ?_) (fun k hk a ha hw => ?_) hk
      · rw [hx b (by omega)]
        by_cases e : b = 0
        · subst e; exact ⟨rfl, by simp, Or.inr rfl⟩
        · simp [e]
      · have e : k = 0 := by omega
        subst e
        have hw : a = 0 := hw
        subst hw
        exact Nat.le_refl _
    | succ s ih =>
      intro a I2 ha hW hx hk
      refine z_iload_n X d_Model_ranks_2 rfl ?_
      refine z_bipush (v := nI 6) X d_Model_ranks_3 rfl ?_
      refine z_icmp_ge (tgt := 30) X d_Model_ranks_5 (by decide) (fun hq => absurd hq (nI_ge (by omega) (by omega))) (fun _ => ?_)
      refine z_aload_n X d_Model_ranks_8 rfl ?_
      refine gr_Model_42 (hW.c (k := 29) (f := 16) rfl rfl (by decide) rfl) X (zo_s rfl hW.1) d_Model_ranks_9 ?_
      refine z_iload_n X d_Model_ranks_12 rfl ?_
      refine z_iload_n X d_Model_ranks_13 rfl ?_
      refine z_if_ne (tgt := 21) X d_Model_ranks_14 (by decide) (fun h14 => ?_) (fun h14 => ?_)
      · refine z_bipush (v := nI 99) X d_Model_ranks_21 rfl ?_
        refine as_40 X (zo_s rfl hW.1) rfl (by omega) d_Model_ranks_23 ?_
        refine z_iinc X d_Model_ranks_24 rfl (zinc _) (by decide) rfl ?_
        refine z_goto (tgt := 2) X d_Model_ranks_27 (by decide) ?_
        refine ih (a + 1) _ (by omega) (zW.upI hW rfl) (fun b hb => ?_) (fun k i j hk2 => by rw [zu_k hk2]; exact hk k i j hk2)
        rw [zu_if]
        by_cases e : b = a
        · subst e; first | (rw [if_pos ⟨rfl, rfl, rfl⟩, if_neg (fun z => h14 (by rw [z]; rfl))]) | (rw [if_pos ⟨rfl, rfl, rfl⟩, if_pos (nI_ne00 h14 (by omega))])
        · rw [if_neg (fun z => e z.2.2)]; exact hx b (by omega)
      · refine z_iconst (v := nI 0) X d_Model_ranks_17 rfl ?_
        refine z_goto (tgt := 23) X d_Model_ranks_18 (by decide) ?_
        refine as_40 X (zo_s rfl hW.1) rfl (by omega) d_Model_ranks_23 ?_
        refine z_iinc X d_Model_ranks_24 rfl (zinc _) (by decide) rfl ?_
        refine z_goto (tgt := 2) X d_Model_ranks_27 (by decide) ?_
        refine ih (a + 1) _ (by omega) (zW.upI hW rfl) (fun b hb => ?_) (fun k i j hk2 => by rw [zu_k hk2]; exact hk k i j hk2)
        rw [zu_if]
        by_cases e : b = a
        · subst e; first | (rw [if_pos ⟨rfl, rfl, rfl⟩, if_neg (fun z => h14 (by rw [z]; rfl))]) | (rw [if_pos ⟨rfl, rfl, rfl⟩, if_pos (nI_ne00 h14 (by omega))])
        · rw [if_neg (fun z => e z.2.2)]; exact hx b (by omega)
  refine z_iconst (v := nI 0) X d_Model_ranks_0 rfl ?_
  refine z_istore_n X d_Model_ranks_1 (by decide) rfl ?_
  exact K0 6 0 I rfl hW (fun b hb => by omega) (fun _ _ _ _ => rfl)

