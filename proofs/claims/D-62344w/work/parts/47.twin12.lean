/-! THE TWIN'S PLAN -/
def zX (c : Nat) (f : Nat → Int32) (x : Nat → Nat) : Prop := (∀ a, a < 6 → x a ≤ 99 ∧ (x a = 99 ∨ zWk c f (x a) a)) ∧ ∀ k, k ≤ 6 → ∀ a, a < c → zWk c f k a → x a ≤ k
def zsym (c : Nat) (f : Nat → Int32) : Prop := ∀ a b, a < c → b < c → f (6 * a + b) = f (6 * b + a)
theorem zX.par {c : Nat} {f : Nat → Int32} {x : Nat → Nat} (hx : zX c f x) (hc : c ≤ 6) (hs : zsym c f) {a : Nat} (ha : a < c) (h1 : 1 ≤ x a) (h5 : x a ≤ 5) : ∃ u, u < c ∧ f (6 * a + u) ≠ 0 ∧ x u + 1 = x a := by
  have hw : zWk c f (x a) a := by
    rcases (hx.1 a (by omega)).2 with z | z
    · omega
    · exact z
  obtain ⟨k, hk⟩ : ∃ k, x a = k + 1 := ⟨x a - 1, by omega⟩
  rw [hk] at hw
  obtain ⟨u, hu, hwu, hn⟩ := hw
  refine ⟨u, hu, by rw [hs a u ha hu]; exact hn, ?_⟩
  have h2 := hx.2 k (by omega) u hu hwu
  rcases Nat.lt_or_ge (x u) k with z | z
  · have hwx : zWk c f (x u) u := by
      rcases (hx.1 u (by omega)).2 with y | y
      · omega
      · exact y
    have := hx.2 (x u + 1) (by omega) a ha ⟨u, hu, hwx, hn⟩
    omega
  · omega
theorem zX.parn {c : Nat} {f : Nat → Int32} {x : Nat → Nat} (hx : zX c f x) (hc : c ≤ 6) (hs : zsym c f) {a : Nat} (ha : a < c) (h1 : 1 ≤ x a) (h5 : x a ≤ 5) : zpl c f x c a ≠ [] := by
  obtain ⟨u, hu, hn, he⟩ := hx.par hc hs ha h1 h5
  intro e
  have : u ∈ zpl c f x c a := by
    unfold zpl
    rw [List.mem_filter, List.mem_range]
    exact ⟨hu, by simp [hn, he]⟩
  rw [e] at this
  cases this
def zcnt (T : Nat → Nat) : Nat → Nat
  | 0 => 0
  | m + 1 => zcnt T m + (if 200 ≤ T m then 1 else 0)
/-- the twin behind a plan that was found -/
def zPlanned (c : Nat) (f : Nat → Int32) (I I2 : zI) (x T : Nat → Nat) : Prop := (∀ j, j < 96 → I2 39 0 j = nI (T j) ∧ T j < 400) ∧ (∀ a, a < c → I2 38 0 (2 * a) = zo1 (zpl c f x c a)[0]? ∧ I2 38 0 (2 * a + 1) = zo1 (zpl c f x c a)[1]?) ∧ (∀ a, a < 6 → I2 37 0 a = nI (x a)) ∧ I2 29 0 12 = nI 1 ∧ (∀ a, a < 6 → I2 32 0 a = (if a = 0 then nI 1 else nI 0) ∧ I2 47 0 a = nI 0 ∧ I2 48 0 a = nI 0 ∧ I2 43 0 (6 + a) = nI 0) ∧ (∀ r, r < 6 → I2 43 0 r = I 43 0 r) ∧ (∀ k i j, k ≠ 29 → k ≠ 32 → ¬ (37 ≤ k ∧ k ≤ 43) → k ≠ 47 → k ≠ 48 → I2 k i j = I k i j) ∧ ∀ j, j ≠ 12 → I2 29 0 j = I 29 0 j
theorem c_Model_plan (l : Launch) (g : zG) {S h n : Nat} {I : zI} {J : zJ} {R : zR} (hW : zW g S h n I R) (hsy : zsym g.2.2.2 (I 30 0)) : zMet l g y_Model_plan b_Model_plan 3 (some .int) 3 72 0 0 (zPc g [.ref (zad g 29 0)] n I J R) (zQi g (fun r u => ∃ I2 x, u = (n, I2, J, R) ∧ zX g.2.2.2 (I 30 0) x ∧ ((r = -1 ∧ ((∃ a, a < g.2.2.2 ∧ x a = 99) ∨ ((∀ a, a < g.2.2.2 → x a < 99) ∧ zplan g.2.2.2 S h (I 30 0) x = none)) ∧ ∀ k i j, ¬ (40 ≤ k ∧ k ≤ 42) → I2 k i j = I k i j) ∨ (∃ T, (∀ a, a < g.2.2.2 → x a < 99) ∧ zplan g.2.2.2 S h (I 30 0) x = some T ∧ r = nI (g.2.2.2 + zcnt T 96) ∧ zPlanned g.2.2.2 (I 30 0) I I2 x T)))) := by
  have hc := hW.2.1.2
  have h2c := hW.2.1.1
  refine zMet.of (by decide) [some (.ref (zad g 29 0)), none, none] rfl (Nat.le_of_ble_eq_true rfl) ?_
  intro pP eE sS mM aA bB mE cC X hret hnm
  have X : zC pP sS mM aA mE cC b_Model_plan "SlottedMeshModel" 3 g := X
  have hret : mE.sig.returnType = (some .int) := hret
  refine z_aload_n X d_Model_plan_0 rfl ?_
  refine z_ci (z_rV X cs_Model_125 rfl rfl (zo_s rfl hW.1).1 (zo_s rfl hW.1).2 (c_Model_ranks l g hW) ⟨Nat.le_of_ble_eq_true rfl, Nat.le_of_ble_eq_true rfl⟩ rfl rfl (Nat.le_of_ble_eq_true rfl) ⟨Nat.le_of_ble_eq_true rfl, Nat.le_of_ble_eq_true rfl⟩ d_Model_plan_1) (fun r9 n9 I9 J9 R9 h9 => ?_)
  obtain ⟨I1, x, e, hr, hx2, hk1, hres⟩ := h9
  cases e
  have hX : zX g.2.2.2 (I 30 0) x := ⟨fun a ha => ⟨(hr a ha).2.1, (hr a ha).2.2⟩, hx2⟩
  rcases hres with ⟨rfl, hall⟩ | ⟨rfl, hno⟩
  case inr =>
    refine z_if_ne (tgt := 9) X d_Model_plan_4 (by decide) (fun hq => absurd hq (by decide)) (fun _ => ?_)
    refine z_iconst (v := -1) X d_Model_plan_7 rfl ?_
    exact z_iret X hret rfl (Nat.zero_le _) (Nat.zero_le _) ⟨_, x, rfl, hX, Or.inl ⟨rfl, Or.inl hno, fun k i j hk => hk1 k i j (by omega)⟩⟩ d_Model_plan_8
  refine z_if_ne (tgt := 9) X d_Model_plan_4 (by decide) (fun _ => ?_) (fun hq => absurd hq (by decide))
  have hW1 : zW g S h n I9 R := hW.low (fun k i j hk => hk1 k i j (by omega)) (fun j hj => hk1 29 0 j (by decide))
  have h30 : I9 30 0 = I 30 0 := funext (fun j => hk1 30 0 j (by decide))
  have hx6 : ∀ a, a < 6 → I9 40 0 a = nI (x a) ∧ x a ≤ 99 := fun a ha => ⟨(hr a ha).1, (hr a ha).2.1⟩
  refine z_aload_n X d_Model_plan_9 rfl ?_
  refine z_cv (z_rV X cs_Model_129 rfl rfl (zo_s rfl hW.1).1 (zo_s rfl hW.1).2 (c_Model_findParents l g hW1 x hx6) ⟨Nat.le_of_ble_eq_true rfl, Nat.le_of_ble_eq_true rfl⟩ rfl rfl (Nat.le_of_ble_eq_true rfl) ⟨Nat.le_of_ble_eq_true rfl, Nat.le_of_ble_eq_true rfl⟩ d_Model_plan_10) (fun n8 I8 J8 R8 h8 => ?_)
  obtain ⟨I2, e, hp, hk2⟩ := h8
  cases e
  rw [h30] at hp
  have hW2 : zW g S h n I8 R := hW1.low (fun k i j hk => hk2 k i j (by omega)) (fun j hj => hk2 29 0 j (by decide))
  have h30b : I8 30 0 = I 30 0 := by rw [← h30]; exact funext (fun j => hk2 30 0 j (by decide))
  refine z_aload_n X d_Model_plan_13 rfl ?_
  refine z_ci (z_rV X cs_Model_132 rfl rfl (zo_s rfl hW.1).1 (zo_s rfl hW.1).2 (c_Model_placeAll l g hW2 x (fun a ha => ⟨(hk2 40 0 a (by decide)).trans (hx6 a ha).1, (hx6 a ha).2⟩) (by rw [h30b]; exact hp) (by rw [h30b]; exact fun a ha h1 h5 => hX.parn hc hsy ha h1 h5)) ⟨Nat.le_of_ble_eq_true rfl, Nat.le_of_ble_eq_true rfl⟩ rfl rfl (Nat.le_of_ble_eq_true rfl) ⟨Nat.le_of_ble_eq_true rfl, Nat.le_of_ble_eq_true rfl⟩ d_Model_plan_14) (fun r7 n7 I7 J7 R7 h7 => ?_)
  obtain ⟨I3, e, hk3, hres⟩ := h7
  cases e
  rw [h30b] at hres
  have kall : ∀ k i j, ¬ (40 ≤ k ∧ k ≤ 42) → I7 k i j = I k i j := fun k i j hk => by rw [hk3 k i j (by omega), hk2 k i j (by omega), hk1 k i j (by omega)]
  rcases hres with ⟨rfl, hno⟩ | ⟨rfl, T, hT, hTT⟩
  · refine z_if_ne (tgt := 22) X d_Model_plan_17 (by decide) (fun hq => absurd hq (by decide)) (fun _ => ?_)
    refine z_iconst (v := -1) X d_Model_plan_20 rfl ?_
    exact z_iret X hret rfl (Nat.zero_le _) (Nat.zero_le _) ⟨_, x, rfl, hX, Or.inl ⟨rfl, Or.inr ⟨hall, hno⟩, kall⟩⟩ d_Model_plan_21
  refine z_if_ne (tgt := 22) X d_Model_plan_17 (by decide) (fun _ => ?_) (fun hq => absurd hq (by decide))
  have hW3 : zW g S h n I7 R := hW.low (fun k i j hk => kall k i j (by omega)) (fun j hj => kall 29 0 j (by decide))
  have p41 : ∀ j, I7 41 0 j = I8 41 0 j := fun j => hk3 41 0 j (by decide)
  have p40 : ∀ a, a < 6 → I7 40 0 a = nI (x a) := fun a ha => by rw [hk3 40 0 a (by decide), hk2 40 0 a (by decide)]; exact (hx6 a ha).1
  refine z_aload_n X d_Model_plan_22 rfl ?_
  refine gf_Model_96 X (zo_s rfl hW.1) d_Model_plan_23 ?_
  refine z_top (congrArg Value.int (hW3.2.2.2.2.2.2.2.2.2.1)) ?_
  refine z_istore_n X d_Model_plan_26 (by decide) rfl ?_
  refine z_aload_n X d_Model_plan_27 rfl ?_
  refine z_iconst (v := nI 1) X d_Model_plan_28 rfl ?_
  refine pf_Model_135 X (zo_s rfl hW.1) (by decide) d_Model_plan_29 ?_
  -- loop over the nodes
  have K3 : ∀ (s a : Nat) (I2 : zI), a + s = 6 → zW g S h n I2 R → (∀ j, j < 96 → I2 39 0 j = nI (T j) ∧ T j < 400) → (∀ j, j < 12 → I2 38 0 j = I7 41 0 j) → (∀ b, b < 6 → I2 40 0 b = nI (x b)) → (∀ b, b < a → I2 37 0 b = nI (x b)) → I2 29 0 12 = nI 1 → (∀ b, b < a → I2 32 0 b = (if b = 0 then nI 1 else nI 0) ∧ I2 47 0 b = nI 0 ∧ I2 48 0 b = nI 0 ∧ I2 43 0 (6 + b) = nI 0) → (∀ r, r < 6 → I2 43 0 r = I 43 0 r) → (∀ k i j, k ≠ 29 → k ≠ 32 → ¬ (37 ≤ k ∧ k ≤ 43) → k ≠ 47 → k ≠ 48 → I2 k i j = I k i j) → (∀ j, j ≠ 12 → I2 29 0 j = I 29 0 j) → zV pP l eE (zrm 3 72 0 0) sS mM aA bB mE cC g 3 (MQ bB (zQi g (fun r u => ∃ I2 x, u = (n, I2, J, R) ∧ zX g.2.2.2 (I 30 0) x ∧ ((r = -1 ∧ ((∃ a, a < g.2.2.2 ∧ x a = 99) ∨ ((∀ a, a < g.2.2.2 → x a < 99) ∧ zplan g.2.2.2 S h (I 30 0) x = none)) ∧ ∀ k i j, ¬ (40 ≤ k ∧ k ≤ 42) → I2 k i j = I k i j) ∨ (∃ T, (∀ a, a < g.2.2.2 → x a < 99) ∧ zplan g.2.2.2 S h (I 30 0) x = some T ∧ r = nI (g.2.2.2 + zcnt T 96) ∧ zPlanned g.2.2.2 (I 30 0) I I2 x T)))) aA sS 0 0 (zA g)) 0 0 106 [some (.ref (zad g 29 0)), some (.int (nI (g.2.2.2 + zcnt T 96))), some (.int (nI a))] [] n I2 J R := by
    intro s
    induction s with
    | zero =>
      intro a I2 ha hW c1 c2 c3 c4 c5 c6 c7 c8 c9
      have ha : a = 6 := by omega
      subst ha
      refine z_iload_n X d_Model_plan_106 rfl ?_
      refine z_bipush (v := nI 6) X d_Model_plan_107 rfl ?_
      refine z_icmp_ge (tgt := 169) X d_Model_plan_109 (by decide) (fun _ => ?_) (fun hq => absurd hq (by decide))
      refine z_iload_n X d_Model_plan_169 rfl ?_
      exact z_iret X hret rfl (Nat.zero_le _) (Nat.zero_le _) ⟨_, x, rfl, hX, Or.inr ⟨T, hall, hT, rfl, c1, fun a ha => ⟨by rw [c2 _ (by omega), p41]; exact (hp a ha).1, by rw [c2 _ (by omega), p41]; exact (hp a ha).2⟩, c4, c5, c6, c7, c8, c9⟩⟩ d_Model_plan_170
    | succ s ih =>
      intro a I2 ha hW c1 c2 c3 c4 c5 c6 c7 c8 c9
      have fin : ∀ v : Int32, v = (if a = 0 then nI 1 else nI 0) → zV pP l eE (zrm 3 72 0 0) sS mM aA bB mE cC g 3 (MQ bB (zQi g (fun r u => ∃ I2 x, u = (n, I2, J, R) ∧ zX g.2.2.2 (I 30 0) x ∧ ((r = -1 ∧ ((∃ a, a < g.2.2.2 ∧ x a = 99) ∨ ((∀ a, a < g.2.2.2 → x a < 99) ∧ zplan g.2.2.2 S h (I 30 0) x = none)) ∧ ∀ k i j, ¬ (40 ≤ k ∧ k ≤ 42) → I2 k i j = I k i j) ∨ (∃ T, (∀ a, a < g.2.2.2 → x a < 99) ∧ zplan g.2.2.2 S h (I 30 0) x = some T ∧ r = nI (g.2.2.2 + zcnt T 96) ∧ zPlanned g.2.2.2 (I 30 0) I I2 x T)))) aA sS 0 0 (zA g)) 0 0 138 [some (.ref (zad g 29 0)), some (.int (nI (g.2.2.2 + zcnt T 96))), some (.int (nI a))] [.int v, .int (nI a), .ref (zad g 32 0)] n (zu I2 37 0 a (nI (x a))) J R := by
        intro v hv
        have hv01 : v = 0 ∨ v = 1 := by rw [hv]; split; exact Or.inr rfl; exact Or.inl rfl
        refine as_32 X (zo_s rfl hW.1) rfl (by omega) hv01 d_Model_plan_138 ?_
        refine z_aload_n X d_Model_plan_139 rfl ?_
        refine gr_Model_63 (hW.c (k := 29) (f := 23) rfl rfl (by decide) rfl) X (zo_s rfl hW.1) d_Model_plan_140 ?_
        refine z_iload_n X d_Model_plan_143 rfl ?_
        refine z_iconst (v := nI 0) X d_Model_plan_144 rfl ?_
        refine as_47 X (zo_s rfl hW.1) rfl (by omega) d_Model_plan_145 ?_
        refine z_aload_n X d_Model_plan_146 rfl ?_
        refine gr_Model_66 (hW.c (k := 29) (f := 24) rfl rfl (by decide) rfl) X (zo_s rfl hW.1) d_Model_plan_147 ?_
        refine z_iload_n X d_Model_plan_150 rfl ?_
        refine z_iconst (v := nI 0) X d_Model_plan_151 rfl ?_
        refine as_48 X (zo_s rfl hW.1) rfl (by omega) d_Model_plan_152 ?_
        refine z_aload_n X d_Model_plan_153 rfl ?_
        refine gr_Model_51 (hW.c (k := 29) (f := 19) rfl rfl (by decide) rfl) X (zo_s rfl hW.1) d_Model_plan_154 ?_
        refine z_bipush (v := nI 6) X d_Model_plan_157 rfl ?_
        refine z_iload_n X d_Model_plan_159 rfl ?_
        refine z_iadd X d_Model_plan_160 ?_
        refine z_iconst (v := nI 0) X d_Model_plan_161 rfl ?_
        refine as_43 (j := 6 + a) X (zo_s rfl hW.1) (nI_add 6 a) (by omega) d_Model_plan_162 ?_
        refine z_iinc X d_Model_plan_163 rfl (zinc _) (by decide) rfl ?_
        refine z_goto (tgt := 106) X d_Model_plan_166 (by decide) ?_
        refine ih (a + 1) _ (by omega) (zW.upI (zW.upI (zW.upI (zW.upI (zW.upI hW rfl) rfl) rfl) rfl) rfl) (fun j hj => by (repeat rw [zu_k (by decide)]); exact c1 j hj) (fun j hj => by (repeat rw [zu_k (by decide)]); exact c2 j hj) (fun b hb => by (repeat rw [zu_k (by decide)]); exact c3 b hb) (fun b hb => ?_) (by (repeat rw [zu_k (by decide)]); exact c5) (fun b hb => ?_) (fun r hr => ?_) (fun k i j d1 d2 d3 d4 d5 => by rw [zu_k (by omega), zu_k (by omega), zu_k (by omega), zu_k (by omega), zu_k (by omega)]; exact c8 k i j d1 d2 d3 d4 d5) (fun j hj => by (repeat rw [zu_k (by decide)]); exact c9 j hj)
        · rw [zu_k (by decide), zu_k (by decide), zu_k (by decide), zu_k (by decide), zu_if]
          by_cases e : b = a
          · rw [if_pos ⟨rfl, rfl, e⟩, e]
          · rw [if_neg (fun z => e z.2.2)]; exact c4 b (by omega)
        · by_cases e : b = a
          · subst e
            refine ⟨?_, ?_, ?_, ?_⟩
            · rw [zu_k (by decide), zu_k (by decide), zu_k (by decide), zu_s]; exact hv
            · rw [zu_k (by decide), zu_k (by decide), zu_s]
            · rw [zu_k (by decide), zu_s]
            · rw [zu_s]
          · obtain ⟨f1, f2, f3, f4⟩ := c6 b (by omega)
            refine ⟨?_, ?_, ?_, ?_⟩
            · rw [zu_k (by decide), zu_k (by decide), zu_k (by decide), zu_j e, zu_k (by decide)]; exact f1
            · rw [zu_k (by decide), zu_k (by decide), zu_j e, zu_k (by decide), zu_k (by decide)]; exact f2
            · rw [zu_k (by decide), zu_j e, zu_k (by decide), zu_k (by decide), zu_k (by decide)]; exact f3
            · rw [zu_j (by omega), zu_k (by decide), zu_k (by decide), zu_k (by decide), zu_k (by decide)]; exact f4
        · rw [zu_j (by omega), zu_k (by decide), zu_k (by decide), zu_k (by decide), zu_k (by decide)]; exact c7 r hr
      refine z_iload_n X d_Model_plan_106 rfl ?_
      refine z_bipush (v := nI 6) X d_Model_plan_107 rfl ?_
      refine z_icmp_ge (tgt := 169) X d_Model_plan_109 (by decide) (fun hq => absurd hq (nI_ge (by omega) (by omega))) (fun _ => ?_)
      refine z_aload_n X d_Model_plan_112 rfl ?_
      refine gr_Model_33 (hW.c (k := 29) (f := 13) rfl rfl (by decide) rfl) X (zo_s rfl hW.1) d_Model_plan_113 ?_
      refine z_iload_n X d_Model_plan_116 rfl ?_
      refine z_aload_n X d_Model_plan_117 rfl ?_
      refine gr_Model_42 (hW.c (k := 29) (f := 16) rfl rfl (by decide) rfl) X (zo_s rfl hW.1) d_Model_plan_118 ?_
      refine z_iload_n X d_Model_plan_121 rfl ?_
      refine al_40 X (zo_s rfl hW.1) rfl (by omega) d_Model_plan_122 ?_
      refine z_top (v2 := .int (nI (x a))) (congrArg Value.int (c3 a (by omega))) ?_
      refine as_37 X (zo_s rfl hW.1) rfl (by omega) d_Model_plan_123 ?_
      refine z_aload_n X d_Model_plan_124 rfl ?_
      refine gr_Model_16 (hW.c (k := 29) (f := 7) rfl rfl (by decide) rfl) X (zo_s rfl hW.1) d_Model_plan_125 ?_
      refine z_iload_n X d_Model_plan_128 rfl ?_
      refine z_iload_n X d_Model_plan_129 rfl ?_
      refine z_if_ne (tgt := 137) X d_Model_plan_130 (by decide) (fun h130 => ?_) (fun h130 => ?_)
      · refine z_iconst (v := nI 0) X d_Model_plan_137 rfl ?_
        exact fin _ (by first | rw [if_neg (fun z => h130 (by rw [z]; rfl))] | rw [if_pos (nI_ne00 h130 (by omega))])
      · refine z_iconst (v := nI 1) X d_Model_plan_133 rfl ?_
        refine z_goto (tgt := 138) X d_Model_plan_134 (by decide) ?_
        exact fin _ (by first | rw [if_neg (fun z => h130 (by rw [z]; rfl))] | rw [if_pos (nI_ne00 h130 (by omega))])
  have K2 : ∀ (s k : Nat) (I2 : zI), k + s = 12 → zW g S h n I2 R → (∀ j, j < 96 → I2 39 0 j = nI (T j) ∧ T j < 400) → (∀ j, j < k → I2 38 0 j = I7 41 0 j) → (∀ j, j ≠ 12 → I2 29 0 j = I 29 0 j) → I2 29 0 12 = nI 1 → (∀ k i j, k ≠ 29 → k ≠ 38 → k ≠ 39 → I2 k i j = I7 k i j) → zV pP l eE (zrm 3 72 0 0) sS mM aA bB mE cC g 3 (MQ bB (zQi g (fun r u => ∃ I2 x, u = (n, I2, J, R) ∧ zX g.2.2.2 (I 30 0) x ∧ ((r = -1 ∧ ((∃ a, a < g.2.2.2 ∧ x a = 99) ∨ ((∀ a, a < g.2.2.2 → x a < 99) ∧ zplan g.2.2.2 S h (I 30 0) x = none)) ∧ ∀ k i j, ¬ (40 ≤ k ∧ k ≤ 42) → I2 k i j = I k i j) ∨ (∃ T, (∀ a, a < g.2.2.2 → x a < 99) ∧ zplan g.2.2.2 S h (I 30 0) x = some T ∧ r = nI (g.2.2.2 + zcnt T 96) ∧ zPlanned g.2.2.2 (I 30 0) I I2 x T)))) aA sS 0 0 (zA g)) 0 0 80 [some (.ref (zad g 29 0)), some (.int (nI (g.2.2.2 + zcnt T 96))), some (.int (nI k))] [] n I2 J R := by
    intro s
    induction s with
    | zero =>
      intro k I2 hk hW c1 c2 c3 c4 c5
      have hk : k = 12 := by omega
      subst hk
      refine z_iload_n X d_Model_plan_80 rfl ?_
      refine z_bipush (v := nI 12) X d_Model_plan_81 rfl ?_
      refine z_icmp_ge (tgt := 104) X d_Model_plan_83 (by decide) (fun _ => ?_) (fun hq => absurd hq (by decide))
      refine z_iconst (v := nI 0) X d_Model_plan_104 rfl ?_
      refine z_istore_n X d_Model_plan_105 (by decide) rfl ?_
      exact K3 6 0 I2 (by omega) hW c1 c2 (fun b hb => by rw [c5 40 0 b (by decide) (by decide) (by decide)]; exact p40 b hb) (fun b hb => by omega) c4 (fun b hb => by omega) (fun r hr => by rw [c5 43 0 r (by decide) (by decide) (by decide)]; exact kall 43 0 r (by omega)) (fun k i j d1 d2 d3 d4 d5 => by rw [c5 k i j d1 (by omega) (by omega)]; exact kall k i j (by omega)) c3
    | succ s ih =>
      intro k I2 hk hW c1 c2 c3 c4 c5
      refine z_iload_n X d_Model_plan_80 rfl ?_
      refine z_bipush (v := nI 12) X d_Model_plan_81 rfl ?_
      refine z_icmp_ge (tgt := 104) X d_Model_plan_83 (by decide) (fun hq => absurd hq (nI_ge (by omega) (by omega))) (fun _ => ?_)
      refine z_aload_n X d_Model_plan_86 rfl ?_
      refine gr_Model_36 (hW.c (k := 29) (f := 14) rfl rfl (by decide) rfl) X (zo_s rfl hW.1) d_Model_plan_87 ?_
      refine z_iload_n X d_Model_plan_90 rfl ?_
      refine z_aload_n X d_Model_plan_91 rfl ?_
      refine gr_Model_45 (hW.c (k := 29) (f := 17) rfl rfl (by decide) rfl) X (zo_s rfl hW.1) d_Model_plan_92 ?_
      refine z_iload_n X d_Model_plan_95 rfl ?_
      refine al_41 X (zo_s rfl hW.1) rfl (by omega) d_Model_plan_96 ?_
      refine as_38 X (zo_s rfl hW.1) rfl (by omega) d_Model_plan_97 ?_
      refine z_iinc X d_Model_plan_98 rfl (zinc _) (by decide) rfl ?_
      refine z_goto (tgt := 80) X d_Model_plan_101 (by decide) ?_
      refine ih (k + 1) _ (by omega) (zW.upI hW rfl) (fun j hj => by rw [zu_k (by decide)]; exact c1 j hj) (fun j hj => ?_) (fun j hj => by rw [zu_k (by decide)]; exact c3 j hj) (by rw [zu_k (by decide)]; exact c4) (fun a i j d1 d2 d3 => by rw [zu_k d2]; exact c5 a i j d1 d2 d3)
      rw [zu_if]
      by_cases e : j = k
      · rw [if_pos ⟨rfl, rfl, e⟩, e]; exact c5 41 0 k (by decide) (by decide) (by decide)
      · rw [if_neg (fun z => e z.2.2)]; exact c2 j (by omega)
  have K1 : ∀ (s k : Nat) (I2 : zI), k + s = 96 → zW g S h n I2 R → (∀ j, j < k → I2 39 0 j = nI (T j) ∧ T j < 400) → (∀ j, j ≠ 12 → I2 29 0 j = I 29 0 j) → I2 29 0 12 = nI 1 → (∀ k i j, k ≠ 29 → k ≠ 39 → I2 k i j = I7 k i j) → zV pP l eE (zrm 3 72 0 0) sS mM aA bB mE cC g 3 (MQ bB (zQi g (fun r u => ∃ I2 x, u = (n, I2, J, R) ∧ zX g.2.2.2 (I 30 0) x ∧ ((r = -1 ∧ ((∃ a, a < g.2.2.2 ∧ x a = 99) ∨ ((∀ a, a < g.2.2.2 → x a < 99) ∧ zplan g.2.2.2 S h (I 30 0) x = none)) ∧ ∀ k i j, ¬ (40 ≤ k ∧ k ≤ 42) → I2 k i j = I k i j) ∨ (∃ T, (∀ a, a < g.2.2.2 → x a < 99) ∧ zplan g.2.2.2 S h (I 30 0) x = some T ∧ r = nI (g.2.2.2 + zcnt T 96) ∧ zPlanned g.2.2.2 (I 30 0) I I2 x T)))) aA sS 0 0 (zA g)) 0 0 34 [some (.ref (zad g 29 0)), some (.int (nI (g.2.2.2 + zcnt T k))), some (.int (nI k))] [] n I2 J R := by
    intro s
    induction s with
    | zero =>
      intro k I2 hk hW c1 c3 c4 c5
      have hk : k = 96 := by omega
      subst hk
      refine z_iload_n X d_Model_plan_34 rfl ?_
      refine z_bipush (v := nI 96) X d_Model_plan_35 rfl ?_
      refine z_icmp_ge (tgt := 78) X d_Model_plan_37 (by decide) (fun _ => ?_) (fun hq => absurd hq (by decide))
      refine z_iconst (v := nI 0) X d_Model_plan_78 rfl ?_
      refine z_istore_n X d_Model_plan_79 (by decide) rfl ?_
      exact K2 12 0 I2 (by omega) hW c1 (fun j hj => by omega) c3 c4 (fun k i j d1 d2 d3 => c5 k i j d1 d3)
    | succ s ih =>
      intro k I2 hk hW c1 c3 c4 c5
      obtain ⟨t1, t2⟩ := hTT k (by omega)
      have nx : ∀ v : Nat, v = (if 200 ≤ T k then 1 else 0) → zV pP l eE (zrm 3 72 0 0) sS mM aA bB mE cC g 3 (MQ bB (zQi g (fun r u => ∃ I2 x, u = (n, I2, J, R) ∧ zX g.2.2.2 (I 30 0) x ∧ ((r = -1 ∧ ((∃ a, a < g.2.2.2 ∧ x a = 99) ∨ ((∀ a, a < g.2.2.2 → x a < 99) ∧ zplan g.2.2.2 S h (I 30 0) x = none)) ∧ ∀ k i j, ¬ (40 ≤ k ∧ k ≤ 42) → I2 k i j = I k i j) ∨ (∃ T, (∀ a, a < g.2.2.2 → x a < 99) ∧ zplan g.2.2.2 S h (I 30 0) x = some T ∧ r = nI (g.2.2.2 + zcnt T 96) ∧ zPlanned g.2.2.2 (I 30 0) I I2 x T)))) aA sS 0 0 (zA g)) 0 0 70 [some (.ref (zad g 29 0)), some (.int (nI (g.2.2.2 + zcnt T k))), some (.int (nI k))] [.int (nI v), .int (nI (g.2.2.2 + zcnt T k))] n (zu I2 39 0 k (nI (T k))) J R := by
        intro v hv
        refine z_iadd X d_Model_plan_70 ?_
        refine z_top (v2 := .int (nI (g.2.2.2 + zcnt T (k + 1)))) (congrArg Value.int (by rw [nI_add, hv, Nat.add_assoc]; rfl)) ?_
        refine z_istore_n X d_Model_plan_71 (by decide) rfl ?_
        refine z_iinc X d_Model_plan_72 rfl (zinc _) (by decide) rfl ?_
        refine z_goto (tgt := 34) X d_Model_plan_75 (by decide) ?_
        refine ih (k + 1) _ (by omega) (zW.upI hW rfl) (fun j hj => ?_) (fun j hj => by rw [zu_k (by decide)]; exact c3 j hj) (by rw [zu_k (by decide)]; exact c4) (fun a i j d1 d2 => by rw [zu_k d2]; exact c5 a i j d1 d2)
        rw [zu_if]
        by_cases e : j = k
        · rw [if_pos ⟨rfl, rfl, e⟩, e]; exact ⟨rfl, t2⟩
        · rw [if_neg (fun z => e z.2.2)]; exact c1 j (by omega)
      refine z_iload_n X d_Model_plan_34 rfl ?_
      refine z_bipush (v := nI 96) X d_Model_plan_35 rfl ?_
      refine z_icmp_ge (tgt := 78) X d_Model_plan_37 (by decide) (fun hq => absurd hq (nI_ge (by omega) (by omega))) (fun _ => ?_)
      refine z_aload_n X d_Model_plan_40 rfl ?_
      refine gr_Model_39 (hW.c (k := 29) (f := 15) rfl rfl (by decide) rfl) X (zo_s rfl hW.1) d_Model_plan_41 ?_
      refine z_iload_n X d_Model_plan_44 rfl ?_
      refine z_aload_n X d_Model_plan_45 rfl ?_
      refine gr_Model_48 (hW.c (k := 29) (f := 18) rfl rfl (by decide) rfl) X (zo_s rfl hW.1) d_Model_plan_46 ?_
      refine z_iload_n X d_Model_plan_49 rfl ?_
      refine al_42 X (zo_s rfl hW.1) rfl (by omega) d_Model_plan_50 ?_
      refine z_top (v2 := .int (nI (T k))) (congrArg Value.int ((c5 42 0 k (by decide) (by decide)).trans t1)) ?_
      refine as_39 X (zo_s rfl hW.1) rfl (by omega) d_Model_plan_51 ?_
      refine z_iload_n X d_Model_plan_52 rfl ?_
      refine z_aload_n X d_Model_plan_53 rfl ?_
      refine gr_Model_39 (hW.c (k := 29) (f := 15) rfl rfl (by decide) rfl) X (zo_s rfl hW.1) d_Model_plan_54 ?_
      refine z_iload_n X d_Model_plan_57 rfl ?_
      refine al_39 X (zo_s rfl hW.1) rfl (by omega) d_Model_plan_58 ?_
      refine z_top (v2 := .int (nI (T k))) (congrArg Value.int zu_s) ?_
      refine z_sipush (v := nI 200) X d_Model_plan_59 rfl ?_
      refine z_icmpN_lt (tgt := 69) X d_Model_plan_62 (by decide) (by omega) (by omega) (fun h62 => ?_) (fun h62 => ?_)
      · refine z_iconst (v := nI 0) X d_Model_plan_69 rfl ?_
        exact nx _ (by first | rw [if_neg (by omega)] | rw [if_pos h62])
      · refine z_iconst (v := nI 1) X d_Model_plan_65 rfl ?_
        refine z_goto (tgt := 70) X d_Model_plan_66 (by decide) ?_
        exact nx _ (by first | rw [if_neg (by omega)] | rw [if_pos h62])
  refine z_iconst (v := nI 0) X d_Model_plan_32 rfl ?_
  refine z_istore_n X d_Model_plan_33 (by decide) rfl ?_
  exact K1 96 0 _ (by omega) (zW.upI hW3 rfl) (fun j hj => by omega) (fun j hj => by rw [zu_j hj]; exact kall 29 0 j (by decide)) zu_s (fun k i j d1 d2 => zu_k d1)

