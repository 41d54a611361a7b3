/-! THE COMPONENT: Advert.go -/
theorem zu_same {α : Type} {f : Nat → Nat → Nat → α} {k i j : Nat} {v : α} (h : f k i j = v) : zu f k i j v = f := by subst h; exact zu_id
theorem zu_comm {α : Type} {f : Nat → Nat → Nat → α} {k i j k2 i2 j2 : Nat} {v w : α} (h : k ≠ k2) : zu (zu f k i j v) k2 i2 j2 w = zu (zu f k2 i2 j2 w) k i j v := by
  funext a b c
  rw [zu_if, zu_if, zu_if, zu_if]
  by_cases e : a = k ∧ b = i ∧ c = j
  · have e2 : ¬ (a = k2 ∧ b = i2 ∧ c = j2) := fun z => h (e.1.symm.trans z.1)
    simp only [if_pos e, if_neg e2]
  · simp only [if_neg e]
theorem zcl1_sym (x y : Int32) : zcl1 (x - y) = zcl1 (y - x) := by
  rw [show x - y = -(y - x) by rw [Int32.neg_sub]]
  generalize y - x = z
  unfold zcl1
  have key : (-z).toInt = if z.toInt = -2147483648 then -2147483648 else -z.toInt := by
    have := Int32.toInt_neg z
    rw [this]
    have h1 := Int32.le_toInt z
    have h2 := Int32.toInt_lt z
    by_cases e : z.toInt = -2147483648
    · rw [if_pos e, e]; decide
    · rw [if_neg e]; exact Int.bmod_eq_of_le (by omega) (by omega)
  have h1 := Int32.le_toInt z
  have h2 := Int32.toInt_lt z
  have c1 : (-10 : Int32).toInt = -10 := by decide
  have c2 : (nI 10).toInt = 10 := by decide
  have e1 : (-z < -10) = ((-z).toInt < -10) := by rw [Int32.lt_iff_toInt_lt, c1]
  have e2 : (nI 10 < -z) = (10 < (-z).toInt) := by rw [Int32.lt_iff_toInt_lt, c2]
  have e3 : (z < -10) = (z.toInt < -10) := by rw [Int32.lt_iff_toInt_lt, c1]
  have e4 : (nI 10 < z) = (10 < z.toInt) := by rw [Int32.lt_iff_toInt_lt, c2]
  simp only [e1, e2, e3, e4, key]
  by_cases e : z.toInt = -2147483648
  · rw [if_pos e, e]
  · rw [if_neg e]
    by_cases a : z.toInt < -10 <;> by_cases b : 10 < z.toInt <;> simp [a, b] <;> omega
def zB (c : Nat) (A : zI) : Prop := A 32 0 0 = nI 1 ∧ ∀ b, b < c → A 32 0 b = 0 ∨ A 32 0 b = nI 1
theorem zB.one {c b : Nat} {A : zI} (h : zB c A) (hb : b < c) (hz : ¬ A 32 0 b = 0) : A 32 0 b = nI 1 := (h.2 b hb).resolve_left hz
theorem zB.of {c : Nat} {A A2 : zI} (h : zB c A) (he : ∀ b, A2 32 0 b = A 32 0 b) : zB c A2 := ⟨(he 0).trans h.1, fun b hb => by rw [he]; exact h.2 b hb⟩
theorem zB.put {c b : Nat} {A : zI} {v : Int32} (h : zB c A) (hv : v = nI 1 ∨ (v = 0 ∧ 0 < b)) : zB c (zu A 32 0 b v) := by
  refine ⟨?_, fun x hx => ?_⟩
  · rw [zu_if]
    split
    · rename_i e
      rcases hv with rfl | ⟨rfl, h0⟩
      · rfl
      · omega
    · exact h.1
  · rw [zu_if]
    split
    · rcases hv with rfl | ⟨rfl, h0⟩
      · exact Or.inr rfl
      · exact Or.inl rfl
    · exact h.2 x hx
theorem zB.ad1 {c u k : Nat} {A : zI} (h : zB c A) : zB c (zad1 u k A) := by
  unfold zad1
  (repeat' split)
  · exact h
  · exact ((h.put (b := k) (v := nI 1) (Or.inl rfl)).of (fun b => zu_k (by decide))).of (fun b => zu_k (by decide))
  · exact h.of (fun b => zu_k (by decide))
  · exact h
theorem zB.adL {c u : Nat} : ∀ (s k : Nat) (A : zI), zB c A → zB c (zadL u s k A)
  | 0, _, _, h => h
  | s + 1, k, A, h => zB.adL s (k + 1) _ h.ad1
theorem zB.adv {c c2 u : Nat} {hb : Bool} {A : zI} (h : zB c A) : zB c (zadv c2 u hb A) := by
  unfold zadv
  split
  · exact h
  · exact zB.adL _ _ _ h
theorem zPr.of {c : Nat} {R R2 : zR} {A A2 : zI} (h : zPr c R A) (hA : ∀ j, A2 38 0 j = A 38 0 j) (hR : ∀ v, R2 1 v 14 = R 1 v 14) : zPr c R2 A2 := fun v hv => by rw [hA, hR]; exact h v hv
/-- the gateway's own turn changes nothing -/
theorem zad_0 {c u : Nat} {A : zI} {R : zR} (hB : zB c A) (hP : zPr c R A) (hc : 2 ≤ c ∧ c ≤ 6) (hu : u < c) (hn : R 1 0 14 = none) : zadL u c 0 A = zadL u (c - 1) 1 A := by
  obtain ⟨d, rfl⟩ : ∃ d, c = d + 1 := ⟨c - 1, by omega⟩
  show zadL u d 1 (zad1 u 0 A) = zadL u d 1 A
  congr 1
  unfold zad1
  split
  · rfl
  rw [if_neg (by rw [hB.1]; decide), if_neg]
  rintro ⟨h1, -⟩
  rw [(hP.iff hc.2 (by omega) hu).mp (by exact h1)] at hn
  cases hn
theorem ad_1 {c n N u k : Nat} {I I2 : zI} {R : zR} {fl : zfl} {A : zI} {q : zq} (hC : zRC c n N I2 R fl A q) (hI : zIk I I2) (h : A 30 0 (6 * u + k) = 0 ∨ A 31 0 k = 0) : zRC c n N I2 R fl (zad1 u k A) q ∧ zIk I I2 := by
  unfold zad1
  rw [if_pos h]
  exact ⟨hC, hI⟩
theorem ad_3 {c n N u k : Nat} {I I2 : zI} {R : zR} {fl : zfl} {A : zI} {q : zq} (hk : k < c) (hC : zRC c n N I2 R fl A q) (hI : zIk I I2) (h1 : ¬ A 30 0 (6 * u + k) = 0) (h2 : ¬ A 31 0 k = 0) (h3 : A 32 0 k = 0) : zRC c n N (zu (zu (zu I2 1 k 3 (A 33 0 u)) 1 k 5 (nI 0)) 1 k 2 (nI 1)) R fl (zad1 u k A) q ∧ zIk I (zu (zu (zu I2 1 k 3 (A 33 0 u)) 1 k 5 (nI 0)) 1 k 2 (nI 1)) := by
  unfold zad1
  rw [if_neg (by intro z; exact z.elim h1 h2), if_pos h3]
  have := ((hC.put (v := A 33 0 u) (zco.n hk (j := 3) (k' := 33) (by decide))).put (v := nI 0) (zco.n hk (j := 5) (k' := 47) (by decide))).put (v := nI 1) (zco.n hk (j := 2) (k' := 32) (by decide))
  rw [zu_comm (k := 47) (k2 := 32) (by decide), zu_comm (k := 33) (k2 := 32) (by decide)] at this
  exact ⟨this, ((hI.tr (zIk.put rfl)).tr (zIk.put rfl)).tr (zIk.put rfl)⟩
theorem ad_4 {c n N u k : Nat} {I I2 : zI} {R : zR} {fl : zfl} {A : zI} {q : zq} (hk : k < c) (hC : zRC c n N I2 R fl A q) (hI : zIk I I2) (h1 : ¬ A 30 0 (6 * u + k) = 0) (h2 : ¬ A 31 0 k = 0) (h3 : A 32 0 k = nI 1) (h4 : A 38 0 (2 * k) = nI u ∧ zcl1 (A 33 0 u - A 33 0 k) = true) : zRC c n N (zu (zu (zu I2 1 k 3 (A 33 0 u)) 1 k 5 (A 47 0 k)) 1 k 2 (nI 1)) R fl (zad1 u k A) q ∧ zIk I (zu (zu (zu I2 1 k 3 (A 33 0 u)) 1 k 5 (A 47 0 k)) 1 k 2 (nI 1)) := by
  unfold zad1
  rw [if_neg (by intro z; exact z.elim h1 h2), if_neg (by rw [h3]; decide), if_pos h4]
  have := ((hC.put (v := A 33 0 u) (zco.n hk (j := 3) (k' := 33) (by decide))).put (v := A 47 0 k) (zco.n hk (j := 5) (k' := 47) (by decide))).put (v := nI 1) (zco.n hk (j := 2) (k' := 32) (by decide))
  rw [zu_same (f := zu A 33 0 k (A 33 0 u)) (zu_k (by decide)), zu_same (f := zu A 33 0 k (A 33 0 u)) ((zu_k (by decide)).trans h3)] at this
  exact ⟨this, ((hI.tr (zIk.put rfl)).tr (zIk.put rfl)).tr (zIk.put rfl)⟩
theorem ad_5 {c n N u k : Nat} {I I2 : zI} {R : zR} {fl : zfl} {A : zI} {q : zq} (hk : k < c) (hC : zRC c n N I2 R fl A q) (hI : zIk I I2) (h1 : ¬ A 30 0 (6 * u + k) = 0) (h2 : ¬ A 31 0 k = 0) (h3 : A 32 0 k = nI 1) (h4 : ¬ (A 38 0 (2 * k) = nI u ∧ zcl1 (A 33 0 u - A 33 0 k) = true)) : zRC c n N (zu (zu I2 1 k 5 (A 47 0 k)) 1 k 2 (nI 1)) R fl (zad1 u k A) q ∧ zIk I (zu (zu I2 1 k 5 (A 47 0 k)) 1 k 2 (nI 1)) := by
  unfold zad1
  rw [if_neg (by intro z; exact z.elim h1 h2), if_neg (by rw [h3]; decide), if_neg h4]
  have := (hC.put (v := A 47 0 k) (zco.n hk (j := 5) (k' := 47) (by decide))).put (v := nI 1) (zco.n hk (j := 2) (k' := 32) (by decide))
  rw [zu_same (f := A) rfl, zu_same (f := A) h3] at this
  exact ⟨this, (hI.tr (zIk.put rfl)).tr (zIk.put rfl)⟩
theorem c_Advert_go (l : Launch) (g : zG) {S h n N : Nat} {I : zI} {J : zJ} {R : zR} {fl : zfl} {A : zI} {q : zq} (hW : zW g S h n I R) (hC : zRC g.2.2.2 n N I R fl A q) (hP : zPr g.2.2.2 R A) (hB : zB g.2.2.2 A) (hn0 : R 1 0 14 = none) {x u t : Nat} (hx : x < g.2.2.2) (hu : u < g.2.2.2) (h0 : R 4 x 0 = some u) (ht : t < 2 ^ 30) (h7t : I 0 0 7 = nI t) : zMet l g y_Advert_go b_Advert_go 5 none 1 22 0 0 (zPc g [.ref (zad g 4 x), .ref (zad g 0 0)] n I J R) (zQv g (zS0 g n N I J R (zadv g.2.2.2 u (zbit (J 9 0 (t % h)) t) A) q)) := by
  have hc := hW.2.1.2
  have hWW := hW
  refine zMet.of (by decide) [some (.ref (zad g 4 x)), some (.ref (zad g 0 0)), none, none, none] rfl (Nat.le_of_ble_eq_true rfl) ?_
  intro pP eE sS mM aA bB mE cC X hret hnm
  have X : zC pP sS mM aA mE cC b_Advert_go "SlottedMesh$Advert" 5 g := X
  have hret : mE.sig.returnType = none := hret
  have hfin : ∀ A2, A2 = zadL u g.2.2.2 0 A → ¬ A 32 0 u = 0 → zbit (J 9 0 (t % h)) t = true → A2 = zadv g.2.2.2 u (zbit (J 9 0 (t % h)) t) A := by
    intro A2 e1 e2 e3
    unfold zadv
    rw [if_neg (by rw [e3]; simpa using e2), e1]
    exact zad_0 hB hP hW.2.1 hu hn0
  have key : ¬ A 32 0 u = 0 → zbit (J 9 0 (t % h)) t = true → ∀ s k (I2 A2 : zI), k + s = g.2.2.2 → zRC g.2.2.2 n N I2 R fl A2 q ∧ zIk I I2 → zB g.2.2.2 A2 → zPr g.2.2.2 R A2 → zadL u s k A2 = zadL u g.2.2.2 0 A → zV pP l eE (zrm 1 22 0 0) sS mM aA bB mE cC g 5 (MQ bB (zQv g (zS0 g n N I J R (zadv g.2.2.2 u (zbit (J 9 0 (t % h)) t) A) q)) aA sS 0 0 (zA g)) 0 0 25 [some (.ref (zad g 4 x)), some (.ref (zad g 0 0)), some (.int (nI k)), none, none] [] n I2 J R := by
    intro e2 e3 s
    induction s with
    | zero =>
      intro k I2 A2 hk hZ hB2 hP2 he
      have hW := hWW.step (Nat.le_refl _) hZ.2 zRk2.rf
      have hk : k = g.2.2.2 := by omega
      subst hk
      refine z_iload_n X d_Advert_go_25 rfl ?_
      refine z_aload_n X d_Advert_go_26 rfl ?_
      refine gf_Advert_33 X (zo_s rfl hW.1) d_Advert_go_27 ?_
      refine z_top (congrArg Value.int (hW.2.2.2.2.2.1)) ?_
      refine z_icmp_ge (tgt := 144) X d_Advert_go_30 (by decide) (fun _ => ?_) (fun hq => absurd hq (fun z => z (Int32.le_refl _)))
      exact z_vret X hret (Nat.zero_le _) (Nat.zero_le _) ⟨I2, R, fl, rfl, by rw [← hfin A2 he e2 e3]; exact hZ.1, hZ.2, zRk2.rf⟩ d_Advert_go_144
    | succ s ih =>
      intro k I2 A2 hk hZ hB2 hP2 he
      have hW := hWW.step (Nat.le_refl _) hZ.2 zRk2.rf
      have hkc : k < g.2.2.2 := by omega
      have hC2 := hZ.1
      have next : ∀ I3 : zI, zRC g.2.2.2 n N I3 R fl (zad1 u k A2) q ∧ zIk I I3 → zV pP l eE (zrm 1 22 0 0) sS mM aA bB mE cC g 5 (MQ bB (zQv g (zS0 g n N I J R (zadv g.2.2.2 u (zbit (J 9 0 (t % h)) t) A) q)) aA sS 0 0 (zA g)) 0 0 25 [some (.ref (zad g 4 x)), some (.ref (zad g 0 0)), some (.int (nI (k + 1))), none, none] [] n I3 J R := fun I3 h3 => ih (k + 1) I3 (zad1 u k A2) (by omega) h3 hB2.ad1 (hP2.of (fun j => zad1_keep rfl) (fun _ => rfl)) he
      refine z_iload_n X d_Advert_go_25 rfl ?_
      refine z_aload_n X d_Advert_go_26 rfl ?_
      refine gf_Advert_33 X (zo_s rfl hW.1) d_Advert_go_27 ?_
      refine z_top (congrArg Value.int (hW.2.2.2.2.2.1)) ?_
      refine z_icmp_ge (tgt := 144) X d_Advert_go_30 (by decide) (fun hq => absurd hq (nI_ge (by omega) (by omega))) (fun _ => ?_)
      refine z_aload_n X d_Advert_go_33 rfl ?_
      refine gr_Advert_36 (hW.c (k := 0) (f := 3) rfl rfl (by decide) rfl) X (zo_s rfl hW.1) d_Advert_go_34 ?_
      refine z_iload_n X d_Advert_go_37 rfl ?_
      refine ar_6 X (zo_s rfl hW.1) rfl (by omega) (hW.nd (by omega)) d_Advert_go_38 ?_
      refine z_astore_n X d_Advert_go_39 (by decide) rfl ?_
      refine z_aload_n X d_Advert_go_40 rfl ?_
      refine gr_Advert_40 (hW.c (k := 0) (f := 4) rfl rfl (by decide) rfl) X (zo_s rfl hW.1) d_Advert_go_41 ?_
      refine z_aload_n X d_Advert_go_44 rfl ?_
      refine gr_Advert_7 h0 X (zo_c hW.2.1.2 (by omega) hW.1) (by omega) d_Advert_go_45 ?_
      refine gf_Advert_13 X (zo_n (by omega) hW.1) d_Advert_go_48 ?_
      refine z_top (congrArg Value.int ((hW.2.2.2.2.2.2.2.2.1 u hu))) ?_
      refine ar_7 X (zo_s rfl hW.1) rfl (by omega) (hW.nr (by omega)) d_Advert_go_51 ?_
      refine z_iload_n X d_Advert_go_52 rfl ?_
      refine al_8 X (zo_z (by omega) hW.1) rfl (by omega) d_Advert_go_53 ?_
      refine z_top (v2 := .int (A2 30 0 (6 * u + k))) (congrArg Value.int (hC2.1.nr (by omega) (by omega))) ?_
      refine z_if_eq (tgt := 138) X d_Advert_go_54 (by decide) (fun h54 => ?_) (fun h54 => ?_)
      · refine z_iinc X d_Advert_go_138 rfl (zinc _) (by decide) rfl ?_
        have hZ9 := ad_1 hC2 hZ.2 (Or.inl h54)
        refine z_goto (tgt := 25) X d_Advert_go_141 (by decide) ?_
        refine z_wk (ls2 := [some (.ref (zad g 4 x)), some (.ref (zad g 0 0)), some (.int (nI (k + 1))), none, none]) ⟨rfl, rfl, rfl, trivial⟩ ?_
        exact next _ hZ9
      · refine z_aload_n X d_Advert_go_57 rfl ?_
        refine gf_Advert_44 X (zo_n (by omega) hW.1) d_Advert_go_58 ?_
        refine z_top (congrArg Value.int ((hC2.1.nd hkc).1)) ?_
        refine z_if_eq (tgt := 138) X d_Advert_go_61 (by decide) (fun h61 => ?_) (fun h61 => ?_)
        · refine z_iinc X d_Advert_go_138 rfl (zinc _) (by decide) rfl ?_
          have hZ9 := ad_1 (u := u) hC2 hZ.2 (Or.inr h61)
          refine z_goto (tgt := 25) X d_Advert_go_141 (by decide) ?_
          refine z_wk (ls2 := [some (.ref (zad g 4 x)), some (.ref (zad g 0 0)), some (.int (nI (k + 1))), none, none]) ⟨rfl, rfl, rfl, trivial⟩ ?_
          exact next _ hZ9
        · refine z_aload_n X d_Advert_go_64 rfl ?_
          refine gf_Advert_19 X (zo_n (by omega) hW.1) d_Advert_go_65 ?_
          refine z_top (congrArg Value.int ((hC2.1.nd hkc).2.1)) ?_
          refine z_if_ne (tgt := 75) X d_Advert_go_68 (by decide) (fun h68 => ?_) (fun h68 => ?_)
          · refine z_iconst (v := nI 0) X d_Advert_go_75 rfl ?_
            refine z_istore X d_Advert_go_76 (by decide) rfl ?_
            refine z_iload X d_Advert_go_78 rfl ?_
            refine z_if_ne (tgt := 105) X d_Advert_go_80 (by decide) (fun hq => absurd hq (by decide)) (fun _ => ?_)
            refine z_aload_n X d_Advert_go_83 rfl ?_
            refine gf_Advert_47 X (zo_n (by omega) hW.1) d_Advert_go_84 ?_
            refine z_aload_n X d_Advert_go_87 rfl ?_
            refine gr_Advert_7 h0 X (zo_c hW.2.1.2 (by omega) hW.1) (by omega) d_Advert_go_88 ?_
            refine z_acmp_ne (tgt := 116) (rx := ((R 1 k 14).map (zad g 1))) (ry := (some (zad g 1 u))) X rfl rfl d_Advert_go_91 (by decide) (fun h91 => ?_) (fun h91 => ?_)
            · refine z_aload_n X d_Advert_go_116 rfl ?_
              refine z_iload X d_Advert_go_117 rfl ?_
              refine z_if_eq (tgt := 126) X d_Advert_go_119 (by decide) (fun _ => ?_) (fun hq => absurd hq (by decide))
              refine z_aload_n X d_Advert_go_126 rfl ?_
              refine gf_Advert_57 X (zo_n (by omega) hW.1) d_Advert_go_127 ?_
              refine z_top (congrArg Value.int ((hC2.1.nd hkc).2.2.2.2.1)) ?_
              refine pf_Advert_57 X (zo_n (by omega) hW.1) d_Advert_go_130 ?_
              refine z_aload_n X d_Advert_go_133 rfl ?_
              refine z_iconst (v := nI 1) X d_Advert_go_134 rfl ?_
              refine pf_Advert_19 X (zo_n (by omega) hW.1) (by decide) d_Advert_go_135 ?_
              refine z_iinc X d_Advert_go_138 rfl (zinc _) (by decide) rfl ?_
              have hZ9 := ad_5 hkc hC2 hZ.2 h54 h61 (hB2.one hkc h68) (fun z => h91 (by rw [(hP2.iff hc hkc hu).mp z.1]; rfl))
              refine z_goto (tgt := 25) X d_Advert_go_141 (by decide) ?_
              refine z_wk (ls2 := [some (.ref (zad g 4 x)), some (.ref (zad g 0 0)), some (.int (nI (k + 1))), none, none]) ⟨rfl, rfl, rfl, trivial⟩ ?_
              exact next _ hZ9
            · refine z_aload_n X d_Advert_go_94 rfl ?_
              refine z_aload_n X d_Advert_go_95 rfl ?_
              refine gr_Advert_7 h0 X (zo_c hW.2.1.2 (by omega) hW.1) (by omega) d_Advert_go_96 ?_
              refine z_ci (z_rV X cs_Advert_50 rfl rfl (zo_n (by omega) hW.1).1 (zo_n (by omega) hW.1).2 (c_Node_inStep l g hW k u hkc hu) ⟨Nat.le_of_ble_eq_true rfl, Nat.le_of_ble_eq_true rfl⟩ rfl rfl (Nat.le_of_ble_eq_true rfl) ⟨Nat.le_of_ble_eq_true rfl, Nat.le_of_ble_eq_true rfl⟩ d_Advert_go_99) (fun r n2 I2 J2 R2 h => ?_)
              obtain ⟨rfl, e⟩ := h
              cases e
              refine z_top (v2 := .int (if zcl1 (A2 33 0 u - A2 33 0 k) = true then nI 1 else nI 0)) (by rw [(hC2.1.nd hkc).2.2.1, (hC2.1.nd hu).2.2.1, zcl1_sym]) ?_
              refine z_if_eq (tgt := 116) X d_Advert_go_102 (by decide) (fun h102 => ?_) (fun h102 => ?_)
              · refine z_aload_n X d_Advert_go_116 rfl ?_
                refine z_iload X d_Advert_go_117 rfl ?_
                refine z_if_eq (tgt := 126) X d_Advert_go_119 (by decide) (fun _ => ?_) (fun hq => absurd hq (by decide))
                refine z_aload_n X d_Advert_go_126 rfl ?_
                refine gf_Advert_57 X (zo_n (by omega) hW.1) d_Advert_go_127 ?_
                refine z_top (congrArg Value.int ((hC2.1.nd hkc).2.2.2.2.1)) ?_
                refine pf_Advert_57 X (zo_n (by omega) hW.1) d_Advert_go_130 ?_
                refine z_aload_n X d_Advert_go_133 rfl ?_
                refine z_iconst (v := nI 1) X d_Advert_go_134 rfl ?_
                refine pf_Advert_19 X (zo_n (by omega) hW.1) (by decide) d_Advert_go_135 ?_
                refine z_iinc X d_Advert_go_138 rfl (zinc _) (by decide) rfl ?_
                have hZ9 := ad_5 hkc hC2 hZ.2 h54 h61 (hB2.one hkc h68) (fun z => by have := zif0 h102; rw [z.2] at this; cases this)
                refine z_goto (tgt := 25) X d_Advert_go_141 (by decide) ?_
                refine z_wk (ls2 := [some (.ref (zad g 4 x)), some (.ref (zad g 0 0)), some (.int (nI (k + 1))), none, none]) ⟨rfl, rfl, rfl, trivial⟩ ?_
                exact next _ hZ9
              · refine z_aload_n X d_Advert_go_105 rfl ?_
                refine z_aload_n X d_Advert_go_106 rfl ?_
                refine gr_Advert_7 h0 X (zo_c hW.2.1.2 (by omega) hW.1) (by omega) d_Advert_go_107 ?_
                refine gf_Advert_54 X (zo_n (by omega) hW.1) d_Advert_go_110 ?_
                refine z_top (congrArg Value.int ((hC2.1.nd hu).2.2.1)) ?_
                refine pf_Advert_54 X (zo_n (by omega) hW.1) d_Advert_go_113 ?_
                refine z_aload_n X d_Advert_go_116 rfl ?_
                refine z_iload X d_Advert_go_117 rfl ?_
                refine z_if_eq (tgt := 126) X d_Advert_go_119 (by decide) (fun _ => ?_) (fun hq => absurd hq (by decide))
                refine z_aload_n X d_Advert_go_126 rfl ?_
                refine gf_Advert_57 X (zo_n (by omega) hW.1) d_Advert_go_127 ?_
                refine z_top (v2 := .int (A2 47 0 k)) (congrArg Value.int ((zu_j (by decide)).trans (hC2.1.nd hkc).2.2.2.2.1)) ?_
                refine pf_Advert_57 X (zo_n (by omega) hW.1) d_Advert_go_130 ?_
                refine z_aload_n X d_Advert_go_133 rfl ?_
                refine z_iconst (v := nI 1) X d_Advert_go_134 rfl ?_
                refine pf_Advert_19 X (zo_n (by omega) hW.1) (by decide) d_Advert_go_135 ?_
                refine z_iinc X d_Advert_go_138 rfl (zinc _) (by decide) rfl ?_
                have hZ9 := ad_4 hkc hC2 hZ.2 h54 h61 (hB2.one hkc h68) ⟨(hP2.iff hc hkc hu).mpr (zadNo h91), zif1 h102⟩
                refine z_goto (tgt := 25) X d_Advert_go_141 (by decide) ?_
                refine z_wk (ls2 := [some (.ref (zad g 4 x)), some (.ref (zad g 0 0)), some (.int (nI (k + 1))), none, none]) ⟨rfl, rfl, rfl, trivial⟩ ?_
                exact next _ hZ9
          · refine z_iconst (v := nI 1) X d_Advert_go_71 rfl ?_
            refine z_goto (tgt := 76) X d_Advert_go_72 (by decide) ?_
            refine z_istore X d_Advert_go_76 (by decide) rfl ?_
            refine z_iload X d_Advert_go_78 rfl ?_
            refine z_if_ne (tgt := 105) X d_Advert_go_80 (by decide) (fun _ => ?_) (fun hq => absurd hq (by decide))
            refine z_aload_n X d_Advert_go_105 rfl ?_
            refine z_aload_n X d_Advert_go_106 rfl ?_
            refine gr_Advert_7 h0 X (zo_c hW.2.1.2 (by omega) hW.1) (by omega) d_Advert_go_107 ?_
            refine gf_Advert_54 X (zo_n (by omega) hW.1) d_Advert_go_110 ?_
            refine z_top (congrArg Value.int ((hC2.1.nd hu).2.2.1)) ?_
            refine pf_Advert_54 X (zo_n (by omega) hW.1) d_Advert_go_113 ?_
            refine z_aload_n X d_Advert_go_116 rfl ?_
            refine z_iload X d_Advert_go_117 rfl ?_
            refine z_if_eq (tgt := 126) X d_Advert_go_119 (by decide) (fun hq => absurd hq (by decide)) (fun _ => ?_)
            refine z_iconst (v := nI 0) X d_Advert_go_122 rfl ?_
            refine z_goto (tgt := 130) X d_Advert_go_123 (by decide) ?_
            refine pf_Advert_57 X (zo_n (by omega) hW.1) d_Advert_go_130 ?_
            refine z_aload_n X d_Advert_go_133 rfl ?_
            refine z_iconst (v := nI 1) X d_Advert_go_134 rfl ?_
            refine pf_Advert_19 X (zo_n (by omega) hW.1) (by decide) d_Advert_go_135 ?_
            refine z_iinc X d_Advert_go_138 rfl (zinc _) (by decide) rfl ?_
            have hZ9 := ad_3 hkc hC2 hZ.2 h54 h61 h68
            refine z_goto (tgt := 25) X d_Advert_go_141 (by decide) ?_
            refine z_wk (ls2 := [some (.ref (zad g 4 x)), some (.ref (zad g 0 0)), some (.int (nI (k + 1))), none, none]) ⟨rfl, rfl, rfl, trivial⟩ ?_
            exact next _ hZ9
  refine z_aload_n X d_Advert_go_0 rfl ?_
  refine gr_Advert_7 h0 X (zo_c hW.2.1.2 (by omega) hW.1) (by omega) d_Advert_go_1 ?_
  refine gf_Advert_19 X (zo_n (by omega) hW.1) d_Advert_go_4 ?_
  refine z_top (congrArg Value.int ((hC.1.nd hu).2.1)) ?_
  refine z_if_eq (tgt := 22) X d_Advert_go_7 (by decide) (fun h7 => ?_) (fun h7 => ?_)
  · exact z_vret X hret (Nat.zero_le _) (Nat.zero_le _) ⟨I, R, fl, rfl, by unfold zadv; rw [if_pos (Or.inl h7)]; exact hC, zIk.rf, zRk2.rf⟩ d_Advert_go_22
  · refine z_aload_n X d_Advert_go_10 rfl ?_
    refine z_aload_n X d_Advert_go_11 rfl ?_
    refine gr_Advert_23 (hW.c (k := 0) (f := 5) rfl rfl (by decide) rfl) X (zo_s rfl hW.1) d_Advert_go_12 ?_
    refine z_iconst (v := nI 0) X d_Advert_go_15 rfl ?_
    refine z_ci (z_rN X cs_Advert_29 rfl rfl (zo_s rfl hW.1).1 (zo_s rfl hW.1).2 (c_SM_good9 l g hW 0 t (by decide) ht h7t) ⟨Nat.le_of_ble_eq_true rfl, Nat.le_of_ble_eq_true rfl⟩ rfl rfl (Nat.le_of_ble_eq_true rfl) ⟨Nat.le_of_ble_eq_true rfl, Nat.le_of_ble_eq_true rfl⟩ d_Advert_go_16) (fun r n2 I2 J2 R2 h => ?_)
    obtain ⟨rfl, e⟩ := h
    cases e
    refine z_top (v2 := .int (if zbit (J 9 0 (t % h)) t = true then nI 1 else nI 0)) (by rw [Nat.zero_add]) ?_
    refine z_if_ne (tgt := 23) X d_Advert_go_19 (by decide) (fun h19 => ?_) (fun h19 => ?_)
    · refine z_iconst (v := nI 0) X d_Advert_go_23 rfl ?_
      refine z_istore_n X d_Advert_go_24 (by decide) rfl ?_
      exact key h7 (zif1 h19) g.2.2.2 0 I A (by omega) ⟨hC, zIk.rf⟩ hB hP rfl
    · exact z_vret X hret (Nat.zero_le _) (Nat.zero_le _) ⟨I, R, fl, rfl, by unfold zadv; rw [if_pos (Or.inr (zif0 h19))]; exact hC, zIk.rf, zRk2.rf⟩ d_Advert_go_22

