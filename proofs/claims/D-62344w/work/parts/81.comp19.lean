/-! THE COMPONENT: adopt -/
def zpA (c : Nat) (A : zI) : zI := fun k i j => if i = 0 ∧ k = 32 ∧ j < c then (if j = 0 then nI 1 else nI 0) else if i = 0 ∧ (k = 47 ∨ k = 48) ∧ j < c then nI 0 else A k i j
def zqE (c : Nat) (q : zq) : zq := fun r => if 6 ≤ r ∧ r < 6 + c then [] else q r
theorem zqE_s {k : Nat} {q : zq} : qu (zqE k q) (6 + k) [] = zqE (k + 1) q := by
  funext r
  unfold qu zqE
  by_cases e : r = 6 + k
  · rw [if_pos e, if_pos (by omega)]
  · rw [if_neg e]
    by_cases e2 : 6 ≤ r ∧ r < 6 + k
    · rw [if_pos e2, if_pos (by omega)]
    · rw [if_neg e2, if_neg (by omega)]
theorem zpA_s {A : zI} {k : Nat} {w : Int32} (hw : w = if k = 0 then nI 1 else nI 0) (kk j : Nat) : zpA (k + 1) A kk 0 j = zu (zu (zu (zpA k A) 32 0 k w) 47 0 k (nI 0)) 48 0 k (nI 0) kk 0 j := by
  subst hw
  rw [zu_if, zu_if, zu_if]
  unfold zpA
  grind (splits := 40)
theorem znd_zo1 {c : Nat} {o : Option Nat} (hc : c ≤ 6) (h : ∀ u, o = some u → u < c) : znd c (zo1 o) = o := by
  cases o with
  | none => exact znd_lo (by decide)
  | some u => exact znd_nI (h u rfl) hc
def zma (k j : Nat) : Bool := k == 2 || (k == 3 || ((k == 1 && (j == 2 || (j == 5 || (j == 6 || j == 13)))) || (k == 4 && j == 1)))
def zIa (I I2 : zI) : Prop := ∀ k i j, zma k j = false → I2 k i j = I k i j
theorem zIa.tr {I I2 I3 : zI} (h : zIa I I2) (h2 : zIa I2 I3) : zIa I I3 := fun k i j a => (h2 k i j a).trans (h k i j a)
theorem zIa.put {I : zI} {k i j : Nat} {v : Int32} (h : zma k j = true) : zIa I (zu I k i j v) := fun k2 i2 j2 h2 => zu_oth (fun e => by rw [e.1, e.2.2, h] at h2; cases h2)
theorem zIf.ia {I I2 : zI} (h : zIf I I2) : zIa I I2 := fun k i j hm => h k i j (fun e => by subst e; cases hm) (fun e => by subst e; cases hm)
def zra (k j : Nat) : Bool := k == 2 || (k == 3 || (k == 4 || (k == 11 || ((k == 0 && j == 9) || (k == 1 && (j == 14 || j == 15))))))
def zRa (R R2 : zR) : Prop := ∀ k i j, zra k j = false → R2 k i j = R k i j
theorem zRa.tr {R R2 R3 : zR} (h : zRa R R2) (h2 : zRa R2 R3) : zRa R R3 := fun k i j a => (h2 k i j a).trans (h k i j a)
theorem zRa.put {R : zR} {k i j : Nat} {v : Option Nat} (h : zra k j = true) : zRa R (zu R k i j v) := fun k2 i2 j2 h2 => zu_oth (fun e => by rw [e.1, e.2.2, h] at h2; cases h2)
theorem zRk2.ra {R R2 : zR} (h : zRk2 R R2) : zRa R R2 := fun k i j hm => h k i j (fun e => by subst e; cases hm) (fun e => by subst e; cases hm) (fun e => by rw [e.1, e.2.2] at hm; cases hm)
theorem zRa.hang {R : zR} {x a s : Nat} : zRa R (zhgR R x a s) := ((zRa.put rfl).tr (zRa.put rfl)).tr (zRa.put rfl)
theorem zW.ad2 {g : zG} {S h n : Nat} {I I2 : zI} {R R2 : zR} (hW : zW g S h n I R) (hI : zIa I I2) (hR : zRa R R2) : zW g S h n I2 R2 := by
  obtain ⟨a1, a2, a3, a4, a5, a6⟩ := hW
  refine ⟨a1, a2, a3, a4, fun k i f h1 h2 h3 => ?_, a6.of (fun k i f hc => hI k i f ?_)⟩
  · rw [hR k i f ?_]
    · exact a5 k i f h1 h2 h3
    · unfold zcf at h1
      unfold zra
      split at h1 <;> simp_all <;> omega
  · unfold zci at hc
    unfold zma
    split at hc <;> simp_all <;> omega
/-- other references than the frames' may change -/
theorem zRC.R {c n N : Nat} {I : zI} {R R2 : zR} {fl : zfl} {A : zI} {q : zq} (h : zRC c n N I R fl A q) (h2 : ∀ r j, R2 2 r j = R 2 r j) (h3 : ∀ f, R2 3 f 3 = R 3 f 3) (h9 : R2 0 0 9 = R 0 0 9) : zRC c n N I R2 fl A q := ⟨h.1, h.2.1, h.2.2.1.of (Nat.le_refl _) (fun _ => rfl) (fun _ _ _ _ => rfl) h2 (fun _ f _ => h3 f) h9, h.2.2.2⟩
theorem zRC.I4 {c n N k i j : Nat} {I : zI} {R : zR} {fl : zfl} {A : zI} {q : zq} {v : Int32} (h : zRC c n N I R fl A q) (hk : ∀ a b, ¬ zco c k i j a b) (h2 : k ≠ 2) (h3 : k ≠ 3) (h24 : k ≠ 24) : zRC c n N (zu I k i j v) R fl A q := ⟨h.1.off hk, h.2.1.of (Nat.le_refl _) (fun s => zu_k (fun e => h24 e.symm)) (fun _ => rfl), h.2.2.1.of (Nat.le_refl _) (fun r => zu_k (fun e => h2 e.symm)) (fun r f _ j => zu_k (fun e => h3 e.symm)) (fun _ _ => rfl) (fun _ _ _ => rfl) rfl, h.2.2.2⟩
theorem zco_no4 {c i j a b : Nat} : ¬ zco c 4 i j a b := by
  rintro (⟨h, -⟩ | ⟨h, -⟩ | ⟨h, -⟩ | ⟨h, -⟩ | ⟨h, -⟩ | ⟨h, -⟩) <;> omega
theorem zco_no13 {c i a b : Nat} : ¬ zco c 1 i 13 a b := by
  rintro (⟨-, -, -, h⟩ | ⟨h, -⟩ | ⟨h, -⟩ | ⟨h, -⟩ | ⟨h, -⟩ | ⟨h, -⟩)
  · simp at h
  all_goals omega
theorem zRC.hang {c n N x a s : Nat} {I : zI} {R : zR} {fl : zfl} {A : zI} {q : zq} {v : Int32} (h : zRC c n N I R fl A q) : zRC c n N (zu I 4 x 1 v) (zhgR R x a s) fl A q := (h.I4 (fun _ _ => zco_no4) (by decide) (by decide) (by decide)).R (fun _ _ => rfl) (fun _ => rfl) rfl
def zpf (c : Nat) (f : Nat → Int32) (x : Nat → Nat) (v : Nat) : Nat := ((zpl c f x c v)[0]?).getD 0
theorem zAS.U {c h S : Nat} {pf T : Nat → Nat} {I : zI} {R : zR} {U U2 : Nat → Prop} (hA : zAS c h S pf T I R U) (hU : ∀ x, U x → U2 x) : zAS c h S pf T I R U2 := fun s hs => (hA s hs).keep (fun _ _ _ => rfl) (fun _ _ => rfl) hU (fun _ _ => rfl)
theorem zsub2 (a : Nat) : nI (a + 2) - nI 2 = nI a := by
  rw [← nI_add a 2]
  exact Int32.add_sub_cancel _ _
theorem c_SM_adopt (l : Launch) (g : zG) {S h n N : Nat} {I : zI} {J : zJ} {R : zR} {fl : zfl} {A : zI} {q : zq} (hW : zW g S h n I R) (hC : zRC g.2.2.2 n N I R fl A q) (f : Nat → Int32) (x : Nat → Nat) (hL : zLs g.2.2.2 f x) (hsy : zsym g.2.2.2 f) (h18 : ∀ j v : Nat, (zord g.2.2.2 x g.2.2.2 0)[j]? = some v → I 18 0 j = nI v) (h16 : ∀ v, v < g.2.2.2 → I 15 0 v = nI (x v) ∧ I 16 0 v = zo1 (zpl g.2.2.2 f x g.2.2.2 v)[0]? ∧ I 17 0 v = zo1 (zpl g.2.2.2 f x g.2.2.2 v)[1]?) (T1 T2 : Nat → Nat) (PA PL : List Nat) (hQA : zQA S h (zord g.2.2.2 x g.2.2.2 0) (fun _ => 0) PA T1) (hQL : zQL S h ((zord g.2.2.2 x 5 1).flatMap (zlks g.2.2.2 f x)) T1 PL T2) (h21 : ∀ j v : Nat, (PA ++ PL)[j]? = some v → I 21 0 j = nI v) : zMet l g y_SM_adopt b_SM_adopt 4 none 2 47 0 0 (zPc g [.ref (zad g 0 0)] n I J R) (zQv g (fun u => ∃ I2 R2 fl2, u = (n, I2, J, R2) ∧ zRC g.2.2.2 n N I2 R2 fl2 (zpA g.2.2.2 A) (zqE g.2.2.2 q) ∧ (∀ v, v < g.2.2.2 → I2 1 v 13 = nI (x v) ∧ R2 1 v 14 = (zpl g.2.2.2 f x g.2.2.2 v)[0]? ∧ R2 1 v 15 = (zpl g.2.2.2 f x g.2.2.2 v)[1]?) ∧ (∀ s, s < S → zSl g.2.2.2 h (zpf g.2.2.2 f x) (fun j => T2 (4 * s + j)) I2 R2 (R2 11 0 s)) ∧ zIa I I2 ∧ zRa R R2)) := by
  have hc := hW.2.1.2
  have h2c := hW.2.1.1
  have hS := hW.2.2.1
  have hh := hW.2.2.2.1
  have hWW := hW
  obtain ⟨ehd, e6⟩ := zord_hd hW.2.1 hL
  have hol := zord_len (fun a ha => (hL a ha).1)
  have hpl : ∀ v j u : Nat, (zpl g.2.2.2 f x g.2.2.2 v)[j]? = some u → u < g.2.2.2 := fun v j u hu => zpl_lt hu
  refine zMet.of (by decide) [some (.ref (zad g 0 0)), none, none, none] rfl (Nat.le_of_ble_eq_true rfl) ?_
  intro pP eE sS mM aA bB mE cC X hret hnm
  have X : zC pP sS mM aA mE cC b_SM_adopt "SlottedMesh" 4 g := X
  have hret : mE.sig.returnType = none := hret
  -- what the hanging keeps
  have hfin : ∀ (I2 : zI) (R2 : zR) (fl2 : zfl) (U : Nat → Prop), zRC g.2.2.2 n N I2 R2 fl2 (zpA g.2.2.2 A) (zqE g.2.2.2 q) → (∀ v, v < g.2.2.2 → I2 1 v 13 = nI (x v) ∧ R2 1 v 14 = (zpl g.2.2.2 f x g.2.2.2 v)[0]? ∧ R2 1 v 15 = (zpl g.2.2.2 f x g.2.2.2 v)[1]?) → zAS g.2.2.2 h S (zpf g.2.2.2 f x) T2 I2 R2 U → zIa I I2 → zRa R R2 → zV pP l eE (zrm 2 47 0 0) sS mM aA bB mE cC g 4 (MQ bB (zQv g (fun u => ∃ I2 R2 fl2, u = (n, I2, J, R2) ∧ zRC g.2.2.2 n N I2 R2 fl2 (zpA g.2.2.2 A) (zqE g.2.2.2 q) ∧ (∀ v, v < g.2.2.2 → I2 1 v 13 = nI (x v) ∧ R2 1 v 14 = (zpl g.2.2.2 f x g.2.2.2 v)[0]? ∧ R2 1 v 15 = (zpl g.2.2.2 f x g.2.2.2 v)[1]?) ∧ (∀ s, s < S → zSl g.2.2.2 h (zpf g.2.2.2 f x) (fun j => T2 (4 * s + j)) I2 R2 (R2 11 0 s)) ∧ zIa I I2 ∧ zRa R R2)) aA sS 0 0 (zA g)) 0 0 280 [some (.ref (zad g 0 0)), none, none, none] [] n I2 J R2 := by
    intro I2 R2 fl2 U c1 c2 c3 c4 c5
    exact z_vret X hret (Nat.zero_le _) (Nat.zero_le _) ⟨I2, R2, fl2, rfl, c1, c2, fun s hs => (c3 s hs).sl, c4, c5⟩ d_SM_adopt_280
  -- links
  have LNK : ∀ (N2 N1 P PL2 : List Nat) (T : Nat → Nat) (I2 : zI) (R2 : zR) (fl2 : zfl), zord g.2.2.2 x 5 1 = N1 ++ N2 → PA ++ PL = P ++ PL2 → zQL S h (N2.flatMap (zlks g.2.2.2 f x)) T PL2 T2 → zAS g.2.2.2 h S (zpf g.2.2.2 f x) T I2 R2 (fun y => y < 6 ∨ (6 ≤ y ∧ y < 6 + 2 * N1.length) ∨ (16 ≤ y ∧ y < 16 + N1.length)) → zRC g.2.2.2 n N I2 R2 fl2 (zpA g.2.2.2 A) (zqE g.2.2.2 q) → (∀ v, v < g.2.2.2 → I2 1 v 13 = nI (x v) ∧ R2 1 v 14 = (zpl g.2.2.2 f x g.2.2.2 v)[0]? ∧ R2 1 v 15 = (zpl g.2.2.2 f x g.2.2.2 v)[1]?) → zIa I I2 → zRa R R2 → zV pP l eE (zrm 2 47 0 0) sS mM aA bB mE cC g 4 (MQ bB (zQv g (fun u => ∃ I2 R2 fl2, u = (n, I2, J, R2) ∧ zRC g.2.2.2 n N I2 R2 fl2 (zpA g.2.2.2 A) (zqE g.2.2.2 q) ∧ (∀ v, v < g.2.2.2 → I2 1 v 13 = nI (x v) ∧ R2 1 v 14 = (zpl g.2.2.2 f x g.2.2.2 v)[0]? ∧ R2 1 v 15 = (zpl g.2.2.2 f x g.2.2.2 v)[1]?) ∧ (∀ s, s < S → zSl g.2.2.2 h (zpf g.2.2.2 f x) (fun j => T2 (4 * s + j)) I2 R2 (R2 11 0 s)) ∧ zIa I I2 ∧ zRa R R2)) aA sS 0 0 (zA g)) 0 0 165 [some (.ref (zad g 0 0)), some (.int (nI P.length)), some (.int (nI (N1.length + 1))), none] [] n I2 J R2 := by
    intro N2
    have hnl : (zord g.2.2.2 x 5 1).length + 1 = g.2.2.2 := by have h9 := congrArg List.length ehd; rw [hol, List.length_cons] at h9; omega
    induction N2 with
    | nil =>
      intro N1 P PL2 T I2 R2 fl2 hN hP hQ hA hC2 hv hI hR
      have hW := hWW.ad2 hI hR
      rw [List.append_nil] at hN
      have hk : N1.length + 1 = g.2.2.2 := by rw [← hN]; exact hnl
      obtain ⟨rfl, rfl⟩ := hQ
      refine z_iload_n X d_SM_adopt_165 rfl ?_
      refine z_aload_n X d_SM_adopt_166 rfl ?_
      refine gf_SM_104 X (zo_s rfl hW.1) d_SM_adopt_167 ?_
      refine z_top (congrArg Value.int (hW.2.2.2.2.2.1)) ?_
      refine z_icmp_ge (tgt := 280) X d_SM_adopt_170 (by decide) (fun _ => ?_) (fun hq => absurd hq (fun z => z (nI_le (by omega) (by omega))))
      refine z_wk (ls2 := [some (.ref (zad g 0 0)), none, none, none]) ⟨rfl, trivial⟩ ?_
      exact hfin I2 R2 fl2 _ hC2 hv hA hI hR
    | cons v N2 ih =>
      intro N1 P PL2 T I2 R2 fl2 hN hP hQ hA hC2 hv hI hR
      have hW := hWW.ad2 hI hR
      have hl1 : N1.length + 1 + N2.length + 1 = g.2.2.2 := by rw [← hnl, hN]; simp; omega
      have hvm : v ∈ zord g.2.2.2 x 5 1 := by rw [hN]; simp
      obtain ⟨hvc, hv1, hv2⟩ := zord_mem.mp hvm
      have hv0 : 0 < v := Nat.pos_of_ne_zero (fun e => by have := (hL 0 (by omega)).2.2 0 rfl; rw [e] at hv1; omega)
      have ho : I2 18 0 (N1.length + 1) = nI v := (hI 18 0 _ rfl).trans (h18 _ v (by rw [ehd, List.getElem?_cons_succ, hN, List.getElem?_append_right (Nat.le_refl _)]; simp))
      obtain ⟨u0, hu0, hum⟩ := zpl_ne hL hsy hvc (by omega)
      have hlt : ∀ u, u ∈ zpl g.2.2.2 f x g.2.2.2 v → u < g.2.2.2 ∧ v ≠ u := fun u hu => ⟨(zpl_mem2 hu).1, fun e => by have := (zpl_mem2 hu).2; rw [e] at this; omega⟩
      have hpl2 : PA.length + PL.length ≤ 21 ∧ P.length + PL2.length = PA.length + PL.length := by
        have e1 := congrArg List.length hP
        rw [List.length_append, List.length_append] at e1
        have e2 := hQA.len
        rw [hol] at e2
        have e3 := hQL.len
        have e4 : ∀ M : List Nat, (M.flatMap (zlks g.2.2.2 f x)).length ≤ 3 * M.length := by
          intro M
          induction M with
          | nil => simp
          | cons b M ihM =>
            have : (zlks g.2.2.2 f x b).length ≤ 3 := by unfold zlks; split <;> simp
            rw [List.flatMap_cons, List.length_append, List.length_cons]
            omega
        have := e4 (zord g.2.2.2 x 5 1)
        omega
      have plc : ∀ {I3 : zI} (P3 : List Nat) (w : Nat) (P4 : List Nat), zIa I I3 → PA ++ PL = P3 ++ w :: P4 → I3 21 0 P3.length = nI w ∧ P3.length < 21 := fun P3 w P4 hI3 e => ⟨(hI3 21 0 _ rfl).trans (h21 _ w (by rw [e, List.getElem?_append_right (Nat.le_refl _)]; simp)), by have := congrArg List.length e; rw [List.length_append, List.length_append, List.length_cons] at this; omega⟩
      rw [List.flatMap_cons] at hQ
      cases hzp : zpl g.2.2.2 f x g.2.2.2 v with
      | nil => rw [hzp] at hum; cases hum
      | cons p rest =>
        have hp := hlt p (by rw [hzp]; exact List.mem_cons_self)
        have epf : zpf g.2.2.2 f x v = p := by unfold zpf; rw [hzp]; rfl
        have l1 : zlc g.2.2.2 (200 + 10 * v + p) v p := ⟨hvc, hp.1, hp.2, Or.inl rfl⟩
        have l3 : zlc g.2.2.2 (300 + 10 * p + v) p v := ⟨hp.1, hvc, fun e => hp.2 e.symm, Or.inr rfl⟩
        have e14 : ∀ {R3 : zR}, R3 1 v 14 = R2 1 v 14 → R3 1 v 14 = some p := fun e => by rw [e, (hv v hvc).2.1, hzp]; rfl
        -- the link down
        have last : ∀ (P3 : List Nat) (w : Nat) (P4 : List Nat) (T3 : Nat → Nat) (I3 : zI) (R3 : zR) (U : Nat → Prop), PA ++ PL = P3 ++ w :: P4 → zQL S h ((300 + 10 * p + v) :: N2.flatMap (zlks g.2.2.2 f x)) T3 (w :: P4) T2 → zAS g.2.2.2 h S (zpf g.2.2.2 f x) T3 I3 R3 U → (¬ U (16 + N1.length)) → (∀ y, U y ∨ y = 16 + N1.length → y < 6 ∨ (6 ≤ y ∧ y < 6 + 2 * (N1.length + 1)) ∨ (16 ≤ y ∧ y < 16 + (N1.length + 1))) → zRC g.2.2.2 n N I3 R3 fl2 (zpA g.2.2.2 A) (zqE g.2.2.2 q) → (∀ v, v < g.2.2.2 → I3 1 v 13 = nI (x v) ∧ R3 1 v 14 = (zpl g.2.2.2 f x g.2.2.2 v)[0]? ∧ R3 1 v 15 = (zpl g.2.2.2 f x g.2.2.2 v)[1]?) → zIa I I3 → zRa R R3 → zV pP l eE (zrm 2 47 0 0) sS mM aA bB mE cC g 4 (MQ bB (zQv g (fun u => ∃ I2 R2 fl2, u = (n, I2, J, R2) ∧ zRC g.2.2.2 n N I2 R2 fl2 (zpA g.2.2.2 A) (zqE g.2.2.2 q) ∧ (∀ v, v < g.2.2.2 → I2 1 v 13 = nI (x v) ∧ R2 1 v 14 = (zpl g.2.2.2 f x g.2.2.2 v)[0]? ∧ R2 1 v 15 = (zpl g.2.2.2 f x g.2.2.2 v)[1]?) ∧ (∀ s, s < S → zSl g.2.2.2 h (zpf g.2.2.2 f x) (fun j => T2 (4 * s + j)) I2 R2 (R2 11 0 s)) ∧ zIa I I2 ∧ zRa R R2)) aA sS 0 0 (zA g)) 0 0 248 [some (.ref (zad g 0 0)), some (.int (nI P3.length)), some (.int (nI (N1.length + 1))), some (.ref (zad g 1 v))] [] n I3 J R3 := by
          intro P3 w P4 T3 I3 R3 U f1 f2 f3 f4 f5 f6 f7 f8 f9
          obtain ⟨s, ch, P5, y1, y2, y3, y4⟩ := f2
          cases y3
          have hW := hWW.ad2 f8 f9
          have hs : s < S := by have := (zfnd_some y1).2.1; omega
          have hch : ch < h := by have := (zfnd_some y2).2.1; omega
          have hpc := plc P3 _ _ f8 f1
          refine z_aload_n X d_SM_adopt_248 rfl ?_
          refine z_aload_n X d_SM_adopt_249 rfl ?_
          refine gr_SM_49 (hW.c (k := 0) (f := 13) rfl rfl (by decide) rfl) X (zo_s rfl hW.1) d_SM_adopt_250 ?_
          refine z_iload_n X d_SM_adopt_253 rfl ?_
          refine z_iconst (v := nI 1) X d_SM_adopt_254 rfl ?_
          refine z_isub X d_SM_adopt_255 ?_
          refine z_top (v2 := .int (nI N1.length)) (congrArg Value.int (nI_pred _)) ?_
          refine ar_14 (j := N1.length) X (zo_s rfl hW.1) rfl (by omega) (hW.ds (by omega)) d_SM_adopt_256 ?_
          refine z_aload_n X d_SM_adopt_257 rfl ?_
          refine gr_SM_209 ((f7 v hvc).2.1.trans (by rw [hzp]; rfl)) X (zo_n (by omega) hW.1) d_SM_adopt_258 ?_
          refine z_aload_n X d_SM_adopt_261 rfl ?_
          refine z_aload_n X d_SM_adopt_262 rfl ?_
          refine gr_SM_72 (hW.c (k := 0) (f := 20) rfl rfl (by decide) rfl) X (zo_s rfl hW.1) d_SM_adopt_263 ?_
          refine z_iload_n X d_SM_adopt_266 rfl ?_
          refine al_21 (j := P3.length) X (zo_s rfl hW.1) rfl hpc.2 d_SM_adopt_267 ?_
          refine z_top (v2 := .int (nI (16 * s + ch))) (congrArg Value.int hpc.1) ?_
          refine z_cv (z_rV X cs_SM_229 rfl rfl (zo_s rfl hW.1).1 (zo_s rfl hW.1).2 (c_SM_hangLink l g hW (16 + N1.length) p v s ch ⟨by omega, by omega⟩ hp.1 hvc hs (by omega)) ⟨Nat.le_of_ble_eq_true rfl, Nat.le_of_ble_eq_true rfl⟩ rfl rfl (Nat.le_of_ble_eq_true rfl) ⟨Nat.le_of_ble_eq_true rfl, Nat.le_of_ble_eq_true rfl⟩ d_SM_adopt_268) (fun n2 I2 J2 R2 h => ?_)
          cases h
          refine z_iinc X d_SM_adopt_271 rfl (zinc _) (by decide) rfl ?_
          refine z_iinc X d_SM_adopt_274 rfl (zinc _) (by decide) rfl ?_
          refine z_goto (tgt := 165) X d_SM_adopt_277 (by decide) ?_
          refine z_wk (ls2 := [some (.ref (zad g 0 0)), some (.int (nI (P3.length + 1))), some (.int (nI (N1.length + 1 + 1))), none]) ⟨rfl, rfl, rfl, trivial⟩ ?_
          have hA3 := (f3.link (y := 16 + N1.length) hc hh f4 l3 (Or.inr ⟨by omega, by omega, hv0, epf, rfl⟩) y1 y2).U f5
          have := ih (N1 ++ [v]) (P3 ++ [16 * s + ch]) P4 _ _ _ fl2 (by rw [hN]; simp) (by rw [f1]; simp) y4 (by rw [List.length_append]; exact hA3) (f6.R (R2 := zu R3 4 (16 + N1.length) 3 (some v)) (fun _ _ => rfl) (fun _ => rfl) rfl).hang (fun v hvc => f7 v hvc) (f8.tr (zIa.put rfl)) ((f9.tr (zRa.put rfl)).tr zRa.hang)
          rw [List.length_append, List.length_append] at this
          exact this
        have hkl : ∃ rr, zlks g.2.2.2 f x v = (200 + 10 * v + p) :: rr := by
          unfold zlks
          rw [hzp]
          cases rest with
          | nil => exact ⟨_, rfl⟩
          | cons q r2 => exact ⟨_, rfl⟩
        cases rest with
        | nil =>
          have ek : zlks g.2.2.2 f x v = [200 + 10 * v + p, 300 + 10 * p + v] := by unfold zlks; rw [hzp]
          rw [ek] at hQ
          obtain ⟨s, ch, P5, y1, y2, y3, y4⟩ := hQ
          subst y3
          have hs : s < S := by have := (zfnd_some y1).2.1; omega
          have hch : ch < h := by have := (zfnd_some y2).2.1; omega
          have hpc := plc P _ _ hI hP
          have y4' := y4
          obtain ⟨s2, ch2, P6, -, -, rfl, -⟩ := y4
          refine z_iload_n X d_SM_adopt_165 rfl ?_
          refine z_aload_n X d_SM_adopt_166 rfl ?_
          refine gf_SM_104 X (zo_s rfl hW.1) d_SM_adopt_167 ?_
          refine z_top (congrArg Value.int (hW.2.2.2.2.2.1)) ?_
          refine z_icmp_ge (tgt := 280) X d_SM_adopt_170 (by decide) (fun hq => absurd hq (nI_ge (by omega) (by omega))) (fun _ => ?_)
          refine z_aload_n X d_SM_adopt_173 rfl ?_
          refine gr_SM_9 (hW.c (k := 0) (f := 3) rfl rfl (by decide) rfl) X (zo_s rfl hW.1) d_SM_adopt_174 ?_
          refine z_aload_n X d_SM_adopt_177 rfl ?_
          refine gr_SM_63 (hW.c (k := 0) (f := 17) rfl rfl (by decide) rfl) X (zo_s rfl hW.1) d_SM_adopt_178 ?_
          refine z_iload_n X d_SM_adopt_181 rfl ?_
          refine al_18 (j := (N1.length + 1)) X (zo_s rfl hW.1) rfl (by omega) d_SM_adopt_182 ?_
          refine z_top (v2 := .int (nI v)) (congrArg Value.int ho) ?_
          refine ar_6 X (zo_s rfl hW.1) rfl (by omega) (hW.nd (by omega)) d_SM_adopt_183 ?_
          refine z_astore_n X d_SM_adopt_184 (by decide) rfl ?_
          refine z_aload_n X d_SM_adopt_185 rfl ?_
          refine z_aload_n X d_SM_adopt_186 rfl ?_
          refine gr_SM_43 (hW.c (k := 0) (f := 12) rfl rfl (by decide) rfl) X (zo_s rfl hW.1) d_SM_adopt_187 ?_
          refine z_iconst (v := nI 2) X d_SM_adopt_190 rfl ?_
          refine z_iload_n X d_SM_adopt_191 rfl ?_
          refine z_imul X d_SM_adopt_192 ?_
          refine z_iconst (v := nI 2) X d_SM_adopt_193 rfl ?_
          refine z_isub X d_SM_adopt_194 ?_
          refine z_top (v2 := .int (nI (2 * N1.length))) (congrArg Value.int (by rw [pk_mul, show 2 * (N1.length + 1) = 2 * N1.length + 2 by omega]; exact zsub2 _)) ?_
          refine ar_13 (j := (2 * N1.length)) X (zo_s rfl hW.1) rfl (by omega) (hW.us (by omega)) d_SM_adopt_195 ?_
          refine z_aload_n X d_SM_adopt_196 rfl ?_
          refine z_aload_n X d_SM_adopt_197 rfl ?_
          refine gr_SM_209 (e14 rfl) X (zo_n (by omega) hW.1) d_SM_adopt_198 ?_
          refine z_aload_n X d_SM_adopt_201 rfl ?_
          refine gr_SM_72 (hW.c (k := 0) (f := 20) rfl rfl (by decide) rfl) X (zo_s rfl hW.1) d_SM_adopt_202 ?_
          refine z_iload_n X d_SM_adopt_205 rfl ?_
          refine al_21 (j := P.length) X (zo_s rfl hW.1) rfl hpc.2 d_SM_adopt_206 ?_
          refine z_top (v2 := .int (nI (16 * s + ch))) (congrArg Value.int hpc.1) ?_
          refine z_cv (z_rV X cs_SM_229 rfl rfl (zo_s rfl hW.1).1 (zo_s rfl hW.1).2 (c_SM_hangLink l g hW (6 + 2 * N1.length) v p s ch ⟨by omega, by omega⟩ hvc hp.1 hs (by omega)) ⟨Nat.le_of_ble_eq_true rfl, Nat.le_of_ble_eq_true rfl⟩ rfl rfl (Nat.le_of_ble_eq_true rfl) ⟨Nat.le_of_ble_eq_true rfl, Nat.le_of_ble_eq_true rfl⟩ d_SM_adopt_207) (fun n2 I2 J2 R2 h => ?_)
          cases h
          refine z_iinc X d_SM_adopt_210 rfl (zinc _) (by decide) rfl ?_
          have hI3 := hI.tr (zIa.put (k := 4) (i := 6 + 2 * N1.length) (j := 1) (v := nI ch) rfl)
          have hR3 := (hR.tr (zRa.put (k := 4) (i := 6 + 2 * N1.length) (j := 3) (v := some p) rfl)).tr (zRa.hang (x := 6 + 2 * N1.length) (a := v) (s := s))
          have hA3 := hA.link (y := 6 + 2 * N1.length) hc hh (by omega) l1 (Or.inl ⟨by omega, by omega, hv0, rfl⟩) y1 y2
          have hC3 := (hC2.R (R2 := zu R2 4 (6 + 2 * N1.length) 3 (some p)) (fun _ _ => rfl) (fun _ => rfl) rfl).hang (x := 6 + 2 * N1.length) (a := v) (s := s) (v := nI ch)
          have hW := hWW.ad2 hI3 hR3
          refine z_aload_n X d_SM_adopt_213 rfl ?_
          refine gn_SM_212 ((hv v hvc).2.2.trans (by rw [hzp]; rfl)) X (zo_n (by omega) hW.1) d_SM_adopt_214 ?_
          refine z_ifnullN (tgt := 248) X d_SM_adopt_217 (by decide) ?_
          have go := last (P ++ [16 * s + ch]) (16 * s2 + ch2) P6 _ _ _ _ (by rw [hP]; simp) y4' hA3 (by omega) (fun y hy => by omega) hC3 (fun v hvc => hv v hvc) hI3 hR3
          rw [List.length_append] at go
          exact go
        | cons qq r2 =>
          have ek : zlks g.2.2.2 f x v = [200 + 10 * v + p, 200 + 10 * v + qq, 300 + 10 * p + v] := by unfold zlks; rw [hzp]
          have hqq := hlt qq (by rw [hzp]; simp)
          rw [ek] at hQ
          obtain ⟨s, ch, P5, y1, y2, y3, y4⟩ := hQ
          subst y3
          have hs : s < S := by have := (zfnd_some y1).2.1; omega
          have hch : ch < h := by have := (zfnd_some y2).2.1; omega
          have hpc := plc P _ _ hI hP
          obtain ⟨s2, ch2, P6, u1, u2, u3, u4⟩ := y4
          subst u3
          have hs2 : s2 < S := by have := (zfnd_some u1).2.1; omega
          have hch2 : ch2 < h := by have := (zfnd_some u2).2.1; omega
          have u4' := u4
          obtain ⟨s3, ch3, P7, -, -, rfl, -⟩ := u4
          refine z_iload_n X d_SM_adopt_165 rfl ?_
          refine z_aload_n X d_SM_adopt_166 rfl ?_
          refine gf_SM_104 X (zo_s rfl hW.1) d_SM_adopt_167 ?_
          refine z_top (congrArg Value.int (hW.2.2.2.2.2.1)) ?_
          refine z_icmp_ge (tgt := 280) X d_SM_adopt_170 (by decide) (fun hq => absurd hq (nI_ge (by omega) (by omega))) (fun _ => ?_)
          refine z_aload_n X d_SM_adopt_173 rfl ?_
          refine gr_SM_9 (hW.c (k := 0) (f := 3) rfl rfl (by decide) rfl) X (zo_s rfl hW.1) d_SM_adopt_174 ?_
          refine z_aload_n X d_SM_adopt_177 rfl ?_
          refine gr_SM_63 (hW.c (k := 0) (f := 17) rfl rfl (by decide) rfl) X (zo_s rfl hW.1) d_SM_adopt_178 ?_
          refine z_iload_n X d_SM_adopt_181 rfl ?_
          refine al_18 (j := (N1.length + 1)) X (zo_s rfl hW.1) rfl (by omega) d_SM_adopt_182 ?_
          refine z_top (v2 := .int (nI v)) (congrArg Value.int ho) ?_
          refine ar_6 X (zo_s rfl hW.1) rfl (by omega) (hW.nd (by omega)) d_SM_adopt_183 ?_
          refine z_astore_n X d_SM_adopt_184 (by decide) rfl ?_
          refine z_aload_n X d_SM_adopt_185 rfl ?_
          refine z_aload_n X d_SM_adopt_186 rfl ?_
          refine gr_SM_43 (hW.c (k := 0) (f := 12) rfl rfl (by decide) rfl) X (zo_s rfl hW.1) d_SM_adopt_187 ?_
          refine z_iconst (v := nI 2) X d_SM_adopt_190 rfl ?_
          refine z_iload_n X d_SM_adopt_191 rfl ?_
          refine z_imul X d_SM_adopt_192 ?_
          refine z_iconst (v := nI 2) X d_SM_adopt_193 rfl ?_
          refine z_isub X d_SM_adopt_194 ?_
          refine z_top (v2 := .int (nI (2 * N1.length))) (congrArg Value.int (by rw [pk_mul, show 2 * (N1.length + 1) = 2 * N1.length + 2 by omega]; exact zsub2 _)) ?_
          refine ar_13 (j := (2 * N1.length)) X (zo_s rfl hW.1) rfl (by omega) (hW.us (by omega)) d_SM_adopt_195 ?_
          refine z_aload_n X d_SM_adopt_196 rfl ?_
          refine z_aload_n X d_SM_adopt_197 rfl ?_
          refine gr_SM_209 (e14 rfl) X (zo_n (by omega) hW.1) d_SM_adopt_198 ?_
          refine z_aload_n X d_SM_adopt_201 rfl ?_
          refine gr_SM_72 (hW.c (k := 0) (f := 20) rfl rfl (by decide) rfl) X (zo_s rfl hW.1) d_SM_adopt_202 ?_
          refine z_iload_n X d_SM_adopt_205 rfl ?_
          refine al_21 (j := P.length) X (zo_s rfl hW.1) rfl hpc.2 d_SM_adopt_206 ?_
          refine z_top (v2 := .int (nI (16 * s + ch))) (congrArg Value.int hpc.1) ?_
          refine z_cv (z_rV X cs_SM_229 rfl rfl (zo_s rfl hW.1).1 (zo_s rfl hW.1).2 (c_SM_hangLink l g hW (6 + 2 * N1.length) v p s ch ⟨by omega, by omega⟩ hvc hp.1 hs (by omega)) ⟨Nat.le_of_ble_eq_true rfl, Nat.le_of_ble_eq_true rfl⟩ rfl rfl (Nat.le_of_ble_eq_true rfl) ⟨Nat.le_of_ble_eq_true rfl, Nat.le_of_ble_eq_true rfl⟩ d_SM_adopt_207) (fun n2 I2 J2 R2 h => ?_)
          cases h
          refine z_iinc X d_SM_adopt_210 rfl (zinc _) (by decide) rfl ?_
          have hI3 := hI.tr (zIa.put (k := 4) (i := 6 + 2 * N1.length) (j := 1) (v := nI ch) rfl)
          have hR3 := (hR.tr (zRa.put (k := 4) (i := 6 + 2 * N1.length) (j := 3) (v := some p) rfl)).tr (zRa.hang (x := 6 + 2 * N1.length) (a := v) (s := s))
          have hA3 := hA.link (y := 6 + 2 * N1.length) hc hh (by omega) l1 (Or.inl ⟨by omega, by omega, hv0, rfl⟩) y1 y2
          have hC3 := (hC2.R (R2 := zu R2 4 (6 + 2 * N1.length) 3 (some p)) (fun _ _ => rfl) (fun _ => rfl) rfl).hang (x := 6 + 2 * N1.length) (a := v) (s := s) (v := nI ch)
          have hW := hWW.ad2 hI3 hR3
          have e15 : (zpl g.2.2.2 f x g.2.2.2 v)[1]? = some qq := by rw [hzp]; rfl
          have hpc2 := plc (P ++ [16 * s + ch]) (16 * s2 + ch2) ((16 * s3 + ch3) :: P7) hI3 (by rw [hP]; simp)
          rw [List.length_append] at hpc2
          refine z_aload_n X d_SM_adopt_213 rfl ?_
          refine gr_SM_212 ((hv v hvc).2.2.trans e15) X (zo_n (by omega) hW.1) d_SM_adopt_214 ?_
          refine z_ifnull (tgt := 248) X d_SM_adopt_217 (by decide) ?_
          refine z_aload_n X d_SM_adopt_220 rfl ?_
          refine z_aload_n X d_SM_adopt_221 rfl ?_
          refine gr_SM_43 (hW.c (k := 0) (f := 12) rfl rfl (by decide) rfl) X (zo_s rfl hW.1) d_SM_adopt_222 ?_
          refine z_iconst (v := nI 2) X d_SM_adopt_225 rfl ?_
          refine z_iload_n X d_SM_adopt_226 rfl ?_
          refine z_imul X d_SM_adopt_227 ?_
          refine z_iconst (v := nI 1) X d_SM_adopt_228 rfl ?_
          refine z_isub X d_SM_adopt_229 ?_
          refine z_top (v2 := .int (nI (2 * N1.length + 1))) (congrArg Value.int (by rw [pk_mul, show 2 * (N1.length + 1) = (2 * N1.length + 1) + 1 by omega]; exact nI_pred _)) ?_
          refine ar_13 (j := (2 * N1.length + 1)) X (zo_s rfl hW.1) rfl (by omega) (hW.us (by omega)) d_SM_adopt_230 ?_
          refine z_aload_n X d_SM_adopt_231 rfl ?_
          refine z_aload_n X d_SM_adopt_232 rfl ?_
          refine gr_SM_212 ((hv v hvc).2.2.trans e15) X (zo_n (by omega) hW.1) d_SM_adopt_233 ?_
          refine z_aload_n X d_SM_adopt_236 rfl ?_
          refine gr_SM_72 (hW.c (k := 0) (f := 20) rfl rfl (by decide) rfl) X (zo_s rfl hW.1) d_SM_adopt_237 ?_
          refine z_iload_n X d_SM_adopt_240 rfl ?_
          refine al_21 (j := (P.length + 1)) X (zo_s rfl hW.1) rfl hpc2.2 d_SM_adopt_241 ?_
          refine z_top (v2 := .int (nI (16 * s2 + ch2))) (congrArg Value.int hpc2.1) ?_
          refine z_cv (z_rV X cs_SM_229 rfl rfl (zo_s rfl hW.1).1 (zo_s rfl hW.1).2 (c_SM_hangLink l g hW (6 + (2 * N1.length + 1)) v qq s2 ch2 ⟨by omega, by omega⟩ hvc hqq.1 hs2 (by omega)) ⟨Nat.le_of_ble_eq_true rfl, Nat.le_of_ble_eq_true rfl⟩ rfl rfl (Nat.le_of_ble_eq_true rfl) ⟨Nat.le_of_ble_eq_true rfl, Nat.le_of_ble_eq_true rfl⟩ d_SM_adopt_242) (fun n2 I2 J2 R2 h => ?_)
          cases h
          refine z_iinc X d_SM_adopt_245 rfl (zinc _) (by decide) rfl ?_
          have hI4 := hI3.tr (zIa.put (k := 4) (i := 6 + (2 * N1.length + 1)) (j := 1) (v := nI ch2) rfl)
          have hR4 := (hR3.tr (zRa.put (k := 4) (i := 6 + (2 * N1.length + 1)) (j := 3) (v := some qq) rfl)).tr (zRa.hang (x := 6 + (2 * N1.length + 1)) (a := v) (s := s2))
          have hA4 := hA3.link (y := 6 + (2 * N1.length + 1)) hc hh (by omega) ⟨hvc, hqq.1, hqq.2, Or.inl rfl⟩ (Or.inl ⟨by omega, by omega, hv0, rfl⟩) u1 u2
          have hC4 := (hC3.R (R2 := zu (zhgR (zu R2 4 (6 + 2 * N1.length) 3 (some p)) (6 + 2 * N1.length) v s) 4 (6 + (2 * N1.length + 1)) 3 (some qq)) (fun _ _ => rfl) (fun _ => rfl) rfl).hang (x := 6 + (2 * N1.length + 1)) (a := v) (s := s2) (v := nI ch2)
          have go := last (P ++ [16 * s + ch, 16 * s2 + ch2]) (16 * s3 + ch3) P7 _ _ _ _ (by rw [hP]; simp) u4' hA4 (by omega) (fun y hy => by omega) hC4 (fun v hvc => hv v hvc) hI4 hR4
          rw [List.length_append] at go
          exact go
  -- adverts
  have ADV : ∀ (E D P P2 : List Nat) (T : Nat → Nat) (I2 : zI) (R2 : zR) (fl2 : zfl), zord g.2.2.2 x g.2.2.2 0 = D ++ E → PA = P ++ P2 → P.length = D.length → zQA S h E T P2 T1 → zAS g.2.2.2 h S (zpf g.2.2.2 f x) T I2 R2 (fun y => y < D.length) → zRC g.2.2.2 n N I2 R2 fl2 (zpA g.2.2.2 A) (zqE g.2.2.2 q) → (∀ v, v < g.2.2.2 → I2 1 v 13 = nI (x v) ∧ R2 1 v 14 = (zpl g.2.2.2 f x g.2.2.2 v)[0]? ∧ R2 1 v 15 = (zpl g.2.2.2 f x g.2.2.2 v)[1]?) → zIa I I2 → zRa R R2 → zV pP l eE (zrm 2 47 0 0) sS mM aA bB mE cC g 4 (MQ bB (zQv g (fun u => ∃ I2 R2 fl2, u = (n, I2, J, R2) ∧ zRC g.2.2.2 n N I2 R2 fl2 (zpA g.2.2.2 A) (zqE g.2.2.2 q) ∧ (∀ v, v < g.2.2.2 → I2 1 v 13 = nI (x v) ∧ R2 1 v 14 = (zpl g.2.2.2 f x g.2.2.2 v)[0]? ∧ R2 1 v 15 = (zpl g.2.2.2 f x g.2.2.2 v)[1]?) ∧ (∀ s, s < S → zSl g.2.2.2 h (zpf g.2.2.2 f x) (fun j => T2 (4 * s + j)) I2 R2 (R2 11 0 s)) ∧ zIa I I2 ∧ zRa R R2)) aA sS 0 0 (zA g)) 0 0 119 [some (.ref (zad g 0 0)), some (.int (nI D.length)), some (.int (nI D.length)), none] [] n I2 J R2 := by
    intro E
    induction E with
    | nil =>
      intro D P P2 T I2 R2 fl2 hE hPA hPl hQ hA hC2 hv hI hR
      have hW := hWW.ad2 hI hR
      rw [List.append_nil] at hE
      have hk : D.length = g.2.2.2 := by rw [← hE]; exact hol
      obtain ⟨rfl, rfl⟩ := hQ
      rw [List.append_nil] at hPA
      refine z_iload_n X d_SM_adopt_119 rfl ?_
      refine z_aload_n X d_SM_adopt_120 rfl ?_
      refine gf_SM_104 X (zo_s rfl hW.1) d_SM_adopt_121 ?_
      refine z_top (congrArg Value.int (hW.2.2.2.2.2.1)) ?_
      refine z_icmp_ge (tgt := 163) X d_SM_adopt_124 (by decide) (fun _ => ?_) (fun hq => absurd hq (fun z => z (nI_le (by omega) (by omega))))
      refine z_iconst (v := nI 1) X d_SM_adopt_163 rfl ?_
      refine z_istore_n X d_SM_adopt_164 (by decide) rfl ?_
      refine z_wk (ls2 := [some (.ref (zad g 0 0)), some (.int (nI P.length)), some (.int (nI 1)), none]) ⟨rfl, by rw [hPl]; rfl, rfl, trivial⟩ ?_
      exact LNK (zord g.2.2.2 x 5 1) [] P PL T1 I2 R2 fl2 rfl (by rw [hPA]) hQL (hA.U (fun y hy => Or.inl (by omega))) hC2 hv hI hR
    | cons a E ih =>
      intro D P P2 T I2 R2 fl2 hE hPA hPl hQ hA hC2 hv hI hR
      have hW := hWW.ad2 hI hR
      have hk : D.length + E.length + 1 = g.2.2.2 := by rw [← hol, hE]; simp; omega
      have hac : a < g.2.2.2 := (zord_mem.mp (by rw [hE]; simp : a ∈ zord g.2.2.2 x g.2.2.2 0)).1
      obtain ⟨s, P3, z1, rfl, z3⟩ := hQ
      have hsS : s < S := by have := (zfnd_some z1).2.1; omega
      have ho : I2 18 0 D.length = nI a := (hI 18 0 _ rfl).trans (h18 _ a (by rw [hE, List.getElem?_append_right (Nat.le_refl _)]; simp))
      have hp : I2 21 0 D.length = nI (16 * s + 0) := (hI 21 0 _ rfl).trans (h21 _ (16 * s) (by rw [hPA, List.append_assoc, ← hPl, List.getElem?_append_right (Nat.le_refl _)]; simp))
      refine z_iload_n X d_SM_adopt_119 rfl ?_
      refine z_aload_n X d_SM_adopt_120 rfl ?_
      refine gf_SM_104 X (zo_s rfl hW.1) d_SM_adopt_121 ?_
      refine z_top (congrArg Value.int (hW.2.2.2.2.2.1)) ?_
      refine z_icmp_ge (tgt := 163) X d_SM_adopt_124 (by decide) (fun hq => absurd hq (nI_ge (by omega) (by omega))) (fun _ => ?_)
      refine z_aload_n X d_SM_adopt_127 rfl ?_
      refine z_aload_n X d_SM_adopt_128 rfl ?_
      refine gr_SM_37 (hW.c (k := 0) (f := 11) rfl rfl (by decide) rfl) X (zo_s rfl hW.1) d_SM_adopt_129 ?_
      refine z_iload_n X d_SM_adopt_132 rfl ?_
      refine ar_12 X (zo_s rfl hW.1) rfl (by omega) (hW.ad (by omega)) d_SM_adopt_133 ?_
      refine z_aload_n X d_SM_adopt_134 rfl ?_
      refine gr_SM_9 (hW.c (k := 0) (f := 3) rfl rfl (by decide) rfl) X (zo_s rfl hW.1) d_SM_adopt_135 ?_
      refine z_aload_n X d_SM_adopt_138 rfl ?_
      refine gr_SM_63 (hW.c (k := 0) (f := 17) rfl rfl (by decide) rfl) X (zo_s rfl hW.1) d_SM_adopt_139 ?_
      refine z_iload_n X d_SM_adopt_142 rfl ?_
      refine al_18 (j := D.length) X (zo_s rfl hW.1) rfl (by omega) d_SM_adopt_143 ?_
      refine z_top (v2 := .int (nI a)) (congrArg Value.int ho) ?_
      refine ar_6 X (zo_s rfl hW.1) rfl (by omega) (hW.nd (by omega)) d_SM_adopt_144 ?_
      refine z_aload_n X d_SM_adopt_145 rfl ?_
      refine gr_SM_72 (hW.c (k := 0) (f := 20) rfl rfl (by decide) rfl) X (zo_s rfl hW.1) d_SM_adopt_146 ?_
      refine z_iload_n X d_SM_adopt_149 rfl ?_
      refine al_21 (j := D.length) X (zo_s rfl hW.1) rfl (by omega) d_SM_adopt_150 ?_
      refine z_top (v2 := .int (nI (16 * s + 0))) (congrArg Value.int hp) ?_
      refine z_cv (z_rV X cs_SM_202 rfl rfl (zo_s rfl hW.1).1 (zo_s rfl hW.1).2 (c_SM_hang l g hW D.length a s 0 (Or.inl (by omega)) hac hsS (by decide)) ⟨Nat.le_of_ble_eq_true rfl, Nat.le_of_ble_eq_true rfl⟩ rfl rfl (Nat.le_of_ble_eq_true rfl) ⟨Nat.le_of_ble_eq_true rfl, Nat.le_of_ble_eq_true rfl⟩ d_SM_adopt_151) (fun n2 I2 J2 R2 h => ?_)
      cases h
      refine z_iinc X d_SM_adopt_154 rfl (zinc _) (by decide) rfl ?_
      refine z_iinc X d_SM_adopt_157 rfl (zinc _) (by decide) rfl ?_
      refine z_goto (tgt := 119) X d_SM_adopt_160 (by decide) ?_
      have hA3 := (hA.adv (y := D.length) (u := a) (w := nI 0) hc hh (by omega) (by omega) hac z1).U (U2 := fun y => y < (D ++ [a]).length) (fun y hy => by simp; omega)
      have := ih (D ++ [a]) (P ++ [16 * s]) P3 _ _ _ fl2 (by rw [hE]; simp) (by rw [hPA]; simp) (by simp; omega) z3 hA3 hC2.hang (fun v hvc => hv v hvc) (hI.tr (zIa.put rfl)) (hR.tr zRa.hang)
      rw [List.length_append] at this
      exact this
  -- nodes
  have NOD : ∀ (w k : Nat) (I2 : zI) (R2 : zR) (fl2 : zfl), k + w = g.2.2.2 → zRC g.2.2.2 n N I2 R2 fl2 (zpA k A) (zqE k q) → (∀ v, v < k → I2 1 v 13 = nI (x v) ∧ R2 1 v 14 = (zpl g.2.2.2 f x g.2.2.2 v)[0]? ∧ R2 1 v 15 = (zpl g.2.2.2 f x g.2.2.2 v)[1]?) → (∀ s, s < S → R2 11 0 s = none) → zIa I I2 → zRa R R2 → zV pP l eE (zrm 2 47 0 0) sS mM aA bB mE cC g 4 (MQ bB (zQv g (fun u => ∃ I2 R2 fl2, u = (n, I2, J, R2) ∧ zRC g.2.2.2 n N I2 R2 fl2 (zpA g.2.2.2 A) (zqE g.2.2.2 q) ∧ (∀ v, v < g.2.2.2 → I2 1 v 13 = nI (x v) ∧ R2 1 v 14 = (zpl g.2.2.2 f x g.2.2.2 v)[0]? ∧ R2 1 v 15 = (zpl g.2.2.2 f x g.2.2.2 v)[1]?) ∧ (∀ s, s < S → zSl g.2.2.2 h (zpf g.2.2.2 f x) (fun j => T2 (4 * s + j)) I2 R2 (R2 11 0 s)) ∧ zIa I I2 ∧ zRa R R2)) aA sS 0 0 (zA g)) 0 0 25 [some (.ref (zad g 0 0)), some (.int (nI k)), none, none] [] n I2 J R2 := by
    intro w
    induction w with
    | zero =>
      intro k I2 R2 fl2 hk hC2 hv hz hI hR
      have hW := hWW.ad2 hI hR
      have hk : k = g.2.2.2 := by omega
      subst hk
      refine z_iload_n X d_SM_adopt_25 rfl ?_
      refine z_aload_n X d_SM_adopt_26 rfl ?_
      refine gf_SM_104 X (zo_s rfl hW.1) d_SM_adopt_27 ?_
      refine z_top (congrArg Value.int (hW.2.2.2.2.2.1)) ?_
      refine z_icmp_ge (tgt := 115) X d_SM_adopt_30 (by decide) (fun _ => ?_) (fun hq => absurd hq (fun z => z (Int32.le_refl _)))
      refine z_iconst (v := nI 0) X d_SM_adopt_115 rfl ?_
      refine z_istore_n X d_SM_adopt_116 (by decide) rfl ?_
      refine z_iconst (v := nI 0) X d_SM_adopt_117 rfl ?_
      refine z_istore_n X d_SM_adopt_118 (by decide) rfl ?_
      refine z_wk (ls2 := [some (.ref (zad g 0 0)), some (.int (nI 0)), some (.int (nI 0)), none]) ⟨rfl, rfl, rfl, trivial⟩ ?_
      exact ADV (zord g.2.2.2 x g.2.2.2 0) [] [] PA (fun _ => 0) I2 R2 fl2 rfl rfl rfl hQA (fun s hs => by rw [hz s hs]; exact Or.inr ⟨0, Nat.zero_le _, rfl, trivial, fun _ _ _ => rfl, fun _ _ _ _ _ _ _ h => by omega⟩) hC2 hv hI hR
    | succ w ih =>
      intro k I2 R2 fl2 hk hC2 hv hz hI hR
      have hW := hWW.ad2 hI hR
      have hkc : k < g.2.2.2 := by omega
      obtain ⟨b15, b16, b17⟩ := h16 k hkc
      have hW1 : zW g S h n (zu I2 1 k 13 (nI (x k))) R2 := hW.upI rfl
      have hn14 := znd_zo1 hc (fun u hu => hpl k 0 u hu)
      have hn15 := znd_zo1 hc (fun u hu => hpl k 1 u hu)
      refine z_iload_n X d_SM_adopt_25 rfl ?_
      refine z_aload_n X d_SM_adopt_26 rfl ?_
      refine gf_SM_104 X (zo_s rfl hW.1) d_SM_adopt_27 ?_
      refine z_top (congrArg Value.int (hW.2.2.2.2.2.1)) ?_
      refine z_icmp_ge (tgt := 115) X d_SM_adopt_30 (by decide) (fun hq => absurd hq (nI_ge (by omega) (by omega))) (fun _ => ?_)
      refine z_aload_n X d_SM_adopt_33 rfl ?_
      refine gr_SM_9 (hW.c (k := 0) (f := 3) rfl rfl (by decide) rfl) X (zo_s rfl hW.1) d_SM_adopt_34 ?_
      refine z_iload_n X d_SM_adopt_37 rfl ?_
      refine ar_6 X (zo_s rfl hW.1) rfl (by omega) (hW.nd (by omega)) d_SM_adopt_38 ?_
      refine z_astore_n X d_SM_adopt_39 (by decide) rfl ?_
      refine z_aload_n X d_SM_adopt_40 rfl ?_
      refine z_aload_n X d_SM_adopt_41 rfl ?_
      refine gr_SM_53 (hW.c (k := 0) (f := 14) rfl rfl (by decide) rfl) X (zo_s rfl hW.1) d_SM_adopt_42 ?_
      refine z_iload_n X d_SM_adopt_45 rfl ?_
      refine al_15 X (zo_s rfl hW.1) rfl (by omega) d_SM_adopt_46 ?_
      refine z_top (v2 := .int (nI (x k))) (congrArg Value.int ((hI 15 0 k rfl).trans b15)) ?_
      refine pf_SM_206 X (zo_n (by omega) hW.1) d_SM_adopt_47 ?_
      refine z_aload_n X d_SM_adopt_50 rfl ?_
      refine z_aload_n X d_SM_adopt_51 rfl ?_
      refine z_aload_n X d_SM_adopt_52 rfl ?_
      refine gr_SM_57 (hW.c (k := 0) (f := 15) rfl rfl (by decide) rfl) X (zo_s rfl hW.1) d_SM_adopt_53 ?_
      refine z_iload_n X d_SM_adopt_56 rfl ?_
      refine al_16 X (zo_s rfl hW.1) rfl (by omega) d_SM_adopt_57 ?_
      refine z_top (v2 := .int (zo1 (zpl g.2.2.2 f x g.2.2.2 k)[0]?)) (congrArg Value.int ((hI 16 0 k rfl).trans b16)) ?_
      refine z_cq (z_rV X cs_SM_162 rfl rfl (zo_s rfl hW.1).1 (zo_s rfl hW.1).2 (c_SM_node l g hW1 _) ⟨Nat.le_of_ble_eq_true rfl, Nat.le_of_ble_eq_true rfl⟩ rfl rfl (Nat.le_of_ble_eq_true rfl) ⟨Nat.le_of_ble_eq_true rfl, Nat.le_of_ble_eq_true rfl⟩ d_SM_adopt_58) (fun r n2 I2 J2 R2 h => ?_)
      obtain ⟨rfl, e⟩ := h
      cases e
      refine pf_SM_209 (znd g.2.2.2 (zo1 (zpl g.2.2.2 f x g.2.2.2 k)[0]?)) X (zo_n (by omega) hW.1) rfl d_SM_adopt_61 ?_
      refine z_aload_n X d_SM_adopt_64 rfl ?_
      refine z_aload_n X d_SM_adopt_65 rfl ?_
      refine z_aload_n X d_SM_adopt_66 rfl ?_
      refine gr_SM_60 (hW.c (k := 0) (f := 16) rfl rfl (by decide) rfl) X (zo_s rfl hW.1) d_SM_adopt_67 ?_
      refine z_iload_n X d_SM_adopt_70 rfl ?_
      refine al_17 X (zo_s rfl hW.1) rfl (by omega) d_SM_adopt_71 ?_
      refine z_top (v2 := .int (zo1 (zpl g.2.2.2 f x g.2.2.2 k)[1]?)) (congrArg Value.int ((hI 17 0 k rfl).trans b17)) ?_
      refine z_cq (z_rV X cs_SM_162 rfl rfl (zo_s rfl hW.1).1 (zo_s rfl hW.1).2 (c_SM_node l g (hW1.upR rfl) _) ⟨Nat.le_of_ble_eq_true rfl, Nat.le_of_ble_eq_true rfl⟩ rfl rfl (Nat.le_of_ble_eq_true rfl) ⟨Nat.le_of_ble_eq_true rfl, Nat.le_of_ble_eq_true rfl⟩ d_SM_adopt_72) (fun r n2 I2 J2 R2 h => ?_)
      obtain ⟨rfl, e⟩ := h
      cases e
      refine pf_SM_212 (znd g.2.2.2 (zo1 (zpl g.2.2.2 f x g.2.2.2 k)[1]?)) X (zo_n (by omega) hW.1) rfl d_SM_adopt_75 ?_
      refine z_aload_n X d_SM_adopt_78 rfl ?_
      refine z_iload_n X d_SM_adopt_79 rfl ?_
      refine z_if_ne (tgt := 87) X d_SM_adopt_80 (by decide) (fun h80 => ?_) (fun h80 => ?_)
      · have hw : nI 0 = if k = 0 then nI 1 else nI 0 := (if_neg (fun z => h80 (by rw [z]; rfl))).symm
        refine z_iconst (v := nI 0) X d_SM_adopt_87 rfl ?_
        refine pf_SM_124 X (zo_n (by omega) hW.1) (by decide) d_SM_adopt_88 ?_
        refine z_aload_n X d_SM_adopt_91 rfl ?_
        refine z_iconst (v := nI 0) X d_SM_adopt_92 rfl ?_
        refine pf_SM_215 X (zo_n (by omega) hW.1) d_SM_adopt_93 ?_
        refine z_aload_n X d_SM_adopt_96 rfl ?_
        refine z_iconst (v := nI 0) X d_SM_adopt_97 rfl ?_
        refine pf_SM_218 X (zo_n (by omega) hW.1) d_SM_adopt_98 ?_
        have hC5 := ((((hC2.I4 (k := 1) (i := k) (j := 13) (v := nI (x k)) (fun _ _ => zco_no13) (by decide) (by decide) (by decide)).R (R2 := zu (zu R2 1 k 14 (znd g.2.2.2 (zo1 (zpl g.2.2.2 f x g.2.2.2 k)[0]?))) 1 k 15 (znd g.2.2.2 (zo1 (zpl g.2.2.2 f x g.2.2.2 k)[1]?))) (fun _ _ => rfl) (fun _ => rfl) rfl).put (v := if k = 0 then nI 1 else nI 0) (zco.n hkc (j := 2) (k' := 32) (by decide))).put (v := nI 0) (zco.n hkc (j := 5) (k' := 47) (by decide))).put (v := nI 0) (zco.n hkc (j := 6) (k' := 48) (by decide))
        rw [← hw] at hC5
        have hI5 := ((((zIa.put (I := I2) (k := 1) (i := k) (j := 13) (v := nI (x k)) rfl).tr (zIa.put (k := 1) (i := k) (j := 2) (v := if k = 0 then nI 1 else nI 0) rfl)).tr (zIa.put (k := 1) (i := k) (j := 5) (v := nI 0) rfl)).tr (zIa.put (k := 1) (i := k) (j := 6) (v := nI 0) rfl))
        rw [← hw] at hI5
        have hR5 := (zRa.put (R := R2) (k := 1) (i := k) (j := 14) (v := znd g.2.2.2 (zo1 (zpl g.2.2.2 f x g.2.2.2 k)[0]?)) rfl).tr (zRa.put (k := 1) (i := k) (j := 15) (v := znd g.2.2.2 (zo1 (zpl g.2.2.2 f x g.2.2.2 k)[1]?)) rfl)
        have hW := hWW.ad2 (hI.tr hI5) (hR.tr hR5)
        refine z_aload_n X d_SM_adopt_101 rfl ?_
        refine z_aload_n X d_SM_adopt_102 rfl ?_
        refine gr_SM_221 (hW.up (by omega)).2.1 X (zo_n (by omega) hW.1) d_SM_adopt_103 ?_
        refine z_cv (z_rV X cs_SM_225 rfl rfl (zo_s rfl hW.1).1 (zo_s rfl hW.1).2 (c_SM_empty l g hW hC5 (r := 6 + k) (Or.inr ⟨by omega, by omega⟩)) ⟨Nat.le_of_ble_eq_true rfl, Nat.le_of_ble_eq_true rfl⟩ rfl rfl (Nat.le_of_ble_eq_true rfl) ⟨Nat.le_of_ble_eq_true rfl, Nat.le_of_ble_eq_true rfl⟩ d_SM_adopt_106) (fun n6 I6 J6 R6 h9 => ?_)
        obtain ⟨Ix, Rx, fl6, ex, d1, d2, d3⟩ := h9
        cases ex
        rw [zqE_s] at d1
        have nx := ih (k + 1) I6 R6 fl6 (by omega) (d1.ofA (fun kk j => zpA_s hw kk j)) (fun v hvk => if e : v = k then (by subst e; exact ⟨(d2 1 v 13 (by decide) (by decide)).trans ((zu_j (by decide)).trans ((zu_j (by decide)).trans ((zu_j (by decide)).trans zu_s))), (d3.k rfl).trans ((zu_j (by decide)).trans (zu_s.trans hn14)), (d3.k rfl).trans (zu_s.trans hn15)⟩) else (by obtain ⟨c1, c2, c3⟩ := hv v (by omega); exact ⟨(d2 1 v 13 (by decide) (by decide)).trans ((zu_i e).trans ((zu_i e).trans ((zu_i e).trans ((zu_i e).trans c1)))), (d3.k rfl).trans ((zu_i e).trans ((zu_i e).trans c2)), (d3.k rfl).trans ((zu_i e).trans ((zu_i e).trans c3))⟩)) (fun s hs => (d3.k rfl).trans (hz s hs)) ((hI.tr hI5).tr d2.ia) ((hR.tr hR5).tr d3.ra)
        refine z_iinc X d_SM_adopt_109 rfl (zinc _) (by decide) rfl ?_
        refine z_goto (tgt := 25) X d_SM_adopt_112 (by decide) ?_
        refine z_wk (ls2 := [some (.ref (zad g 0 0)), some (.int (nI (k + 1))), none, none]) ⟨rfl, rfl, trivial⟩ ?_
        exact nx
      · have hw : nI 1 = if k = 0 then nI 1 else nI 0 := (if_pos (nI_inj (b := 0) (by omega) (by omega) h80)).symm
        refine z_iconst (v := nI 1) X d_SM_adopt_83 rfl ?_
        refine z_goto (tgt := 88) X d_SM_adopt_84 (by decide) ?_
        refine pf_SM_124 X (zo_n (by omega) hW.1) (by decide) d_SM_adopt_88 ?_
        refine z_aload_n X d_SM_adopt_91 rfl ?_
        refine z_iconst (v := nI 0) X d_SM_adopt_92 rfl ?_
        refine pf_SM_215 X (zo_n (by omega) hW.1) d_SM_adopt_93 ?_
        refine z_aload_n X d_SM_adopt_96 rfl ?_
        refine z_iconst (v := nI 0) X d_SM_adopt_97 rfl ?_
        refine pf_SM_218 X (zo_n (by omega) hW.1) d_SM_adopt_98 ?_
        have hC5 := ((((hC2.I4 (k := 1) (i := k) (j := 13) (v := nI (x k)) (fun _ _ => zco_no13) (by decide) (by decide) (by decide)).R (R2 := zu (zu R2 1 k 14 (znd g.2.2.2 (zo1 (zpl g.2.2.2 f x g.2.2.2 k)[0]?))) 1 k 15 (znd g.2.2.2 (zo1 (zpl g.2.2.2 f x g.2.2.2 k)[1]?))) (fun _ _ => rfl) (fun _ => rfl) rfl).put (v := if k = 0 then nI 1 else nI 0) (zco.n hkc (j := 2) (k' := 32) (by decide))).put (v := nI 0) (zco.n hkc (j := 5) (k' := 47) (by decide))).put (v := nI 0) (zco.n hkc (j := 6) (k' := 48) (by decide))
        rw [← hw] at hC5
        have hI5 := ((((zIa.put (I := I2) (k := 1) (i := k) (j := 13) (v := nI (x k)) rfl).tr (zIa.put (k := 1) (i := k) (j := 2) (v := if k = 0 then nI 1 else nI 0) rfl)).tr (zIa.put (k := 1) (i := k) (j := 5) (v := nI 0) rfl)).tr (zIa.put (k := 1) (i := k) (j := 6) (v := nI 0) rfl))
        rw [← hw] at hI5
        have hR5 := (zRa.put (R := R2) (k := 1) (i := k) (j := 14) (v := znd g.2.2.2 (zo1 (zpl g.2.2.2 f x g.2.2.2 k)[0]?)) rfl).tr (zRa.put (k := 1) (i := k) (j := 15) (v := znd g.2.2.2 (zo1 (zpl g.2.2.2 f x g.2.2.2 k)[1]?)) rfl)
        have hW := hWW.ad2 (hI.tr hI5) (hR.tr hR5)
        refine z_aload_n X d_SM_adopt_101 rfl ?_
        refine z_aload_n X d_SM_adopt_102 rfl ?_
        refine gr_SM_221 (hW.up (by omega)).2.1 X (zo_n (by omega) hW.1) d_SM_adopt_103 ?_
        refine z_cv (z_rV X cs_SM_225 rfl rfl (zo_s rfl hW.1).1 (zo_s rfl hW.1).2 (c_SM_empty l g hW hC5 (r := 6 + k) (Or.inr ⟨by omega, by omega⟩)) ⟨Nat.le_of_ble_eq_true rfl, Nat.le_of_ble_eq_true rfl⟩ rfl rfl (Nat.le_of_ble_eq_true rfl) ⟨Nat.le_of_ble_eq_true rfl, Nat.le_of_ble_eq_true rfl⟩ d_SM_adopt_106) (fun n6 I6 J6 R6 h9 => ?_)
        obtain ⟨Ix, Rx, fl6, ex, d1, d2, d3⟩ := h9
        cases ex
        rw [zqE_s] at d1
        have nx := ih (k + 1) I6 R6 fl6 (by omega) (d1.ofA (fun kk j => zpA_s hw kk j)) (fun v hvk => if e : v = k then (by subst e; exact ⟨(d2 1 v 13 (by decide) (by decide)).trans ((zu_j (by decide)).trans ((zu_j (by decide)).trans ((zu_j (by decide)).trans zu_s))), (d3.k rfl).trans ((zu_j (by decide)).trans (zu_s.trans hn14)), (d3.k rfl).trans (zu_s.trans hn15)⟩) else (by obtain ⟨c1, c2, c3⟩ := hv v (by omega); exact ⟨(d2 1 v 13 (by decide) (by decide)).trans ((zu_i e).trans ((zu_i e).trans ((zu_i e).trans ((zu_i e).trans c1)))), (d3.k rfl).trans ((zu_i e).trans ((zu_i e).trans c2)), (d3.k rfl).trans ((zu_i e).trans ((zu_i e).trans c3))⟩)) (fun s hs => (d3.k rfl).trans (hz s hs)) ((hI.tr hI5).tr d2.ia) ((hR.tr hR5).tr d3.ra)
        refine z_iinc X d_SM_adopt_109 rfl (zinc _) (by decide) rfl ?_
        refine z_goto (tgt := 25) X d_SM_adopt_112 (by decide) ?_
        refine z_wk (ls2 := [some (.ref (zad g 0 0)), some (.int (nI (k + 1))), none, none]) ⟨rfl, rfl, trivial⟩ ?_
        exact nx
  -- slots
  have SLT : ∀ (w s : Nat) (R2 : zR), s + w = S → (∀ s2, s2 < s → R2 11 0 s2 = none) → zRa R R2 → zRC g.2.2.2 n N I R2 fl A q → zV pP l eE (zrm 2 47 0 0) sS mM aA bB mE cC g 4 (MQ bB (zQv g (fun u => ∃ I2 R2 fl2, u = (n, I2, J, R2) ∧ zRC g.2.2.2 n N I2 R2 fl2 (zpA g.2.2.2 A) (zqE g.2.2.2 q) ∧ (∀ v, v < g.2.2.2 → I2 1 v 13 = nI (x v) ∧ R2 1 v 14 = (zpl g.2.2.2 f x g.2.2.2 v)[0]? ∧ R2 1 v 15 = (zpl g.2.2.2 f x g.2.2.2 v)[1]?) ∧ (∀ s, s < S → zSl g.2.2.2 h (zpf g.2.2.2 f x) (fun j => T2 (4 * s + j)) I2 R2 (R2 11 0 s)) ∧ zIa I I2 ∧ zRa R R2)) aA sS 0 0 (zA g)) 0 0 2 [some (.ref (zad g 0 0)), some (.int (nI s)), none, none] [] n I J R2 := by
    intro w
    induction w with
    | zero =>
      intro s R2 hs hz hR hC2
      have hW := hWW.ad2 (I2 := I) (fun _ _ _ _ => rfl) hR
      have hs : s = S := by omega
      subst hs
      refine z_iload_n X d_SM_adopt_2 rfl ?_
      refine z_aload_n X d_SM_adopt_3 rfl ?_
      refine gf_SM_108 X (zo_s rfl hW.1) d_SM_adopt_4 ?_
      refine z_top (congrArg Value.int (hW.2.2.2.2.2.2.1)) ?_
      refine z_icmp_ge (tgt := 23) X d_SM_adopt_7 (by decide) (fun _ => ?_) (fun hq => absurd hq (fun z => z (Int32.le_refl _)))
      refine z_iconst (v := nI 0) X d_SM_adopt_23 rfl ?_
      refine z_istore_n X d_SM_adopt_24 (by decide) rfl ?_
      have ez : zqE 0 q = q := by funext r; unfold zqE; rw [if_neg (by omega)]
      have hC3 : zRC g.2.2.2 n N I R2 fl (zpA 0 A) (zqE 0 q) := by
        rw [ez]
        exact hC2.ofA (fun k j => by unfold zpA; rw [if_neg (by omega), if_neg (by omega)])
      exact NOD g.2.2.2 0 I R2 fl (by omega) hC3 (fun v hv => by omega) hz (fun _ _ _ _ => rfl) hR
    | succ w ih =>
      intro s R2 hs hz hR hC2
      have hW := hWW.ad2 (I2 := I) (fun _ _ _ _ => rfl) hR
      refine z_iload_n X d_SM_adopt_2 rfl ?_
      refine z_aload_n X d_SM_adopt_3 rfl ?_
      refine gf_SM_108 X (zo_s rfl hW.1) d_SM_adopt_4 ?_
      refine z_top (congrArg Value.int (hW.2.2.2.2.2.2.1)) ?_
      refine z_icmp_ge (tgt := 23) X d_SM_adopt_7 (by decide) (fun hq => absurd hq (nI_ge (by omega) (by omega))) (fun _ => ?_)
      refine z_aload_n X d_SM_adopt_10 rfl ?_
      refine gr_SM_31 (hW.c (k := 0) (f := 10) rfl rfl (by decide) rfl) X (zo_s rfl hW.1) d_SM_adopt_11 ?_
      refine z_iload_n X d_SM_adopt_14 rfl ?_
      refine z_null X d_SM_adopt_15 ?_
      refine z_aastN X (t := 5) (t2 := 4) s (by decide) rfl rfl rfl (zo_s rfl hW.1) (by omega) rfl (by decide) d_SM_adopt_16 ?_
      refine z_iinc X d_SM_adopt_17 rfl (zinc _) (by decide) rfl ?_
      refine z_goto (tgt := 2) X d_SM_adopt_20 (by decide) ?_
      refine ih (s + 1) _ (by omega) (fun s2 h2 => ?_) (hR.tr (zRa.put rfl)) (hC2.R (fun _ _ => rfl) (fun _ => rfl) rfl)
      by_cases e : s2 = s
      · subst e; exact zu_s
      · rw [zu_j e]; exact hz s2 (by omega)
  refine z_iconst (v := nI 0) X d_SM_adopt_0 rfl ?_
  refine z_istore_n X d_SM_adopt_1 (by decide) rfl ?_
  exact SLT S 0 R (by omega) (fun s2 h2 => by omega) (fun _ _ _ _ => rfl) hC

