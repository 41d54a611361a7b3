/-! THE COMPONENT: plan -/
theorem zQA.T {S h : Nat} {E : List Nat} : ∀ {D : List Nat} {T T' : Nat → Nat} {P : List Nat}, zQA S h D T P T' → zreqA S h D T = some T' := fun h1 => by
  have := h1.req (E := [])
  rw [List.append_nil] at this
  exact this
theorem zQL.T {S h : Nat} : ∀ {D : List Nat} {T T' : Nat → Nat} {P : List Nat}, zQL S h D T P T' → zreqL S h D T = some T' := fun h1 => by
  have := h1.req (E := [])
  rw [List.append_nil] at this
  exact this
/-- ints that a plan's working out may change -/
def zKw (I I2 : zI) : Prop := ∀ k i j, ¬ (15 ≤ k ∧ k ≤ 21) → ¬ (k = 0 ∧ j = 21) → I2 k i j = I k i j
theorem zco_15 {c k i j a b : Nat} (h : zco c k i j a b) : ¬ (15 ≤ k ∧ k ≤ 21) ∧ ¬ (k = 0 ∧ j = 21) := by
  rcases h with ⟨rfl, p1, rfl, h⟩ | ⟨rfl, p1, p2, rfl, rfl⟩ | ⟨rfl, p1, p2, rfl, rfl⟩ | ⟨rfl, p1, p2, rfl, rfl⟩ | ⟨p1, p2, rfl, p3, rfl, rfl⟩ | ⟨rfl, rfl, rfl, h⟩ <;> omega
theorem zRC.w {c n N : Nat} {I I2 : zI} {R : zR} {fl : zfl} {A : zI} {q : zq} (h : zRC c n N I R fl A q) (hK : zKw I I2) : zRC c n N I2 R fl A q := ⟨h.1.of (fun k i j a b hp => hK k i j (zco_15 hp).1 (zco_15 hp).2) (fun _ _ _ _ _ _ => rfl), h.2.1.of (Nat.le_refl _) (fun s => hK 24 0 s (by omega) (by omega)) (fun _ => rfl), h.2.2.1.of (Nat.le_refl _) (fun r => hK 2 r 2 (by omega) (by omega)) (fun r f _ j => hK 3 f j (by omega) (by omega)) (fun _ _ => rfl) (fun _ _ _ => rfl) rfl, h.2.2.2⟩
theorem zKw.W {g : zG} {S h n : Nat} {I I2 : zI} {R : zR} (hK : zKw I I2) (hW : zW g S h n I R) : zW g S h n I2 R := by
  obtain ⟨a1, a2, a3, a4, a5, a6⟩ := hW
  refine ⟨a1, a2, a3, a4, a5, a6.of (fun k i f hc => hK k i f ?_ ?_)⟩
  · rintro ⟨h1, h2⟩
    rcases (show k = 15 ∨ k = 16 ∨ k = 17 ∨ k = 18 ∨ k = 19 ∨ k = 20 ∨ k = 21 by omega) with rfl | rfl | rfl | rfl | rfl | rfl | rfl <;> cases hc
  · rintro ⟨rfl, rfl⟩; cases hc
theorem c_SM_plan (l : Launch) (g : zG) {S h n N : Nat} {I : zI} {J : zJ} {R : zR} {fl : zfl} {A : zI} {q : zq} (hW : zW g S h n I R) (hC : zRC g.2.2.2 n N I R fl A q) (hsy : zsym g.2.2.2 (A 30 0)) : zMet l g y_SM_plan b_SM_plan 1 (some .int) 3 72 0 0 (zPc g [.ref (zad g 0 0)] n I J R) (zQi g (fun r u => (r = -1 ∧ ((∃ v, v < g.2.2.2 ∧ ∀ k, ¬ zWk g.2.2.2 (A 30 0) k v) ∨ ∃ x, zLs g.2.2.2 (A 30 0) x ∧ zplan g.2.2.2 S h (A 30 0) x = none) ∧ ∃ I2, u = (n, I2, J, R) ∧ zKw I I2) ∨ ∃ x T m, zLs g.2.2.2 (A 30 0) x ∧ zplan g.2.2.2 S h (A 30 0) x = some T ∧ m = ((zord g.2.2.2 x 5 1).flatMap (zlks g.2.2.2 (A 30 0) x)).length ∧ r = nI (g.2.2.2 + m) ∧ ∃ I1 I2 R2 fl2 T1 PL, u = (n, I2, J, R2) ∧ zKw I I1 ∧ zRC g.2.2.2 n N I2 R2 fl2 (zpA g.2.2.2 A) (zqE g.2.2.2 q) ∧ (∀ v, v < g.2.2.2 → I2 1 v 13 = nI (x v) ∧ R2 1 v 14 = (zpl g.2.2.2 (A 30 0) x g.2.2.2 v)[0]? ∧ R2 1 v 15 = (zpl g.2.2.2 (A 30 0) x g.2.2.2 v)[1]?) ∧ (∀ s, s < S → zSl g.2.2.2 h (zpf g.2.2.2 (A 30 0) x) (fun j => T (4 * s + j)) I2 R2 (R2 11 0 s)) ∧ zIa I1 I2 ∧ zRa R R2 ∧ (∃ PA, zQA S h (zord g.2.2.2 x g.2.2.2 0) (fun _ => 0) PA T1) ∧ zQL S h ((zord g.2.2.2 x 5 1).flatMap (zlks g.2.2.2 (A 30 0) x)) T1 PL T)) := by
  have hWW := hW
  refine zMet.of (by decide) [some (.ref (zad g 0 0))] rfl (Nat.le_of_ble_eq_true rfl) ?_
  intro pP eE sS mM aA bB mE cC X hret hnm
  have X : zC pP sS mM aA mE cC b_SM_plan "SlottedMesh" 1 g := X
  have hret : mE.sig.returnType = (some .int) := hret
  refine z_aload_n X d_SM_plan_0 rfl ?_
  refine z_ci (z_rV X cs_SM_233 rfl rfl (zo_s rfl hW.1).1 (zo_s rfl hW.1).2 (c_SM_route l g hW (A 30 0) (fun a b ha hb => hC.1.nr ha hb) hsy) ⟨Nat.le_of_ble_eq_true rfl, Nat.le_of_ble_eq_true rfl⟩ rfl rfl (Nat.le_of_ble_eq_true rfl) ⟨Nat.le_of_ble_eq_true rfl, Nat.le_of_ble_eq_true rfl⟩ d_SM_plan_1) (fun r n1 I1 J1 R1 h9 => ?_)
  obtain ⟨Ix, ex, k1, hr⟩ := h9
  cases ex
  have hK1 : zKw I I1 := fun k i j a _ => k1 k i j (by omega) (by omega) (by omega) (by omega)
  rcases hr with ⟨rfl, x, hL, h15⟩ | ⟨rfl, hv⟩
  · have hW := hK1.W hWW
    refine z_if_ne (tgt := 9) X d_SM_plan_4 (by decide) (fun _ => ?_) (fun hq => absurd hq (by decide))
    refine z_aload_n X d_SM_plan_9 rfl ?_
    refine z_cv (z_rV X cs_SM_236 rfl rfl (zo_s rfl hW.1).1 (zo_s rfl hW.1).2 (c_SM_sort l g hW x (fun v hv => ⟨(h15 v hv).1, (hL v hv).1⟩)) ⟨Nat.le_of_ble_eq_true rfl, Nat.le_of_ble_eq_true rfl⟩ rfl rfl (Nat.le_of_ble_eq_true rfl) ⟨Nat.le_of_ble_eq_true rfl, Nat.le_of_ble_eq_true rfl⟩ d_SM_plan_10) (fun n2 I2 J2 R2 h8 => ?_)
    obtain ⟨Iy, ey, k2, h18⟩ := h8
    cases ey
    have hK2 : zKw I I2 := fun k i j a b => (k2 k i j (by omega)).trans (hK1 k i j a b)
    have hW := hK2.W hWW
    have h15' : ∀ v, v < g.2.2.2 → I2 15 0 v = nI (x v) ∧ I2 16 0 v = zo1 (zpl g.2.2.2 (A 30 0) x g.2.2.2 v)[0]? ∧ I2 17 0 v = zo1 (zpl g.2.2.2 (A 30 0) x g.2.2.2 v)[1]? := fun v hv => by rw [k2 15 0 v (by decide), k2 16 0 v (by decide), k2 17 0 v (by decide)]; exact h15 v hv
    refine z_aload_n X d_SM_plan_13 rfl ?_
    refine z_ci (z_rV X cs_SM_239 rfl rfl (zo_s rfl hW.1).1 (zo_s rfl hW.1).2 (c_SM_place l g hW (A 30 0) x hL hsy h18 (fun v hv => (h15' v hv).2)) ⟨Nat.le_of_ble_eq_true rfl, Nat.le_of_ble_eq_true rfl⟩ rfl rfl (Nat.le_of_ble_eq_true rfl) ⟨Nat.le_of_ble_eq_true rfl, Nat.le_of_ble_eq_true rfl⟩ d_SM_plan_14) (fun r3 n3 I3 J3 R3 h7 => ?_)
    obtain ⟨Iz, ez, k3, hp⟩ := h7
    cases ez
    have hK3 : zKw I I3 := fun k i j a b => (k3 k i j (by omega) (by omega) (by omega) b).trans (hK2 k i j a b)
    have hW := hK3.W hWW
    rcases hp with ⟨rfl, T1, T2, PA, PL, hQA, hQL, hPS⟩ | ⟨rfl, hn⟩
    · have hol := zord_len (fun a ha => (hL a ha).1)
      have hQA6 : zreqA S h (zord g.2.2.2 x 6 0) (fun _ => 0) = some T1 := by rw [(zord_hd hW.2.1 hL).2]; exact hQA.T (E := [])
      have hlen : (PA ++ PL).length = g.2.2.2 + ((zord g.2.2.2 x 5 1).flatMap (zlks g.2.2.2 (A 30 0) x)).length := by rw [List.length_append, hQA.len, hQL.len, hol]
      refine z_if_ne (tgt := 22) X d_SM_plan_17 (by decide) (fun _ => ?_) (fun hq => absurd hq (by decide))
      refine z_aload_n X d_SM_plan_22 rfl ?_
      refine z_cv (z_rV X cs_SM_242 rfl rfl (zo_s rfl hW.1).1 (zo_s rfl hW.1).2 (c_SM_adopt l g hW (hC.w hK3) (A 30 0) x hL hsy (fun j v hj => (k3 18 0 j (by decide) (by decide) (by decide) (fun z => by cases z.1)).trans (h18 j v hj)) (fun v hv => by rw [k3 15 0 v (by decide) (by decide) (by decide) (fun z => by cases z.1), k3 16 0 v (by decide) (by decide) (by decide) (fun z => by cases z.1), k3 17 0 v (by decide) (by decide) (by decide) (fun z => by cases z.1)]; exact h15' v hv) T1 T2 PA PL hQA hQL hPS.2.2.1) ⟨Nat.le_of_ble_eq_true rfl, Nat.le_of_ble_eq_true rfl⟩ rfl rfl (Nat.le_of_ble_eq_true rfl) ⟨Nat.le_of_ble_eq_true rfl, Nat.le_of_ble_eq_true rfl⟩ d_SM_plan_23) (fun n4 I4 J4 R4 h6 => ?_)
      obtain ⟨Iw, Rw, fl4, ew, d1, d2, d3, d4, d5⟩ := h6
      cases ew
      refine z_aload_n X d_SM_plan_26 rfl ?_
      refine gf_SM_166 X (zo_s rfl hW.1) d_SM_plan_27 ?_
      refine z_top (v2 := .int (nI (g.2.2.2 + ((zord g.2.2.2 x 5 1).flatMap (zlks g.2.2.2 (A 30 0) x)).length))) (congrArg Value.int (by rw [← hlen]; exact (d4 0 0 21 rfl).trans hPS.2.1)) ?_
      exact z_iret X hret rfl (Nat.zero_le _) (Nat.zero_le _) (Or.inr ⟨x, T2, _, hL, by unfold zplan; rw [hQA6]; exact hQL.T, rfl, rfl, I3, I4, R4, fl4, T1, PL, rfl, hK3, d1, d2, d3, d4, d5, ⟨PA, hQA⟩, hQL⟩) d_SM_plan_30
    · refine z_if_ne (tgt := 22) X d_SM_plan_17 (by decide) (fun hq => absurd hq (by decide)) (fun _ => ?_)
      refine z_iconst (v := -1) X d_SM_plan_20 rfl ?_
      exact z_iret X hret rfl (Nat.zero_le _) (Nat.zero_le _) (Or.inl ⟨rfl, Or.inr ⟨x, hL, hn⟩, I3, rfl, hK3⟩) d_SM_plan_21
  · refine z_if_ne (tgt := 9) X d_SM_plan_4 (by decide) (fun hq => absurd hq (by decide)) (fun _ => ?_)
    refine z_iconst (v := -1) X d_SM_plan_7 rfl ?_
    exact z_iret X hret rfl (Nat.zero_le _) (Nat.zero_le _) (Or.inl ⟨rfl, Or.inl hv, I1, rfl, hK1⟩) d_SM_plan_8

