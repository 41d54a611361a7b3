/-! THE COMPONENT'S FRAMES: a frame is got, rows are emptied, the cache -/
def zIf (I I2 : zI) : Prop := ∀ k i j, k ≠ 2 → k ≠ 3 → I2 k i j = I k i j
theorem zIf.rf {I : zI} : zIf I I := fun _ _ _ _ _ => rfl
theorem zIf.tr {I I2 I3 : zI} (h : zIf I I2) (h2 : zIf I2 I3) : zIf I I3 := fun k i j a b => (h2 k i j a b).trans (h k i j a b)
theorem zIf.ik {I I2 : zI} (h : zIf I I2) : zIk I I2 := fun k i j hm => h k i j (fun e => by subst e; cases hm) (fun e => by subst e; cases hm)
theorem zIf.sz {I : zI} {r j : Nat} {v : Int32} : zIf I (zu I 2 r j v) := fun _ _ _ h _ => zu_k h
theorem zIf.set {I : zI} {f : Nat} {a b v : Int32} : zIf I (zsetF I f a b v) := fun _ _ _ _ h => by unfold zsetF; rw [zu_k h, zu_k h, zu_k h]
theorem zco_23 {c k i j a b : Nat} (h : zco c k i j a b) : k ≠ 2 ∧ k ≠ 3 ∧ k ≠ 24 ∧ a ≠ 52 := by
  rcases h with ⟨rfl, p1, rfl, h⟩ | ⟨rfl, p1, p2, rfl, rfl⟩ | ⟨rfl, p1, p2, rfl, rfl⟩ | ⟨rfl, p1, p2, rfl, rfl⟩ | ⟨p1, p2, rfl, p3, rfl, rfl⟩ | ⟨rfl, rfl, rfl, h⟩
  · exact ⟨by decide, by decide, by decide, by omega⟩
  all_goals omega
theorem zRC.fr {c n n2 N : Nat} {I I2 : zI} {R R2 : zR} {fl fl2 : zfl} {A : zI} {q q2 : zq} (h : zRC c n N I R fl A q) (hF : zFr c n2 I2 R2 fl2 q2) (hI : zIf I I2) (hq : zQok c q2) : zRC c n2 N I2 R2 fl2 A q2 :=
  ⟨h.1.of (fun k i j a b hp => hI k i j (zco_23 hp).1 (zco_23 hp).2.1) (fun _ _ _ _ _ _ => rfl), h.2.1.of (Nat.le_refl _) (fun s => hI 24 0 s (by decide) (by decide)) (fun _ => rfl), hF, hq⟩
/-- a frame is got -/
theorem zFr.frame {c n : Nat} {I : zI} {J : zJ} {R : zR} {fl : zfl} {q : zq} {a b v : Int32} {r : Option Nat} {u : zS} (hc : c ≤ 6) (h : zFr c n I R fl q) (hp : (R 0 0 9 = none ∧ ∃ f, 78 + 6 * c + f = n ∧ r = some f ∧ u = (n + 1, zsetF I f a b v, J, zu R 3 f 3 none)) ∨ (∃ f, R 0 0 9 = some f ∧ r = some f ∧ u = (n, zsetF I f a b v, J, zu (zu R 0 0 9 (R 3 f 3)) 3 f 3 none))) :
    ∃ f n1 R1 fl1, r = some f ∧ u = (n1, zsetF I f a b v, J, R1) ∧ n ≤ n1 ∧ n1 ≤ n + 1 ∧ zFr c n1 (zsetF I f a b v) R1 fl1 q ∧ zfree c n1 fl1 f ∧ R1 3 f 3 = none ∧ zRk2 R R1 ∧ ∀ x, x ≠ 12 → fl1 x = fl x := by
  rcases hp with ⟨h9, f, hf, rfl, rfl⟩ | ⟨f, hf, rfl, rfl⟩
  · obtain ⟨k1, k2⟩ := h.new (f := f) (a := a) (b := b) (v := v) hf
    exact ⟨f, n + 1, _, fl, rfl, rfl, by omega, by omega, k1, k2, zu_s, zRk2.rel3, fun _ _ => rfl⟩
  · obtain ⟨t, ht, k1, k2⟩ := h.got (a := a) (b := b) (v := v) hc hf
    exact ⟨f, n, _, _, rfl, rfl, by omega, by omega, k1, k2, zu_s, zRk2.rel2, fun x hx => fu_n hx⟩
theorem zFr.spare {c n : Nat} {I : zI} {R : zR} {fl : zfl} {q : zq} (h : zFr c n I R fl q) : ∀ j, R 0 0 9 = some j → 78 + 6 * c + j < n := by
  intro j hj
  have h1 := h.2.1
  cases hl : fl 12 with
  | nil => rw [hl] at h1; rw [show R 0 0 9 = none from h1] at hj; cases hj
  | cons f t => rw [hl] at h1; rw [h1.1] at hj; cases hj; exact h.2.2.2.2 12 _ (by rw [hl]; exact List.mem_cons_self)
theorem zFr.last {c n : Nat} {I : zI} {R : zR} {fl : zfl} {q : zq} (h : zFr c n I R fl q) {r : Nat} (hr : zrv c r) : ∀ j, R 2 r 1 = some j → 78 + 6 * c + j < n := by
  intro j hj
  rw [(h.1 r hr).2.1] at hj
  exact h.2.2.2.2 r _ (List.mem_of_getLast? hj)
/-- the first frame of a row -/
theorem zFr.hd {c n : Nat} {I : zI} {R : zR} {fl : zfl} {q : zq} (h : zFr c n I R fl q) {r : Nat} (hr : zrv c r) : (q r = [] ∧ fl r = [] ∧ R 2 r 0 = none) ∨ ∃ f t e k v tq, q r = (e, k, v) :: tq ∧ fl r = f :: t ∧ R 2 r 0 = some f ∧ 78 + 6 * c + f < n ∧ I 3 f 0 = nI e ∧ I 3 f 1 = k ∧ I 3 f 2 = v := by
  have h1 := h.1 r hr
  cases hl : fl r with
  | nil =>
    rw [hl] at h1
    refine Or.inl ⟨?_, rfl, h1.1⟩
    have := h1.2.2.2
    unfold zct zcq at this
    simpa using this.symm
  | cons f t =>
    rw [hl] at h1
    have h4 := h1.2.2.2
    unfold zct zcq at h4
    cases hq : q r with
    | nil => rw [hq] at h4; simp at h4
    | cons x tq =>
      obtain ⟨e, k, v⟩ := x
      rw [hq] at h4
      simp at h4
      exact Or.inr ⟨f, t, e, k, v, tq, rfl, rfl, h1.1.1, h.2.2.2.2 r f (by rw [hl]; exact List.mem_cons_self), h4.1.1, h4.1.2.1, h4.1.2.2⟩
def zSt (g : zG) (n N : Nat) (I : zI) (J : zJ) (R : zR) (A : zI) (q : zq) (u : zS) : Prop := ∃ n1 I1 R1 fl1, u = (n1, I1, J, R1) ∧ n ≤ n1 ∧ n1 ≤ n + 1 ∧ zRC g.2.2.2 n1 (N + 1) I1 R1 fl1 A q ∧ zIk I I1 ∧ zRk2 R R1
theorem zRC.N1 {c n N : Nat} {I : zI} {R : zR} {fl : zfl} {A : zI} {q : zq} (h : zRC c n N I R fl A q) : zRC c n (N + 1) I R fl A q := ⟨h.1, h.2.1.of (Nat.le_succ _) (fun _ => rfl) (fun _ => rfl), h.2.2⟩
/-- an int of both is written -/
theorem zRC.put {c n N k i j a b : Nat} {I : zI} {R : zR} {fl : zfl} {A : zI} {q : zq} {v : Int32} (h : zRC c n N I R fl A q) (hp : zco c k i j a b) : zRC c n N (zu I k i j v) R fl (zu A a 0 b v) q :=
  have e := zco_23 hp
  ⟨h.1.put hp, h.2.1.of (Nat.le_refl _) (fun s => zu_k (fun z => e.2.2.1 z.symm)) (fun s => zu_k (fun z => e.2.2.2 z.symm)), h.2.2.1.of (Nat.le_refl _) (fun r => zu_k (fun z => e.1 z.symm)) (fun r f _ j => zu_k (fun z => e.2.1 z.symm)) (fun _ _ => rfl) (fun _ _ _ => rfl) rfl, h.2.2.2⟩
/-- a sample more is kept -/
theorem zRC.newest {c n N e : Nat} {I : zI} {R : zR} {fl : zfl} {A : zI} {q : zq} (h : zRC c n N I R fl A q) (he : e < 6) (hN : N < 2 ^ 30) : zRC c n (N + 1) (zu I 24 0 e (I 24 0 e + nI 1)) R fl (zu A 52 0 e (if A 52 0 e < nI 3 then A 52 0 e + nI 1 else nI 3)) q := by
  refine ⟨h.1.of (fun k i j a b hp => zu_k (zco_23 hp).2.2.1) (fun k i j a b hp => zu_k (zco_23 hp).2.2.2), fun s hs => ?_, h.2.2.1.of (Nat.le_refl _) (fun r => zu_k (by decide)) (fun r f _ j => zu_k (by decide)) (fun _ _ => rfl) (fun _ _ _ => rfl) rfl, h.2.2.2⟩
  obtain ⟨m, a1, a2, a3⟩ := h.2.1 s hs
  by_cases ee : s = e
  · subst ee
    refine ⟨m + 1, by omega, by rw [zu_s, a2, nI_add], ?_⟩
    rw [zu_s, a3]
    by_cases h3 : m < 3
    · rw [if_pos h3, if_pos (nI_lt h3 (by omega)), nI_add]
      congr 1
      split <;> omega
    · rw [if_neg h3, if_neg (by decide), if_neg (by omega)]
  · refine ⟨m, by omega, by rw [zu_j ee]; exact a2, by rw [zu_j ee]; exact a3⟩
theorem qu_qu {q : zq} {r : Nat} {l l2 : List (Nat × Int32 × Int32)} : qu (qu q r l) r l2 = qu q r l2 := by
  funext x
  unfold qu
  by_cases e : x = r <;> simp [e]
theorem qu_id {q : zq} {r : Nat} {l : List (Nat × Int32 × Int32)} (h : q r = l) : qu q r l = q := by
  funext x
  unfold qu
  by_cases e : x = r
  · subst e; rw [if_pos rfl, h]
  · rw [if_neg e]
theorem c_SM_empty (l : Launch) (g : zG) {S h n N : Nat} {I : zI} {J : zJ} {R : zR} {fl : zfl} {A : zI} {q : zq} {r : Nat} (hW : zW g S h n I R) (hC : zRC g.2.2.2 n N I R fl A q) (hr : zrv g.2.2.2 r) : zMet l g y_SM_empty b_SM_empty 2 none 1 21 0 0 (zPc g [.ref (zad g 0 0), .ref (zad g 2 r)] n I J R) (zQv g (fun u => ∃ I2 R2 fl2, u = (n, I2, J, R2) ∧ zRC g.2.2.2 n N I2 R2 fl2 A (qu q r []) ∧ zIf I I2 ∧ zRk2 R R2)) := by
  have hc := hW.2.1.2
  refine zMet.of (by decide) [some (.ref (zad g 0 0)), some (.ref (zad g 2 r))] rfl (Nat.le_of_ble_eq_true rfl) ?_
  intro pP eE sS mM aA bB mE cC X hret hnm
  have X : zC pP sS mM aA mE cC b_SM_empty "SlottedMesh" 2 g := X
  have hret : mE.sig.returnType = none := hret
  have key : ∀ (s : Nat) (I2 : zI) (R2 : zR) (fl2 : zfl) (q2 : zq), (q2 r).length = s → zRC g.2.2.2 n N I2 R2 fl2 A q2 → qu q2 r [] = qu q r [] → zIf I I2 → zRk2 R R2 → zV pP l eE (zrm 1 21 0 0) sS mM aA bB mE cC g 2 (MQ bB (zQv g (fun u => ∃ I2 R2 fl2, u = (n, I2, J, R2) ∧ zRC g.2.2.2 n N I2 R2 fl2 A (qu q r []) ∧ zIf I I2 ∧ zRk2 R R2)) aA sS 0 0 (zA g)) 0 0 0 [some (.ref (zad g 0 0)), some (.ref (zad g 2 r))] [] n I2 J R2 := by
    intro s
    induction s with
    | zero =>
      intro I2 R2 fl2 q2 hs hC2 hq2 hI2 hR2
      have hW2 := hW.step (Nat.le_refl _) hI2.ik hR2
      refine z_aload_n X d_SM_empty_0 rfl ?_
      refine gf_SM_149 X (zo_r hr hW.1) d_SM_empty_1 ?_
      refine z_top (congrArg Value.int ((hC2.2.2.1.1 r hr).2.2.1)) ?_
      refine z_if_le (tgt := 18) X d_SM_empty_4 (by decide) (fun _ => ?_) (fun hq => absurd hq (by rw [hC2.2.2.1.len hr, hs]; decide))
      exact z_vret X hret (Nat.zero_le _) (Nat.zero_le _) ⟨I2, R2, fl2, rfl, by rw [← hq2, qu_id (List.eq_nil_of_length_eq_zero hs)]; exact hC2, hI2, hR2⟩ d_SM_empty_18
    | succ s ih =>
      intro I2 R2 fl2 q2 hs hC2 hq2 hI2 hR2
      have hW2 := hW.step (Nat.le_refl _) hI2.ik hR2
      have hl4 := (hC2.2.2.2 r hr).1
      rcases hC2.2.2.1.hd hr with ⟨e0, -, -⟩ | ⟨f, t, e, k, v, tq, e1, e2, e3, e4, e5⟩
      · rw [e0] at hs; cases hs
      obtain ⟨t1, t2, t3⟩ := hC2.2.2.1.take hc hr e2 e1
      have t4 := t1.release hc t2
      refine z_aload_n X d_SM_empty_0 rfl ?_
      refine gf_SM_149 X (zo_r hr hW.1) d_SM_empty_1 ?_
      refine z_top (congrArg Value.int ((hC2.2.2.1.1 r hr).2.2.1)) ?_
      refine z_if_le (tgt := 18) X d_SM_empty_4 (by decide) (fun hq => absurd hq (by rw [hC2.2.2.1.len hr, hs]; exact nI_nle (by omega) (by omega))) (fun _ => ?_)
      refine z_aload_n X d_SM_empty_7 rfl ?_
      refine z_aload_n X d_SM_empty_8 rfl ?_
      refine z_cq (z_rV X cs_SM_154 rfl rfl (zo_r hr hW.1).1 (zo_r hr hW.1).2 (c_Row_take l g (zo_r hr hW.1) (zo_f e4) e3) ⟨Nat.le_of_ble_eq_true rfl, Nat.le_of_ble_eq_true rfl⟩ rfl rfl (Nat.le_of_ble_eq_true rfl) ⟨Nat.le_of_ble_eq_true rfl, Nat.le_of_ble_eq_true rfl⟩ d_SM_empty_9) (fun r n2 I2 J2 R2 h => ?_)
      obtain ⟨rfl, e⟩ := h
      cases e
      refine z_cv (z_rV X cs_SM_158 rfl rfl (zo_s rfl hW.1).1 (zo_s rfl hW.1).2 (c_SM_release l g (hW2.step (Nat.le_refl _) zIf.sz.ik zRk2.take) (zo_f e4)) ⟨Nat.le_of_ble_eq_true rfl, Nat.le_of_ble_eq_true rfl⟩ rfl rfl (Nat.le_of_ble_eq_true rfl) ⟨Nat.le_of_ble_eq_true rfl, Nat.le_of_ble_eq_true rfl⟩ d_SM_empty_12) (fun n2 I2 J2 R2 h => ?_)
      cases h
      refine z_goto (tgt := 0) X d_SM_empty_15 (by decide) ?_
      refine ih _ _ _ _ ?_ (hC2.fr t4 zIf.sz ?_) ?_ (hI2.tr zIf.sz) ((hR2.tr zRk2.take).tr zRk2.rel)
      · rw [qu_s]; rw [e1] at hs; simpa using hs
      · have := hC2.2.2.2.tail (r := r); rw [e1] at this; exact this
      · rw [qu_qu]; exact hq2
  exact key _ I R fl q rfl hC rfl zIf.rf zRk2.rf

