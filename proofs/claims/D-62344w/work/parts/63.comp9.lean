/-! THE COMPONENT: run -/
theorem zdes_E {f : Nat → zAQ → zAQ} : ∀ m, (∀ x, x < m → ∀ s, zE6 s → zE6 (f x s)) → ∀ s, zE6 s → zE6 (zdes f m s)
  | 0, _, _, h => h
  | m + 1, h1, s, h => zdes_E m (fun x hx => h1 x (by omega)) _ (h1 m (by omega) s h)
theorem zgRun_lo {x : Int32} (h : x < nI 1) : ¬ ∃ m, zgRun x m := by
  rintro ⟨m, h1, h2, rfl⟩
  exact absurd (nI_le h1 (by omega)) (Int32.not_le.mpr h)
theorem zgRun_hi {x : Int32} (h : ¬ x ≤ nI 64) : ¬ ∃ m, zgRun x m := by
  rintro ⟨m, h1, h2, rfl⟩
  exact h (nI_le h2 (by omega))
theorem zgRun_in {x : Int32} (h : ¬ x < nI 1) (h2 : x ≤ nI 64) : ∃ m, zgRun x m := by
  have h0 : ¬ x < 0 := fun z => h (Int32.lt_trans z (by decide))
  obtain ⟨j, hj, rfl⟩ := nI_of2 (M := nI 64) (n := 64) rfl h0 h2
  refine ⟨j, ?_, by omega, rfl⟩
  rcases Nat.eq_zero_or_pos j with e | e
  · subst e; exact absurd (by decide) h
  · exact e
theorem zB.up {c a b : Nat} {hb cb : Bool} {A : zI} {q : zq} (h : zB c A) (ha : 0 < a) : zB c (zup a b hb cb A q).1 := by
  have hE : ∀ ok (A : zI) (q : zq), zB c A → zB c (zupE a b ok A q).1 := by
    intro ok A q h
    unfold zupE
    split
    · exact h.of (fun _ => rfl)
    · split
      · exact (h.of (A2 := zu A 47 0 a (nI 0)) (fun _ => rfl)).put (Or.inr ⟨rfl, ha⟩)
      · exact h.of (fun _ => rfl)
  have hR : ∀ e k v (A : zI) (q : zq), zB c A → zB c (zupR b e k v A q).1.1 := by
    intro e k v A q h
    unfold zupR
    (repeat' split)
    · exact h
    · exact h.of (fun _ => rfl)
    · exact h.of (fun _ => rfl)
    · exact h
  have hS : zB c (zsend A) := h.of (fun _ => rfl)
  unfold zup
  split
  · exact h
  split
  · exact h
  split
  · exact hE _ _ _ (hR _ _ _ _ _ hS)
  · exact hE _ _ _ hS
theorem zB.dow {c a b : Nat} {pf : Nat → Nat} {hb cb : Bool} {A : zI} {q : zq} (h : zB c A) : zB c (zdow pf a b hb cb A q).1 := by
  have hE : ∀ ok (A : zI) (q : zq), zB c A → zB c (zdnE a ok A q).1 := by
    intro ok A q h
    unfold zdnE
    (repeat' split) <;> exact h.of (fun _ => rfl)
  have hR : ∀ e k v (A : zI) (q : zq), zB c A → zB c (zdnR a b e k v A q).1.1 := by
    intro e k v A q h
    have h33 : zB c (zu A 33 0 b (A 33 0 a)) := h.of (fun _ => rfl)
    unfold zdnR
    (repeat' split)
    · exact h33
    · exact h.of (fun _ => rfl)
    · exact h.of (fun _ => rfl)
    · exact h33
  have hS : zB c (zsend A) := h.of (fun _ => rfl)
  unfold zdow
  split
  · exact h
  split
  · exact h
  split
  · split
    · exact hE _ _ _ (hR _ _ _ _ _ hS)
    · exact hE _ _ _ hS
  · exact h
/-- all but the time, and what a slot may change -/
def zIr (I I2 : zI) : Prop := ∀ k i j, zmc k j = false → ¬ (k = 0 ∧ j = 7) → I2 k i j = I k i j
theorem zIr.rf {I : zI} : zIr I I := fun _ _ _ _ _ => rfl
theorem zIr.tr {I I2 I3 : zI} (h : zIr I I2) (h2 : zIr I2 I3) : zIr I I3 := fun k i j a b => (h2 k i j a b).trans (h k i j a b)
theorem zIk.ir {I I2 : zI} (h : zIk I I2) : zIr I I2 := fun k i j a _ => h k i j a
theorem zIr.tm {I : zI} {v : Int32} : zIr I (zu I 0 0 7 v) := fun k i j _ b => zu_oth (fun e => b ⟨e.1, e.2.2⟩)
theorem zW.ir {g : zG} {S h n n2 : Nat} {I I2 : zI} {R R2 : zR} (hW : zW g S h n I R) (hn : n ≤ n2) (hI : zIr I I2) (hR : zRk2 R R2) : zW g S h n2 I2 R2 := by
  obtain ⟨a1, a2, a3, a4, a5, a6⟩ := hW
  refine ⟨Nat.le_trans a1 hn, a2, a3, a4, fun k i f h1 h2 h3 => ?_, a6.of (fun k i f hc => hI k i f ?_ (fun z => by rw [z.1, z.2] at hc; cases hc))⟩
  · rw [hR k i f (fun e => by subst e; cases h1) (fun e => by subst e; cases h1) (fun e => by rw [e.1, e.2.2] at h1; cases h1)]
    exact a5 k i f h1 h2 h3
  · unfold zci at hc
    unfold zmc
    split at hc <;> simp_all <;> omega
/-- the component's plan: the slots against the table -/
def zCP (c S h : Nat) (pl : Bool) (pf tb : Nat → Nat) (I : zI) (R : zR) : Prop :=
  R 1 0 14 = none ∧ (pl = false → ∀ s, s < S → R 11 0 s = none) ∧ (pl = true → (∃ rk : Nat → Nat, ∀ k, 0 < k → k < c → pf k < c ∧ rk (pf k) < rk k ∧ R 1 k 14 = some (pf k)) ∧ ∀ s, s < S → zSl c h pf (fun x => tb (4 * s + x)) I R (R 11 0 s))
theorem zCP.of {c S h : Nat} {pl : Bool} {pf tb : Nat → Nat} {I I2 : zI} {R R2 : zR} (hp : zCP c S h pl pf tb I R) (hI : ∀ x, I2 4 x 1 = I 4 x 1) (hR : ∀ x j, R2 4 x j = R 4 x j) (h1 : ∀ v, R2 1 v 14 = R 1 v 14) (h2 : ∀ s, R2 11 0 s = R 11 0 s) : zCP c S h pl pf tb I2 R2 := by
  obtain ⟨a1, a2, a3⟩ := hp
  refine ⟨by rw [h1]; exact a1, fun e s hs => by rw [h2]; exact a2 e s hs, fun e => ?_⟩
  obtain ⟨⟨rk, b1⟩, b2⟩ := a3 e
  exact ⟨⟨rk, fun k c1 c2 => by rw [h1]; exact b1 k c1 c2⟩, fun s hs => by rw [h2]; exact (b2 s hs).of hI hR⟩
def zJe (J : zJ) : Prop := ∀ j, j < 4 → J 9 0 j = J 35 0 j ∧ J 10 0 j = J 36 0 j
/-- what the run keeps -/
def zKp (g : zG) (pl : Bool) (n0 n N : Nat) (I0 : zI) (R0 : zR) (I : zI) (R : zR) (fl : zfl) (s : zAQ) : Prop := zRC g.2.2.2 n N I R fl s.1 s.2 ∧ n0 ≤ n ∧ zIr I0 I ∧ zRk2 R0 R ∧ zB g.2.2.2 s.1 ∧ (pl = true → zPr g.2.2.2 R s.1)
theorem zKp.E6 {g : zG} {pl : Bool} {n0 n N : Nat} {I0 I : zI} {R0 R : zR} {fl : zfl} {s : zAQ} (h : zKp g pl n0 n N I0 R0 I R fl s) (hc : g.2.2.2 ≤ 6) (r : Nat) (hr : zrv g.2.2.2 r) : ∀ x ∈ s.2 r, x.1 < 6 := fun x hx => by have := (h.1.2.2.2 r hr).2 x hx; omega
/-- after a link's step -/
theorem zKp.st {g : zG} {pl : Bool} {n0 n N : Nat} {I0 I : zI} {J : zJ} {R0 R : zR} {fl : zfl} {s s2 : zAQ} {n2 : Nat} {I2 : zI} {J2 : zJ} {R2 : zR} (h : zKp g pl n0 n N I0 R0 I R fl s) (hs : zSt g n N I J R s2.1 s2.2 (n2, I2, J2, R2)) (hB : zB g.2.2.2 s2.1) (hA : ∀ j, s2.1 38 0 j = s.1 38 0 j) : ∃ fl2, J = J2 ∧ n2 ≤ n + 1 ∧ zKp g pl n0 n2 (N + 1) I0 R0 I2 R2 fl2 s2 ∧ zIk I I2 ∧ zRk2 R R2 := by
  obtain ⟨n1, I1, R1, fl1, e, b1, b2, b3, b4, b5⟩ := hs
  cases e
  exact ⟨fl1, rfl, b2, ⟨b3, Nat.le_trans h.2.1 b1, h.2.2.1.tr b4.ir, h.2.2.2.1.tr b5, hB, fun e => (h.2.2.2.2.2 e).of hA (fun v => b5.k rfl)⟩, b4, b5⟩
theorem c_SM_run (l : Launch) (g : zG) {S h n N : Nat} {I : zI} {J : zJ} {R : zR} {fl : zfl} {A : zI} {q : zq} (hW : zW g S h n I R) (hC : zRC g.2.2.2 n N I R fl A q) (hq6 : zE6 (A, q)) (hN : N + 256 < 2 ^ 30) (hB : zB g.2.2.2 A) (hJ : zJe J) (pl : Bool) (hP : pl = true → zPr g.2.2.2 R A) (pf tb : Nat → Nat) (hp : zCP g.2.2.2 S h pl pf tb I R) (t : Nat) (ht : t < 2 ^ 28) (h7 : I 0 0 7 = nI t) (x : Int32) : zMet l g y_SM_run b_SM_run 4 (some .int) 6 127 256 1024 (zPc g [.ref (zad g 0 0), .int x] n I J R) (zQi g (fun r u => (∃ m, zgRun x m ∧ r = nI (t + m) ∧ ∃ n1 I1 R1 fl1, u = (n1, I1, J, R1) ∧ n1 ≤ n + 256 ∧ zKp g pl n n1 (N + 256) I R I1 R1 fl1 (zrun g.2.2.2 S h pl pf tb J m t A q)) ∨ ((¬ ∃ m, zgRun x m) ∧ r = -1 ∧ u = (n, I, J, R)))) := by
  have hc := hW.2.1.2
  have h2c := hW.2.1.1
  have hh := hW.2.2.2.1
  have hSS := hW.2.2.1
  have hWW := hW
  have ir4 : ∀ {I2 : zI} (x : Nat), zIr I I2 → I2 4 x 1 = I 4 x 1 := fun x hI => hI 4 x 1 rfl (fun z => by cases z.1)
  refine zMet.of (by decide) [some (.ref (zad g 0 0)), some (.int x), none, none] rfl (Nat.le_of_ble_eq_true rfl) ?_
  intro pP eE sS mM aA bB mE cC X hret hnm
  have X : zC pP sS mM aA mE cC b_SM_run "SlottedMesh" 4 g := X
  have hret : mE.sig.returnType = (some .int) := hret
  -- a chain of links
  have chain : pl = true → ∀ (tt m : Nat) (tbr : Nat → Nat) (rk : Nat → Nat), tt < 64 → m ≤ 64 → x = nI m → (∀ j, tbr j = tb (4 * ((t + tt) % S) + j)) → (∀ k, 0 < k → k < g.2.2.2 → pf k < g.2.2.2 ∧ rk (pf k) < rk k ∧ R 1 k 14 = some (pf k)) → ∀ (mm i n2 : Nat) (I2 : zI) (R2 : zR) (fl2 : zfl) (s : zAQ) (o : Option Nat), i + mm ≤ 4 → n2 ≤ n + 4 * tt + i → zKp g pl n n2 (N + 4 * tt + i) I R I2 R2 fl2 s → I2 0 0 7 = nI (t + tt) → zlk g.2.2.2 pf tbr I2 R2 mm o → (∀ (n3 : Nat) (I3 : zI) (R3 : zR) (fl3 : zfl), n3 ≤ n + 4 * tt + 4 → zKp g pl n n3 (N + 4 * tt + 4) I R I3 R3 fl3 (zdes (zst pf tbr J h (t + tt)) mm s) → I3 0 0 7 = nI (t + tt) → zV pP l eE (zrm 6 127 256 1024) sS mM aA bB mE cC g 4 (MQ bB (zQi g (fun r u => (∃ m, zgRun x m ∧ r = nI (t + m) ∧ ∃ n1 I1 R1 fl1, u = (n1, I1, J, R1) ∧ n1 ≤ n + 256 ∧ zKp g pl n n1 (N + 256) I R I1 R1 fl1 (zrun g.2.2.2 S h pl pf tb J m t A q)) ∨ ((¬ ∃ m, zgRun x m) ∧ r = -1 ∧ u = (n, I, J, R)))) aA sS 256 1024 (zA g)) (4 * tt + 4) (16 * tt + 16) 107 [some (.ref (zad g 0 0)), some (.int x), some (.int (nI tt)), some .null] [] n3 I3 J R3) → zV pP l eE (zrm 6 127 256 1024) sS mM aA bB mE cC g 4 (MQ bB (zQi g (fun r u => (∃ m, zgRun x m ∧ r = nI (t + m) ∧ ∃ n1 I1 R1 fl1, u = (n1, I1, J, R1) ∧ n1 ≤ n + 256 ∧ zKp g pl n n1 (N + 256) I R I1 R1 fl1 (zrun g.2.2.2 S h pl pf tb J m t A q)) ∨ ((¬ ∃ m, zgRun x m) ∧ r = -1 ∧ u = (n, I, J, R)))) aA sS 256 1024 (zA g)) (4 * tt + i) (16 * tt + 4 * i) 90 [some (.ref (zad g 0 0)), some (.int x), some (.int (nI tt)), some (va_rf (o.map (zad g 4)))] [] n2 I2 J R2 := by
    intro hpl tt m tbr rk htt hm hx htb hrk mm
    induction mm with
    | zero =>
      intro i n2 I2 R2 fl2 s o hi hn2 hK h7i hl kk
      have hl : o = none := hl
      subst hl
      refine z_eqL (ls2 := [some (.ref (zad g 0 0)), some (.int x), some (.int (nI tt)), some .null]) rfl ?_
      refine z_aload_nN X d_SM_run_90 rfl ?_
      refine z_ifnullN (tgt := 107) X d_SM_run_91 (by decide) ?_
      refine z_widen (k2 := 4 * tt + 4) (n2 := 16 * tt + 16) (by omega) (by omega) ?_
      refine kk n2 I2 R2 fl2 (by omega) ⟨⟨hK.1.1, hK.1.2.1.of (by omega) (fun _ => rfl) (fun _ => rfl), hK.1.2.2⟩, hK.2⟩ h7i
    | succ mm ih =>
      intro i n2 I2 R2 fl2 s o hi hn2 hK h7i hl kk
      obtain ⟨y, a, b, rfl, l2, l3, l4, l5, l6, l7, l8, l9⟩ := hl
      have hW := hWW.ir hK.2.1 hK.2.2.1 hK.2.2.2.1
      have hJ1 := hJ ((mm + (t + tt)) % h) (by have := Nat.mod_lt (mm + (t + tt)) (show 0 < h by omega); omega)
      have hR2 := hK.2.2.2.1
      have after : ∀ (n3 : Nat) (I3 : zI) (J3 : zJ) (R3 : zR), zSt g n2 (N + 4 * tt + i) I2 J R2 (zst pf tbr J h (t + tt) mm s).1 (zst pf tbr J h (t + tt) mm s).2 (n3, I3, J3, R3) → zB g.2.2.2 (zst pf tbr J h (t + tt) mm s).1 → y < 21 ∧ (y < g.2.2.2 ∨ 6 ≤ y) → zV pP l eE (zrm 6 127 256 1024) sS mM aA bB mE cC g 4 (MQ bB (zQi g (fun r u => (∃ m, zgRun x m ∧ r = nI (t + m) ∧ ∃ n1 I1 R1 fl1, u = (n1, I1, J, R1) ∧ n1 ≤ n + 256 ∧ zKp g pl n n1 (N + 256) I R I1 R1 fl1 (zrun g.2.2.2 S h pl pf tb J m t A q)) ∨ ((¬ ∃ m, zgRun x m) ∧ r = -1 ∧ u = (n, I, J, R)))) aA sS 256 1024 (zA g)) (4 * tt + i + 1) (16 * tt + 4 * i + 4) 99 [some (.ref (zad g 0 0)), some (.int x), some (.int (nI tt)), some (.ref (zad g 4 y))] [] n3 I3 J3 R3 := by
        intro n3 I3 J3 R3 hst hB3 hy
        obtain ⟨fl3, eJ, c1, c2, c3, c4⟩ := hK.st hst hB3 (fun j => zcell_keep rfl)
        subst eJ
        have hW := hWW.ir c2.2.1 c2.2.2.1 c2.2.2.2.1
        have e42 : R3 4 y 2 = R2 4 y 2 := c4.k rfl
        refine z_aload_n X d_SM_run_99 rfl ?_
        have last : zV pP l eE (zrm 6 127 256 1024) sS mM aA bB mE cC g 4 (MQ bB (zQi g (fun r u => (∃ m, zgRun x m ∧ r = nI (t + m) ∧ ∃ n1 I1 R1 fl1, u = (n1, I1, J, R1) ∧ n1 ≤ n + 256 ∧ zKp g pl n n1 (N + 256) I R I1 R1 fl1 (zrun g.2.2.2 S h pl pf tb J m t A q)) ∨ ((¬ ∃ m, zgRun x m) ∧ r = -1 ∧ u = (n, I, J, R)))) aA sS 256 1024 (zA g)) (4 * tt + (i + 1)) (16 * tt + 4 * (i + 1)) 90 [some (.ref (zad g 0 0)), some (.int x), some (.int (nI tt)), some (va_rf ((R2 4 y 2).map (zad g 4)))] [] n3 I3 J R3 := ih (i + 1) n3 I3 R3 fl3 _ _ (by omega) (by omega) c2 ((c3 0 0 7 rfl).trans h7i) (l9.of (fun z => c3 4 z 1 rfl) (fun z j => c4.k rfl)) kk
        rcases ho : R2 4 y 2 with _ | y2
        · refine gn_SM_194 (e42.trans ho) X (zo_c hW.2.1.2 (by omega) hW.1) d_SM_run_100 ?_
          refine z_astore_nN X d_SM_run_103 (by decide) rfl ?_
          refine z_goto (tgt := 90) X d_SM_run_104 (by decide) ?_
          rw [ho] at last
          exact last
        · refine gr_SM_194 (e42.trans ho) X (zo_c hW.2.1.2 (by omega) hW.1) d_SM_run_100 ?_
          refine z_astore_n X d_SM_run_103 (by decide) rfl ?_
          refine z_goto (tgt := 90) X d_SM_run_104 (by decide) ?_
          rw [ho] at last
          exact last
      refine z_eqL (ls2 := [some (.ref (zad g 0 0)), some (.int x), some (.int (nI tt)), some (.ref (zad g 4 y))]) rfl ?_
      refine z_aload_n X d_SM_run_90 rfl ?_
      refine z_ifnull (tgt := 107) X d_SM_run_91 (by decide) ?_
      refine z_aload_n X d_SM_run_94 rfl ?_
      refine z_aload_n X d_SM_run_95 rfl ?_
      rcases l8 with ⟨y1, y2, y3, y4⟩ | ⟨y1, y2, y3, y4, y5⟩
      · have est : zst pf tbr J h (t + tt) mm s = zup a b (zbit (J 9 0 ((mm + (t + tt)) % h)) (t + tt)) (zbit (J 10 0 ((mm + (t + tt)) % h)) (t + tt)) s.1 s.2 := by unfold zst; rw [zcell_up y4 (by omega) (by omega), hJ1.1, hJ1.2]
        refine z_cv (z_rU X cs_SM_280_Up rfl (zsh4u y1 y2) (zo_c hW.2.1.2 (by omega) hW.1).1 (zo_c hW.2.1.2 (by omega) hW.1).2 (c_Link_go_Up l g hW hK.1 (by omega) (hK.2.2.2.2.2 hpl) ⟨y1, y2⟩ l2 l3 l4 l5 l6 l7 (by omega) (by omega) h7i) ⟨Nat.le_of_ble_eq_true rfl, Nat.le_of_ble_eq_true rfl⟩ rfl rfl (Nat.le_of_ble_eq_true rfl) ⟨by show _ ≤ 256; omega, by show _ ≤ 1024; omega⟩ d_SM_run_96) (fun n3 I3 J3 R3 h9 => ?_)
        exact after n3 I3 J3 R3 (by rw [est]; exact h9) (by rw [est]; exact hK.2.2.2.2.1.up y3) (by omega)
      · have est : zst pf tbr J h (t + tt) mm s = zdow pf a b (zbit (J 9 0 ((mm + (t + tt)) % h)) (t + tt)) (zbit (J 10 0 ((mm + (t + tt)) % h)) (t + tt)) s.1 s.2 := by unfold zst; rw [zcell_dn y5 (by omega) (by omega), hJ1.1, hJ1.2]
        refine z_cv (z_rU X cs_SM_280_Down rfl (zsh4d y1) (zo_c hW.2.1.2 (by omega) hW.1).1 (zo_c hW.2.1.2 (by omega) hW.1).2 (c_Link_go_Down l g hW hK.1 (by omega) ((hR2.k rfl).trans hp.1) (rk := rk) (fun k k1 k2 => by rw [hR2.k (k := 1) rfl]; exact hrk k k1 k2) ⟨y1, y2⟩ l2 l3 l4 y3 y4 l5 l6 l7 (by omega) (by omega) h7i) ⟨Nat.le_of_ble_eq_true rfl, Nat.le_of_ble_eq_true rfl⟩ rfl rfl (Nat.le_of_ble_eq_true rfl) ⟨by show _ ≤ 256; omega, by show _ ≤ 1024; omega⟩ d_SM_run_96) (fun n3 I3 J3 R3 h9 => ?_)
        exact after n3 I3 J3 R3 (by rw [est]; exact h9) (by rw [est]; exact hK.2.2.2.2.1.dow) (by omega)
  -- the nodes drift
  have drift : ∀ (tt m : Nat), tt < 64 → m ≤ 64 → x = nI m → ∀ (n2 N2 : Nat) (R2 : zR) (fl2 : zfl) (q2 : zq) (Ad : zI) (v3 : Option Value), (∀ I3 : zI, zKp g pl n n2 N2 I R I3 R2 fl2 (Ad, q2) → I3 0 0 7 = nI (t + tt) → zV pP l eE (zrm 6 127 256 1024) sS mM aA bB mE cC g 4 (MQ bB (zQi g (fun r u => (∃ m, zgRun x m ∧ r = nI (t + m) ∧ ∃ n1 I1 R1 fl1, u = (n1, I1, J, R1) ∧ n1 ≤ n + 256 ∧ zKp g pl n n1 (N + 256) I R I1 R1 fl1 (zrun g.2.2.2 S h pl pf tb J m t A q)) ∨ ((¬ ∃ m, zgRun x m) ∧ r = -1 ∧ u = (n, I, J, R)))) aA sS 256 1024 (zA g)) (4 * tt) (16 * tt) 75 [some (.ref (zad g 0 0)), some (.int x), some (.int (nI tt)), none] [] n2 I3 J R2) → ∀ (s k : Nat) (I2 A2 : zI), k + s = g.2.2.2 → 0 < k → zKp g pl n n2 N2 I R I2 R2 fl2 (A2, q2) → I2 0 0 7 = nI (t + tt) → zdrL s k A2 = Ad → zV pP l eE (zrm 6 127 256 1024) sS mM aA bB mE cC g 4 (MQ bB (zQi g (fun r u => (∃ m, zgRun x m ∧ r = nI (t + m) ∧ ∃ n1 I1 R1 fl1, u = (n1, I1, J, R1) ∧ n1 ≤ n + 256 ∧ zKp g pl n n1 (N + 256) I R I1 R1 fl1 (zrun g.2.2.2 S h pl pf tb J m t A q)) ∨ ((¬ ∃ m, zgRun x m) ∧ r = -1 ∧ u = (n, I, J, R)))) aA sS 256 1024 (zA g)) (4 * tt) (16 * tt) 22 [some (.ref (zad g 0 0)), some (.int x), some (.int (nI tt)), some (.int (nI k))] [] n2 I2 J R2 := by
    intro tt m htt hm hx n2 N2 R2 fl2 q2 Ad v3 kk s
    induction s with
    | zero =>
      intro k I2 A2 hk h0k hK h7i he
      have hW := hWW.ir hK.2.1 hK.2.2.1 hK.2.2.2.1
      have he : A2 = Ad := he
      subst he
      refine z_iload_n X d_SM_run_22 rfl ?_
      refine z_aload_n X d_SM_run_23 rfl ?_
      refine gf_SM_104 X (zo_s rfl hW.1) d_SM_run_24 ?_
      refine z_top (congrArg Value.int (hW.2.2.2.2.2.1)) ?_
      refine z_icmp_ge (tgt := 75) X d_SM_run_27 (by decide) (fun _ => ?_) (fun hq => absurd hq (fun z => z (nI_le (by omega) (by omega))))
      refine z_wk (ls2 := [some (.ref (zad g 0 0)), some (.int x), some (.int (nI tt)), none]) ⟨rfl, rfl, rfl, trivial⟩ ?_
      exact kk I2 hK h7i
    | succ s ih =>
      intro k I2 A2 hk h0k hK h7i he
      have hW := hWW.ir hK.2.1 hK.2.2.1 hK.2.2.2.1
      have hkc : k < g.2.2.2 := by omega
      have step : ∀ w, w = A2 33 0 k + (if A2 31 0 k = 0 then nI 0 else A2 34 0 k) → zV pP l eE (zrm 6 127 256 1024) sS mM aA bB mE cC g 4 (MQ bB (zQi g (fun r u => (∃ m, zgRun x m ∧ r = nI (t + m) ∧ ∃ n1 I1 R1 fl1, u = (n1, I1, J, R1) ∧ n1 ≤ n + 256 ∧ zKp g pl n n1 (N + 256) I R I1 R1 fl1 (zrun g.2.2.2 S h pl pf tb J m t A q)) ∨ ((¬ ∃ m, zgRun x m) ∧ r = -1 ∧ u = (n, I, J, R)))) aA sS 256 1024 (zA g)) (4 * tt) (16 * tt) 22 [some (.ref (zad g 0 0)), some (.int x), some (.int (nI tt)), some (.int (nI (k + 1)))] [] n2 (zu I2 1 k 3 w) J R2 := by
        intro w hw
        have hC3 := hK.1.put (v := w) (zco.n hkc (j := 3) (k' := 33) (by decide))
        refine ih (k + 1) _ (zdr1 k A2) (by omega) (by omega) ⟨by unfold zdr1; rw [← hw]; exact hC3, hK.2.1, hK.2.2.1.tr (zIk.put rfl).ir, hK.2.2.2.1, hK.2.2.2.2.1.of (fun _ => rfl), fun e => (hK.2.2.2.2.2 e).of (fun _ => rfl) (fun _ => rfl)⟩ ?_ he
        exact h7i
      refine z_iload_n X d_SM_run_22 rfl ?_
      refine z_aload_n X d_SM_run_23 rfl ?_
      refine gf_SM_104 X (zo_s rfl hW.1) d_SM_run_24 ?_
      refine z_top (congrArg Value.int (hW.2.2.2.2.2.1)) ?_
      refine z_icmp_ge (tgt := 75) X d_SM_run_27 (by decide) (fun hq => absurd hq (nI_ge (by omega) (by omega))) (fun _ => ?_)
      refine z_aload_n X d_SM_run_30 rfl ?_
      refine gr_SM_9 (hW.c (k := 0) (f := 3) rfl rfl (by decide) rfl) X (zo_s rfl hW.1) d_SM_run_31 ?_
      refine z_iload_n X d_SM_run_34 rfl ?_
      refine ar_6 X (zo_s rfl hW.1) rfl (by omega) (hW.nd (by omega)) d_SM_run_35 ?_
      refine z_dup X d_SM_run_36 rfl ?_
      refine gf_SM_248 X (zo_n (by omega) hW.1) d_SM_run_37 ?_
      refine z_top (congrArg Value.int ((hK.1.1.nd hkc).2.2.1)) ?_
      refine z_aload_n X d_SM_run_40 rfl ?_
      refine gr_SM_9 (hW.c (k := 0) (f := 3) rfl rfl (by decide) rfl) X (zo_s rfl hW.1) d_SM_run_41 ?_
      refine z_iload_n X d_SM_run_44 rfl ?_
      refine ar_6 X (zo_s rfl hW.1) rfl (by omega) (hW.nd (by omega)) d_SM_run_45 ?_
      refine gf_SM_120 X (zo_n (by omega) hW.1) d_SM_run_46 ?_
      refine z_top (congrArg Value.int ((hK.1.1.nd hkc).1)) ?_
      refine z_if_eq (tgt := 64) X d_SM_run_49 (by decide) (fun h49 => ?_) (fun h49 => ?_)
      · refine z_iconst (v := nI 0) X d_SM_run_64 rfl ?_
        refine z_iadd X d_SM_run_65 ?_
        refine pf_SM_248 X (zo_n (by omega) hW.1) d_SM_run_66 ?_
        refine z_iinc X d_SM_run_69 rfl (zinc _) (by decide) rfl ?_
        refine z_goto (tgt := 22) X d_SM_run_72 (by decide) ?_
        exact step _ (by first | rw [if_pos h49] | rw [if_neg h49])
      · refine z_aload_n X d_SM_run_52 rfl ?_
        refine gr_SM_9 (hW.c (k := 0) (f := 3) rfl rfl (by decide) rfl) X (zo_s rfl hW.1) d_SM_run_53 ?_
        refine z_iload_n X d_SM_run_56 rfl ?_
        refine ar_6 X (zo_s rfl hW.1) rfl (by omega) (hW.nd (by omega)) d_SM_run_57 ?_
        refine gf_SM_260 X (zo_n (by omega) hW.1) d_SM_run_58 ?_
        refine z_top (congrArg Value.int ((hK.1.1.nd hkc).2.2.2.1)) ?_
        refine z_goto (tgt := 65) X d_SM_run_61 (by decide) ?_
        refine z_iadd X d_SM_run_65 ?_
        refine pf_SM_248 X (zo_n (by omega) hW.1) d_SM_run_66 ?_
        refine z_iinc X d_SM_run_69 rfl (zinc _) (by decide) rfl ?_
        refine z_goto (tgt := 22) X d_SM_run_72 (by decide) ?_
        exact step _ (by first | rw [if_pos h49] | rw [if_neg h49])
  -- the slots
  have main : ∀ (m : Nat), 1 ≤ m → m ≤ 64 → x = nI m → ∀ (w tt n2 : Nat) (I2 : zI) (R2 : zR) (fl2 : zfl) (s : zAQ) (v3 : Option Value), tt + w = m → n2 ≤ n + 4 * tt → zKp g pl n n2 (N + 4 * tt) I R I2 R2 fl2 s → I2 0 0 7 = nI (t + tt) → zE6 s → zrun g.2.2.2 S h pl pf tb J w (t + tt) s.1 s.2 = zrun g.2.2.2 S h pl pf tb J m t A q → zV pP l eE (zrm 6 127 256 1024) sS mM aA bB mE cC g 4 (MQ bB (zQi g (fun r u => (∃ m, zgRun x m ∧ r = nI (t + m) ∧ ∃ n1 I1 R1 fl1, u = (n1, I1, J, R1) ∧ n1 ≤ n + 256 ∧ zKp g pl n n1 (N + 256) I R I1 R1 fl1 (zrun g.2.2.2 S h pl pf tb J m t A q)) ∨ ((¬ ∃ m, zgRun x m) ∧ r = -1 ∧ u = (n, I, J, R)))) aA sS 256 1024 (zA g)) (4 * tt) (16 * tt) 15 [some (.ref (zad g 0 0)), some (.int x), some (.int (nI tt)), none] [] n2 I2 J R2 := by
    intro m h1m hm hx w
    induction w with
    | zero =>
      intro tt n2 I2 R2 fl2 s v3 htm hn2 hK h7i h6 he
      have hW := hWW.ir hK.2.1 hK.2.2.1 hK.2.2.2.1
      have htm : tt = m := by omega
      subst htm
      have he : s = zrun g.2.2.2 S h pl pf tb J tt t A q := he
      refine z_iload_n X d_SM_run_15 rfl ?_
      refine z_iload_n X d_SM_run_16 rfl ?_
      refine z_top (v2 := .int (nI tt)) (congrArg Value.int hx) ?_
      refine z_icmp_ge (tgt := 123) X d_SM_run_17 (by decide) (fun _ => ?_) (fun hq => absurd hq (fun z => z (Int32.le_refl _)))
      refine z_aload_n X d_SM_run_123 rfl ?_
      refine gf_SM_127 X (zo_s rfl hW.1) d_SM_run_124 ?_
      refine z_top (congrArg Value.int (h7i)) ?_
      exact z_iret X hret rfl (show 4 * tt ≤ 256 by omega) (show 16 * tt ≤ 1024 by omega) (Or.inl ⟨tt, ⟨h1m, hm, hx⟩, rfl, n2, I2, R2, fl2, rfl, by omega, by rw [← he]; exact ⟨⟨hK.1.1, hK.1.2.1.of (by omega) (fun _ => rfl) (fun _ => rfl), hK.1.2.2⟩, hK.2⟩⟩) d_SM_run_127
    | succ w ih =>
      intro tt n2 I2 R2 fl2 s v3 htm hn2 hK h7i h6 he
      have hW := hWW.ir hK.2.1 hK.2.2.1 hK.2.2.2.1
      have hsl : (t + tt) % S < S := Nat.mod_lt _ (by omega)
      have fin : ∀ (n3 : Nat) (I3 : zI) (R3 : zR) (fl3 : zfl) (s3 : zAQ), s3 = zslot g.2.2.2 S h pl pf tb J (t + tt) s.1 s.2 → n3 ≤ n + 4 * tt + 4 → zKp g pl n n3 (N + 4 * tt + 4) I R I3 R3 fl3 s3 → I3 0 0 7 = nI (t + tt) → zE6 s3 → zV pP l eE (zrm 6 127 256 1024) sS mM aA bB mE cC g 4 (MQ bB (zQi g (fun r u => (∃ m, zgRun x m ∧ r = nI (t + m) ∧ ∃ n1 I1 R1 fl1, u = (n1, I1, J, R1) ∧ n1 ≤ n + 256 ∧ zKp g pl n n1 (N + 256) I R I1 R1 fl1 (zrun g.2.2.2 S h pl pf tb J m t A q)) ∨ ((¬ ∃ m, zgRun x m) ∧ r = -1 ∧ u = (n, I, J, R)))) aA sS 256 1024 (zA g)) (4 * tt + 4) (16 * tt + 16) 107 [some (.ref (zad g 0 0)), some (.int x), some (.int (nI tt)), some .null] [] n3 I3 J R3 := by
        intro n3 I3 R3 fl3 s3 e3 hn3 hK3 h73 h63
        have hW := hWW.ir hK3.2.1 hK3.2.2.1 hK3.2.2.2.1
        have hC4 := hK3.1.put (v := nI (t + tt + 1)) (zco.t7 (c := g.2.2.2))
        refine z_aload_n X d_SM_run_107 rfl ?_
        refine z_dup X d_SM_run_108 rfl ?_
        refine gf_SM_127 X (zo_s rfl hW.1) d_SM_run_109 ?_
        refine z_top (congrArg Value.int (h73)) ?_
        refine z_iconst (v := nI 1) X d_SM_run_112 rfl ?_
        refine z_iadd X d_SM_run_113 ?_
        refine z_top (v2 := .int (nI (t + tt + 1))) (congrArg Value.int (nI_add _ _)) ?_
        refine pf_SM_127 X (zo_s rfl hW.1) d_SM_run_114 ?_
        refine z_iinc X d_SM_run_117 rfl (zinc _) (by decide) rfl ?_
        refine z_goto (tgt := 15) X d_SM_run_120 (by decide) ?_
        refine z_wk (ls2 := [some (.ref (zad g 0 0)), some (.int x), some (.int (nI (tt + 1))), none]) ⟨rfl, rfl, rfl, trivial⟩ ?_
        refine ih (tt + 1) n3 (zu I3 0 0 7 (nI (t + tt + 1))) R3 fl3 (zu s3.1 29 0 3 (nI (t + tt + 1)), s3.2) none (by omega) (by omega) ⟨hC4, hK3.2.1, hK3.2.2.1.tr zIr.tm, hK3.2.2.2.1, hK3.2.2.2.2.1.of (fun _ => rfl), fun e => (hK3.2.2.2.2.2 e).of (fun _ => rfl) (fun _ => rfl)⟩ zu_s h63 ?_
        rw [e3]
        exact he
      refine z_iload_n X d_SM_run_15 rfl ?_
      refine z_iload_n X d_SM_run_16 rfl ?_
      refine z_top (v2 := .int (nI m)) (congrArg Value.int hx) ?_
      refine z_icmp_ge (tgt := 123) X d_SM_run_17 (by decide) (fun hq => absurd hq (nI_ge (by omega) (by omega))) (fun _ => ?_)
      refine z_iconst (v := nI 1) X d_SM_run_20 rfl ?_
      refine z_istore_n X d_SM_run_21 (by decide) rfl ?_
      refine drift tt m (by omega) hm hx n2 (N + 4 * tt) R2 fl2 s.2 (zdrift g.2.2.2 s.1) none (fun I3 hK3 h73 => ?_) (g.2.2.2 - 1) 1 I2 s.1 (by omega) (by decide) hK h7i rfl
      have hW := hWW.ir hK3.2.1 hK3.2.2.1 hK3.2.2.2.1
      have hR2 := hK3.2.2.2.1
      refine z_aload_n X d_SM_run_75 rfl ?_
      refine gr_SM_31 (hW.c (k := 0) (f := 10) rfl rfl (by decide) rfl) X (zo_s rfl hW.1) d_SM_run_76 ?_
      refine z_aload_n X d_SM_run_79 rfl ?_
      refine gf_SM_127 X (zo_s rfl hW.1) d_SM_run_80 ?_
      refine z_top (congrArg Value.int (h73)) ?_
      refine z_aload_n X d_SM_run_83 rfl ?_
      refine gf_SM_108 X (zo_s rfl hW.1) d_SM_run_84 ?_
      refine z_top (congrArg Value.int (hW.2.2.2.2.2.2.1)) ?_
      refine z_irem X d_SM_run_87 (fun z => by have := nI_inj (b := 0) (by omega) (by omega) z; omega) ?_
      refine z_top (v2 := .int (nI ((t + tt) % S))) (congrArg Value.int (pk_rem (by omega) (by omega) (by omega))) ?_
      refine al_11 (j := ((t + tt) % S)) X (zo_s rfl hW.1) rfl (by omega) d_SM_run_88 ?_
      have e11 : R2 11 0 ((t + tt) % S) = R 11 0 ((t + tt) % S) := hR2.k rfl
      by_cases hpl : pl = true
      case neg =>
        have hpl : pl = false := Bool.eq_false_iff.mpr hpl
        have hz := hp.2.1 hpl _ hsl
        refine z_top (v2 := .null) (by rw [e11, hz]; rfl) ?_
        refine z_astore_nN X d_SM_run_89 (by decide) rfl ?_
        refine z_aload_nN X d_SM_run_90 rfl ?_
        refine z_ifnullN (tgt := 107) X d_SM_run_91 (by decide) ?_
        refine z_widen (k2 := 4 * tt + 4) (n2 := 16 * tt + 16) (by omega) (by omega) ?_
        exact fin n2 I3 R2 fl2 (zdrift g.2.2.2 s.1, s.2) (by unfold zslot; rw [hpl]; rfl) (by omega) ⟨⟨hK3.1.1, hK3.1.2.1.of (by omega) (fun _ => rfl) (fun _ => rfl), hK3.1.2.2⟩, hK3.2⟩ h73 h6
      case pos =>
        obtain ⟨⟨rk, hrk⟩, hsl2⟩ := hp.2.2 hpl
        have hslot := (hsl2 _ hsl).of (I2 := I3) (R2 := R2) (fun x => ir4 x hK3.2.2.1) (fun x j => hR2.k rfl)
        rw [← e11] at hslot
        rcases hslot with ⟨y, u, y1, y2, y3, y4, y5, y6⟩ | ⟨mm, y1, y2, y3, y4⟩
        · have ez : zslot g.2.2.2 S h pl pf tb J (t + tt) s.1 s.2 = (zadv g.2.2.2 u (zbit (J 9 0 ((t + tt) % h)) (t + tt)) (zdrift g.2.2.2 s.1), s.2) := by
            unfold zslot
            rw [if_pos hpl, (hJ _ (by have := Nat.mod_lt (t + tt) (show 0 < h by omega); omega)).1]
            exact zwork_adv (s := (zdrift g.2.2.2 s.1, s.2)) hc y5 (y6 0 (by omega))
          refine z_top (v2 := .ref (zad g 4 y)) (by rw [y1]; rfl) ?_
          refine z_astore_n X d_SM_run_89 (by decide) rfl ?_
          refine z_aload_n X d_SM_run_90 rfl ?_
          refine z_ifnull (tgt := 107) X d_SM_run_91 (by decide) ?_
          refine z_aload_n X d_SM_run_94 rfl ?_
          refine z_aload_n X d_SM_run_95 rfl ?_
          refine z_cv (z_rU X cs_SM_280_Advert rfl (zsh4a (by omega)) (zo_c hW.2.1.2 (by omega) hW.1).1 (zo_c hW.2.1.2 (by omega) hW.1).2 (c_Advert_go l g hW hK3.1 (hK3.2.2.2.2.2 hpl) hK3.2.2.2.2.1 ((hR2.k rfl).trans hp.1) y2 y5 y4 (by omega) h73) ⟨Nat.le_of_ble_eq_true rfl, Nat.le_of_ble_eq_true rfl⟩ rfl rfl (Nat.le_of_ble_eq_true rfl) ⟨by show _ ≤ 256; omega, by show _ ≤ 1024; omega⟩ d_SM_run_96) (fun n4 I4 J4 R4 h9 => ?_)
          obtain ⟨Ix, Rx, fl4, ex, b1, b2, b3⟩ := h9
          cases ex
          refine z_aload_n X d_SM_run_99 rfl ?_
          refine gn_SM_194 ((b3.k rfl).trans y3) X (zo_c hW.2.1.2 (by omega) hW.1) d_SM_run_100 ?_
          refine z_astore_nN X d_SM_run_103 (by decide) rfl ?_
          refine z_goto (tgt := 90) X d_SM_run_104 (by decide) ?_
          refine z_aload_nN X d_SM_run_90 rfl ?_
          refine z_ifnullN (tgt := 107) X d_SM_run_91 (by decide) ?_
          refine z_widen (k2 := 4 * tt + 4) (n2 := 16 * tt + 16) (by omega) (by omega) ?_
          exact fin _ I4 R4 fl4 (zadv g.2.2.2 u (zbit (J 9 0 ((t + tt) % h)) (t + tt)) (zdrift g.2.2.2 s.1), s.2) ez.symm (by omega) ⟨⟨b1.1, b1.2.1.of (by omega) (fun _ => rfl) (fun _ => rfl), b1.2.2⟩, hK3.2.1, hK3.2.2.1.tr b2.ir, hR2.tr b3, hK3.2.2.2.2.1.adv, fun e => (hK3.2.2.2.2.2 e).of (fun j => zadv_keep rfl) (fun v => b3.k rfl)⟩ ((b2 0 0 7 rfl).trans h73) h6
        · have ez : zslot g.2.2.2 S h pl pf tb J (t + tt) s.1 s.2 = zdes (zst pf (fun x => tb (4 * ((t + tt) % S) + x)) J h (t + tt)) mm (zdrift g.2.2.2 s.1, s.2) := by
            unfold zslot
            rw [if_pos hpl]
            exact zwork_links (s := (zdrift g.2.2.2 s.1, s.2)) hc hh.1 y1 y2 y3 y4 h6
          have e6 : zE6 (zdes (zst pf (fun x => tb (4 * ((t + tt) % S) + x)) J h (t + tt)) mm (zdrift g.2.2.2 s.1, s.2)) := zdes_E mm (fun x hx s hs => by
            obtain ⟨a, b, z⟩ := y2.lc x hx
            obtain ⟨d2, hd2⟩ := zcell_loc (pf := pf) (hb := zbit (J 35 0 ((x + (t + tt)) % h)) (t + tt)) (cb := zbit (J 36 0 ((x + (t + tt)) % h)) (t + tt)) hc z
            exact (hd2 s hs).1) _ h6
          have go := chain hpl tt m (fun x => tb (4 * ((t + tt) % S) + x)) rk (by omega) hm hx (fun _ => rfl) hrk mm 0 n2 I3 R2 fl2 (zdrift g.2.2.2 s.1, s.2) (R2 11 0 ((t + tt) % S)) (by omega) (by omega) hK3 h73 y2 (fun n4 I4 R4 fl4 k1 k2 k3 => fin n4 I4 R4 fl4 _ ez.symm k1 k2 k3 e6)
          rcases ho : R2 11 0 ((t + tt) % S) with _ | y
          · rw [ho] at go
            refine z_top (v2 := .null) rfl ?_
            refine z_astore_nN X d_SM_run_89 (by decide) rfl ?_
            exact go
          · rw [ho] at go
            refine z_top (v2 := .ref (zad g 4 y)) rfl ?_
            refine z_astore_n X d_SM_run_89 (by decide) rfl ?_
            exact go
  refine z_iload_n X d_SM_run_0 rfl ?_
  refine z_iconst (v := nI 1) X d_SM_run_1 rfl ?_
  refine z_icmp_lt (tgt := 11) X d_SM_run_2 (by decide) (fun h2 => ?_) (fun h2 => ?_)
  · refine z_iconst (v := -1) X d_SM_run_11 rfl ?_
    exact z_iret X hret rfl (Nat.zero_le _) (Nat.zero_le _) (Or.inr ⟨zgRun_lo h2, rfl, rfl⟩) d_SM_run_12
  · refine z_iload_n X d_SM_run_5 rfl ?_
    refine z_bipush (v := nI 64) X d_SM_run_6 rfl ?_
    refine z_icmp_le (tgt := 13) X d_SM_run_8 (by decide) (fun h8 => ?_) (fun h8 => ?_)
    · obtain ⟨m, h1m, hm, hx⟩ := zgRun_in h2 h8
      refine z_iconst (v := nI 0) X d_SM_run_13 rfl ?_
      refine z_istore_n X d_SM_run_14 (by decide) rfl ?_
      exact main m h1m hm hx m 0 n I R fl (A, q) none (by omega) (by omega) ⟨hC, Nat.le_refl _, zIr.rf, zRk2.rf, hB, hP⟩ h7 hq6 rfl
    · refine z_iconst (v := -1) X d_SM_run_11 rfl ?_
      exact z_iret X hret rfl (Nat.zero_le _) (Nat.zero_le _) (Or.inr ⟨zgRun_hi h8, rfl, rfl⟩) d_SM_run_12

