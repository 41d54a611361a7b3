/-! THE COMPONENT'S FRAMES: rows and the spare list as lists of frame indices -/
def zch (R : zR) : Option Nat → List Nat → Prop
  | o, [] => o = none
  | o, f :: t => o = some f ∧ zch R (R 3 f 3) t
theorem zch.congr {R R2 : zR} : ∀ {l : List Nat} {o : Option Nat}, zch R o l → (∀ f ∈ l, R2 3 f 3 = R 3 f 3) → zch R2 o l
  | [], _, h, _ => h
  | f :: t, o, h, he => ⟨h.1, by
      have h2 := h.2
      rw [← he f List.mem_cons_self] at h2
      exact zch.congr h2 (fun x hx => he x (List.mem_cons_of_mem _ hx))⟩
theorem zch_add {R R2 : zR} {x : Nat} (hx : R2 3 x 3 = none) : ∀ {l : List Nat} {o : Option Nat}, zch R o l → (∀ f ∈ l, l.getLast? ≠ some f → R2 3 f 3 = R 3 f 3) → l.Nodup → (∀ y, l.getLast? = some y → R2 3 y 3 = some x) → l ≠ [] → zch R2 o (l ++ [x])
  | [], _, _, _, _, _, hn => absurd rfl hn
  | [f], o, h, he, hnd, hy, hn => ⟨h.1, hy f rfl, hx⟩
  | f :: f2 :: t, o, h, he, hnd, hy, hn => by
    refine ⟨h.1, ?_⟩
    have hf : R2 3 f 3 = R 3 f 3 := he f List.mem_cons_self (by
      intro z
      have hm : f ∈ f2 :: t := List.mem_of_getLast? (by simpa using z)
      exact (List.nodup_cons.mp hnd).1 hm)
    rw [hf]
    exact zch_add hx h.2 (fun y hy2 hl => he y (List.mem_cons_of_mem _ hy2) (by simpa using hl)) (List.nodup_cons.mp hnd).2 (fun y hl => hy y (by simpa using hl)) (by simp)
abbrev zfl : Type := Nat → List Nat
def fu (fl : zfl) (r : Nat) (l : List Nat) : zfl := fun r' => if r' = r then l else fl r'
theorem fu_s {fl : zfl} {r : Nat} {l : List Nat} : fu fl r l r = l := if_pos rfl
theorem fu_n {fl : zfl} {r r' : Nat} {l : List Nat} (h : r' ≠ r) : fu fl r l r' = fl r' := if_neg h
/-- what the frames of a list hold -/
def zct (I : zI) (l : List Nat) : List (Int32 × Int32 × Int32) := l.map (fun f => (I 3 f 0, I 3 f 1, I 3 f 2))
def zcq (l : List (Nat × Int32 × Int32)) : List (Int32 × Int32 × Int32) := l.map (fun x => (nI x.1, x.2.1, x.2.2))
/-- the lists own their frames -/
def zOw (c n : Nat) (fl : zfl) : Prop := (∀ r, (fl r).Nodup) ∧ (∀ r r' f, f ∈ fl r → f ∈ fl r' → r = r') ∧ ∀ r f, f ∈ fl r → 78 + 6 * c + f < n
def zFr (c n : Nat) (I : zI) (R : zR) (fl : zfl) (q : zq) : Prop := (∀ r, zrv c r → zch R (R 2 r 0) (fl r) ∧ R 2 r 1 = (fl r).getLast? ∧ I 2 r 2 = nI (fl r).length ∧ zct I (fl r) = zcq (q r)) ∧ zch R (R 0 0 9) (fl 12) ∧ zOw c n fl
/-- a frame that no list has -/
def zfree (c n : Nat) (fl : zfl) (f : Nat) : Prop := (∀ r, f ∉ fl r) ∧ 78 + 6 * c + f < n
theorem zFr.len {c n : Nat} {I : zI} {R : zR} {fl : zfl} {q : zq} (h : zFr c n I R fl q) {r : Nat} (hr : zrv c r) : (fl r).length = (q r).length := by
  have := (h.1 r hr).2.2.2
  have h2 := congrArg List.length this
  simpa [zct, zcq] using h2
theorem zrv12 {c r : Nat} (hc : c ≤ 6) (h : zrv c r) : r ≠ 12 := by unfold zrv at h; omega
theorem zFr.add {c n : Nat} {I : zI} {R : zR} {fl : zfl} {q : zq} {r f e : Nat} {k v : Int32} (hc : c ≤ 6) (h : zFr c n I R fl q) (hr : zrv c r) (hf : zfree c n fl f) (hn : R 3 f 3 = none) (h0 : I 3 f 0 = nI e) (h1 : I 3 f 1 = k) (h2 : I 3 f 2 = v) : zFr c n (zu I 2 r 2 (I 2 r 2 + nI 1)) (zaddR R r f) (fu fl r (fl r ++ [f])) (qu q r (q r ++ [(e, k, v)])) := by
  obtain ⟨hrow, hsp, hnd, hdj, hal⟩ := h
  obtain ⟨a1, a2, a3, a4⟩ := hrow r hr
  have hI3 : ∀ x j, zu I 2 r 2 (I 2 r 2 + nI 1) 3 x j = I 3 x j := fun x j => zu_k (by decide)
  have hct : ∀ l, zct (zu I 2 r 2 (I 2 r 2 + nI 1)) l = zct I l := fun l => by unfold zct; simp only [hI3]
  have hne : ∀ x, x ∈ fl r → x ≠ f := fun x hx e => hf.1 r (e ▸ hx)
  -- the places of the new references
  have hlast : zaddR R r f 2 r 1 = some f := by unfold zaddR; exact zu_s
  have hother : ∀ r2, r2 ≠ r → zaddR R r f 2 r2 0 = R 2 r2 0 ∧ zaddR R r f 2 r2 1 = R 2 r2 1 := by
    intro r2 h2
    unfold zaddR
    rw [zu_i h2, zu_i h2]
    cases R 2 r 1 with
    | none => exact ⟨zu_i h2, zu_i h2⟩
    | some y => exact ⟨zu_k (by decide), zu_k (by decide)⟩
  have hspare : zaddR R r f 0 0 9 = R 0 0 9 := by
    unfold zaddR
    rw [zu_k (by decide)]
    cases R 2 r 1 with
    | none => exact zu_k (by decide)
    | some y => exact zu_k (by decide)
  have hnext : ∀ x, R 2 r 1 ≠ some x → zaddR R r f 3 x 3 = R 3 x 3 := by
    intro x hx
    unfold zaddR
    rw [zu_k (by decide)]
    cases hl : R 2 r 1 with
    | none => exact zu_k (by decide)
    | some y => exact zu_i (fun e => hx (by rw [hl, e]))
  have hnl : ∀ x, R 2 r 1 = some x → zaddR R r f 3 x 3 = some f := by
    intro x hx
    unfold zaddR
    rw [zu_k (by decide), hx]
    exact zu_s
  have hfl : ∀ y, R 2 r 1 = some y → y ∈ fl r := fun y hy => List.mem_of_getLast? (by rw [← a2]; exact hy)
  have hnf : zaddR R r f 3 f 3 = none := by rw [hnext f (fun e => hf.1 r (hfl f e))]; exact hn
  have hoth : ∀ r2, r2 ≠ r → ∀ x ∈ fl r2, zaddR R r f 3 x 3 = R 3 x 3 := fun r2 h2 x hx => hnext x (fun e => h2 (hdj r2 r x hx (hfl x e)))
  refine ⟨fun r2 hr2 => ?_, ?_, fun r2 => ?_, fun r2 r3 x hx hx3 => ?_, fun r2 x hx => ?_⟩
  · by_cases e2 : r2 = r
    · subst e2
      rw [fu_s, qu_s, hct]
      refine ⟨?_, by rw [hlast]; simp, by rw [zu_s, a3, nI_add]; simp, by unfold zct zcq at *; rw [List.map_append, List.map_append, a4]; simp [h0, h1, h2]⟩
      cases hl : fl r2 with
      | nil =>
        rw [hl] at a1 a2
        have hn1 : R 2 r2 1 = none := by rw [a2]; rfl
        refine ⟨?_, hnf⟩
        unfold zaddR
        rw [zu_j (by decide), hn1]
        exact zu_s
      | cons y t =>
        have e0 : zaddR R r2 f 2 r2 0 = R 2 r2 0 := by
          have hl1 : ∃ z, R 2 r2 1 = some z := by
            rw [a2, hl]
            exact ⟨_, List.getLast?_eq_some_getLast (by simp)⟩
          obtain ⟨z, hz⟩ := hl1
          unfold zaddR
          rw [zu_j (by decide), hz]
          exact zu_k (by decide)
        rw [e0, ← hl]
        refine zch_add hnf a1 (fun x hx hlx => hnext x (by rw [a2]; exact hlx)) (hnd r2) (fun y hy => hnl y (by rw [a2]; exact hy)) (by rw [hl]; simp)
    · rw [fu_n e2, qu_n e2, hct, (hother r2 e2).1, (hother r2 e2).2, zu_i e2]
      obtain ⟨b1, b2, b3, b4⟩ := hrow r2 hr2
      exact ⟨b1.congr (hoth r2 e2), b2, b3, b4⟩
  · have e12 : 12 ≠ r := (zrv12 hc hr).symm
    rw [fu_n e12, hspare]
    exact hsp.congr (hoth 12 e12)
  · by_cases e2 : r2 = r
    · subst e2
      rw [fu_s]
      exact List.nodup_append.mpr ⟨hnd r2, by simp, fun a ha b hb => by rw [List.mem_singleton] at hb; rw [hb]; exact hne a ha⟩
    · rw [fu_n e2]; exact hnd r2
  · by_cases e2 : r2 = r
    · by_cases e3 : r3 = r
      · rw [e2, e3]
      · subst e2
        rw [fu_s] at hx
        rw [fu_n e3] at hx3
        rcases List.mem_append.mp hx with z | z
        · exact hdj _ _ x z hx3
        · rw [List.mem_singleton] at z; subst z; exact absurd hx3 (hf.1 r3)
    · rw [fu_n e2] at hx
      by_cases e3 : r3 = r
      · subst e3
        rw [fu_s] at hx3
        rcases List.mem_append.mp hx3 with z | z
        · exact hdj _ _ x hx z
        · rw [List.mem_singleton] at z; subst z; exact absurd hx (hf.1 r2)
      · rw [fu_n e3] at hx3
        exact hdj _ _ x hx hx3
  · by_cases e2 : r2 = r
    · subst e2
      rw [fu_s] at hx
      rcases List.mem_append.mp hx with z | z
      · exact hal _ x z
      · rw [List.mem_singleton] at z; subst z; exact hf.2
    · rw [fu_n e2] at hx; exact hal _ x hx
theorem zFr.take {c n : Nat} {I : zI} {R : zR} {fl : zfl} {q : zq} {r f : Nat} {t : List Nat} {x : Nat × Int32 × Int32} {tq : List (Nat × Int32 × Int32)} (hc : c ≤ 6) (h : zFr c n I R fl q) (hr : zrv c r) (hl : fl r = f :: t) (hq : q r = x :: tq) : zFr c n (zu I 2 r 2 (I 2 r 2 - nI 1)) (ztakeR R r f) (fu fl r t) (qu q r tq) ∧ zfree c n (fu fl r t) f ∧ ztakeR R r f 3 f 3 = none := by
  obtain ⟨hrow, hsp, hnd, hdj, hal⟩ := h
  obtain ⟨a1, a2, a3, a4⟩ := hrow r hr
  rw [hl] at a1 a2 a3 a4
  rw [hq] at a4
  have hI3 : ∀ y j, zu I 2 r 2 (I 2 r 2 - nI 1) 3 y j = I 3 y j := fun y j => zu_k (by decide)
  have hct : ∀ l, zct (zu I 2 r 2 (I 2 r 2 - nI 1)) l = zct I l := fun l => by unfold zct; simp only [hI3]
  have hfr : f ∈ fl r := by rw [hl]; exact List.mem_cons_self
  have hft : f ∉ t := by have := hnd r; rw [hl] at this; exact (List.nodup_cons.mp this).1
  have htn : t.Nodup := by have := hnd r; rw [hl] at this; exact (List.nodup_cons.mp this).2
  have hnf : ztakeR R r f 3 f 3 = none := by unfold ztakeR; exact zu_s
  have hnext : ∀ y, y ≠ f → ztakeR R r f 3 y 3 = R 3 y 3 := fun y hy => by unfold ztakeR; rw [zu_i hy, zu_k (by decide), zu_k (by decide)]
  have hoth : ∀ r2, r2 ≠ r → ∀ y ∈ fl r2, ztakeR R r f 3 y 3 = R 3 y 3 := fun r2 h2 y hy => hnext y (fun e => h2 (hdj r2 r y hy (e ▸ hfr)))
  have hmem : ∀ r2 y, y ∈ fu fl r t r2 → y ∈ fl r2 ∧ y ≠ f := by
    intro r2 y hy
    by_cases e2 : r2 = r
    · subst e2
      rw [fu_s] at hy
      exact ⟨by rw [hl]; exact List.mem_cons_of_mem _ hy, fun e => hft (e ▸ hy)⟩
    · rw [fu_n e2] at hy
      exact ⟨hy, fun e => e2 (hdj r2 r y hy (e ▸ hfr))⟩
  refine ⟨⟨fun r2 hr2 => ?_, ?_, fun r2 => ?_, fun r2 r3 y hy hy3 => hdj r2 r3 y (hmem r2 y hy).1 (hmem r3 y hy3).1, fun r2 y hy => hal r2 y (hmem r2 y hy).1⟩, ⟨fun r2 hy => (hmem r2 f hy).2 rfl, hal r f hfr⟩, hnf⟩
  · by_cases e2 : r2 = r
    · subst e2
      rw [fu_s, qu_s, hct]
      have e0 : ztakeR R r2 f 2 r2 0 = R 3 f 3 := by unfold ztakeR; rw [zu_k (by decide), zu_j (by decide), zu_s]
      have e1 : ztakeR R r2 f 2 r2 1 = (match R 3 f 3 with | none => none | some _ => R 2 r2 1) := by unfold ztakeR; rw [zu_k (by decide), zu_s]; cases R 3 f 3 <;> rfl
      refine ⟨by rw [e0]; exact a1.2.congr (fun y hy => hnext y (fun e => hft (e ▸ hy))), ?_, by rw [zu_s, a3]; simp only [List.length_cons]; exact nI_pred _, ?_⟩
      · rw [e1]
        cases t with
        | nil => rw [show R 3 f 3 = none from a1.2]; rfl
        | cons y t2 => rw [show R 3 f 3 = some y from a1.2.1]; dsimp only; rw [a2]; simp
      · unfold zct zcq at *
        simp only [List.map_cons, List.cons.injEq] at a4
        exact a4.2
    · have e0 : ztakeR R r f 2 r2 0 = R 2 r2 0 := by unfold ztakeR; rw [zu_k (by decide), zu_i e2, zu_i e2]
      have e1 : ztakeR R r f 2 r2 1 = R 2 r2 1 := by unfold ztakeR; rw [zu_k (by decide), zu_i e2, zu_i e2]
      rw [fu_n e2, qu_n e2, hct, e0, e1, zu_i e2]
      obtain ⟨b1, b2, b3, b4⟩ := hrow r2 hr2
      exact ⟨b1.congr (hoth r2 e2), b2, b3, b4⟩
  · have e12 : 12 ≠ r := (zrv12 hc hr).symm
    rw [fu_n e12, show ztakeR R r f 0 0 9 = R 0 0 9 by unfold ztakeR; rw [zu_k (by decide), zu_k (by decide), zu_k (by decide)]]
    exact hsp.congr (hoth 12 e12)
  · by_cases e2 : r2 = r
    · subst e2; rw [fu_s]; exact htn
    · rw [fu_n e2]; exact hnd r2
theorem zFr.release {c n : Nat} {I : zI} {R : zR} {fl : zfl} {q : zq} {f : Nat} (hc : c ≤ 6) (h : zFr c n I R fl q) (hf : zfree c n fl f) : zFr c n I (zu (zu R 3 f 3 (R 0 0 9)) 0 0 9 (some f)) (fu fl 12 (f :: fl 12)) q := by
  obtain ⟨hrow, hsp, hnd, hdj, hal⟩ := h
  have hnext : ∀ y, y ≠ f → zu (zu R 3 f 3 (R 0 0 9)) 0 0 9 (some f) 3 y 3 = R 3 y 3 := fun y hy => by rw [zu_k (by decide), zu_i hy]
  have hoth : ∀ r2, ∀ y ∈ fl r2, zu (zu R 3 f 3 (R 0 0 9)) 0 0 9 (some f) 3 y 3 = R 3 y 3 := fun r2 y hy => hnext y (fun e => hf.1 r2 (e ▸ hy))
  refine ⟨fun r2 hr2 => ?_, ?_, fun r2 => ?_, fun r2 r3 y hy hy3 => ?_, fun r2 y hy => ?_⟩
  · have e2 := zrv12 hc hr2
    rw [fu_n e2, zu_k (by decide), zu_k (by decide), zu_k (by decide), zu_k (by decide)]
    obtain ⟨b1, b2, b3, b4⟩ := hrow r2 hr2
    exact ⟨b1.congr (hoth r2), b2, b3, b4⟩
  · rw [fu_s, zu_s]
    refine ⟨rfl, ?_⟩
    rw [zu_k (by decide), zu_s]
    exact hsp.congr (hoth 12)
  · by_cases e2 : r2 = 12
    · subst e2; rw [fu_s]; exact List.nodup_cons.mpr ⟨hf.1 12, hnd 12⟩
    · rw [fu_n e2]; exact hnd r2
  · by_cases e2 : r2 = 12
    · by_cases e3 : r3 = 12
      · rw [e2, e3]
      · subst e2
        rw [fu_s] at hy
        rw [fu_n e3] at hy3
        rcases List.mem_cons.mp hy with z | z
        · subst z; exact absurd hy3 (hf.1 r3)
        · exact hdj _ _ y z hy3
    · rw [fu_n e2] at hy
      by_cases e3 : r3 = 12
      · subst e3
        rw [fu_s] at hy3
        rcases List.mem_cons.mp hy3 with z | z
        · subst z; exact absurd hy (hf.1 r2)
        · exact hdj _ _ y hy z
      · rw [fu_n e3] at hy3
        exact hdj _ _ y hy hy3
  · by_cases e2 : r2 = 12
    · subst e2
      rw [fu_s] at hy
      rcases List.mem_cons.mp hy with z | z
      · subst z; exact hf.2
      · exact hal _ y z
    · rw [fu_n e2] at hy; exact hal _ y hy
/-- other ints and references than the frames' and rows' may change -/
theorem zFr.of {c n n2 : Nat} {I I2 : zI} {R R2 : zR} {fl : zfl} {q : zq} (h : zFr c n I R fl q) (hn : n ≤ n2) (h1 : ∀ r, I2 2 r 2 = I 2 r 2) (h2 : ∀ r f, f ∈ fl r → ∀ j, I2 3 f j = I 3 f j) (h3 : ∀ r j, R2 2 r j = R 2 r j) (h4 : ∀ r f, f ∈ fl r → R2 3 f 3 = R 3 f 3) (h5 : R2 0 0 9 = R 0 0 9) : zFr c n2 I2 R2 fl q := by
  obtain ⟨hrow, hsp, hnd, hdj, hal⟩ := h
  refine ⟨fun r hr => ?_, by rw [h5]; exact hsp.congr (fun f hf => h4 12 f hf), hnd, hdj, fun r f hf => Nat.lt_of_lt_of_le (hal r f hf) hn⟩
  obtain ⟨b1, b2, b3, b4⟩ := hrow r hr
  refine ⟨by rw [h3]; exact b1.congr (fun f hf => h4 r f hf), by rw [h3]; exact b2, by rw [h1]; exact b3, ?_⟩
  rw [← b4]
  unfold zct
  exact List.map_congr_left (fun f hf => by rw [h2 r f hf, h2 r f hf, h2 r f hf])
/-- a frame is got from the spare list -/
theorem zFr.got {c n : Nat} {I : zI} {R : zR} {fl : zfl} {q : zq} {f : Nat} {a b v : Int32} (hc : c ≤ 6) (h : zFr c n I R fl q) (hf : R 0 0 9 = some f) : ∃ t, fl 12 = f :: t ∧ zFr c n (zsetF I f a b v) (zu (zu R 0 0 9 (R 3 f 3)) 3 f 3 none) (fu fl 12 t) q ∧ zfree c n (fu fl 12 t) f := by
  obtain ⟨hrow, hsp, hnd, hdj, hal⟩ := h
  cases hl : fl 12 with
  | nil => rw [hl] at hsp; rw [show R 0 0 9 = none from hsp] at hf; cases hf
  | cons f2 t =>
    rw [hl] at hsp
    have e : f2 = f := Option.some.inj (hsp.1.symm.trans hf)
    subst e
    refine ⟨t, rfl, ?_⟩
    have hfr : f2 ∈ fl 12 := by rw [hl]; exact List.mem_cons_self
    have hnd12 := hnd 12
    rw [hl] at hnd12
    have hft := (List.nodup_cons.mp hnd12).1
    have hmem : ∀ r2 y, y ∈ fu fl 12 t r2 → y ∈ fl r2 ∧ y ≠ f2 := by
      intro r2 y hy
      by_cases e2 : r2 = 12
      · subst e2
        rw [fu_s] at hy
        exact ⟨by rw [hl]; exact List.mem_cons_of_mem _ hy, fun e => hft (e ▸ hy)⟩
      · rw [fu_n e2] at hy
        exact ⟨hy, fun e => e2 (hdj r2 12 y hy (e ▸ hfr))⟩
    have hnext : ∀ y, y ≠ f2 → zu (zu R 0 0 9 (R 3 f2 3)) 3 f2 3 none 3 y 3 = R 3 y 3 := fun y hy => by rw [zu_i hy, zu_k (by decide)]
    have hI : ∀ y, y ≠ f2 → ∀ j, zsetF I f2 a b v 3 y j = I 3 y j := fun y hy j => by unfold zsetF; rw [zu_i hy, zu_i hy, zu_i hy]
    refine ⟨⟨fun r hr => ?_, ?_, fun r2 => ?_, fun r2 r3 y hy hy3 => hdj r2 r3 y (hmem r2 y hy).1 (hmem r3 y hy3).1, fun r2 y hy => hal r2 y (hmem r2 y hy).1⟩, ⟨fun r2 hy => (hmem r2 f2 hy).2 rfl, hal 12 f2 hfr⟩⟩
    · have e12 := zrv12 hc hr
      obtain ⟨b1, b2, b3, b4⟩ := hrow r hr
      have hne : ∀ y ∈ fl r, y ≠ f2 := fun y hy e => e12 (hdj r 12 y hy (e ▸ hfr))
      rw [fu_n e12, zu_k (by decide), zu_k (by decide), zu_k (by decide), zu_k (by decide)]
      refine ⟨b1.congr (fun y hy => hnext y (hne y hy)), b2, by unfold zsetF; rw [zu_k (by decide), zu_k (by decide), zu_k (by decide)]; exact b3, ?_⟩
      rw [← b4]
      unfold zct
      exact List.map_congr_left (fun y hy => by rw [hI y (hne y hy), hI y (hne y hy), hI y (hne y hy)])
    · rw [fu_s, zu_k (by decide), zu_s]
      exact hsp.2.congr (fun y hy => hnext y (fun e => hft (e ▸ hy)))
    · by_cases e2 : r2 = 12
      · subst e2; rw [fu_s]; exact (List.nodup_cons.mp hnd12).2
      · rw [fu_n e2]; exact hnd r2
/-- a new frame -/
theorem zFr.new {c n : Nat} {I : zI} {R : zR} {fl : zfl} {q : zq} {f : Nat} {a b v : Int32} (h : zFr c n I R fl q) (hf : 78 + 6 * c + f = n) : zFr c (n + 1) (zsetF I f a b v) (zu R 3 f 3 none) fl q ∧ zfree c (n + 1) fl f := by
  have hal := h.2.2.2.2
  have hne : ∀ r y, y ∈ fl r → y ≠ f := fun r y hy e => by have := hal r y hy; omega
  refine ⟨h.of (Nat.le_succ n) (fun r => by unfold zsetF; rw [zu_k (by decide), zu_k (by decide), zu_k (by decide)]) (fun r y hy j => by unfold zsetF; rw [zu_i (hne r y hy), zu_i (hne r y hy), zu_i (hne r y hy)]) (fun r j => zu_k (by decide)) (fun r y hy => zu_i (hne r y hy)) (zu_k (by decide)), fun r hy => hne r f hy rfl, by omega⟩
