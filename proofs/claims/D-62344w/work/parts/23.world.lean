/-! WHAT NEVER CHANGES once both objects are made: final references, final ints -/
/-- the places of references that are never written again -/
def zcf (k f : Nat) : Bool := match k with
  | 0 => !(f == 9)
  | 1 => f == 9 || (f == 10 || (f == 11 || f == 12))
  | 6 => true
  | 7 => true
  | 12 => true
  | 13 => true
  | 14 => true
  | 22 => true
  | 29 => true
  | _ => false
/-- what they hold -/
def zcv (c k i f : Nat) : Option Nat := match k with
  | 0 => (match zft 0 f with | 0 => none | _ => some 0)
  | 1 => if f = 9 ∨ f = 11 then some i else some (6 + i)
  | 6 => if f < c then some f else none
  | 7 => if f < 6 then some f else none
  | 12 => if f < c then some f else none
  | 13 => if f < 10 then some (6 + f) else none
  | 14 => if f < 5 then some (16 + f) else none
  | 22 => if f < 6 then some f else none
  | 29 => (match zft 29 f with | 0 => none | _ => some 0)
  | _ => none
def zFix (c : Nat) (R : zR) : Prop := ∀ k i f, zcf k f = true → zv c k i → (zft k f ≠ 0) → R k i f = zcv c k i f
theorem zFix.up {c k i f : Nat} {R : zR} {v : Option Nat} (h : zFix c R) (hc : zcf k f = false) : zFix c (zu R k i f v) := by
  intro k' i' f' h1 h2 h3
  rw [zu_if, if_neg]
  · exact h k' i' f' h1 h2 h3
  · rintro ⟨rfl, -, rfl⟩
    rw [hc] at h1
    cases h1
/-- the places of ints that are never written again -/
def zci (k f : Nat) : Bool := match k with
  | 0 => f == 0 || (f == 1 || f == 2)
  | 1 => f == 0
  | 29 => f == 0 || (f == 1 || f == 2)
  | _ => false
/-- c nodes, S slots, h channels -/
def zFixI (c S h : Nat) (I : zI) : Prop := I 0 0 0 = nI c ∧ I 0 0 1 = nI S ∧ I 0 0 2 = nI h ∧ (∀ i, i < c → I 1 i 0 = nI i) ∧ I 29 0 0 = nI c ∧ I 29 0 1 = nI S ∧ I 29 0 2 = nI h
theorem zFixI.of {c S h : Nat} {I I2 : zI} (hF : zFixI c S h I) (he : ∀ k i f, zci k f = true → I2 k i f = I k i f) : zFixI c S h I2 := by
  obtain ⟨h1, h2, h3, h4, h5, h6, h7⟩ := hF
  exact ⟨(he 0 0 0 rfl).trans h1, (he 0 0 1 rfl).trans h2, (he 0 0 2 rfl).trans h3, fun i hi => (he 1 i 0 rfl).trans (h4 i hi), (he 29 0 0 rfl).trans h5, (he 29 0 1 rfl).trans h6, (he 29 0 2 rfl).trans h7⟩
theorem zFixI.up {c S h k i f : Nat} {I : zI} {v : Int32} (hF : zFixI c S h I) (hc : zci k f = false) : zFixI c S h (zu I k i f v) := by
  refine hF.of (fun k' i' f' h1 => ?_)
  rw [zu_if, if_neg]
  rintro ⟨rfl, -, rfl⟩
  rw [hc] at h1
  cases h1
/-- the standing facts -/
def zW (g : zG) (S h n : Nat) (I : zI) (R : zR) : Prop := 78 + 6 * g.2.2.2 ≤ n ∧ (2 ≤ g.2.2.2 ∧ g.2.2.2 ≤ 6) ∧ (8 ≤ S ∧ S ≤ 24) ∧ (1 ≤ h ∧ h ≤ 4) ∧ zFix g.2.2.2 R ∧ zFixI g.2.2.2 S h I
theorem zW.upI {g : zG} {S h n k i f : Nat} {I : zI} {R : zR} {v : Int32} (hW : zW g S h n I R) (hc : zci k f = false) : zW g S h n (zu I k i f v) R := ⟨hW.1, hW.2.1, hW.2.2.1, hW.2.2.2.1, hW.2.2.2.2.1, hW.2.2.2.2.2.up hc⟩
theorem zW.upR {g : zG} {S h n k i f : Nat} {I : zI} {R : zR} {v : Option Nat} (hW : zW g S h n I R) (hc : zcf k f = false) : zW g S h n I (zu R k i f v) := ⟨hW.1, hW.2.1, hW.2.2.1, hW.2.2.2.1, hW.2.2.2.2.1.up hc, hW.2.2.2.2.2⟩
theorem zW.upn {g : zG} {S h n n2 : Nat} {I : zI} {R : zR} (hW : zW g S h n I R) (hn : n ≤ n2) : zW g S h n2 I R := ⟨Nat.le_trans hW.1 hn, hW.2⟩
/-- a fixed reference of a cell of which there is one -/
theorem zW.c {g : zG} {S h n k f : Nat} {I : zI} {R : zR} {r : Option Nat} (hW : zW g S h n I R) (hk : zsk k = true) (hc : zcf k f = true) (hz : zft k f ≠ 0) (hr : zcv g.2.2.2 k 0 f = r) : R k 0 f = r := (hW.2.2.2.2.1 k 0 f hc (zo_s hk hW.1).1 hz).trans hr
theorem zW.up {g : zG} {S h n i : Nat} {I : zI} {R : zR} (hW : zW g S h n I R) (hi : i < g.2.2.2) : R 1 i 9 = some i ∧ R 1 i 10 = some (6 + i) ∧ R 1 i 11 = some i ∧ R 1 i 12 = some (6 + i) :=
  have hv := (zo_n hi hW.1).1
  ⟨(hW.2.2.2.2.1 1 i 9 rfl hv (by decide)).trans (by simp [zcv]), (hW.2.2.2.2.1 1 i 10 rfl hv (by decide)).trans (by simp [zcv]), (hW.2.2.2.2.1 1 i 11 rfl hv (by decide)).trans (by simp [zcv]), (hW.2.2.2.2.1 1 i 12 rfl hv (by decide)).trans (by simp [zcv])⟩
theorem zW.nd {g : zG} {S h n i : Nat} {I : zI} {R : zR} (hW : zW g S h n I R) (hi : i < g.2.2.2) : R 6 0 i = some i := hW.c rfl rfl (by simp [zft]) (by simp [zcv, hi])
theorem zW.nr {g : zG} {S h n i : Nat} {I : zI} {R : zR} (hW : zW g S h n I R) (hi : i < 6) : R 7 0 i = some i := hW.c rfl rfl (by simp [zft]) (by simp [zcv, hi])
theorem zW.kp {g : zG} {S h n i : Nat} {I : zI} {R : zR} (hW : zW g S h n I R) (hi : i < 6) : R 22 0 i = some i := hW.c rfl rfl (by simp [zft]) (by simp [zcv, hi])
theorem zW.ad {g : zG} {S h n i : Nat} {I : zI} {R : zR} (hW : zW g S h n I R) (hi : i < g.2.2.2) : R 12 0 i = some i := hW.c rfl rfl (by simp [zft]) (by simp [zcv, hi])
theorem zW.us {g : zG} {S h n i : Nat} {I : zI} {R : zR} (hW : zW g S h n I R) (hi : i < 10) : R 13 0 i = some (6 + i) := hW.c rfl rfl (by simp [zft]) (by simp [zcv, hi])
theorem zW.ds {g : zG} {S h n i : Nat} {I : zI} {R : zR} (hW : zW g S h n I R) (hi : i < 5) : R 14 0 i = some (16 + i) := hW.c rfl rfl (by simp [zft]) (by simp [zcv, hi])
