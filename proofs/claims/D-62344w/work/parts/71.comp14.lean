/-! THE COMPONENT'S ROUTE -/
theorem zln2 {l : List Nat} (h : ¬ l[1]? = none) : 0 < l.length ∧ 1 < l.length := by
  rw [List.getElem?_eq_none_iff] at h
  omega
theorem zln1 {l : List Nat} (h : ¬ l[0]? = none) (h1 : l[1]? = none) : 0 < l.length ∧ l.length = 1 := by
  rw [List.getElem?_eq_none_iff] at h h1
  omega
theorem zln0 {l : List Nat} (h : l[0]? = none) : l = [] := by
  rw [List.getElem?_eq_none_iff] at h
  exact List.eq_nil_of_length_eq_zero (by omega)
theorem zsubl : ∀ (M L : List Nat), M.Nodup → (∀ x ∈ M, x ∈ L) → M.length ≤ L.length
  | [], _, _, _ => Nat.zero_le _
  | x :: M, L, hn, hs => by
    have hx := hs x List.mem_cons_self
    have h1 : (L.erase x).length = L.length - 1 := List.length_erase_of_mem hx
    have h3 := List.length_pos_of_mem hx
    have h2 := zsubl M (L.erase x) (List.nodup_cons.mp hn).2 (fun y hy => (List.mem_erase_of_ne (show y ≠ x from fun e => (List.nodup_cons.mp hn).1 (by rw [← e]; exact hy))).mpr (hs y (List.mem_cons_of_mem _ hy)))
    simp only [List.length_cons]
    omega
def zKr (I I2 : zI) : Prop := ∀ k i j, k ≠ 15 → k ≠ 16 → k ≠ 17 → k ≠ 18 → I2 k i j = I k i j
theorem zKr.put {I I2 : zI} {k i j : Nat} {v : Int32} (h : zKr I I2) (hk : k = 15 ∨ k = 16 ∨ k = 17 ∨ k = 18) : zKr I (zu I2 k i j v) := fun k2 i2 j2 a b c d => (zu_k (by omega)).trans (h k2 i2 j2 a b c d)
theorem zKr.W {g : zG} {S h n : Nat} {I I2 : zI} {R : zR} (hK : zKr I I2) (hW : zW g S h n I R) : zW g S h n I2 R := by
  obtain ⟨a1, a2, a3, a4, a5, a6⟩ := hW
  refine ⟨a1, a2, a3, a4, a5, a6.of (fun k i f hc => hK k i f ?_ ?_ ?_ ?_)⟩ <;> (intro e; subst e; cases hc)
theorem zo1_iff {o : Option Nat} (h : ∀ u, o = some u → u < 6) : zo1 o = -1 ↔ o = none := by
  cases o with
  | none => exact ⟨fun _ => rfl, fun _ => rfl⟩
  | some u =>
    have hu := h u rfl
    refine ⟨fun z => ?_, fun z => by cases z⟩
    exact absurd z (by rcases (show u = 0 ∨ u = 1 ∨ u = 2 ∨ u = 3 ∨ u = 4 ∨ u = 5 by omega) with rfl | rfl | rfl | rfl | rfl | rfl <;> decide)
theorem zpl_lt {c b a : Nat} {f : Nat → Int32} {x : Nat → Nat} {j u : Nat} (h : (zpl c f x b a)[j]? = some u) : u < b := by
  have := List.mem_of_getElem? h
  unfold zpl at this
  have := (List.mem_filter.mp this).1
  exact List.mem_range.mp this
/-- rank by number against the search's ranks -/
def zxr (L : List Nat) (r : Nat → Nat) (v : Nat) : Nat := if v ∈ L then r v else 99
def zrv15 (c : Nat) (L : List Nat) (r : Nat → Nat) (I : zI) : Prop := ∀ v, v < c → I 15 0 v = if v ∈ L then nI (r v) else -1
theorem zxr_cmp {c : Nat} {L : List Nat} {r : Nat → Nat} {I : zI} (hc : c ≤ 6) (h15 : zrv15 c L r I) (hr : ∀ v ∈ L, r v < c ∧ (r v = 0 → v = 0)) {u v : Nat} (hu : u < c) (hv : v < c) (h0 : 0 < v) : I 15 0 u = I 15 0 v - nI 1 ↔ zxr L r u + 1 = zxr L r v := by
  have m1 : ∀ j, j < 6 → ¬ (-1 : Int32) = nI j := fun j hj => by
    rcases (show j = 0 ∨ j = 1 ∨ j = 2 ∨ j = 3 ∨ j = 4 ∨ j = 5 by omega) with rfl | rfl | rfl | rfl | rfl | rfl <;> decide
  have m2 : ∀ j, j < 6 → ¬ nI j = (-1 : Int32) - nI 1 := fun j hj => by
    rcases (show j = 0 ∨ j = 1 ∨ j = 2 ∨ j = 3 ∨ j = 4 ∨ j = 5 by omega) with rfl | rfl | rfl | rfl | rfl | rfl <;> decide
  rw [h15 u hu, h15 v hv]
  unfold zxr
  by_cases a : u ∈ L <;> by_cases b : v ∈ L
  · rw [if_pos a, if_pos b, if_pos a, if_pos b]
    have := (hr u a).1
    have := (hr v b).1
    exact zsub1 (by omega) (by omega)
  · rw [if_pos a, if_neg b, if_pos a, if_neg b]
    have := (hr u a).1
    exact ⟨fun z => absurd z (m2 _ (by omega)), fun z => by omega⟩
  · rw [if_neg a, if_pos b, if_neg a, if_pos b]
    have h1 := hr v b
    have hne : r v ≠ 0 := fun z => by have := h1.2 z; omega
    obtain ⟨d, hd⟩ : ∃ d, r v = d + 1 := ⟨r v - 1, by omega⟩
    refine ⟨fun z => ?_, fun z => by omega⟩
    rw [hd, show nI (d + 1) - nI 1 = nI d from nI_pred d] at z
    exact absurd z (m1 _ (by omega))
  · rw [if_neg a, if_neg b, if_neg a, if_neg b]
    exact ⟨fun z => absurd z (by decide), fun z => by omega⟩
theorem zrv15_add {c w u : Nat} {L : List Nat} {r : Nat → Nat} {I : zI} {j : Nat} {v : Int32} (h : zrv15 c L r I) (hm : w ∉ L) : zrv15 c (L ++ [w]) (ru r w (r u + 1)) (zu (zu I 15 0 w (nI (r u + 1))) 18 0 j v) := fun x hx => by
  rw [zu_k (by decide)]
  by_cases e : x = w
  · subst e; rw [zu_s, if_pos (by simp), ru_s]
  · rw [zu_j e, h x hx, ru_n e]
    by_cases e2 : x ∈ L
    · rw [if_pos e2, if_pos (List.mem_append_left _ e2)]
    · rw [if_neg e2, if_neg (by simp; exact ⟨e2, e⟩)]
theorem z18_add {w k i j0 : Nat} {L : List Nat} {I : zI} {v0 : Int32} (h : ∀ j v : Nat, L[j]? = some v → I 18 0 j = nI v) (hk : k ≠ 18 := by decide) : ∀ j v : Nat, (L ++ [w])[j]? = some v → zu (zu I k i j0 v0) 18 0 L.length (nI w) 18 0 j = nI v := fun j v hj => by
  rcases Nat.lt_or_ge j L.length with hl | hl
  · rw [List.getElem?_append_left hl] at hj
    rw [zu_j (by omega), zu_k hk.symm]
    exact h j v hj
  · rw [List.getElem?_append_right hl] at hj
    have h1 := (List.getElem?_eq_some_iff.mp hj).1
    simp at h1
    have e : j = L.length := by omega
    subst e
    simp at hj
    rw [zu_s, hj]
theorem c_SM_route (l : Launch) (g : zG) {S h n : Nat} {I : zI} {J : zJ} {R : zR} (hW : zW g S h n I R) (f : Nat → Int32) (hf : ∀ a b, a < 6 → b < 6 → I 8 a b = f (6 * a + b)) (hsy : zsym g.2.2.2 f) : zMet l g y_SM_route b_SM_route 5 (some .boolean) 0 0 0 0 (zPc g [.ref (zad g 0 0)] n I J R) (zQi g (fun r u => ∃ I2, u = (n, I2, J, R) ∧ zKr I I2 ∧ ((r = nI 1 ∧ ∃ rk, zLs g.2.2.2 f rk ∧ ∀ v, v < g.2.2.2 → I2 15 0 v = nI (rk v) ∧ I2 16 0 v = zo1 (zpl g.2.2.2 f rk g.2.2.2 v)[0]? ∧ I2 17 0 v = zo1 (zpl g.2.2.2 f rk g.2.2.2 v)[1]?) ∨ (r = nI 0 ∧ ∃ v, v < g.2.2.2 ∧ ∀ k, ¬ zWk g.2.2.2 f k v)))) := by
  have hc := hW.2.1.2
  have h2c := hW.2.1.1
  have hWW := hW
  have hf2 : ∀ {I2 : zI}, zKr I I2 → ∀ a b, a < 6 → b < 6 → I2 8 a b = f (6 * a + b) := fun hK a b ha hb => (hK 8 a b (by decide) (by decide) (by decide) (by decide)).trans (hf a b ha hb)
  refine zMet.of (by decide) [some (.ref (zad g 0 0)), none, none, none, none] rfl (Nat.le_of_ble_eq_true rfl) ?_
  intro pP eE sS mM aA bB mE cC X hret hnm
  have X : zC pP sS mM aA mE cC b_SM_route "SlottedMesh" 5 g := X
  have hret : mE.sig.returnType = (some .boolean) := hret
  -- parents
  have PAR : ∀ (L : List Nat) (r : Nat → Nat) (w : Nat), zBI g.2.2.2 f L r L.length w → ∀ (s v : Nat) (I2 : zI), v + s = g.2.2.2 → 0 < v → zKr I I2 → zrv15 g.2.2.2 L r I2 → (∀ b, b < v → I2 16 0 b = zo1 (zpl g.2.2.2 f (zxr L r) g.2.2.2 b)[0]? ∧ I2 17 0 b = zo1 (zpl g.2.2.2 f (zxr L r) g.2.2.2 b)[1]?) → (∀ b, v ≤ b → b < g.2.2.2 → I2 16 0 b = -1 ∧ I2 17 0 b = -1) → zV pP l eE (zrm 0 0 0 0) sS mM aA bB mE cC g 5 (MQ bB (zQi g (fun r u => ∃ I2, u = (n, I2, J, R) ∧ zKr I I2 ∧ ((r = nI 1 ∧ ∃ rk, zLs g.2.2.2 f rk ∧ ∀ v, v < g.2.2.2 → I2 15 0 v = nI (rk v) ∧ I2 16 0 v = zo1 (zpl g.2.2.2 f rk g.2.2.2 v)[0]? ∧ I2 17 0 v = zo1 (zpl g.2.2.2 f rk g.2.2.2 v)[1]?) ∨ (r = nI 0 ∧ ∃ v, v < g.2.2.2 ∧ ∀ k, ¬ zWk g.2.2.2 f k v)))) aA sS 0 0 (zA g)) 0 0 143 [some (.ref (zad g 0 0)), some (.int (nI L.length)), some (.int (nI v)), none, none] [] n I2 J R := by
    intro L r w hL s
    have hrr : ∀ v ∈ L, r v < g.2.2.2 ∧ (r v = 0 → v = 0) := fun v hv => ⟨hL.lt hv, fun z => by have := hL.2.2.2.2.1 v hv; rw [z] at this; exact this⟩
    have hlen := hL.len
    induction s with
    | zero =>
      intro v I2 hv h0 hK h15 hp hq
      have hW := hK.W hWW
      refine z_iload_n X d_SM_route_143 rfl ?_
      refine z_aload_n X d_SM_route_144 rfl ?_
      refine gf_SM_104 X (zo_s rfl hW.1) d_SM_route_145 ?_
      refine z_top (congrArg Value.int (hW.2.2.2.2.2.1)) ?_
      refine z_icmp_ge (tgt := 238) X d_SM_route_148 (by decide) (fun _ => ?_) (fun hq => absurd hq (fun z => z (nI_le (by omega) (by omega))))
      refine z_iload_n X d_SM_route_238 rfl ?_
      refine z_aload_n X d_SM_route_239 rfl ?_
      refine gf_SM_104 X (zo_s rfl hW.1) d_SM_route_240 ?_
      refine z_top (congrArg Value.int (hW.2.2.2.2.2.1)) ?_
      refine z_icmpN_ne (tgt := 250) X d_SM_route_243 (by decide) (by omega) (by omega) (fun h243 => ?_) (fun h243 => ?_)
      · refine z_iconst (v := nI 0) X d_SM_route_250 rfl ?_
        have hno : ∃ v, v < g.2.2.2 ∧ v ∉ L := Classical.byContradiction fun hz => h243 (by
          have hall : ∀ v, v < g.2.2.2 → v ∈ L := fun v hv => Classical.byContradiction fun hm => hz ⟨v, hv, hm⟩
          have h1 := zsubl (List.range g.2.2.2) L List.nodup_range (fun x hx => hall x (List.mem_range.mp hx))
          simp at h1
          omega)
        obtain ⟨vv, hvv, hm⟩ := hno
        exact z_iret X hret rfl (Nat.zero_le _) (Nat.zero_le _) ⟨I2, rfl, hK, Or.inr ⟨rfl, vv, hvv, fun k hk => hm (hL.walk k vv hvv hk).1⟩⟩ d_SM_route_251
      · refine z_iconst (v := nI 1) X d_SM_route_246 rfl ?_
        refine z_goto (tgt := 251) X d_SM_route_247 (by decide) ?_
        have hall : ∀ v, v < g.2.2.2 → v ∈ L := fun v hv => zpig2 hL.1 hL.2.1 h243 hv
        have hx : ∀ v, v < g.2.2.2 → zxr L r v = r v := fun v hv => if_pos (hall v hv)
        exact z_iret X hret rfl (Nat.zero_le _) (Nat.zero_le _) ⟨I2, rfl, hK, Or.inl ⟨rfl, zxr L r, fun v hv => by rw [hx v hv]; exact ⟨hL.lt (hall v hv), hL.2.2.2.2.1 v (hall v hv), fun k hk => (hL.walk k v hv hk).2⟩, fun b hb => ⟨by rw [h15 b hb, if_pos (hall b hb), hx b hb], hp b (by omega)⟩⟩⟩ d_SM_route_251
    | succ s ih =>
      intro v I2 hv h0 hK h15 hp hq
      have hW := hK.W hWW
      have hvc : v < g.2.2.2 := by omega
      refine z_iload_n X d_SM_route_143 rfl ?_
      refine z_aload_n X d_SM_route_144 rfl ?_
      refine gf_SM_104 X (zo_s rfl hW.1) d_SM_route_145 ?_
      refine z_top (congrArg Value.int (hW.2.2.2.2.2.1)) ?_
      refine z_icmp_ge (tgt := 238) X d_SM_route_148 (by decide) (fun hq => absurd hq (nI_ge (by omega) (by omega))) (fun _ => ?_)
      refine z_iconst (v := nI 0) X d_SM_route_151 rfl ?_
      refine z_istore_n X d_SM_route_152 (by decide) rfl ?_
      have INN : ∀ (sb b : Nat) (I3 : zI), b + sb = g.2.2.2 → zKr I I3 → zrv15 g.2.2.2 L r I3 → I3 16 0 v = zo1 (zpl g.2.2.2 f (zxr L r) b v)[0]? → I3 17 0 v = zo1 (zpl g.2.2.2 f (zxr L r) b v)[1]? → (∀ b, b < v → I3 16 0 b = zo1 (zpl g.2.2.2 f (zxr L r) g.2.2.2 b)[0]? ∧ I3 17 0 b = zo1 (zpl g.2.2.2 f (zxr L r) g.2.2.2 b)[1]?) → (∀ b, v < b → b < g.2.2.2 → I3 16 0 b = -1 ∧ I3 17 0 b = -1) → zV pP l eE (zrm 0 0 0 0) sS mM aA bB mE cC g 5 (MQ bB (zQi g (fun r u => ∃ I2, u = (n, I2, J, R) ∧ zKr I I2 ∧ ((r = nI 1 ∧ ∃ rk, zLs g.2.2.2 f rk ∧ ∀ v, v < g.2.2.2 → I2 15 0 v = nI (rk v) ∧ I2 16 0 v = zo1 (zpl g.2.2.2 f rk g.2.2.2 v)[0]? ∧ I2 17 0 v = zo1 (zpl g.2.2.2 f rk g.2.2.2 v)[1]?) ∨ (r = nI 0 ∧ ∃ v, v < g.2.2.2 ∧ ∀ k, ¬ zWk g.2.2.2 f k v)))) aA sS 0 0 (zA g)) 0 0 153 [some (.ref (zad g 0 0)), some (.int (nI L.length)), some (.int (nI v)), some (.int (nI b)), none] [] n I3 J R := by
        intro sb
        induction sb with
        | zero =>
          intro b I3 hb hK3 h153 e0 e1 hp3 hq3
          have hW := hK3.W hWW
          have hb : b = g.2.2.2 := by omega
          subst hb
          refine z_iload_n X d_SM_route_153 rfl ?_
          refine z_aload_n X d_SM_route_154 rfl ?_
          refine gf_SM_104 X (zo_s rfl hW.1) d_SM_route_155 ?_
          refine z_top (congrArg Value.int (hW.2.2.2.2.2.1)) ?_
          refine z_icmp_ge (tgt := 232) X d_SM_route_158 (by decide) (fun _ => ?_) (fun hq => absurd hq (fun z => z (Int32.le_refl _)))
          refine z_iinc X d_SM_route_232 rfl (zinc _) (by decide) rfl ?_
          refine z_goto (tgt := 143) X d_SM_route_235 (by decide) ?_
          refine z_wk (ls2 := [some (.ref (zad g 0 0)), some (.int (nI L.length)), some (.int (nI (v + 1))), none, none]) ⟨rfl, rfl, rfl, trivial⟩ ?_
          refine ih (v + 1) I3 (by omega) (by omega) hK3 h153 (fun b hb => ?_) (fun b h1 h2 => hq3 b (by omega) h2)
          by_cases e : b = v
          · subst e; exact ⟨e0, e1⟩
          · exact hp3 b (by omega)
        | succ sb ihb =>
          intro b I3 hb hK3 h153 e0 e1 hp3 hq3
          have hW := hK3.W hWW
          have hbc : b < g.2.2.2 := by omega
          have stp := zpl_succ g.2.2.2 f (zxr L r) b v
          have cmp := zxr_cmp hc h153 hrr hbc hvc h0
          have skip : ¬ (f (6 * v + b) ≠ 0 ∧ zxr L r b + 1 = zxr L r v) → zV pP l eE (zrm 0 0 0 0) sS mM aA bB mE cC g 5 (MQ bB (zQi g (fun r u => ∃ I2, u = (n, I2, J, R) ∧ zKr I I2 ∧ ((r = nI 1 ∧ ∃ rk, zLs g.2.2.2 f rk ∧ ∀ v, v < g.2.2.2 → I2 15 0 v = nI (rk v) ∧ I2 16 0 v = zo1 (zpl g.2.2.2 f rk g.2.2.2 v)[0]? ∧ I2 17 0 v = zo1 (zpl g.2.2.2 f rk g.2.2.2 v)[1]?) ∨ (r = nI 0 ∧ ∃ v, v < g.2.2.2 ∧ ∀ k, ¬ zWk g.2.2.2 f k v)))) aA sS 0 0 (zA g)) 0 0 153 [some (.ref (zad g 0 0)), some (.int (nI L.length)), some (.int (nI v)), some (.int (nI (b + 1))), none] [] n I3 J R := fun hz => by
            rw [if_neg hz, List.append_nil] at stp
            exact ihb (b + 1) I3 (by omega) hK3 h153 (by rw [stp]; exact e0) (by rw [stp]; exact e1) hp3 hq3
          have hz0 := zo1_iff (o := (zpl g.2.2.2 f (zxr L r) b v)[0]?) (fun u hu => by have := zpl_lt hu; omega)
          have hz1 := zo1_iff (o := (zpl g.2.2.2 f (zxr L r) b v)[1]?) (fun u hu => by have := zpl_lt hu; omega)
          refine z_iload_n X d_SM_route_153 rfl ?_
          refine z_aload_n X d_SM_route_154 rfl ?_
          refine gf_SM_104 X (zo_s rfl hW.1) d_SM_route_155 ?_
          refine z_top (congrArg Value.int (hW.2.2.2.2.2.1)) ?_
          refine z_icmp_ge (tgt := 232) X d_SM_route_158 (by decide) (fun hq => absurd hq (nI_ge (by omega) (by omega))) (fun _ => ?_)
          refine z_aload_n X d_SM_route_161 rfl ?_
          refine gr_SM_17 (hW.c (k := 0) (f := 4) rfl rfl (by decide) rfl) X (zo_s rfl hW.1) d_SM_route_162 ?_
          refine z_iload_n X d_SM_route_165 rfl ?_
          refine ar_7 X (zo_s rfl hW.1) rfl (by omega) (hW.nr (by omega)) d_SM_route_166 ?_
          refine z_iload_n X d_SM_route_167 rfl ?_
          refine al_8 X (zo_z (by omega) hW.1) rfl (by omega) d_SM_route_168 ?_
          refine z_top (v2 := .int (f (6 * v + b))) (congrArg Value.int ((hf2 hK3 b v (by omega) (by omega)).trans (hsy b v hbc hvc))) ?_
          refine z_if_eq (tgt := 226) X d_SM_route_169 (by decide) (fun h169 => ?_) (fun h169 => ?_)
          · refine z_iinc X d_SM_route_226 rfl (zinc _) (by decide) rfl ?_
            have nx := skip (fun z => z.1 h169)
            refine z_goto (tgt := 153) X d_SM_route_229 (by decide) ?_
            exact nx
          · refine z_aload_n X d_SM_route_172 rfl ?_
            refine gr_SM_53 (hW.c (k := 0) (f := 14) rfl rfl (by decide) rfl) X (zo_s rfl hW.1) d_SM_route_173 ?_
            refine z_iload_n X d_SM_route_176 rfl ?_
            refine al_15 X (zo_s rfl hW.1) rfl (by omega) d_SM_route_177 ?_
            refine z_aload_n X d_SM_route_178 rfl ?_
            refine gr_SM_53 (hW.c (k := 0) (f := 14) rfl rfl (by decide) rfl) X (zo_s rfl hW.1) d_SM_route_179 ?_
            refine z_iload_n X d_SM_route_182 rfl ?_
            refine al_15 X (zo_s rfl hW.1) rfl (by omega) d_SM_route_183 ?_
            refine z_iconst (v := nI 1) X d_SM_route_184 rfl ?_
            refine z_isub X d_SM_route_185 ?_
            refine z_icmp_ne (tgt := 226) X d_SM_route_186 (by decide) (fun h186 => ?_) (fun h186 => ?_)
            · refine z_iinc X d_SM_route_226 rfl (zinc _) (by decide) rfl ?_
              have nx := skip (fun z => h186 (cmp.mpr z.2))
              refine z_goto (tgt := 153) X d_SM_route_229 (by decide) ?_
              exact nx
            · refine z_aload_n X d_SM_route_189 rfl ?_
              refine gr_SM_57 (hW.c (k := 0) (f := 15) rfl rfl (by decide) rfl) X (zo_s rfl hW.1) d_SM_route_190 ?_
              refine z_iload_n X d_SM_route_193 rfl ?_
              refine al_16 X (zo_s rfl hW.1) rfl (by omega) d_SM_route_194 ?_
              refine z_top (congrArg Value.int e0) ?_
              refine z_iconst (v := -1) X d_SM_route_195 rfl ?_
              refine z_icmp_ne (tgt := 209) X d_SM_route_196 (by decide) (fun h196 => ?_) (fun h196 => ?_)
              · refine z_aload_n X d_SM_route_209 rfl ?_
                refine gr_SM_60 (hW.c (k := 0) (f := 16) rfl rfl (by decide) rfl) X (zo_s rfl hW.1) d_SM_route_210 ?_
                refine z_iload_n X d_SM_route_213 rfl ?_
                refine al_17 X (zo_s rfl hW.1) rfl (by omega) d_SM_route_214 ?_
                refine z_top (congrArg Value.int e1) ?_
                refine z_iconst (v := -1) X d_SM_route_215 rfl ?_
                refine z_icmp_ne (tgt := 226) X d_SM_route_216 (by decide) (fun h216 => ?_) (fun h216 => ?_)
                · refine z_iinc X d_SM_route_226 rfl (zinc _) (by decide) rfl ?_
                  have nx := ihb (b + 1) I3 (by omega) hK3 h153 (by rw [stp, if_pos ⟨h169, cmp.mp h186⟩, List.getElem?_append_left (zln2 (fun z => h216 (hz1.mpr z))).1]; exact e0) (by rw [stp, if_pos ⟨h169, cmp.mp h186⟩, List.getElem?_append_left (zln2 (fun z => h216 (hz1.mpr z))).2]; exact e1) hp3 hq3
                  refine z_goto (tgt := 153) X d_SM_route_229 (by decide) ?_
                  exact nx
                · refine z_aload_n X d_SM_route_219 rfl ?_
                  refine gr_SM_60 (hW.c (k := 0) (f := 16) rfl rfl (by decide) rfl) X (zo_s rfl hW.1) d_SM_route_220 ?_
                  refine z_iload_n X d_SM_route_223 rfl ?_
                  refine z_iload_n X d_SM_route_224 rfl ?_
                  refine as_17 X (zo_s rfl hW.1) rfl (by omega) d_SM_route_225 ?_
                  have nx := ihb (b + 1) (zu I3 17 0 v (nI b)) (by omega) (hK3.put (Or.inr (Or.inr (Or.inl rfl)))) (fun y hy => h153 y hy) (by rw [zu_k (by decide), e0, stp, if_pos ⟨h169, cmp.mp h186⟩]; exact congrArg zo1 (List.getElem?_append_left (zln1 (fun z => h196 (hz0.mpr z)) (hz1.mp h216)).1).symm) (by rw [zu_s, stp, if_pos ⟨h169, cmp.mp h186⟩, List.getElem?_append_right (by rw [(zln1 (fun z => h196 (hz0.mpr z)) (hz1.mp h216)).2]; exact Nat.le_refl _), (zln1 (fun z => h196 (hz0.mpr z)) (hz1.mp h216)).2]; rfl) (fun y hy => by rw [zu_k (by decide), zu_j (by omega)]; exact hp3 y hy) (fun y h1 h2 => by rw [zu_k (by decide), zu_j (by omega)]; exact hq3 y h1 h2)
                  refine z_iinc X d_SM_route_226 rfl (zinc _) (by decide) rfl ?_
                  refine z_goto (tgt := 153) X d_SM_route_229 (by decide) ?_
                  exact nx
              · refine z_aload_n X d_SM_route_199 rfl ?_
                refine gr_SM_57 (hW.c (k := 0) (f := 15) rfl rfl (by decide) rfl) X (zo_s rfl hW.1) d_SM_route_200 ?_
                refine z_iload_n X d_SM_route_203 rfl ?_
                refine z_iload_n X d_SM_route_204 rfl ?_
                refine as_16 X (zo_s rfl hW.1) rfl (by omega) d_SM_route_205 ?_
                have nx := ihb (b + 1) (zu I3 16 0 v (nI b)) (by omega) (hK3.put (Or.inr (Or.inl rfl))) (fun y hy => h153 y hy) (by rw [zu_s, stp, if_pos ⟨h169, cmp.mp h186⟩, zln0 (hz0.mp h196)]; rfl) (by rw [zu_k (by decide), e1, stp, if_pos ⟨h169, cmp.mp h186⟩, zln0 (hz0.mp h196)]; rfl) (fun y hy => by rw [zu_j (by omega), zu_k (by decide)]; exact hp3 y hy) (fun y h1 h2 => by rw [zu_j (by omega), zu_k (by decide)]; exact hq3 y h1 h2)
                refine z_goto (tgt := 226) X d_SM_route_206 (by decide) ?_
                refine z_iinc X d_SM_route_226 rfl (zinc _) (by decide) rfl ?_
                refine z_goto (tgt := 153) X d_SM_route_229 (by decide) ?_
                exact nx
      exact INN g.2.2.2 0 I2 (by omega) hK h15 (by rw [(hq v (Nat.le_refl _) hvc).1]; rfl) (by rw [(hq v (Nat.le_refl _) hvc).2]; rfl) hp (fun b h1 h2 => hq b (by omega) h2)
  -- the search
  have BFS : ∀ (m a : Nat) (L : List Nat) (r : Nat → Nat) (I2 : zI), L.length - a + (g.2.2.2 - L.length) = m → a ≤ L.length → zBI g.2.2.2 f L r a 0 → zKr I I2 → zrv15 g.2.2.2 L r I2 → (∀ j v : Nat, L[j]? = some v → I2 18 0 j = nI v) → (∀ v, v < g.2.2.2 → I2 16 0 v = -1 ∧ I2 17 0 v = -1) → zV pP l eE (zrm 0 0 0 0) sS mM aA bB mE cC g 5 (MQ bB (zQi g (fun r u => ∃ I2, u = (n, I2, J, R) ∧ zKr I I2 ∧ ((r = nI 1 ∧ ∃ rk, zLs g.2.2.2 f rk ∧ ∀ v, v < g.2.2.2 → I2 15 0 v = nI (rk v) ∧ I2 16 0 v = zo1 (zpl g.2.2.2 f rk g.2.2.2 v)[0]? ∧ I2 17 0 v = zo1 (zpl g.2.2.2 f rk g.2.2.2 v)[1]?) ∨ (r = nI 0 ∧ ∃ v, v < g.2.2.2 ∧ ∀ k, ¬ zWk g.2.2.2 f k v)))) aA sS 0 0 (zA g)) 0 0 56 [some (.ref (zad g 0 0)), some (.int (nI L.length)), some (.int (nI a)), none, none] [] n I2 J R := by
    intro m
    induction m using Nat.strongRecOn with
    | _ m ih =>
      intro a L r I2 hm ha hB hK h15 h18 h167
      have hW := hK.W hWW
      have hlen := hB.len
      rcases Nat.lt_or_ge a L.length with hal | hal
      · have hu : L[a]? = some L[a] := List.getElem?_eq_getElem hal
        have huc : L[a] < g.2.2.2 := hB.2.1 _ (List.getElem_mem hal)
        generalize hue : L[a] = u at hu huc
        refine z_iload_n X d_SM_route_56 rfl ?_
        refine z_iload_n X d_SM_route_57 rfl ?_
        refine z_icmp_ge (tgt := 141) X d_SM_route_58 (by decide) (fun hq => absurd hq (nI_ge (by omega) (by omega))) (fun _ => ?_)
        refine z_aload_n X d_SM_route_61 rfl ?_
        refine gr_SM_63 (hW.c (k := 0) (f := 17) rfl rfl (by decide) rfl) X (zo_s rfl hW.1) d_SM_route_62 ?_
        refine z_iload_n X d_SM_route_65 rfl ?_
        refine al_18 X (zo_s rfl hW.1) rfl (by omega) d_SM_route_66 ?_
        refine z_top (v2 := .int (nI u)) (congrArg Value.int (h18 a u hu)) ?_
        refine z_istore_n X d_SM_route_67 (by decide) rfl ?_
        refine z_iconst (v := nI 0) X d_SM_route_68 rfl ?_
        refine z_istore X d_SM_route_69 (by decide) rfl ?_
        have INN : ∀ (sb w : Nat) (L2 : List Nat) (r2 : Nat → Nat) (I3 : zI), w + sb = g.2.2.2 → a < L2.length → L.length ≤ L2.length → L2[a]? = some u → zBI g.2.2.2 f L2 r2 a w → zKr I I3 → zrv15 g.2.2.2 L2 r2 I3 → (∀ j v : Nat, L2[j]? = some v → I3 18 0 j = nI v) → (∀ v, v < g.2.2.2 → I3 16 0 v = -1 ∧ I3 17 0 v = -1) → zV pP l eE (zrm 0 0 0 0) sS mM aA bB mE cC g 5 (MQ bB (zQi g (fun r u => ∃ I2, u = (n, I2, J, R) ∧ zKr I I2 ∧ ((r = nI 1 ∧ ∃ rk, zLs g.2.2.2 f rk ∧ ∀ v, v < g.2.2.2 → I2 15 0 v = nI (rk v) ∧ I2 16 0 v = zo1 (zpl g.2.2.2 f rk g.2.2.2 v)[0]? ∧ I2 17 0 v = zo1 (zpl g.2.2.2 f rk g.2.2.2 v)[1]?) ∨ (r = nI 0 ∧ ∃ v, v < g.2.2.2 ∧ ∀ k, ¬ zWk g.2.2.2 f k v)))) aA sS 0 0 (zA g)) 0 0 71 [some (.ref (zad g 0 0)), some (.int (nI L2.length)), some (.int (nI a)), some (.int (nI u)), some (.int (nI w))] [] n I3 J R := by
          intro sb
          induction sb with
          | zero =>
            intro w L2 r2 I3 hw hal2 hll hu2 hB2 hK3 h153 h183 h1673
            have hW := hK3.W hWW
            have hw : w = g.2.2.2 := by omega
            subst hw
            refine z_iload X d_SM_route_71 rfl ?_
            refine z_aload_n X d_SM_route_73 rfl ?_
            refine gf_SM_104 X (zo_s rfl hW.1) d_SM_route_74 ?_
            refine z_top (congrArg Value.int (hW.2.2.2.2.2.1)) ?_
            refine z_icmp_ge (tgt := 135) X d_SM_route_77 (by decide) (fun _ => ?_) (fun hq => absurd hq (fun z => z (Int32.le_refl _)))
            refine z_iinc X d_SM_route_135 rfl (zinc _) (by decide) rfl ?_
            refine z_goto (tgt := 56) X d_SM_route_138 (by decide) ?_
            refine z_wk (ls2 := [some (.ref (zad g 0 0)), some (.int (nI L2.length)), some (.int (nI (a + 1))), none, none]) ⟨rfl, rfl, rfl, trivial⟩ ?_
            have hl2 := hB2.len
            exact ih _ (by omega) (a + 1) L2 r2 I3 rfl (by omega) (hB2.next hu2) hK3 h153 h183 h1673
          | succ sb ihb =>
            intro w L2 r2 I3 hw hal2 hll hu2 hB2 hK3 h153 h183 h1673
            have hW := hK3.W hWW
            have hwc : w < g.2.2.2 := by omega
            have hl2 := hB2.len
            have huL : u ∈ L2 := List.mem_of_getElem? hu2
            have skip : (f (6 * u + w) = 0 ∨ w ∈ L2) → zV pP l eE (zrm 0 0 0 0) sS mM aA bB mE cC g 5 (MQ bB (zQi g (fun r u => ∃ I2, u = (n, I2, J, R) ∧ zKr I I2 ∧ ((r = nI 1 ∧ ∃ rk, zLs g.2.2.2 f rk ∧ ∀ v, v < g.2.2.2 → I2 15 0 v = nI (rk v) ∧ I2 16 0 v = zo1 (zpl g.2.2.2 f rk g.2.2.2 v)[0]? ∧ I2 17 0 v = zo1 (zpl g.2.2.2 f rk g.2.2.2 v)[1]?) ∨ (r = nI 0 ∧ ∃ v, v < g.2.2.2 ∧ ∀ k, ¬ zWk g.2.2.2 f k v)))) aA sS 0 0 (zA g)) 0 0 71 [some (.ref (zad g 0 0)), some (.int (nI L2.length)), some (.int (nI a)), some (.int (nI u)), some (.int (nI (w + 1)))] [] n I3 J R := fun hz => ihb (w + 1) L2 r2 I3 (by omega) hal2 hll hu2 (hB2.skip hu2 hz) hK3 h153 h183 h1673
            refine z_iload X d_SM_route_71 rfl ?_
            refine z_aload_n X d_SM_route_73 rfl ?_
            refine gf_SM_104 X (zo_s rfl hW.1) d_SM_route_74 ?_
            refine z_top (congrArg Value.int (hW.2.2.2.2.2.1)) ?_
            refine z_icmp_ge (tgt := 135) X d_SM_route_77 (by decide) (fun hq => absurd hq (nI_ge (by omega) (by omega))) (fun _ => ?_)
            refine z_aload_n X d_SM_route_80 rfl ?_
            refine gr_SM_17 (hW.c (k := 0) (f := 4) rfl rfl (by decide) rfl) X (zo_s rfl hW.1) d_SM_route_81 ?_
            refine z_iload_n X d_SM_route_84 rfl ?_
            refine ar_7 X (zo_s rfl hW.1) rfl (by omega) (hW.nr (by omega)) d_SM_route_85 ?_
            refine z_iload X d_SM_route_86 rfl ?_
            refine al_8 X (zo_z (by omega) hW.1) rfl (by omega) d_SM_route_88 ?_
            refine z_top (v2 := .int (f (6 * u + w))) (congrArg Value.int (hf2 hK3 u w (by omega) (by omega))) ?_
            refine z_if_eq (tgt := 129) X d_SM_route_89 (by decide) (fun h89 => ?_) (fun h89 => ?_)
            · refine z_iinc X d_SM_route_129 rfl (zinc _) (by decide) rfl ?_
              have nx := skip (Or.inl h89)
              refine z_goto (tgt := 71) X d_SM_route_132 (by decide) ?_
              exact nx
            · refine z_aload_n X d_SM_route_92 rfl ?_
              refine gr_SM_53 (hW.c (k := 0) (f := 14) rfl rfl (by decide) rfl) X (zo_s rfl hW.1) d_SM_route_93 ?_
              refine z_iload X d_SM_route_96 rfl ?_
              refine al_15 X (zo_s rfl hW.1) rfl (by omega) d_SM_route_98 ?_
              refine z_top (congrArg Value.int (h153 w hwc)) ?_
              refine z_iconst (v := -1) X d_SM_route_99 rfl ?_
              refine z_icmp_ne (tgt := 129) X d_SM_route_100 (by decide) (fun h100 => ?_) (fun h100 => ?_)
              · refine z_iinc X d_SM_route_129 rfl (zinc _) (by decide) rfl ?_
                have nx := skip (Or.inr (Classical.byContradiction fun z => h100 (if_neg z)))
                refine z_goto (tgt := 71) X d_SM_route_132 (by decide) ?_
                exact nx
              · have hm : w ∉ L2 := fun z => by rw [if_pos z] at h100; have := hB2.lt z; exact absurd h100 (by rcases (show r2 w = 0 ∨ r2 w = 1 ∨ r2 w = 2 ∨ r2 w = 3 ∨ r2 w = 4 ∨ r2 w = 5 by omega) with e | e | e | e | e | e <;> rw [e] <;> decide)
                have hroom := hB2.room hwc hm
                refine z_aload_n X d_SM_route_103 rfl ?_
                refine gr_SM_53 (hW.c (k := 0) (f := 14) rfl rfl (by decide) rfl) X (zo_s rfl hW.1) d_SM_route_104 ?_
                refine z_iload X d_SM_route_107 rfl ?_
                refine z_aload_n X d_SM_route_109 rfl ?_
                refine gr_SM_53 (hW.c (k := 0) (f := 14) rfl rfl (by decide) rfl) X (zo_s rfl hW.1) d_SM_route_110 ?_
                refine z_iload_n X d_SM_route_113 rfl ?_
                refine al_15 X (zo_s rfl hW.1) rfl (by omega) d_SM_route_114 ?_
                refine z_top (v2 := .int (nI (r2 u))) (congrArg Value.int ((h153 u huc).trans (if_pos huL))) ?_
                refine z_iconst (v := nI 1) X d_SM_route_115 rfl ?_
                refine z_iadd X d_SM_route_116 ?_
                refine z_top (v2 := .int (nI (r2 u + 1))) (congrArg Value.int (nI_add _ _)) ?_
                refine as_15 X (zo_s rfl hW.1) rfl (by omega) d_SM_route_117 ?_
                refine z_aload_n X d_SM_route_118 rfl ?_
                refine gr_SM_63 (hW.c (k := 0) (f := 17) rfl rfl (by decide) rfl) X (zo_s rfl hW.1) d_SM_route_119 ?_
                refine z_iload_n X d_SM_route_122 rfl ?_
                refine z_iload X d_SM_route_123 rfl ?_
                refine as_18 (j := L2.length) X (zo_s rfl hW.1) rfl (by omega) d_SM_route_125 ?_
                refine z_iinc X d_SM_route_126 rfl (zinc _) (by decide) rfl ?_
                have nx : zV pP l eE (zrm 0 0 0 0) sS mM aA bB mE cC g 5 _ 0 0 71 [some (.ref (zad g 0 0)), some (.int (nI (L2.length + 1))), some (.int (nI a)), some (.int (nI u)), some (.int (nI (w + 1)))] [] n (zu (zu I3 15 0 w (nI (r2 u + 1))) 18 0 L2.length (nI w)) J R := (by have hh := ihb (w + 1) (L2 ++ [w]) (ru r2 w (r2 u + 1)) (zu (zu I3 15 0 w (nI (r2 u + 1))) 18 0 L2.length (nI w)) (by omega) (by simp; omega) (by simp; omega) (by rw [List.getElem?_append_left hal2]; exact hu2) (hB2.add hu2 hwc hm h89) ((hK3.put (Or.inl rfl)).put (Or.inr (Or.inr (Or.inr rfl)))) (zrv15_add h153 hm) (z18_add h183) (fun v hv => h1673 v hv); rw [List.length_append] at hh; exact hh)
                refine z_iinc X d_SM_route_129 rfl (zinc _) (by decide) rfl ?_
                refine z_goto (tgt := 71) X d_SM_route_132 (by decide) ?_
                exact nx
        exact INN g.2.2.2 0 L r I2 (by omega) hal (Nat.le_refl _) hu hB hK h15 h18 h167
      · have hal : a = L.length := by omega
        subst hal
        refine z_iload_n X d_SM_route_56 rfl ?_
        refine z_iload_n X d_SM_route_57 rfl ?_
        refine z_icmp_ge (tgt := 141) X d_SM_route_58 (by decide) (fun _ => ?_) (fun hq => absurd hq (fun z => z (Int32.le_refl _)))
        refine z_iconst (v := nI 1) X d_SM_route_141 rfl ?_
        refine z_istore_n X d_SM_route_142 (by decide) rfl ?_
        refine z_wk (ls2 := [some (.ref (zad g 0 0)), some (.int (nI L.length)), some (.int (nI 1)), none, none]) ⟨rfl, rfl, rfl, trivial⟩ ?_
        refine PAR L r 0 hB (g.2.2.2 - 1) 1 I2 (by omega) (by decide) hK h15 (fun b hb => ?_) (fun b h1 h2 => h167 b h2)
        have hb : b = 0 := by omega
        subst hb
        have e0 : zpl g.2.2.2 f (zxr L r) g.2.2.2 0 = [] := by
          unfold zpl
          rw [List.filter_eq_nil_iff]
          intro y hy
          have : zxr L r 0 = 0 := (if_pos (List.mem_of_getElem? hB.2.2.1)).trans hB.2.2.2.1
          simp [this]
        rw [e0, (h167 0 (by omega)).1, (h167 0 (by omega)).2]
        exact ⟨rfl, rfl⟩
  -- the start
  have INI : ∀ (s k : Nat) (I2 : zI), k + s = g.2.2.2 → zKr I I2 → (∀ v, v < k → I2 15 0 v = (if v ∈ [0] then nI 0 else -1) ∧ I2 16 0 v = -1 ∧ I2 17 0 v = -1) → zV pP l eE (zrm 0 0 0 0) sS mM aA bB mE cC g 5 (MQ bB (zQi g (fun r u => ∃ I2, u = (n, I2, J, R) ∧ zKr I I2 ∧ ((r = nI 1 ∧ ∃ rk, zLs g.2.2.2 f rk ∧ ∀ v, v < g.2.2.2 → I2 15 0 v = nI (rk v) ∧ I2 16 0 v = zo1 (zpl g.2.2.2 f rk g.2.2.2 v)[0]? ∧ I2 17 0 v = zo1 (zpl g.2.2.2 f rk g.2.2.2 v)[1]?) ∨ (r = nI 0 ∧ ∃ v, v < g.2.2.2 ∧ ∀ k, ¬ zWk g.2.2.2 f k v)))) aA sS 0 0 (zA g)) 0 0 4 [some (.ref (zad g 0 0)), some (.int (nI 1)), some (.int (nI k)), none, none] [] n I2 J R := by
    intro s
    induction s with
    | zero =>
      intro k I2 hk hK hv
      have hW := hK.W hWW
      have hk : k = g.2.2.2 := by omega
      subst hk
      refine z_iload_n X d_SM_route_4 rfl ?_
      refine z_aload_n X d_SM_route_5 rfl ?_
      refine gf_SM_104 X (zo_s rfl hW.1) d_SM_route_6 ?_
      refine z_top (congrArg Value.int (hW.2.2.2.2.2.1)) ?_
      refine z_icmp_ge (tgt := 47) X d_SM_route_9 (by decide) (fun _ => ?_) (fun hq => absurd hq (fun z => z (Int32.le_refl _)))
      refine z_aload_n X d_SM_route_47 rfl ?_
      refine gr_SM_63 (hW.c (k := 0) (f := 17) rfl rfl (by decide) rfl) X (zo_s rfl hW.1) d_SM_route_48 ?_
      refine z_iconst (v := nI 0) X d_SM_route_51 rfl ?_
      refine z_iconst (v := nI 0) X d_SM_route_52 rfl ?_
      refine as_18 (j := 0) X (zo_s rfl hW.1) rfl (by decide) d_SM_route_53 ?_
      refine z_iconst (v := nI 0) X d_SM_route_54 rfl ?_
      refine z_istore_n X d_SM_route_55 (by decide) rfl ?_
      refine BFS _ 0 [0] (fun _ => 0) _ rfl (by decide) (zBI.init (by omega)) (hK.put (Or.inr (Or.inr (Or.inr rfl)))) (fun v h => (hv v h).1) (fun j v hj => ?_) (fun v h => (hv v h).2)
      have : j = 0 := by have := (List.getElem?_eq_some_iff.mp hj).1; simp at this; omega
      subst this
      simp at hj
      subst hj
      exact zu_s
    | succ s ih =>
      intro k I2 hk hK hv
      have hW := hK.W hWW
      have nxt : ∀ w, w = (if k ∈ [0] then nI 0 else -1) → zV pP l eE (zrm 0 0 0 0) sS mM aA bB mE cC g 5 (MQ bB (zQi g (fun r u => ∃ I2, u = (n, I2, J, R) ∧ zKr I I2 ∧ ((r = nI 1 ∧ ∃ rk, zLs g.2.2.2 f rk ∧ ∀ v, v < g.2.2.2 → I2 15 0 v = nI (rk v) ∧ I2 16 0 v = zo1 (zpl g.2.2.2 f rk g.2.2.2 v)[0]? ∧ I2 17 0 v = zo1 (zpl g.2.2.2 f rk g.2.2.2 v)[1]?) ∨ (r = nI 0 ∧ ∃ v, v < g.2.2.2 ∧ ∀ k, ¬ zWk g.2.2.2 f k v)))) aA sS 0 0 (zA g)) 0 0 4 [some (.ref (zad g 0 0)), some (.int (nI 1)), some (.int (nI (k + 1))), none, none] [] n (zu (zu (zu I2 15 0 k w) 16 0 k (-1)) 17 0 k (-1)) J R := fun w hw => ih (k + 1) _ (by omega) (((hK.put (Or.inl rfl)).put (Or.inr (Or.inl rfl))).put (Or.inr (Or.inr (Or.inl rfl)))) (fun v hvk => by
        by_cases e : v = k
        · subst e; exact ⟨(zu_k (by decide)).trans ((zu_k (by decide)).trans (zu_s.trans hw)), (zu_k (by decide)).trans zu_s, zu_s⟩
        · obtain ⟨b1, b2, b3⟩ := hv v (by omega)
          exact ⟨(zu_k (by decide)).trans ((zu_k (by decide)).trans ((zu_j e).trans b1)), (zu_k (by decide)).trans ((zu_j e).trans ((zu_k (by decide)).trans b2)), (zu_j e).trans ((zu_k (by decide)).trans ((zu_k (by decide)).trans b3))⟩)
      refine z_iload_n X d_SM_route_4 rfl ?_
      refine z_aload_n X d_SM_route_5 rfl ?_
      refine gf_SM_104 X (zo_s rfl hW.1) d_SM_route_6 ?_
      refine z_top (congrArg Value.int (hW.2.2.2.2.2.1)) ?_
      refine z_icmp_ge (tgt := 47) X d_SM_route_9 (by decide) (fun hq => absurd hq (nI_ge (by omega) (by omega))) (fun _ => ?_)
      refine z_aload_n X d_SM_route_12 rfl ?_
      refine gr_SM_53 (hW.c (k := 0) (f := 14) rfl rfl (by decide) rfl) X (zo_s rfl hW.1) d_SM_route_13 ?_
      refine z_iload_n X d_SM_route_16 rfl ?_
      refine z_iload_n X d_SM_route_17 rfl ?_
      refine z_if_ne (tgt := 25) X d_SM_route_18 (by decide) (fun h18 => ?_) (fun h18 => ?_)
      · refine z_iconst (v := -1) X d_SM_route_25 rfl ?_
        refine as_15 X (zo_s rfl hW.1) rfl (by omega) d_SM_route_26 ?_
        refine z_aload_n X d_SM_route_27 rfl ?_
        refine gr_SM_57 (hW.c (k := 0) (f := 15) rfl rfl (by decide) rfl) X (zo_s rfl hW.1) d_SM_route_28 ?_
        refine z_iload_n X d_SM_route_31 rfl ?_
        refine z_iconst (v := -1) X d_SM_route_32 rfl ?_
        refine as_16 X (zo_s rfl hW.1) rfl (by omega) d_SM_route_33 ?_
        refine z_aload_n X d_SM_route_34 rfl ?_
        refine gr_SM_60 (hW.c (k := 0) (f := 16) rfl rfl (by decide) rfl) X (zo_s rfl hW.1) d_SM_route_35 ?_
        refine z_iload_n X d_SM_route_38 rfl ?_
        refine z_iconst (v := -1) X d_SM_route_39 rfl ?_
        refine as_17 X (zo_s rfl hW.1) rfl (by omega) d_SM_route_40 ?_
        have nx := nxt (-1) (if_neg (fun z => h18 (by simp at z; rw [z]; rfl))).symm
        refine z_iinc X d_SM_route_41 rfl (zinc _) (by decide) rfl ?_
        refine z_goto (tgt := 4) X d_SM_route_44 (by decide) ?_
        exact nx
      · refine z_iconst (v := nI 0) X d_SM_route_21 rfl ?_
        refine z_goto (tgt := 26) X d_SM_route_22 (by decide) ?_
        refine as_15 X (zo_s rfl hW.1) rfl (by omega) d_SM_route_26 ?_
        refine z_aload_n X d_SM_route_27 rfl ?_
        refine gr_SM_57 (hW.c (k := 0) (f := 15) rfl rfl (by decide) rfl) X (zo_s rfl hW.1) d_SM_route_28 ?_
        refine z_iload_n X d_SM_route_31 rfl ?_
        refine z_iconst (v := -1) X d_SM_route_32 rfl ?_
        refine as_16 X (zo_s rfl hW.1) rfl (by omega) d_SM_route_33 ?_
        refine z_aload_n X d_SM_route_34 rfl ?_
        refine gr_SM_60 (hW.c (k := 0) (f := 16) rfl rfl (by decide) rfl) X (zo_s rfl hW.1) d_SM_route_35 ?_
        refine z_iload_n X d_SM_route_38 rfl ?_
        refine z_iconst (v := -1) X d_SM_route_39 rfl ?_
        refine as_17 X (zo_s rfl hW.1) rfl (by omega) d_SM_route_40 ?_
        have nx := nxt (nI 0) (if_pos (by have := nI_inj (b := 0) (by omega) (by omega) h18; subst this; simp)).symm
        refine z_iinc X d_SM_route_41 rfl (zinc _) (by decide) rfl ?_
        refine z_goto (tgt := 4) X d_SM_route_44 (by decide) ?_
        exact nx
  refine z_iconst (v := nI 1) X d_SM_route_0 rfl ?_
  refine z_istore_n X d_SM_route_1 (by decide) rfl ?_
  refine z_iconst (v := nI 0) X d_SM_route_2 rfl ?_
  refine z_istore_n X d_SM_route_3 (by decide) rfl ?_
  exact INI g.2.2.2 0 I (by omega) (fun _ _ _ _ _ _ _ => rfl) (fun v hv => by omega)

