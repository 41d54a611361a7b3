/-! THE COMPONENT: sort, note, trailing zeros -/
theorem z_ldcw {p : Program} {l : Launch} {e : Env} {Rm : Room} {s : State} {m : MethodId} {args : Array Value} {below : List Frame} {meth : Method} {c : Code} {Q : State → Prop} {cells slots : Nat} {cc : ByteArray} {own : String} {nL : Nat} {g : zG} {pc pc' : Nat} {ls : List (Option Value)} {st : List Value} {n : Nat} {I : zI} {J : zJ} {R : zR} (X : zC p s m args meth c cc own nL g) {index : Nat} {v : Int32} (hw : Cond.constant own index v ∈ zTB) (hd : zD cc pc (.ldc_w index) 3 pc') (kk : zV p l e Rm s m args below meth c g nL Q cells slots pc' ls (.int v :: st) n I J R) : zV p l e Rm s m args below meth c g nL Q cells slots pc ls st n I J R := by
  obtain ⟨hd, rfl⟩ := hd
  intro H locs la hP hS hL
  exact lv_ldcw X.1 X.2.1 X.2.2.1 (X.2.2.2.1 _ hw) hd (kk H locs la hP hS hL)
theorem zntz : ∀ h, h < 5 → ∀ m, m < h → (nI (2 ^ h - 2 ^ m) ^^^ -1) &&& (nI (2 ^ h - 2 ^ m) - nI 1) = nI (2 ^ m - 1) := by decide +kernel
theorem c_ntz (l : Launch) (g : zG) {n : Nat} {I : zI} {J : zJ} {R : zR} (h m : Nat) (hh : h < 5) (hm : m < h) : zMet l g y_Integer_numberOfTrailingZeros b_Integer_numberOfTrailingZeros 2 (some .int) 0 0 0 0 (zPc g [.int (nI (2 ^ h - 2 ^ m))] n I J R) (zQi g (fun r u => r = nI m ∧ u = (n, I, J, R))) := by
  refine zMet.ofF (by decide +kernel) [some (.int (nI (2 ^ h - 2 ^ m))), none] rfl (Nat.le_of_ble_eq_true rfl) ?_
  intro pP eE sS mM aA bB mE cC X hret hnm
  have X : zC pP sS mM aA mE cC b_Integer_numberOfTrailingZeros "java/lang/Integer" 2 g := X
  have hret : mE.sig.returnType = (some .int) := hret
  refine z_iload_n X d_Integer_numberOfTrailingZeros_0 rfl ?_
  refine z_iconst (v := -1) X d_Integer_numberOfTrailingZeros_1 rfl ?_
  refine z_ixor X d_Integer_numberOfTrailingZeros_2 ?_
  refine z_iload_n X d_Integer_numberOfTrailingZeros_3 rfl ?_
  refine z_iconst (v := nI 1) X d_Integer_numberOfTrailingZeros_4 rfl ?_
  refine z_isub X d_Integer_numberOfTrailingZeros_5 ?_
  refine z_iand X d_Integer_numberOfTrailingZeros_6 ?_
  refine z_top (v2 := .int (nI (2 ^ m - 1))) (congrArg Value.int (zntz h hh m hm)) ?_
  rcases (show m = 0 ∨ m = 1 ∨ m = 2 ∨ m = 3 by omega) with rfl | rfl | rfl | rfl
  · refine z_istore_n X d_Integer_numberOfTrailingZeros_7 (by decide) rfl ?_
    refine z_iload_n X d_Integer_numberOfTrailingZeros_8 rfl ?_
    refine z_if_gt (tgt := 17) X d_Integer_numberOfTrailingZeros_9 (by decide) (fun hq => absurd hq (by decide)) (fun _ => ?_)
    refine z_iload_n X d_Integer_numberOfTrailingZeros_12 rfl ?_
    refine z_bipush (v := nI 32) X d_Integer_numberOfTrailingZeros_13 rfl ?_
    refine z_iand X d_Integer_numberOfTrailingZeros_15 ?_
    exact z_iret X hret rfl (Nat.zero_le _) (Nat.zero_le _) ⟨by decide, rfl⟩ d_Integer_numberOfTrailingZeros_16
  · refine z_istore_n X d_Integer_numberOfTrailingZeros_7 (by decide) rfl ?_
    refine z_iload_n X d_Integer_numberOfTrailingZeros_8 rfl ?_
    refine z_if_gt (tgt := 17) X d_Integer_numberOfTrailingZeros_9 (by decide) (fun _ => ?_) (fun hq => absurd hq (by decide))
    refine z_iconst (v := nI 1) X d_Integer_numberOfTrailingZeros_17 rfl ?_
    refine z_istore_n X d_Integer_numberOfTrailingZeros_18 (by decide) rfl ?_
    refine z_iload_n X d_Integer_numberOfTrailingZeros_19 rfl ?_
    refine z_ldcw (v := 65536) X w_340 d_Integer_numberOfTrailingZeros_20 ?_
    refine z_icmp_le (tgt := 34) X d_Integer_numberOfTrailingZeros_23 (by decide) (fun _ => ?_) (fun hq => absurd hq (by decide))
    refine z_iload_n X d_Integer_numberOfTrailingZeros_34 rfl ?_
    refine z_sipush (v := nI 256) X d_Integer_numberOfTrailingZeros_35 rfl ?_
    refine z_icmp_le (tgt := 49) X d_Integer_numberOfTrailingZeros_38 (by decide) (fun _ => ?_) (fun hq => absurd hq (by decide))
    refine z_iload_n X d_Integer_numberOfTrailingZeros_49 rfl ?_
    refine z_bipush (v := nI 16) X d_Integer_numberOfTrailingZeros_50 rfl ?_
    refine z_icmp_le (tgt := 62) X d_Integer_numberOfTrailingZeros_52 (by decide) (fun _ => ?_) (fun hq => absurd hq (by decide))
    refine z_iload_n X d_Integer_numberOfTrailingZeros_62 rfl ?_
    refine z_iconst (v := nI 4) X d_Integer_numberOfTrailingZeros_63 rfl ?_
    refine z_icmp_le (tgt := 74) X d_Integer_numberOfTrailingZeros_64 (by decide) (fun _ => ?_) (fun hq => absurd hq (by decide))
    refine z_iload_n X d_Integer_numberOfTrailingZeros_74 rfl ?_
    refine z_iload_n X d_Integer_numberOfTrailingZeros_75 rfl ?_
    refine z_iconst (v := nI 1) X d_Integer_numberOfTrailingZeros_76 rfl ?_
    refine z_iushr X d_Integer_numberOfTrailingZeros_77 ?_
    refine z_iadd X d_Integer_numberOfTrailingZeros_78 ?_
    exact z_iret X hret rfl (Nat.zero_le _) (Nat.zero_le _) ⟨by decide, rfl⟩ d_Integer_numberOfTrailingZeros_79
  · refine z_istore_n X d_Integer_numberOfTrailingZeros_7 (by decide) rfl ?_
    refine z_iload_n X d_Integer_numberOfTrailingZeros_8 rfl ?_
    refine z_if_gt (tgt := 17) X d_Integer_numberOfTrailingZeros_9 (by decide) (fun _ => ?_) (fun hq => absurd hq (by decide))
    refine z_iconst (v := nI 1) X d_Integer_numberOfTrailingZeros_17 rfl ?_
    refine z_istore_n X d_Integer_numberOfTrailingZeros_18 (by decide) rfl ?_
    refine z_iload_n X d_Integer_numberOfTrailingZeros_19 rfl ?_
    refine z_ldcw (v := 65536) X w_340 d_Integer_numberOfTrailingZeros_20 ?_
    refine z_icmp_le (tgt := 34) X d_Integer_numberOfTrailingZeros_23 (by decide) (fun _ => ?_) (fun hq => absurd hq (by decide))
    refine z_iload_n X d_Integer_numberOfTrailingZeros_34 rfl ?_
    refine z_sipush (v := nI 256) X d_Integer_numberOfTrailingZeros_35 rfl ?_
    refine z_icmp_le (tgt := 49) X d_Integer_numberOfTrailingZeros_38 (by decide) (fun _ => ?_) (fun hq => absurd hq (by decide))
    refine z_iload_n X d_Integer_numberOfTrailingZeros_49 rfl ?_
    refine z_bipush (v := nI 16) X d_Integer_numberOfTrailingZeros_50 rfl ?_
    refine z_icmp_le (tgt := 62) X d_Integer_numberOfTrailingZeros_52 (by decide) (fun _ => ?_) (fun hq => absurd hq (by decide))
    refine z_iload_n X d_Integer_numberOfTrailingZeros_62 rfl ?_
    refine z_iconst (v := nI 4) X d_Integer_numberOfTrailingZeros_63 rfl ?_
    refine z_icmp_le (tgt := 74) X d_Integer_numberOfTrailingZeros_64 (by decide) (fun _ => ?_) (fun hq => absurd hq (by decide))
    refine z_iload_n X d_Integer_numberOfTrailingZeros_74 rfl ?_
    refine z_iload_n X d_Integer_numberOfTrailingZeros_75 rfl ?_
    refine z_iconst (v := nI 1) X d_Integer_numberOfTrailingZeros_76 rfl ?_
    refine z_iushr X d_Integer_numberOfTrailingZeros_77 ?_
    refine z_iadd X d_Integer_numberOfTrailingZeros_78 ?_
    exact z_iret X hret rfl (Nat.zero_le _) (Nat.zero_le _) ⟨by decide, rfl⟩ d_Integer_numberOfTrailingZeros_79
  · refine z_istore_n X d_Integer_numberOfTrailingZeros_7 (by decide) rfl ?_
    refine z_iload_n X d_Integer_numberOfTrailingZeros_8 rfl ?_
    refine z_if_gt (tgt := 17) X d_Integer_numberOfTrailingZeros_9 (by decide) (fun _ => ?_) (fun hq => absurd hq (by decide))
    refine z_iconst (v := nI 1) X d_Integer_numberOfTrailingZeros_17 rfl ?_
    refine z_istore_n X d_Integer_numberOfTrailingZeros_18 (by decide) rfl ?_
    refine z_iload_n X d_Integer_numberOfTrailingZeros_19 rfl ?_
    refine z_ldcw (v := 65536) X w_340 d_Integer_numberOfTrailingZeros_20 ?_
    refine z_icmp_le (tgt := 34) X d_Integer_numberOfTrailingZeros_23 (by decide) (fun _ => ?_) (fun hq => absurd hq (by decide))
    refine z_iload_n X d_Integer_numberOfTrailingZeros_34 rfl ?_
    refine z_sipush (v := nI 256) X d_Integer_numberOfTrailingZeros_35 rfl ?_
    refine z_icmp_le (tgt := 49) X d_Integer_numberOfTrailingZeros_38 (by decide) (fun _ => ?_) (fun hq => absurd hq (by decide))
    refine z_iload_n X d_Integer_numberOfTrailingZeros_49 rfl ?_
    refine z_bipush (v := nI 16) X d_Integer_numberOfTrailingZeros_50 rfl ?_
    refine z_icmp_le (tgt := 62) X d_Integer_numberOfTrailingZeros_52 (by decide) (fun _ => ?_) (fun hq => absurd hq (by decide))
    refine z_iload_n X d_Integer_numberOfTrailingZeros_62 rfl ?_
    refine z_iconst (v := nI 4) X d_Integer_numberOfTrailingZeros_63 rfl ?_
    refine z_icmp_le (tgt := 74) X d_Integer_numberOfTrailingZeros_64 (by decide) (fun hq => absurd hq (by decide)) (fun _ => ?_)
    refine z_iinc X d_Integer_numberOfTrailingZeros_67 rfl rfl (by decide) rfl ?_
    refine z_iload_n X d_Integer_numberOfTrailingZeros_70 rfl ?_
    refine z_iconst (v := nI 2) X d_Integer_numberOfTrailingZeros_71 rfl ?_
    refine z_iushr X d_Integer_numberOfTrailingZeros_72 ?_
    refine z_istore_n X d_Integer_numberOfTrailingZeros_73 (by decide) rfl ?_
    refine z_iload_n X d_Integer_numberOfTrailingZeros_74 rfl ?_
    refine z_iload_n X d_Integer_numberOfTrailingZeros_75 rfl ?_
    refine z_iconst (v := nI 1) X d_Integer_numberOfTrailingZeros_76 rfl ?_
    refine z_iushr X d_Integer_numberOfTrailingZeros_77 ?_
    refine z_iadd X d_Integer_numberOfTrailingZeros_78 ?_
    exact z_iret X hret rfl (Nat.zero_le _) (Nat.zero_le _) ⟨by decide, rfl⟩ d_Integer_numberOfTrailingZeros_79
theorem c_SM_note (l : Launch) (g : zG) {S h n : Nat} {I : zI} {J : zJ} {R : zR} (hW : zW g S h n I R) (s ch p : Nat) (hp : p < 21) (h21 : I 0 0 21 = nI p) : zMet l g y_SM_note b_SM_note 3 none 0 0 0 0 (zPc g [.ref (zad g 0 0), .int (nI s), .int (nI ch)] n I J R) (zQv g (fun u => u = (n, zu (zu I 21 0 p (nI (16 * s + ch))) 0 0 21 (nI (p + 1)), J, R))) := by
  refine zMet.of (by decide) [some (.ref (zad g 0 0)), some (.int (nI s)), some (.int (nI ch))] rfl (Nat.le_of_ble_eq_true rfl) ?_
  intro pP eE sS mM aA bB mE cC X hret hnm
  have X : zC pP sS mM aA mE cC b_SM_note "SlottedMesh" 3 g := X
  have hret : mE.sig.returnType = none := hret
  refine z_aload_n X d_SM_note_0 rfl ?_
  refine gr_SM_72 (hW.c (k := 0) (f := 20) rfl rfl (by decide) rfl) X (zo_s rfl hW.1) d_SM_note_1 ?_
  refine z_aload_n X d_SM_note_4 rfl ?_
  refine gf_SM_166 X (zo_s rfl hW.1) d_SM_note_5 ?_
  refine z_top (congrArg Value.int (h21)) ?_
  refine z_bipush (v := nI 16) X d_SM_note_8 rfl ?_
  refine z_iload_n X d_SM_note_10 rfl ?_
  refine z_imul X d_SM_note_11 ?_
  refine z_iload_n X d_SM_note_12 rfl ?_
  refine z_iadd X d_SM_note_13 ?_
  refine z_top (v2 := .int (nI (16 * s + ch))) (congrArg Value.int (by rw [pk_mul, nI_add])) ?_
  refine as_21 X (zo_s rfl hW.1) rfl hp d_SM_note_14 ?_
  refine z_aload_n X d_SM_note_15 rfl ?_
  refine z_dup X d_SM_note_16 rfl ?_
  refine gf_SM_166 X (zo_s rfl hW.1) d_SM_note_17 ?_
  refine z_top (congrArg Value.int (h21)) ?_
  refine z_iconst (v := nI 1) X d_SM_note_20 rfl ?_
  refine z_iadd X d_SM_note_21 ?_
  refine z_top (v2 := .int (nI (p + 1))) (congrArg Value.int (nI_add _ _)) ?_
  refine pf_SM_166 X (zo_s rfl hW.1) d_SM_note_22 ?_
  exact z_vret X hret (Nat.zero_le _) (Nat.zero_le _) rfl d_SM_note_25
theorem zord_row {c r k : Nat} {x : Nat → Nat} (h : x k = r) : (zord c x r 0 ++ (List.range k).filter (fun a => x a == r) ++ [k]).Nodup := by
  refine List.nodup_append.mpr ⟨List.nodup_append.mpr ⟨zord_nodup _ _, List.Pairwise.filter _ List.nodup_range, fun a ha b hb e => ?_⟩, by simp, fun a ha b hb e => ?_⟩
  · have h1 := (zord_mem.mp ha).2.2
    have h2 := (List.mem_filter.mp hb).2
    simp at h2
    rw [e] at h1
    omega
  · simp at hb
    rw [e, hb] at ha
    rcases List.mem_append.mp ha with z | z
    · have := (zord_mem.mp z).2.2; omega
    · have := List.mem_range.mp (List.mem_filter.mp z).1; omega
theorem zord_rlt {c r k y : Nat} {x : Nat → Nat} (hk : k < c) (hy : y ∈ zord c x r 0 ++ (List.range k).filter (fun a => x a == r) ++ [k]) : y < c := by
  rcases List.mem_append.mp hy with z | z
  · rcases List.mem_append.mp z with z | z
    · exact (zord_mem.mp z).1
    · have := List.mem_range.mp (List.mem_filter.mp z).1; omega
  · simp at z; omega
theorem z18_add1 {w : Nat} {L : List Nat} {I : zI} (h : ∀ j v : Nat, L[j]? = some v → I 18 0 j = nI v) : ∀ j v : Nat, (L ++ [w])[j]? = some v → zu I 18 0 L.length (nI w) 18 0 j = nI v := fun j v hj => by
  rcases Nat.lt_or_ge j L.length with hl | hl
  · rw [List.getElem?_append_left hl] at hj
    rw [zu_j (by omega)]
    exact h j v hj
  · rw [List.getElem?_append_right hl] at hj
    have h1 := (List.getElem?_eq_some_iff.mp hj).1
    simp at h1
    have e : j = L.length := by omega
    subst e
    simp at hj
    rw [zu_s, hj]
theorem c_SM_sort (l : Launch) (g : zG) {S h n : Nat} {I : zI} {J : zJ} {R : zR} (hW : zW g S h n I R) (x : Nat → Nat) (hx : ∀ v, v < g.2.2.2 → I 15 0 v = nI (x v) ∧ x v < g.2.2.2) : zMet l g y_SM_sort b_SM_sort 4 none 0 0 0 0 (zPc g [.ref (zad g 0 0)] n I J R) (zQv g (fun u => ∃ I2, u = (n, I2, J, R) ∧ (∀ k i j, k ≠ 18 → I2 k i j = I k i j) ∧ ∀ j v : Nat, (zord g.2.2.2 x g.2.2.2 0)[j]? = some v → I2 18 0 j = nI v)) := by
  have hc := hW.2.1.2
  have hWW := hW
  have hKW : ∀ {I2 : zI}, (∀ k i j, k ≠ 18 → I2 k i j = I k i j) → zW g S h n I2 R := fun hK => by
    obtain ⟨a1, a2, a3, a4, a5, a6⟩ := hWW
    exact ⟨a1, a2, a3, a4, a5, a6.of (fun k i f hc => hK k i f (fun e => by subst e; cases hc))⟩
  refine zMet.of (by decide) [some (.ref (zad g 0 0)), none, none, none] rfl (Nat.le_of_ble_eq_true rfl) ?_
  intro pP eE sS mM aA bB mE cC X hret hnm
  have X : zC pP sS mM aA mE cC b_SM_sort "SlottedMesh" 4 g := X
  have hret : mE.sig.returnType = none := hret
  have OUT : ∀ (s r : Nat) (I2 : zI) (v3 : Option Value), r + s = g.2.2.2 → (∀ k i j, k ≠ 18 → I2 k i j = I k i j) → (∀ j v : Nat, (zord g.2.2.2 x r 0)[j]? = some v → I2 18 0 j = nI v) → zV pP l eE (zrm 0 0 0 0) sS mM aA bB mE cC g 4 (MQ bB (zQv g (fun u => ∃ I2, u = (n, I2, J, R) ∧ (∀ k i j, k ≠ 18 → I2 k i j = I k i j) ∧ ∀ j v : Nat, (zord g.2.2.2 x g.2.2.2 0)[j]? = some v → I2 18 0 j = nI v)) aA sS 0 0 (zA g)) 0 0 4 [some (.ref (zad g 0 0)), some (.int (nI (zord g.2.2.2 x r 0).length)), some (.int (nI r)), none] [] n I2 J R := by
    intro s
    induction s with
    | zero =>
      intro r I2 v3 hr hK h18
      have hW := hKW hK
      have hr : r = g.2.2.2 := by omega
      subst hr
      refine z_iload_n X d_SM_sort_4 rfl ?_
      refine z_aload_n X d_SM_sort_5 rfl ?_
      refine gf_SM_104 X (zo_s rfl hW.1) d_SM_sort_6 ?_
      refine z_top (congrArg Value.int (hW.2.2.2.2.2.1)) ?_
      refine z_icmp_ge (tgt := 54) X d_SM_sort_9 (by decide) (fun _ => ?_) (fun hq => absurd hq (fun z => z (Int32.le_refl _)))
      exact z_vret X hret (Nat.zero_le _) (Nat.zero_le _) ⟨I2, rfl, hK, h18⟩ d_SM_sort_54
    | succ s ih =>
      intro r I2 v3 hr hK h18
      have hW := hKW hK
      refine z_iload_n X d_SM_sort_4 rfl ?_
      refine z_aload_n X d_SM_sort_5 rfl ?_
      refine gf_SM_104 X (zo_s rfl hW.1) d_SM_sort_6 ?_
      refine z_top (congrArg Value.int (hW.2.2.2.2.2.1)) ?_
      refine z_icmp_ge (tgt := 54) X d_SM_sort_9 (by decide) (fun hq => absurd hq (nI_ge (by omega) (by omega))) (fun _ => ?_)
      refine z_iconst (v := nI 0) X d_SM_sort_12 rfl ?_
      refine z_istore_n X d_SM_sort_13 (by decide) rfl ?_
      have INN : ∀ (sb k : Nat) (I3 : zI), k + sb = g.2.2.2 → (∀ k i j, k ≠ 18 → I3 k i j = I k i j) → (∀ j v : Nat, (zord g.2.2.2 x r 0 ++ (List.range k).filter (fun a => x a == r))[j]? = some v → I3 18 0 j = nI v) → zV pP l eE (zrm 0 0 0 0) sS mM aA bB mE cC g 4 (MQ bB (zQv g (fun u => ∃ I2, u = (n, I2, J, R) ∧ (∀ k i j, k ≠ 18 → I2 k i j = I k i j) ∧ ∀ j v : Nat, (zord g.2.2.2 x g.2.2.2 0)[j]? = some v → I2 18 0 j = nI v)) aA sS 0 0 (zA g)) 0 0 14 [some (.ref (zad g 0 0)), some (.int (nI (zord g.2.2.2 x r 0 ++ (List.range k).filter (fun a => x a == r)).length)), some (.int (nI r)), some (.int (nI k))] [] n I3 J R := by
        intro sb
        induction sb with
        | zero =>
          intro k I3 hk hK3 h183
          have hW := hKW hK3
          have hk : k = g.2.2.2 := by omega
          subst hk
          refine z_iload_n X d_SM_sort_14 rfl ?_
          refine z_aload_n X d_SM_sort_15 rfl ?_
          refine gf_SM_104 X (zo_s rfl hW.1) d_SM_sort_16 ?_
          refine z_top (congrArg Value.int (hW.2.2.2.2.2.1)) ?_
          refine z_icmp_ge (tgt := 48) X d_SM_sort_19 (by decide) (fun _ => ?_) (fun hq => absurd hq (fun z => z (Int32.le_refl _)))
          refine z_iinc X d_SM_sort_48 rfl (zinc _) (by decide) rfl ?_
          refine z_goto (tgt := 4) X d_SM_sort_51 (by decide) ?_
          have es := zord_snoc g.2.2.2 x r 0
          rw [Nat.zero_add] at es
          refine z_wk (ls2 := [some (.ref (zad g 0 0)), some (.int (nI (zord g.2.2.2 x (r + 1) 0).length)), some (.int (nI (r + 1))), none]) ⟨rfl, by rw [es]; rfl, rfl, trivial⟩ ?_
          exact ih (r + 1) I3 none (by omega) hK3 (by rw [es]; exact h183)
        | succ sb ihb =>
          intro k I3 hk hK3 h183
          have hW := hKW hK3
          have hkc : k < g.2.2.2 := by omega
          have es : (List.range (k + 1)).filter (fun a => x a == r) = (List.range k).filter (fun a => x a == r) ++ (if x k = r then [k] else []) := by
            rw [List.range_succ, List.filter_append]
            congr 1
            by_cases e : x k = r
            · rw [if_pos e]; simp [e]
            · rw [if_neg e]; simp [e]
          refine z_iload_n X d_SM_sort_14 rfl ?_
          refine z_aload_n X d_SM_sort_15 rfl ?_
          refine gf_SM_104 X (zo_s rfl hW.1) d_SM_sort_16 ?_
          refine z_top (congrArg Value.int (hW.2.2.2.2.2.1)) ?_
          refine z_icmp_ge (tgt := 48) X d_SM_sort_19 (by decide) (fun hq => absurd hq (nI_ge (by omega) (by omega))) (fun _ => ?_)
          refine z_aload_n X d_SM_sort_22 rfl ?_
          refine gr_SM_53 (hW.c (k := 0) (f := 14) rfl rfl (by decide) rfl) X (zo_s rfl hW.1) d_SM_sort_23 ?_
          refine z_iload_n X d_SM_sort_26 rfl ?_
          refine al_15 X (zo_s rfl hW.1) rfl (by omega) d_SM_sort_27 ?_
          refine z_top (v2 := .int (nI (x k))) (congrArg Value.int ((hK3 15 0 k (by decide)).trans (hx k hkc).1)) ?_
          refine z_iload_n X d_SM_sort_28 rfl ?_
          refine z_icmpN_ne (tgt := 42) X d_SM_sort_29 (by decide) (by have := (hx k hkc).2; omega) (by omega) (fun h29 => ?_) (fun h29 => ?_)
          · refine z_iinc X d_SM_sort_42 rfl (zinc _) (by decide) rfl ?_
            have nx := ihb (k + 1) I3 (by omega) hK3 (by rw [es, if_neg h29, List.append_nil]; exact h183)
            rw [es, if_neg h29, List.append_nil] at nx
            refine z_goto (tgt := 14) X d_SM_sort_45 (by decide) ?_
            exact nx
          · have hnd : (zord g.2.2.2 x r 0 ++ (List.range k).filter (fun a => x a == r) ++ [k]).Nodup := zord_row h29
            have hlen := zpig g.2.2.2 _ hnd (fun y hy => zord_rlt hkc hy)
            rw [List.length_append] at hlen
            simp only [List.length_cons, List.length_nil] at hlen
            refine z_aload_n X d_SM_sort_32 rfl ?_
            refine gr_SM_63 (hW.c (k := 0) (f := 17) rfl rfl (by decide) rfl) X (zo_s rfl hW.1) d_SM_sort_33 ?_
            refine z_iload_n X d_SM_sort_36 rfl ?_
            refine z_iload_n X d_SM_sort_37 rfl ?_
            refine as_18 (j := (zord g.2.2.2 x r 0 ++ (List.range k).filter (fun a => x a == r)).length) X (zo_s rfl hW.1) rfl (by omega) d_SM_sort_38 ?_
            refine z_iinc X d_SM_sort_39 rfl (zinc _) (by decide) rfl ?_
            have nx := ihb (k + 1) (zu I3 18 0 (zord g.2.2.2 x r 0 ++ (List.range k).filter (fun a => x a == r)).length (nI k)) (by omega) (fun k2 i2 j2 h2 => (zu_k h2).trans (hK3 k2 i2 j2 h2)) (by rw [es, if_pos h29, ← List.append_assoc]; exact z18_add1 h183)
            rw [es, if_pos h29, ← List.append_assoc, List.length_append] at nx
            refine z_iinc X d_SM_sort_42 rfl (zinc _) (by decide) rfl ?_
            refine z_goto (tgt := 14) X d_SM_sort_45 (by decide) ?_
            exact nx
      have := INN g.2.2.2 0 I2 (by omega) hK (by simpa using h18)
      rw [List.range_zero, List.filter_nil, List.append_nil] at this
      exact this
  refine z_iconst (v := nI 0) X d_SM_sort_0 rfl ?_
  refine z_istore_n X d_SM_sort_1 (by decide) rfl ?_
  refine z_iconst (v := nI 0) X d_SM_sort_2 rfl ?_
  refine z_istore_n X d_SM_sort_3 (by decide) rfl ?_
  exact OUT g.2.2.2 0 I none (by omega) (fun _ _ _ _ => rfl) (fun j v hj => by simp [zord] at hj)

