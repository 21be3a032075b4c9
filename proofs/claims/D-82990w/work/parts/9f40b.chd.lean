/-! ===== a place is changed: the component; a text is taken; a graph is copied ===== -/
theorem CR.cp {v : Int → Int → Int} {g o : Int} {R : Int → Int} (h : CR v o R) (ok : GOK R) (hg : isG g) (A : GA v g) (ap : o + 11 < g ∨ g + 11 < o) : CR (cpN v g o) g R := by
  obtain ⟨⟨h0, h1⟩, ⟨a0, a1, a2⟩, hn, he, hq, hr⟩ := h
  obtain ⟨⟨k0, k1, k2⟩, kn, ke, -, kq, -⟩ := ok
  have ne : o ≠ g := by omega
  refine ⟨⟨hg, ?_⟩, ⟨?_, ?_, ?_⟩, fun i i0 i1 => ⟨⟨?_, ?_, ?_⟩, fun k q0 q1 => ?_⟩, fun e e0 e1 => ⟨?_, ?_, ?_, ?_⟩, fun q q0 q1 => ⟨⟨?_, ?_⟩, fun k x0 x1 => ?_⟩, fun k q0 q1 => ?_⟩
  · unfold GA at A ⊢
    rw [cpN_g (by omega), cpN_g (by omega), cpN_g (by omega), cpN_g (by omega), cpN_g (by omega), cpN_g (by omega), cpN_g (by omega), cpN_g (by omega), cpN_g (by omega), cpN_g (by omega), cpN_g (by omega)]
    exact A
  · rw [cpN_f ne (by omega)]; exact a0
  · rw [cpN_f ne (by omega)]; exact a1
  · rw [cpN_f ne (by omega)]; exact a2
  · rw [cpN_3 ap (by omega)]; exact (hn i i0 i1).1.1
  · rw [cpN_4 ap (by omega)]; exact (hn i i0 i1).1.2.1
  · rw [cpN_5 ap (by omega)]; exact (hn i i0 i1).1.2.2
  · have b := (kn i i0 i1).1
    rw [cpN_1 ap (by omega)]; exact (hn i i0 i1).2 k q0 q1
  · rw [cpN_6 ap (by omega)]; exact (he e e0 e1).1
  · rw [cpN_7 ap (by omega)]; exact (he e e0 e1).2.1
  · rw [cpN_8 ap (by omega)]; exact (he e e0 e1).2.2.1
  · rw [cpN_9 ap (by omega)]; exact (he e e0 e1).2.2.2
  · rw [cpN_10 ap (by omega)]; exact (hq q q0 q1).1.1
  · rw [cpN_11 ap (by omega)]; exact (hq q q0 q1).1.2
  · have b : R (523 + q) ≤ 8 := by
      by_cases z : q = 0
      · have := ((kq q q0 q1).1 z).2
        rw [z]
        rw [show (523 : Int) + 0 = 523 by omega, this]; decide
      · exact ((kq q q0 q1).2.1 (by omega)).2.2
    rw [cpN_2 ap (by omega)]; exact (hq q q0 q1).2 k x0 x1
  · rw [cpN_10 ap (by omega)]; exact hr k q0 q1
/-- a place's drawing and shades -/
def cdS (O A B a j : Int) : Prop := (a = O ∧ j = 0) ∨ a = A ∨ a = B
set_option maxRecDepth 100000 in
theorem sp_Pl_ch0 {l : Launch} {D : qD} {d : Nat} {P O A B : Int} {h : qh} {Q : qQ} (eP : q_shp P = (1, 0)) (eO : q_shp O = (2, 0)) (eA : q_shp A = (100, 72)) (eB : q_shp B = (100, 144)) (b0 : 0 ≤ P ∧ 0 ≤ O ∧ 0 ≤ A ∧ 0 ≤ B) (z3 : h.2 P 3 = O) (z4 : h.2 P 4 = A) (z5 : h.2 P 5 = B) (ne : P ≠ O ∧ P ≠ A ∧ P ≠ B ∧ O ≠ A ∧ O ≠ B ∧ A ≠ B)
    (hq : ∀ v, FV (cdS O A B) h.2 v → v O 0 = 0 → (∀ k : Int, 0 ≤ k → k < 72 → v A k = 0) → (∀ k : Int, 0 ≤ k → k < 144 → v B k = 0) → Q none (h.1, v)) : qM l D (d + 1, 0, 0) m_Pl_changed [.inr (.inr P)] h Q := by
  obtain ⟨n1, n2, n3, n4, n5, n6⟩ := ne
  obtain ⟨c1, c2, c3, c4⟩ := b0
  have fd : ∀ v, FV (cdS O A B) h.2 v → v P 4 = A ∧ v P 5 = B := fun v kv => ⟨by rw [kv P 4 (fun s => by unfold cdS at s; omega)]; exact z4, by rw [kv P 5 (fun s => by unfold cdS at s; omega)]; exact z5⟩
  have l34 : ∀ i : Int, i ≤ 144 → ∀ v, 0 ≤ i → FV (cdS O A B) h.2 v → v O 0 = 0 → (∀ k : Int, 0 ≤ k → k < 72 → v A k = 0) → (∀ k : Int, 0 ≤ k → k < i → v B k = 0) → qR l D (d + 1, 0, 0) m_Pl_changed 34 (fun r h' => Q r ((h'.1.1, h.1.2.1, h.1.2.2), h'.2)) [some (.inr (.inr (P))), some (.inl (i))] [] ((h.1.1, 0, 0), v) := by
    refine up_loop _ ?_ ?_
    · intro v i0 kv w0 w1 w2
      have fin := hq v kv w0 w1 w2
      have f5 := (fd v kv).2
      clear hq w1 w2 kv fd z3 z4 z5
      refine Pl_changed_34 _ _ _ ?_
      simp only [w_Pl_changed_34, w_Pl_changed_56, s_ic, s_lc, s_null, s_iload, s_lload, s_aload, s_istore, s_lstore, s_astore, s_iinc, s_iadd, s_isub, s_imul, s_iand, s_ior, s_ixor, s_ishl, s_ishr, s_idiv, s_irem, s_ineg, s_ladd, s_lsub, s_lmul, s_lneg, s_ldiv, s_lrem, s_lshl, s_lshr, s_lor, s_land, s_lcmp, s_i2l, s_l2i, s_i2b, s_dup, s_pop, s_dup2, s_dupx1, s_alen, s_ifnull, s_ifnon, s_icmp_eq, s_icmp_ne, s_icmp_lt, s_icmp_ge, s_icmp_gt, s_icmp_le, s_if_eq, s_if_ne, s_if_lt, s_if_ge, s_if_gt, s_if_le, s_getI, s_getL, s_getR, s_putI, s_putZ, s_putL, s_putR, s_iald, s_bald, s_lald, s_aald, s_iast, s_bast, s_last, s_iret, s_zret, s_lret, s_aret, s_vret, s_tbl, q_tab, s_acopy, s_new, s_newa, s_oinit, s_aast, q_nth, qst1, qst2, q_cl1, q_nx, q_ent, qcat, q_cs, q_up_mk, q_cpy_mk, List.cons_append, List.nil_append, List.append_nil, List.replicate, List.take_succ_cons, List.take_zero, List.drop_succ_cons, List.drop_zero, List.reverse_cons, List.reverse_nil, List.length_cons, List.length_nil, List.map_cons, List.map_nil, List.sum_cons, List.sum_nil, Option.toList_some, Option.toList_none, true_and, and_true, true_or, or_true, Nat.sub_zero, Nat.reduceAdd, Nat.reduceSub, Nat.reduceLeDiff, Int.reduceAdd, Int.reduceLE, s_sc, s_strC, s_strV, s_alenC, s_baldC, s_gst, s_i2c, s_cret, s_athrow, eP, eB, f5]
      repeat' (first | with_reducible apply And.intro | with_reducible intro _)
      all_goals first | contradiction | with_reducible exact fin | omega | (unfold r32; omega) | trivial
    · intro i hi ih v i0 kv w0 w1 w2
      have f5 := (fd v kv).2
      have st := ih (up2 v B i 0) (by omega) (kv.up (Or.inr (Or.inr rfl))) (by rw [up2_a n5]; exact w0) (fun k k0 k1 => by rw [up2_a n6]; exact w1 k k0 k1) (fun k k0 k1 => by
        by_cases e : k = i
        · rw [e, up2_at]
        · rw [up2_k e]; exact w2 k k0 (by omega))
      clear hq ih w1 w2 kv fd z3 z4 z5
      refine Pl_changed_34 _ _ _ ?_
      simp only [w_Pl_changed_34, w_Pl_changed_56, s_ic, s_lc, s_null, s_iload, s_lload, s_aload, s_istore, s_lstore, s_astore, s_iinc, s_iadd, s_isub, s_imul, s_iand, s_ior, s_ixor, s_ishl, s_ishr, s_idiv, s_irem, s_ineg, s_ladd, s_lsub, s_lmul, s_lneg, s_ldiv, s_lrem, s_lshl, s_lshr, s_lor, s_land, s_lcmp, s_i2l, s_l2i, s_i2b, s_dup, s_pop, s_dup2, s_dupx1, s_alen, s_ifnull, s_ifnon, s_icmp_eq, s_icmp_ne, s_icmp_lt, s_icmp_ge, s_icmp_gt, s_icmp_le, s_if_eq, s_if_ne, s_if_lt, s_if_ge, s_if_gt, s_if_le, s_getI, s_getL, s_getR, s_putI, s_putZ, s_putL, s_putR, s_iald, s_bald, s_lald, s_aald, s_iast, s_bast, s_last, s_iret, s_zret, s_lret, s_aret, s_vret, s_tbl, q_tab, s_acopy, s_new, s_newa, s_oinit, s_aast, q_nth, qst1, qst2, q_cl1, q_nx, q_ent, qcat, q_cs, q_up_mk, q_cpy_mk, List.cons_append, List.nil_append, List.append_nil, List.replicate, List.take_succ_cons, List.take_zero, List.drop_succ_cons, List.drop_zero, List.reverse_cons, List.reverse_nil, List.length_cons, List.length_nil, List.map_cons, List.map_nil, List.sum_cons, List.sum_nil, Option.toList_some, Option.toList_none, true_and, and_true, true_or, or_true, Nat.sub_zero, Nat.reduceAdd, Nat.reduceSub, Nat.reduceLeDiff, Int.reduceAdd, Int.reduceLE, s_sc, s_strC, s_strV, s_alenC, s_baldC, s_gst, s_i2c, s_cret, s_athrow, eP, eB, f5]
      repeat' (first | with_reducible apply And.intro | with_reducible intro _)
      all_goals first | contradiction | with_reducible exact st | omega | (unfold r32; omega) | trivial
  have l10 : ∀ i : Int, i ≤ 72 → ∀ v, 0 ≤ i → FV (cdS O A B) h.2 v → v O 0 = 0 → (∀ k : Int, 0 ≤ k → k < i → v A k = 0) → qR l D (d + 1, 0, 0) m_Pl_changed 10 (fun r h' => Q r ((h'.1.1, h.1.2.1, h.1.2.2), h'.2)) [some (.inr (.inr (P))), some (.inl (i))] [] ((h.1.1, 0, 0), v) := by
    refine up_loop _ ?_ ?_
    · intro v i0 kv w0 w1
      have fin := l34 0 (by omega) v (by omega) kv w0 w1 (fun k k0 k1 => by omega)
      have f4 := (fd v kv).1
      clear hq w1 kv fd z3 z4 z5 l34
      refine Pl_changed_10 _ _ _ ?_
      simp only [w_Pl_changed_10, w_Pl_changed_32, s_ic, s_lc, s_null, s_iload, s_lload, s_aload, s_istore, s_lstore, s_astore, s_iinc, s_iadd, s_isub, s_imul, s_iand, s_ior, s_ixor, s_ishl, s_ishr, s_idiv, s_irem, s_ineg, s_ladd, s_lsub, s_lmul, s_lneg, s_ldiv, s_lrem, s_lshl, s_lshr, s_lor, s_land, s_lcmp, s_i2l, s_l2i, s_i2b, s_dup, s_pop, s_dup2, s_dupx1, s_alen, s_ifnull, s_ifnon, s_icmp_eq, s_icmp_ne, s_icmp_lt, s_icmp_ge, s_icmp_gt, s_icmp_le, s_if_eq, s_if_ne, s_if_lt, s_if_ge, s_if_gt, s_if_le, s_getI, s_getL, s_getR, s_putI, s_putZ, s_putL, s_putR, s_iald, s_bald, s_lald, s_aald, s_iast, s_bast, s_last, s_iret, s_zret, s_lret, s_aret, s_vret, s_tbl, q_tab, s_acopy, s_new, s_newa, s_oinit, s_aast, q_nth, qst1, qst2, q_cl1, q_nx, q_ent, qcat, q_cs, q_up_mk, q_cpy_mk, List.cons_append, List.nil_append, List.append_nil, List.replicate, List.take_succ_cons, List.take_zero, List.drop_succ_cons, List.drop_zero, List.reverse_cons, List.reverse_nil, List.length_cons, List.length_nil, List.map_cons, List.map_nil, List.sum_cons, List.sum_nil, Option.toList_some, Option.toList_none, true_and, and_true, true_or, or_true, Nat.sub_zero, Nat.reduceAdd, Nat.reduceSub, Nat.reduceLeDiff, Int.reduceAdd, Int.reduceLE, s_sc, s_strC, s_strV, s_alenC, s_baldC, s_gst, s_i2c, s_cret, s_athrow, eP, eA, f4]
      repeat' (first | with_reducible apply And.intro | with_reducible intro _)
      all_goals first | contradiction | with_reducible exact fin | omega | (unfold r32; omega) | trivial
    · intro i hi ih v i0 kv w0 w1
      have f4 := (fd v kv).1
      have st := ih (up2 v A i 0) (by omega) (kv.up (Or.inr (Or.inl rfl))) (by rw [up2_a n4]; exact w0) (fun k k0 k1 => by
        by_cases e : k = i
        · rw [e, up2_at]
        · rw [up2_k e]; exact w1 k k0 (by omega))
      clear hq ih w1 kv fd z3 z4 z5 l34
      refine Pl_changed_10 _ _ _ ?_
      simp only [w_Pl_changed_10, w_Pl_changed_32, s_ic, s_lc, s_null, s_iload, s_lload, s_aload, s_istore, s_lstore, s_astore, s_iinc, s_iadd, s_isub, s_imul, s_iand, s_ior, s_ixor, s_ishl, s_ishr, s_idiv, s_irem, s_ineg, s_ladd, s_lsub, s_lmul, s_lneg, s_ldiv, s_lrem, s_lshl, s_lshr, s_lor, s_land, s_lcmp, s_i2l, s_l2i, s_i2b, s_dup, s_pop, s_dup2, s_dupx1, s_alen, s_ifnull, s_ifnon, s_icmp_eq, s_icmp_ne, s_icmp_lt, s_icmp_ge, s_icmp_gt, s_icmp_le, s_if_eq, s_if_ne, s_if_lt, s_if_ge, s_if_gt, s_if_le, s_getI, s_getL, s_getR, s_putI, s_putZ, s_putL, s_putR, s_iald, s_bald, s_lald, s_aald, s_iast, s_bast, s_last, s_iret, s_zret, s_lret, s_aret, s_vret, s_tbl, q_tab, s_acopy, s_new, s_newa, s_oinit, s_aast, q_nth, qst1, qst2, q_cl1, q_nx, q_ent, qcat, q_cs, q_up_mk, q_cpy_mk, List.cons_append, List.nil_append, List.append_nil, List.replicate, List.take_succ_cons, List.take_zero, List.drop_succ_cons, List.drop_zero, List.reverse_cons, List.reverse_nil, List.length_cons, List.length_nil, List.map_cons, List.map_nil, List.sum_cons, List.sum_nil, Option.toList_some, Option.toList_none, true_and, and_true, true_or, or_true, Nat.sub_zero, Nat.reduceAdd, Nat.reduceSub, Nat.reduceLeDiff, Int.reduceAdd, Int.reduceLE, s_sc, s_strC, s_strV, s_alenC, s_baldC, s_gst, s_i2c, s_cret, s_athrow, eP, eA, f4]
      repeat' (first | with_reducible apply And.intro | with_reducible intro _)
      all_goals first | contradiction | with_reducible exact st | omega | (unfold r32; omega) | trivial
  have st := l10 0 (by omega) (up2 h.2 O 0 0) (by omega) (FV.rf.up (Or.inl ⟨rfl, rfl⟩)) (up2_at _ _ _ _) (fun k k0 k1 => by omega)
  clear hq l10 l34 fd
  refine qM.o0 2 rfl (by decide) (Nat.le_of_ble_eq_true rfl) ?_
  refine Pl_changed_0 _ _ _ ?_
  simp only [w_Pl_changed_0, s_ic, s_lc, s_null, s_iload, s_lload, s_aload, s_istore, s_lstore, s_astore, s_iinc, s_iadd, s_isub, s_imul, s_iand, s_ior, s_ixor, s_ishl, s_ishr, s_idiv, s_irem, s_ineg, s_ladd, s_lsub, s_lmul, s_lneg, s_ldiv, s_lrem, s_lshl, s_lshr, s_lor, s_land, s_lcmp, s_i2l, s_l2i, s_i2b, s_dup, s_pop, s_dup2, s_dupx1, s_alen, s_ifnull, s_ifnon, s_icmp_eq, s_icmp_ne, s_icmp_lt, s_icmp_ge, s_icmp_gt, s_icmp_le, s_if_eq, s_if_ne, s_if_lt, s_if_ge, s_if_gt, s_if_le, s_getI, s_getL, s_getR, s_putI, s_putZ, s_putL, s_putR, s_iald, s_bald, s_lald, s_aald, s_iast, s_bast, s_last, s_iret, s_zret, s_lret, s_aret, s_vret, s_tbl, q_tab, s_acopy, s_new, s_newa, s_oinit, s_aast, q_nth, qst1, qst2, q_cl1, q_nx, q_ent, qcat, q_cs, q_up_mk, q_cpy_mk, List.cons_append, List.nil_append, List.append_nil, List.replicate, List.take_succ_cons, List.take_zero, List.drop_succ_cons, List.drop_zero, List.reverse_cons, List.reverse_nil, List.length_cons, List.length_nil, List.map_cons, List.map_nil, List.sum_cons, List.sum_nil, Option.toList_some, Option.toList_none, true_and, and_true, true_or, or_true, Nat.sub_zero, Nat.reduceAdd, Nat.reduceSub, Nat.reduceLeDiff, Int.reduceAdd, Int.reduceLE, s_sc, s_strC, s_strV, s_alenC, s_baldC, s_gst, s_i2c, s_cret, s_athrow, eP, eO, z3]
  repeat' (first | with_reducible apply And.intro | with_reducible intro _)
  all_goals first | contradiction | with_reducible exact st | omega | (unfold r32; omega) | trivial
/-- what a change marks: the drawing, the shades, the shape, the web -/
def cgS (gi a j : Int) : Prop := cdS (5 + 27 * gi) (16 + 27 * gi) (17 + 27 * gi) a j ∨ (a = 0 ∧ (j = 8 ∨ j = 12))
/-- what is so behind it -/
def cgQ (gi : Int) (v v' : Int → Int → Int) : Prop := FV (cgS gi) v v' ∧ v' (5 + 27 * gi) 0 = 0 ∧ (∀ k : Int, 0 ≤ k → k < 72 → v' (16 + 27 * gi) k = 0) ∧ (∀ k : Int, 0 ≤ k → k < 144 → v' (17 + 27 * gi) k = 0) ∧ (v' 0 8 = if v 0 8 = gi then -1 else v 0 8) ∧ v' 0 12 = if v 0 12 = gi then -1 else v 0 12
set_option maxRecDepth 100000 in
theorem sp_DH_changed {l : Launch} {D : qD} {d : Nat} {gi : Int} {h : qh} {Q : qQ} (hw : HW h.2) (hg : 0 ≤ gi ∧ gi < 4) (hq : ∀ v, cgQ gi h.2 v → Q none (h.1, v)) : qM l D (d + 2, 0, 0) m_DH_changed [.inr (.inr 0), .inl gi] h Q := by
  obtain ⟨⟨p2, -, p3⟩, ⟨q1, -, q3⟩, -, ⟨b1, -, b3⟩, -⟩ := isPs_f hw (isPs_O hg)
  obtain ⟨⟨-, p4, p5⟩, ⟨-, q4, q5⟩, -, -, ⟨b4, -⟩, b5, -⟩ := isPl_f hw (isPl_O hg)
  have q1' : (q_shp (pcO gi)).1 = 1 := by rw [q1]
  have z2 := hw.f0_2
  have main : ∀ v1, FV (cdS (5 + 27 * gi) (16 + 27 * gi) (17 + 27 * gi)) h.2 v1 → v1 (5 + 27 * gi) 0 = 0 → (∀ k : Int, 0 ≤ k → k < 72 → v1 (16 + 27 * gi) k = 0) → (∀ k : Int, 0 ≤ k → k < 144 → v1 (17 + 27 * gi) k = 0) → (v1 0 8 = h.2 0 8 ∧ v1 0 12 = h.2 0 12) ∧ (∀ x y, ((x = v1 0 8 ∧ x ≠ gi) ∨ (x = -1 ∧ v1 0 8 = gi)) → ((y = v1 0 12 ∧ y ≠ gi) ∨ (y = -1 ∧ v1 0 12 = gi)) → ∀ v2, FV (fun a j => a = 0 ∧ (j = 8 ∨ j = 12)) v1 v2 → v2 0 8 = x → v2 0 12 = y → Q none (h.1, v2)) := fun v1 k1 w0 w1 w2 => by
    have o8 : v1 0 8 = h.2 0 8 := k1 0 8 (fun s => by unfold cdS at s; omega)
    have o12 : v1 0 12 = h.2 0 12 := k1 0 12 (fun s => by unfold cdS at s; omega)
    refine ⟨⟨o8, o12⟩, fun x y hx hy v2 k2 e8 e12 => hq v2 ⟨?_, ?_, fun k k0 k1' => ?_, fun k k0 k1' => ?_, ?_, ?_⟩⟩
    · exact (k1.wk (fun a j s => Or.inl s)).tr (k2.wk (fun a j s => Or.inr s))
    · rw [k2 _ _ (fun s => by have := s.1; omega)]; exact w0
    · rw [k2 _ _ (fun s => by have := s.1; omega)]; exact w1 k k0 k1'
    · rw [k2 _ _ (fun s => by have := s.1; omega)]; exact w2 k k0 k1'
    · rw [e8, ← o8]
      rcases hx with ⟨a, b⟩ | ⟨a, b⟩
      · rw [if_neg (by rw [← a]; exact b), a]
      · rw [if_pos b, a]
    · rw [e12, ← o12]
      rcases hy with ⟨a, b⟩ | ⟨a, b⟩
      · rw [if_neg (by rw [← a]; exact b), a]
      · rw [if_pos b, a]
  refine qM.o0 2 rfl (by decide) (Nat.le_of_ble_eq_true rfl) ?_
  refine DH_changed_0 _ _ _ ?_
  clear hq
  simp only [w_DH_changed_0, s_ic, s_lc, s_null, s_iload, s_lload, s_aload, s_istore, s_lstore, s_astore, s_iinc, s_iadd, s_isub, s_imul, s_iand, s_ior, s_ixor, s_ishl, s_ishr, s_idiv, s_irem, s_ineg, s_ladd, s_lsub, s_lmul, s_lneg, s_ldiv, s_lrem, s_lshl, s_lshr, s_lor, s_land, s_lcmp, s_i2l, s_l2i, s_i2b, s_dup, s_pop, s_dup2, s_dupx1, s_alen, s_ifnull, s_ifnon, s_icmp_eq, s_icmp_ne, s_icmp_lt, s_icmp_ge, s_icmp_gt, s_icmp_le, s_if_eq, s_if_ne, s_if_lt, s_if_ge, s_if_gt, s_if_le, s_getI, s_getL, s_getR, s_putI, s_putZ, s_putL, s_putR, s_iald, s_bald, s_lald, s_aald, s_iast, s_bast, s_last, s_iret, s_zret, s_lret, s_aret, s_vret, s_tbl, q_tab, s_acopy, s_new, s_newa, s_oinit, s_aast, q_nth, qst1, qst2, q_cl1, q_nx, q_ent, qcat, q_cs, q_up_mk, q_cpy_mk, List.cons_append, List.nil_append, List.append_nil, List.replicate, List.take_succ_cons, List.take_zero, List.drop_succ_cons, List.drop_zero, List.reverse_cons, List.reverse_nil, List.length_cons, List.length_nil, List.map_cons, List.map_nil, List.sum_cons, List.sum_nil, Option.toList_some, Option.toList_none, true_and, and_true, true_or, or_true, Nat.sub_zero, Nat.reduceAdd, Nat.reduceSub, Nat.reduceLeDiff, Int.reduceAdd, Int.reduceLE, s_sc, s_strC, s_strV, s_alenC, s_baldC, s_gst, s_i2c, s_cret, s_athrow, z2, p2, sh_0, sh_2]
  repeat' (first | with_reducible apply And.intro | with_reducible intro _)
  all_goals first | contradiction | omega | skip
  refine ⟨by simp only [List.length_cons, List.length_nil]; omega, Nat.le_of_ble_eq_true rfl, ⟨b1, q1'⟩, ?_⟩
  refine sp_Pl_ch0 (d := d) (O := drO gi) (A := 16 + 27 * gi) (B := 17 + 27 * gi) (h := ((h.1.1, 0, 0), h.2)) q1 q3 q4 q5 ⟨b1, b3, b4, b5⟩ p3 p4 p5 (by simp only [pcO, drO]; omega) (fun v1 k1 w0 w1 w2 => ?_)
  obtain ⟨⟨o8, o12⟩, st⟩ := main v1 k1 w0 w1 w2
  clear main k1 w0 w1 w2
  by_cases a8 : v1 0 8 = gi <;> by_cases a12 : v1 0 12 = gi
  · have s := st (-1) (-1) (Or.inr ⟨rfl, a8⟩) (Or.inr ⟨rfl, a12⟩) (up2 (up2 v1 0 8 (-1)) 0 12 (-1)) ((FV.rf.up ⟨rfl, Or.inl rfl⟩).up ⟨rfl, Or.inr rfl⟩) (by rw [up2_k (by decide), up2_at]) (up2_at _ _ _ _)
    clear st
    have u12 : up2 v1 0 8 (-1) 0 12 = gi := by rw [up2_k (by decide)]; exact a12
    simp only [w_DH_changed_22, w_DH_changed_35, s_ic, s_lc, s_null, s_iload, s_lload, s_aload, s_istore, s_lstore, s_astore, s_iinc, s_iadd, s_isub, s_imul, s_iand, s_ior, s_ixor, s_ishl, s_ishr, s_idiv, s_irem, s_ineg, s_ladd, s_lsub, s_lmul, s_lneg, s_ldiv, s_lrem, s_lshl, s_lshr, s_lor, s_land, s_lcmp, s_i2l, s_l2i, s_i2b, s_dup, s_pop, s_dup2, s_dupx1, s_alen, s_ifnull, s_ifnon, s_icmp_eq, s_icmp_ne, s_icmp_lt, s_icmp_ge, s_icmp_gt, s_icmp_le, s_if_eq, s_if_ne, s_if_lt, s_if_ge, s_if_gt, s_if_le, s_getI, s_getL, s_getR, s_putI, s_putZ, s_putL, s_putR, s_iald, s_bald, s_lald, s_aald, s_iast, s_bast, s_last, s_iret, s_zret, s_lret, s_aret, s_vret, s_tbl, q_tab, s_acopy, s_new, s_newa, s_oinit, s_aast, q_nth, qst1, qst2, q_cl1, q_nx, q_ent, qcat, q_cs, q_up_mk, q_cpy_mk, List.cons_append, List.nil_append, List.append_nil, List.replicate, List.take_succ_cons, List.take_zero, List.drop_succ_cons, List.drop_zero, List.reverse_cons, List.reverse_nil, List.length_cons, List.length_nil, List.map_cons, List.map_nil, List.sum_cons, List.sum_nil, Option.toList_some, Option.toList_none, true_and, and_true, true_or, or_true, Nat.sub_zero, Nat.reduceAdd, Nat.reduceSub, Nat.reduceLeDiff, Int.reduceAdd, Int.reduceLE, s_sc, s_strC, s_strV, s_alenC, s_baldC, s_gst, s_i2c, s_cret, s_athrow, a8, u12, sh_0]
    repeat' (first | with_reducible apply And.intro | with_reducible intro _)
    all_goals first | contradiction | with_reducible exact s | omega | (unfold r32; omega) | trivial
  · have s := st (-1) (v1 0 12) (Or.inr ⟨rfl, a8⟩) (Or.inl ⟨rfl, a12⟩) (up2 v1 0 8 (-1)) (FV.rf.up ⟨rfl, Or.inl rfl⟩) (up2_at _ _ _ _) (by rw [up2_k (by decide)])
    clear st
    have u12 : up2 v1 0 8 (-1) 0 12 = v1 0 12 := by rw [up2_k (by decide)]
    simp only [w_DH_changed_22, w_DH_changed_35, s_ic, s_lc, s_null, s_iload, s_lload, s_aload, s_istore, s_lstore, s_astore, s_iinc, s_iadd, s_isub, s_imul, s_iand, s_ior, s_ixor, s_ishl, s_ishr, s_idiv, s_irem, s_ineg, s_ladd, s_lsub, s_lmul, s_lneg, s_ldiv, s_lrem, s_lshl, s_lshr, s_lor, s_land, s_lcmp, s_i2l, s_l2i, s_i2b, s_dup, s_pop, s_dup2, s_dupx1, s_alen, s_ifnull, s_ifnon, s_icmp_eq, s_icmp_ne, s_icmp_lt, s_icmp_ge, s_icmp_gt, s_icmp_le, s_if_eq, s_if_ne, s_if_lt, s_if_ge, s_if_gt, s_if_le, s_getI, s_getL, s_getR, s_putI, s_putZ, s_putL, s_putR, s_iald, s_bald, s_lald, s_aald, s_iast, s_bast, s_last, s_iret, s_zret, s_lret, s_aret, s_vret, s_tbl, q_tab, s_acopy, s_new, s_newa, s_oinit, s_aast, q_nth, qst1, qst2, q_cl1, q_nx, q_ent, qcat, q_cs, q_up_mk, q_cpy_mk, List.cons_append, List.nil_append, List.append_nil, List.replicate, List.take_succ_cons, List.take_zero, List.drop_succ_cons, List.drop_zero, List.reverse_cons, List.reverse_nil, List.length_cons, List.length_nil, List.map_cons, List.map_nil, List.sum_cons, List.sum_nil, Option.toList_some, Option.toList_none, true_and, and_true, true_or, or_true, Nat.sub_zero, Nat.reduceAdd, Nat.reduceSub, Nat.reduceLeDiff, Int.reduceAdd, Int.reduceLE, s_sc, s_strC, s_strV, s_alenC, s_baldC, s_gst, s_i2c, s_cret, s_athrow, a8, u12, sh_0]
    repeat' (first | with_reducible apply And.intro | with_reducible intro _)
    all_goals first | contradiction | with_reducible exact s | omega | (unfold r32; omega) | trivial
  · have s := st (v1 0 8) (-1) (Or.inl ⟨rfl, a8⟩) (Or.inr ⟨rfl, a12⟩) (up2 v1 0 12 (-1)) (FV.rf.up ⟨rfl, Or.inr rfl⟩) (by rw [up2_k (by decide)]) (up2_at _ _ _ _)
    clear st
    simp only [w_DH_changed_22, w_DH_changed_35, s_ic, s_lc, s_null, s_iload, s_lload, s_aload, s_istore, s_lstore, s_astore, s_iinc, s_iadd, s_isub, s_imul, s_iand, s_ior, s_ixor, s_ishl, s_ishr, s_idiv, s_irem, s_ineg, s_ladd, s_lsub, s_lmul, s_lneg, s_ldiv, s_lrem, s_lshl, s_lshr, s_lor, s_land, s_lcmp, s_i2l, s_l2i, s_i2b, s_dup, s_pop, s_dup2, s_dupx1, s_alen, s_ifnull, s_ifnon, s_icmp_eq, s_icmp_ne, s_icmp_lt, s_icmp_ge, s_icmp_gt, s_icmp_le, s_if_eq, s_if_ne, s_if_lt, s_if_ge, s_if_gt, s_if_le, s_getI, s_getL, s_getR, s_putI, s_putZ, s_putL, s_putR, s_iald, s_bald, s_lald, s_aald, s_iast, s_bast, s_last, s_iret, s_zret, s_lret, s_aret, s_vret, s_tbl, q_tab, s_acopy, s_new, s_newa, s_oinit, s_aast, q_nth, qst1, qst2, q_cl1, q_nx, q_ent, qcat, q_cs, q_up_mk, q_cpy_mk, List.cons_append, List.nil_append, List.append_nil, List.replicate, List.take_succ_cons, List.take_zero, List.drop_succ_cons, List.drop_zero, List.reverse_cons, List.reverse_nil, List.length_cons, List.length_nil, List.map_cons, List.map_nil, List.sum_cons, List.sum_nil, Option.toList_some, Option.toList_none, true_and, and_true, true_or, or_true, Nat.sub_zero, Nat.reduceAdd, Nat.reduceSub, Nat.reduceLeDiff, Int.reduceAdd, Int.reduceLE, s_sc, s_strC, s_strV, s_alenC, s_baldC, s_gst, s_i2c, s_cret, s_athrow, a12, sh_0]
    repeat' (first | with_reducible apply And.intro | with_reducible intro _)
    all_goals first | contradiction | with_reducible exact s | omega | (unfold r32; omega) | trivial
  · have s := st (v1 0 8) (v1 0 12) (Or.inl ⟨rfl, a8⟩) (Or.inl ⟨rfl, a12⟩) v1 FV.rf rfl rfl
    clear st
    simp only [w_DH_changed_22, w_DH_changed_35, s_ic, s_lc, s_null, s_iload, s_lload, s_aload, s_istore, s_lstore, s_astore, s_iinc, s_iadd, s_isub, s_imul, s_iand, s_ior, s_ixor, s_ishl, s_ishr, s_idiv, s_irem, s_ineg, s_ladd, s_lsub, s_lmul, s_lneg, s_ldiv, s_lrem, s_lshl, s_lshr, s_lor, s_land, s_lcmp, s_i2l, s_l2i, s_i2b, s_dup, s_pop, s_dup2, s_dupx1, s_alen, s_ifnull, s_ifnon, s_icmp_eq, s_icmp_ne, s_icmp_lt, s_icmp_ge, s_icmp_gt, s_icmp_le, s_if_eq, s_if_ne, s_if_lt, s_if_ge, s_if_gt, s_if_le, s_getI, s_getL, s_getR, s_putI, s_putZ, s_putL, s_putR, s_iald, s_bald, s_lald, s_aald, s_iast, s_bast, s_last, s_iret, s_zret, s_lret, s_aret, s_vret, s_tbl, q_tab, s_acopy, s_new, s_newa, s_oinit, s_aast, q_nth, qst1, qst2, q_cl1, q_nx, q_ent, qcat, q_cs, q_up_mk, q_cpy_mk, List.cons_append, List.nil_append, List.append_nil, List.replicate, List.take_succ_cons, List.take_zero, List.drop_succ_cons, List.drop_zero, List.reverse_cons, List.reverse_nil, List.length_cons, List.length_nil, List.map_cons, List.map_nil, List.sum_cons, List.sum_nil, Option.toList_some, Option.toList_none, true_and, and_true, true_or, or_true, Nat.sub_zero, Nat.reduceAdd, Nat.reduceSub, Nat.reduceLeDiff, Int.reduceAdd, Int.reduceLE, s_sc, s_strC, s_strV, s_alenC, s_baldC, s_gst, s_i2c, s_cret, s_athrow, sh_0]
    repeat' (first | with_reducible apply And.intro | with_reducible intro _)
    all_goals first | contradiction | with_reducible exact s | omega | (unfold r32; omega) | trivial
theorem iv_chd {l : Launch} {D : qD} {d : Nat} {K : qK} {ls : List (Option qv)} {st : List qv} {h : qh} {gi : Int} (hw : HW h.2) (hg : 0 ≤ gi ∧ gi < 4) (cs : q_cs st ≤ 8) (hk : ∀ v, cgQ gi h.2 v → K ls st (h.1, v)) : s_invV l D (d + 2, 0, 0) 0 m_DH_changed 1 K ls (.inl gi :: .inr (.inr 0) :: st) h := by
  refine ⟨by simp only [List.length_cons]; omega, cs, ⟨by decide, by rw [sh_0]⟩, ?_⟩
  exact sp_DH_changed (Q := fun r h' => K ls (r.toList ++ st) h') hw hg hk
/-- a text is taken by the reader of graphs -/
def tk4 (v : Int → Int → Int) (n : Int) : Int → Int → Int := up2 (up2 (up2 (up2 (cp2 v 1 112 0 0 n) 111 3 n) 111 4 0) 111 8 0) 111 9 (-1)
set_option maxRecDepth 100000 in
theorem sp_Re4_take {l : Launch} {D : qD} {d : Nat} {n : Int} {h : qh} {Q : qQ} (e1 : h.2 111 1 = 112) (nb : 0 ≤ n ∧ n ≤ 2000) (hq : Q none (h.1, tk4 h.2 n)) : qM l D (d + 1, 0, 0) m_Re_take [.inr (.inr 111), .inr (.inr 1), .inl n] h Q := by
  unfold tk4 at hq
  refine qM.o0 3 rfl (by decide) (Nat.le_of_ble_eq_true rfl) ?_
  refine Re4_take_0 _ _ _ ?_
  simp only [w_Re4_take_0, s_ic, s_lc, s_null, s_iload, s_lload, s_aload, s_istore, s_lstore, s_astore, s_iinc, s_iadd, s_isub, s_imul, s_iand, s_ior, s_ixor, s_ishl, s_ishr, s_idiv, s_irem, s_ineg, s_ladd, s_lsub, s_lmul, s_lneg, s_ldiv, s_lrem, s_lshl, s_lshr, s_lor, s_land, s_lcmp, s_i2l, s_l2i, s_i2b, s_dup, s_pop, s_dup2, s_dupx1, s_alen, s_ifnull, s_ifnon, s_icmp_eq, s_icmp_ne, s_icmp_lt, s_icmp_ge, s_icmp_gt, s_icmp_le, s_if_eq, s_if_ne, s_if_lt, s_if_ge, s_if_gt, s_if_le, s_getI, s_getL, s_getR, s_putI, s_putZ, s_putL, s_putR, s_iald, s_bald, s_lald, s_aald, s_iast, s_bast, s_last, s_iret, s_zret, s_lret, s_aret, s_vret, s_tbl, q_tab, s_acopy, s_new, s_newa, s_oinit, s_aast, q_nth, qst1, qst2, q_cl1, q_nx, q_ent, qcat, q_cs, q_up_mk, q_cpy_mk, List.cons_append, List.nil_append, List.append_nil, List.replicate, List.take_succ_cons, List.take_zero, List.drop_succ_cons, List.drop_zero, List.reverse_cons, List.reverse_nil, List.length_cons, List.length_nil, List.map_cons, List.map_nil, List.sum_cons, List.sum_nil, Option.toList_some, Option.toList_none, true_and, and_true, true_or, or_true, Nat.sub_zero, Nat.reduceAdd, Nat.reduceSub, Nat.reduceLeDiff, Int.reduceAdd, Int.reduceLE, s_sc, s_strC, s_strV, s_alenC, s_baldC, s_gst, s_i2c, s_cret, s_athrow, e1, sh_1, sh_111, sh_112]
  repeat' (first | with_reducible apply And.intro | with_reducible intro _)
  all_goals first | contradiction | with_reducible exact hq | omega | (unfold r32; omega) | trivial
