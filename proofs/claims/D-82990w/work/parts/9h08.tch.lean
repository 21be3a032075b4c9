/-! ===== change: the twin (printed by gen/p_tch.py) ===== -/
set_option maxRecDepth 100000 in
theorem mc_199 {l : Launch} {D : qD} {d : Nat} {gi a b what r : Int} {R : Int → Int} {h : qh} {Q : qQ} (hT : TW h.2) (hg : 0 ≤ gi ∧ gi < 4) (hn : 0 ≤ h.2 283 gi ∧ h.2 283 gi ≤ 30) (er : h.2 280 5 = r) (hr : r = 539 * (31 * gi + h.2 283 gi)) (tr : TRw h.2 r R) (ok : GOK R)
    (hq0 : ¬ CAN R 4 a b → Q (some (.inl (-1))) h) (hq1 : CAN R 4 a b → ∀ v, TRw v (tR h.2 gi) (upr R (219 + a) b) → FV (tmS (tR h.2 gi)) (stp1 (stp0 h.2 gi) gi) v → Q (some (.inl 0)) (h.1, v)) : qR l D (d + 5, 0, 0) m_Mo_change 199 Q [some (.inr (.inr 280)), some (.inl gi), some (.inl what), some (.inl a), some (.inl b)] [] h := by
  have rb := tr.1
  have z2 := hT.f2
  have n0 := ok.1.1
  have m0 := ok.1.2.1
  have g0 := ok.1.2.2
  have t0 : h.2 282 r = R 0 := by have := tr.2 0 (by decide) (by decide); rw [show r + 0 = r by omega] at this; exact this
  have t1 : h.2 282 (r + 1) = R 1 := tr.2 1 (by decide) (by decide)
  have t2 : h.2 282 (r + 2) = R 2 := tr.2 2 (by decide) (by decide)
  have sq := stp_q hg hn
  have mb := moN_b hn
  have hTs : TW (stp1 (stp0 h.2 gi) gi) := TW_stp1 (TW_stp0 hT)
  have ts : TRw (stp1 (stp0 h.2 gi) gi) (tR h.2 gi) R := sq.tr hg hn (by rw [← hr]; exact tr)
  have s5 : stp1 (stp0 h.2 gi) gi 280 5 = tR h.2 gi := sq.2.2.1
  rw [CAN_4] at hq0 hq1
  have call : ∀ m : Int, (m = 0 ∨ 0 ≤ a ∧ 219 + a < 539) → ∀ Q' : qQ, (m = 0 → Q' (some (.inl (-1))) h) → (m ≠ 0 → Q' (some (.inl 0)) (h.1, up2 (stp1 (stp0 h.2 gi) gi) 282 (tR h.2 gi + 219 + a) b)) → qM l D (d + 4, 0, 0) m_Mo_becomes [.inr (.inr 280), .inl gi, .inl 219, .inl m, .inl a, .inl b] h Q' := fun m hm Q' c0 c1 => sp_Mo_becomes (d := d) hT hg hn (by omega) c0 (fun z => by rw [s5]; exact c1 z)
  by_cases c1 : 0 ≤ a ∧ a < R 0
  · have f1 := inT_1 (v := h.2) (c := a) (lo := 0) (hi := R 0 - 1) (by omega)
    by_cases c2 : 1 ≤ b ∧ b ≤ 99
    · have f2 := inT_1 (v := h.2) (c := b) (lo := 1) (hi := 99) (by omega)
      have st := hq1 ⟨c1, c2⟩ _ (ts.sU (o := 219 + a) (x := tR h.2 gi + 219 + a) (z := b) (by omega) (by omega)) (FV.rf.tm (o := 219 + a) (x := tR h.2 gi + 219 + a) (z := b) (by omega) (by omega))
      have cl := call 1 (Or.inr ⟨c1.1, by omega⟩)
      clear hq0 hq1 sq ts tr hTs hT call ok hr s5
      refine Mo_change_199 _ _ _ ?_
      simp only [w_Mo_change_199, w_Mo_change_233, w_Mo_change_234, s_ic, s_lc, s_null, s_iload, s_lload, s_aload, s_istore, s_lstore, s_astore, s_iinc, s_iadd, s_isub, s_imul, s_iand, s_ior, s_ixor, s_ishl, s_ishr, s_idiv, s_irem, s_ineg, s_ladd, s_lsub, s_lmul, s_lneg, s_ldiv, s_lrem, s_lshl, s_lshr, s_lor, s_land, s_lcmp, s_i2l, s_l2i, s_i2b, s_dup, s_pop, s_dup2, s_dupx1, s_alen, s_ifnull, s_ifnon, s_icmp_eq, s_icmp_ne, s_icmp_lt, s_icmp_ge, s_icmp_gt, s_icmp_le, s_if_eq, s_if_ne, s_if_lt, s_if_ge, s_if_gt, s_if_le, s_getI, s_getL, s_getR, s_putI, s_putZ, s_putL, s_putR, s_iald, s_bald, s_lald, s_aald, s_iast, s_bast, s_last, s_iret, s_zret, s_lret, s_aret, s_vret, s_tbl, q_tab, s_acopy, s_new, s_newa, s_oinit, s_aast, q_nth, qst1, qst2, q_cl1, q_nx, q_ent, qcat, q_cs, q_up_mk, q_cpy_mk, List.cons_append, List.nil_append, List.append_nil, List.replicate, List.take_succ_cons, List.take_zero, List.drop_succ_cons, List.drop_zero, List.reverse_cons, List.reverse_nil, List.length_cons, List.length_nil, List.map_cons, List.map_nil, List.sum_cons, List.sum_nil, Option.toList_some, Option.toList_none, true_and, and_true, true_or, or_true, Nat.sub_zero, Nat.reduceAdd, Nat.reduceSub, Nat.reduceLeDiff, Int.reduceAdd, Int.reduceLE, s_sc, s_strC, s_strV, s_alenC, s_baldC, s_gst, s_i2c, s_cret, s_athrow, s_Mo_nodes, e_Mo_nodes, p_Mo_nodes, f_Mo_nodes, s_Mo_edges, e_Mo_edges, p_Mo_edges, f_Mo_edges, s_Mo_groups, e_Mo_groups, p_Mo_groups, f_Mo_groups, s_Mo_in, er, z2, t0, t1, t2, sh_280, f1, f2]
      repeat' (first | with_reducible apply And.intro | with_reducible intro _)
      all_goals first | contradiction | omega | (unfold r32; omega) | (exfalso; omega) | skip
      all_goals (refine ⟨by simp only [List.length_cons, List.length_nil]; omega, Nat.le_of_ble_eq_true rfl, ⟨by decide, by rw [sh_280]⟩, ?_⟩)
      all_goals (refine cl _ (fun z => absurd z (by decide)) (fun _ => ?_))
      all_goals (simp only [s_ic, s_lc, s_null, s_iload, s_lload, s_aload, s_istore, s_lstore, s_astore, s_iinc, s_iadd, s_isub, s_imul, s_iand, s_ior, s_ixor, s_ishl, s_ishr, s_idiv, s_irem, s_ineg, s_ladd, s_lsub, s_lmul, s_lneg, s_ldiv, s_lrem, s_lshl, s_lshr, s_lor, s_land, s_lcmp, s_i2l, s_l2i, s_i2b, s_dup, s_pop, s_dup2, s_dupx1, s_alen, s_ifnull, s_ifnon, s_icmp_eq, s_icmp_ne, s_icmp_lt, s_icmp_ge, s_icmp_gt, s_icmp_le, s_if_eq, s_if_ne, s_if_lt, s_if_ge, s_if_gt, s_if_le, s_getI, s_getL, s_getR, s_putI, s_putZ, s_putL, s_putR, s_iald, s_bald, s_lald, s_aald, s_iast, s_bast, s_last, s_iret, s_zret, s_lret, s_aret, s_vret, s_tbl, q_tab, s_acopy, s_new, s_newa, s_oinit, s_aast, q_nth, qst1, qst2, q_cl1, q_nx, q_ent, qcat, q_cs, q_up_mk, q_cpy_mk, List.cons_append, List.nil_append, List.append_nil, List.replicate, List.take_succ_cons, List.take_zero, List.drop_succ_cons, List.drop_zero, List.reverse_cons, List.reverse_nil, List.length_cons, List.length_nil, List.map_cons, List.map_nil, List.sum_cons, List.sum_nil, Option.toList_some, Option.toList_none, true_and, and_true, true_or, or_true, Nat.sub_zero, Nat.reduceAdd, Nat.reduceSub, Nat.reduceLeDiff, Int.reduceAdd, Int.reduceLE, s_sc, s_strC, s_strV, s_alenC, s_baldC, s_gst, s_i2c, s_cret, s_athrow])
      repeat' (first | with_reducible apply And.intro | with_reducible intro _)
      all_goals first | contradiction | omega | exact st | (exfalso; omega)
    · have f2 := inT_0 (v := h.2) (c := b) (lo := 1) (hi := 99) (by omega)
      have st := hq0 (fun q => c2 q.2)
      have cl := call 0 (Or.inl rfl)
      clear hq0 hq1 sq ts tr hTs hT call ok hr s5
      refine Mo_change_199 _ _ _ ?_
      simp only [w_Mo_change_199, w_Mo_change_233, w_Mo_change_234, s_ic, s_lc, s_null, s_iload, s_lload, s_aload, s_istore, s_lstore, s_astore, s_iinc, s_iadd, s_isub, s_imul, s_iand, s_ior, s_ixor, s_ishl, s_ishr, s_idiv, s_irem, s_ineg, s_ladd, s_lsub, s_lmul, s_lneg, s_ldiv, s_lrem, s_lshl, s_lshr, s_lor, s_land, s_lcmp, s_i2l, s_l2i, s_i2b, s_dup, s_pop, s_dup2, s_dupx1, s_alen, s_ifnull, s_ifnon, s_icmp_eq, s_icmp_ne, s_icmp_lt, s_icmp_ge, s_icmp_gt, s_icmp_le, s_if_eq, s_if_ne, s_if_lt, s_if_ge, s_if_gt, s_if_le, s_getI, s_getL, s_getR, s_putI, s_putZ, s_putL, s_putR, s_iald, s_bald, s_lald, s_aald, s_iast, s_bast, s_last, s_iret, s_zret, s_lret, s_aret, s_vret, s_tbl, q_tab, s_acopy, s_new, s_newa, s_oinit, s_aast, q_nth, qst1, qst2, q_cl1, q_nx, q_ent, qcat, q_cs, q_up_mk, q_cpy_mk, List.cons_append, List.nil_append, List.append_nil, List.replicate, List.take_succ_cons, List.take_zero, List.drop_succ_cons, List.drop_zero, List.reverse_cons, List.reverse_nil, List.length_cons, List.length_nil, List.map_cons, List.map_nil, List.sum_cons, List.sum_nil, Option.toList_some, Option.toList_none, true_and, and_true, true_or, or_true, Nat.sub_zero, Nat.reduceAdd, Nat.reduceSub, Nat.reduceLeDiff, Int.reduceAdd, Int.reduceLE, s_sc, s_strC, s_strV, s_alenC, s_baldC, s_gst, s_i2c, s_cret, s_athrow, s_Mo_nodes, e_Mo_nodes, p_Mo_nodes, f_Mo_nodes, s_Mo_edges, e_Mo_edges, p_Mo_edges, f_Mo_edges, s_Mo_groups, e_Mo_groups, p_Mo_groups, f_Mo_groups, s_Mo_in, er, z2, t0, t1, t2, sh_280, f1, f2]
      repeat' (first | with_reducible apply And.intro | with_reducible intro _)
      all_goals first | contradiction | omega | (unfold r32; omega) | (exfalso; omega) | skip
      all_goals (refine ⟨by simp only [List.length_cons, List.length_nil]; omega, Nat.le_of_ble_eq_true rfl, ⟨by decide, by rw [sh_280]⟩, ?_⟩)
      all_goals (refine cl _ (fun _ => ?_) (fun z => absurd rfl z))
      all_goals (simp only [s_ic, s_lc, s_null, s_iload, s_lload, s_aload, s_istore, s_lstore, s_astore, s_iinc, s_iadd, s_isub, s_imul, s_iand, s_ior, s_ixor, s_ishl, s_ishr, s_idiv, s_irem, s_ineg, s_ladd, s_lsub, s_lmul, s_lneg, s_ldiv, s_lrem, s_lshl, s_lshr, s_lor, s_land, s_lcmp, s_i2l, s_l2i, s_i2b, s_dup, s_pop, s_dup2, s_dupx1, s_alen, s_ifnull, s_ifnon, s_icmp_eq, s_icmp_ne, s_icmp_lt, s_icmp_ge, s_icmp_gt, s_icmp_le, s_if_eq, s_if_ne, s_if_lt, s_if_ge, s_if_gt, s_if_le, s_getI, s_getL, s_getR, s_putI, s_putZ, s_putL, s_putR, s_iald, s_bald, s_lald, s_aald, s_iast, s_bast, s_last, s_iret, s_zret, s_lret, s_aret, s_vret, s_tbl, q_tab, s_acopy, s_new, s_newa, s_oinit, s_aast, q_nth, qst1, qst2, q_cl1, q_nx, q_ent, qcat, q_cs, q_up_mk, q_cpy_mk, List.cons_append, List.nil_append, List.append_nil, List.replicate, List.take_succ_cons, List.take_zero, List.drop_succ_cons, List.drop_zero, List.reverse_cons, List.reverse_nil, List.length_cons, List.length_nil, List.map_cons, List.map_nil, List.sum_cons, List.sum_nil, Option.toList_some, Option.toList_none, true_and, and_true, true_or, or_true, Nat.sub_zero, Nat.reduceAdd, Nat.reduceSub, Nat.reduceLeDiff, Int.reduceAdd, Int.reduceLE, s_sc, s_strC, s_strV, s_alenC, s_baldC, s_gst, s_i2c, s_cret, s_athrow])
      repeat' (first | with_reducible apply And.intro | with_reducible intro _)
      all_goals first | contradiction | omega | exact st | (exfalso; omega)
  · have f1 := inT_0 (v := h.2) (c := a) (lo := 0) (hi := R 0 - 1) (by omega)
    have st := hq0 (fun q => c1 q.1)
    have cl := call 0 (Or.inl rfl)
    clear hq0 hq1 sq ts tr hTs hT call ok hr s5
    refine Mo_change_199 _ _ _ ?_
    simp only [w_Mo_change_199, w_Mo_change_233, w_Mo_change_234, s_ic, s_lc, s_null, s_iload, s_lload, s_aload, s_istore, s_lstore, s_astore, s_iinc, s_iadd, s_isub, s_imul, s_iand, s_ior, s_ixor, s_ishl, s_ishr, s_idiv, s_irem, s_ineg, s_ladd, s_lsub, s_lmul, s_lneg, s_ldiv, s_lrem, s_lshl, s_lshr, s_lor, s_land, s_lcmp, s_i2l, s_l2i, s_i2b, s_dup, s_pop, s_dup2, s_dupx1, s_alen, s_ifnull, s_ifnon, s_icmp_eq, s_icmp_ne, s_icmp_lt, s_icmp_ge, s_icmp_gt, s_icmp_le, s_if_eq, s_if_ne, s_if_lt, s_if_ge, s_if_gt, s_if_le, s_getI, s_getL, s_getR, s_putI, s_putZ, s_putL, s_putR, s_iald, s_bald, s_lald, s_aald, s_iast, s_bast, s_last, s_iret, s_zret, s_lret, s_aret, s_vret, s_tbl, q_tab, s_acopy, s_new, s_newa, s_oinit, s_aast, q_nth, qst1, qst2, q_cl1, q_nx, q_ent, qcat, q_cs, q_up_mk, q_cpy_mk, List.cons_append, List.nil_append, List.append_nil, List.replicate, List.take_succ_cons, List.take_zero, List.drop_succ_cons, List.drop_zero, List.reverse_cons, List.reverse_nil, List.length_cons, List.length_nil, List.map_cons, List.map_nil, List.sum_cons, List.sum_nil, Option.toList_some, Option.toList_none, true_and, and_true, true_or, or_true, Nat.sub_zero, Nat.reduceAdd, Nat.reduceSub, Nat.reduceLeDiff, Int.reduceAdd, Int.reduceLE, s_sc, s_strC, s_strV, s_alenC, s_baldC, s_gst, s_i2c, s_cret, s_athrow, s_Mo_nodes, e_Mo_nodes, p_Mo_nodes, f_Mo_nodes, s_Mo_edges, e_Mo_edges, p_Mo_edges, f_Mo_edges, s_Mo_groups, e_Mo_groups, p_Mo_groups, f_Mo_groups, s_Mo_in, er, z2, t0, t1, t2, sh_280, f1]
    repeat' (first | with_reducible apply And.intro | with_reducible intro _)
    all_goals first | contradiction | omega | (unfold r32; omega) | (exfalso; omega) | skip
    all_goals (refine ⟨by simp only [List.length_cons, List.length_nil]; omega, Nat.le_of_ble_eq_true rfl, ⟨by decide, by rw [sh_280]⟩, ?_⟩)
    all_goals (refine cl _ (fun _ => ?_) (fun z => absurd rfl z))
    all_goals (simp only [s_ic, s_lc, s_null, s_iload, s_lload, s_aload, s_istore, s_lstore, s_astore, s_iinc, s_iadd, s_isub, s_imul, s_iand, s_ior, s_ixor, s_ishl, s_ishr, s_idiv, s_irem, s_ineg, s_ladd, s_lsub, s_lmul, s_lneg, s_ldiv, s_lrem, s_lshl, s_lshr, s_lor, s_land, s_lcmp, s_i2l, s_l2i, s_i2b, s_dup, s_pop, s_dup2, s_dupx1, s_alen, s_ifnull, s_ifnon, s_icmp_eq, s_icmp_ne, s_icmp_lt, s_icmp_ge, s_icmp_gt, s_icmp_le, s_if_eq, s_if_ne, s_if_lt, s_if_ge, s_if_gt, s_if_le, s_getI, s_getL, s_getR, s_putI, s_putZ, s_putL, s_putR, s_iald, s_bald, s_lald, s_aald, s_iast, s_bast, s_last, s_iret, s_zret, s_lret, s_aret, s_vret, s_tbl, q_tab, s_acopy, s_new, s_newa, s_oinit, s_aast, q_nth, qst1, qst2, q_cl1, q_nx, q_ent, qcat, q_cs, q_up_mk, q_cpy_mk, List.cons_append, List.nil_append, List.append_nil, List.replicate, List.take_succ_cons, List.take_zero, List.drop_succ_cons, List.drop_zero, List.reverse_cons, List.reverse_nil, List.length_cons, List.length_nil, List.map_cons, List.map_nil, List.sum_cons, List.sum_nil, Option.toList_some, Option.toList_none, true_and, and_true, true_or, or_true, Nat.sub_zero, Nat.reduceAdd, Nat.reduceSub, Nat.reduceLeDiff, Int.reduceAdd, Int.reduceLE, s_sc, s_strC, s_strV, s_alenC, s_baldC, s_gst, s_i2c, s_cret, s_athrow])
    repeat' (first | with_reducible apply And.intro | with_reducible intro _)
    all_goals first | contradiction | omega | exact st | (exfalso; omega)
set_option maxRecDepth 100000 in
theorem mc_241 {l : Launch} {D : qD} {d : Nat} {gi a b what r : Int} {R : Int → Int} {h : qh} {Q : qQ} (hT : TW h.2) (hg : 0 ≤ gi ∧ gi < 4) (hn : 0 ≤ h.2 283 gi ∧ h.2 283 gi ≤ 30) (er : h.2 280 5 = r) (hr : r = 539 * (31 * gi + h.2 283 gi)) (tr : TRw h.2 r R) (ok : GOK R)
    (hq0 : ¬ CAN R 5 a b → Q (some (.inl (-1))) h) (hq1 : CAN R 5 a b → ∀ v, TRw v (tR h.2 gi) (upr R (363 + a) b) → FV (tmS (tR h.2 gi)) (stp1 (stp0 h.2 gi) gi) v → Q (some (.inl 0)) (h.1, v)) : qR l D (d + 5, 0, 0) m_Mo_change 241 Q [some (.inr (.inr 280)), some (.inl gi), some (.inl what), some (.inl a), some (.inl b)] [] h := by
  have rb := tr.1
  have z2 := hT.f2
  have n0 := ok.1.1
  have m0 := ok.1.2.1
  have g0 := ok.1.2.2
  have t0 : h.2 282 r = R 0 := by have := tr.2 0 (by decide) (by decide); rw [show r + 0 = r by omega] at this; exact this
  have t1 : h.2 282 (r + 1) = R 1 := tr.2 1 (by decide) (by decide)
  have t2 : h.2 282 (r + 2) = R 2 := tr.2 2 (by decide) (by decide)
  have sq := stp_q hg hn
  have mb := moN_b hn
  have hTs : TW (stp1 (stp0 h.2 gi) gi) := TW_stp1 (TW_stp0 hT)
  have ts : TRw (stp1 (stp0 h.2 gi) gi) (tR h.2 gi) R := sq.tr hg hn (by rw [← hr]; exact tr)
  have s5 : stp1 (stp0 h.2 gi) gi 280 5 = tR h.2 gi := sq.2.2.1
  rw [CAN_5] at hq0 hq1
  have call : ∀ m : Int, (m = 0 ∨ 0 ≤ a ∧ 363 + a < 539) → ∀ Q' : qQ, (m = 0 → Q' (some (.inl (-1))) h) → (m ≠ 0 → Q' (some (.inl 0)) (h.1, up2 (stp1 (stp0 h.2 gi) gi) 282 (tR h.2 gi + 363 + a) b)) → qM l D (d + 4, 0, 0) m_Mo_becomes [.inr (.inr 280), .inl gi, .inl 363, .inl m, .inl a, .inl b] h Q' := fun m hm Q' c0 c1 => sp_Mo_becomes (d := d) hT hg hn (by omega) c0 (fun z => by rw [s5]; exact c1 z)
  by_cases c1 : 0 ≤ a ∧ a < R 1
  · have f1 := inT_1 (v := h.2) (c := a) (lo := 0) (hi := R 1 - 1) (by omega)
    by_cases c2 : 1 ≤ b ∧ b ≤ 9
    · have f2 := inT_1 (v := h.2) (c := b) (lo := 1) (hi := 9) (by omega)
      have st := hq1 ⟨c1, c2⟩ _ (ts.sU (o := 363 + a) (x := tR h.2 gi + 363 + a) (z := b) (by omega) (by omega)) (FV.rf.tm (o := 363 + a) (x := tR h.2 gi + 363 + a) (z := b) (by omega) (by omega))
      have cl := call 1 (Or.inr ⟨c1.1, by omega⟩)
      clear hq0 hq1 sq ts tr hTs hT call ok hr s5
      refine Mo_change_241 _ _ _ ?_
      simp only [w_Mo_change_241, w_Mo_change_275, w_Mo_change_276, s_ic, s_lc, s_null, s_iload, s_lload, s_aload, s_istore, s_lstore, s_astore, s_iinc, s_iadd, s_isub, s_imul, s_iand, s_ior, s_ixor, s_ishl, s_ishr, s_idiv, s_irem, s_ineg, s_ladd, s_lsub, s_lmul, s_lneg, s_ldiv, s_lrem, s_lshl, s_lshr, s_lor, s_land, s_lcmp, s_i2l, s_l2i, s_i2b, s_dup, s_pop, s_dup2, s_dupx1, s_alen, s_ifnull, s_ifnon, s_icmp_eq, s_icmp_ne, s_icmp_lt, s_icmp_ge, s_icmp_gt, s_icmp_le, s_if_eq, s_if_ne, s_if_lt, s_if_ge, s_if_gt, s_if_le, s_getI, s_getL, s_getR, s_putI, s_putZ, s_putL, s_putR, s_iald, s_bald, s_lald, s_aald, s_iast, s_bast, s_last, s_iret, s_zret, s_lret, s_aret, s_vret, s_tbl, q_tab, s_acopy, s_new, s_newa, s_oinit, s_aast, q_nth, qst1, qst2, q_cl1, q_nx, q_ent, qcat, q_cs, q_up_mk, q_cpy_mk, List.cons_append, List.nil_append, List.append_nil, List.replicate, List.take_succ_cons, List.take_zero, List.drop_succ_cons, List.drop_zero, List.reverse_cons, List.reverse_nil, List.length_cons, List.length_nil, List.map_cons, List.map_nil, List.sum_cons, List.sum_nil, Option.toList_some, Option.toList_none, true_and, and_true, true_or, or_true, Nat.sub_zero, Nat.reduceAdd, Nat.reduceSub, Nat.reduceLeDiff, Int.reduceAdd, Int.reduceLE, s_sc, s_strC, s_strV, s_alenC, s_baldC, s_gst, s_i2c, s_cret, s_athrow, s_Mo_nodes, e_Mo_nodes, p_Mo_nodes, f_Mo_nodes, s_Mo_edges, e_Mo_edges, p_Mo_edges, f_Mo_edges, s_Mo_groups, e_Mo_groups, p_Mo_groups, f_Mo_groups, s_Mo_in, er, z2, t0, t1, t2, sh_280, f1, f2]
      repeat' (first | with_reducible apply And.intro | with_reducible intro _)
      all_goals first | contradiction | omega | (unfold r32; omega) | (exfalso; omega) | skip
      all_goals (refine ⟨by simp only [List.length_cons, List.length_nil]; omega, Nat.le_of_ble_eq_true rfl, ⟨by decide, by rw [sh_280]⟩, ?_⟩)
      all_goals (refine cl _ (fun z => absurd z (by decide)) (fun _ => ?_))
      all_goals (simp only [s_ic, s_lc, s_null, s_iload, s_lload, s_aload, s_istore, s_lstore, s_astore, s_iinc, s_iadd, s_isub, s_imul, s_iand, s_ior, s_ixor, s_ishl, s_ishr, s_idiv, s_irem, s_ineg, s_ladd, s_lsub, s_lmul, s_lneg, s_ldiv, s_lrem, s_lshl, s_lshr, s_lor, s_land, s_lcmp, s_i2l, s_l2i, s_i2b, s_dup, s_pop, s_dup2, s_dupx1, s_alen, s_ifnull, s_ifnon, s_icmp_eq, s_icmp_ne, s_icmp_lt, s_icmp_ge, s_icmp_gt, s_icmp_le, s_if_eq, s_if_ne, s_if_lt, s_if_ge, s_if_gt, s_if_le, s_getI, s_getL, s_getR, s_putI, s_putZ, s_putL, s_putR, s_iald, s_bald, s_lald, s_aald, s_iast, s_bast, s_last, s_iret, s_zret, s_lret, s_aret, s_vret, s_tbl, q_tab, s_acopy, s_new, s_newa, s_oinit, s_aast, q_nth, qst1, qst2, q_cl1, q_nx, q_ent, qcat, q_cs, q_up_mk, q_cpy_mk, List.cons_append, List.nil_append, List.append_nil, List.replicate, List.take_succ_cons, List.take_zero, List.drop_succ_cons, List.drop_zero, List.reverse_cons, List.reverse_nil, List.length_cons, List.length_nil, List.map_cons, List.map_nil, List.sum_cons, List.sum_nil, Option.toList_some, Option.toList_none, true_and, and_true, true_or, or_true, Nat.sub_zero, Nat.reduceAdd, Nat.reduceSub, Nat.reduceLeDiff, Int.reduceAdd, Int.reduceLE, s_sc, s_strC, s_strV, s_alenC, s_baldC, s_gst, s_i2c, s_cret, s_athrow])
      repeat' (first | with_reducible apply And.intro | with_reducible intro _)
      all_goals first | contradiction | omega | exact st | (exfalso; omega)
    · have f2 := inT_0 (v := h.2) (c := b) (lo := 1) (hi := 9) (by omega)
      have st := hq0 (fun q => c2 q.2)
      have cl := call 0 (Or.inl rfl)
      clear hq0 hq1 sq ts tr hTs hT call ok hr s5
      refine Mo_change_241 _ _ _ ?_
      simp only [w_Mo_change_241, w_Mo_change_275, w_Mo_change_276, s_ic, s_lc, s_null, s_iload, s_lload, s_aload, s_istore, s_lstore, s_astore, s_iinc, s_iadd, s_isub, s_imul, s_iand, s_ior, s_ixor, s_ishl, s_ishr, s_idiv, s_irem, s_ineg, s_ladd, s_lsub, s_lmul, s_lneg, s_ldiv, s_lrem, s_lshl, s_lshr, s_lor, s_land, s_lcmp, s_i2l, s_l2i, s_i2b, s_dup, s_pop, s_dup2, s_dupx1, s_alen, s_ifnull, s_ifnon, s_icmp_eq, s_icmp_ne, s_icmp_lt, s_icmp_ge, s_icmp_gt, s_icmp_le, s_if_eq, s_if_ne, s_if_lt, s_if_ge, s_if_gt, s_if_le, s_getI, s_getL, s_getR, s_putI, s_putZ, s_putL, s_putR, s_iald, s_bald, s_lald, s_aald, s_iast, s_bast, s_last, s_iret, s_zret, s_lret, s_aret, s_vret, s_tbl, q_tab, s_acopy, s_new, s_newa, s_oinit, s_aast, q_nth, qst1, qst2, q_cl1, q_nx, q_ent, qcat, q_cs, q_up_mk, q_cpy_mk, List.cons_append, List.nil_append, List.append_nil, List.replicate, List.take_succ_cons, List.take_zero, List.drop_succ_cons, List.drop_zero, List.reverse_cons, List.reverse_nil, List.length_cons, List.length_nil, List.map_cons, List.map_nil, List.sum_cons, List.sum_nil, Option.toList_some, Option.toList_none, true_and, and_true, true_or, or_true, Nat.sub_zero, Nat.reduceAdd, Nat.reduceSub, Nat.reduceLeDiff, Int.reduceAdd, Int.reduceLE, s_sc, s_strC, s_strV, s_alenC, s_baldC, s_gst, s_i2c, s_cret, s_athrow, s_Mo_nodes, e_Mo_nodes, p_Mo_nodes, f_Mo_nodes, s_Mo_edges, e_Mo_edges, p_Mo_edges, f_Mo_edges, s_Mo_groups, e_Mo_groups, p_Mo_groups, f_Mo_groups, s_Mo_in, er, z2, t0, t1, t2, sh_280, f1, f2]
      repeat' (first | with_reducible apply And.intro | with_reducible intro _)
      all_goals first | contradiction | omega | (unfold r32; omega) | (exfalso; omega) | skip
      all_goals (refine ⟨by simp only [List.length_cons, List.length_nil]; omega, Nat.le_of_ble_eq_true rfl, ⟨by decide, by rw [sh_280]⟩, ?_⟩)
      all_goals (refine cl _ (fun _ => ?_) (fun z => absurd rfl z))
      all_goals (simp only [s_ic, s_lc, s_null, s_iload, s_lload, s_aload, s_istore, s_lstore, s_astore, s_iinc, s_iadd, s_isub, s_imul, s_iand, s_ior, s_ixor, s_ishl, s_ishr, s_idiv, s_irem, s_ineg, s_ladd, s_lsub, s_lmul, s_lneg, s_ldiv, s_lrem, s_lshl, s_lshr, s_lor, s_land, s_lcmp, s_i2l, s_l2i, s_i2b, s_dup, s_pop, s_dup2, s_dupx1, s_alen, s_ifnull, s_ifnon, s_icmp_eq, s_icmp_ne, s_icmp_lt, s_icmp_ge, s_icmp_gt, s_icmp_le, s_if_eq, s_if_ne, s_if_lt, s_if_ge, s_if_gt, s_if_le, s_getI, s_getL, s_getR, s_putI, s_putZ, s_putL, s_putR, s_iald, s_bald, s_lald, s_aald, s_iast, s_bast, s_last, s_iret, s_zret, s_lret, s_aret, s_vret, s_tbl, q_tab, s_acopy, s_new, s_newa, s_oinit, s_aast, q_nth, qst1, qst2, q_cl1, q_nx, q_ent, qcat, q_cs, q_up_mk, q_cpy_mk, List.cons_append, List.nil_append, List.append_nil, List.replicate, List.take_succ_cons, List.take_zero, List.drop_succ_cons, List.drop_zero, List.reverse_cons, List.reverse_nil, List.length_cons, List.length_nil, List.map_cons, List.map_nil, List.sum_cons, List.sum_nil, Option.toList_some, Option.toList_none, true_and, and_true, true_or, or_true, Nat.sub_zero, Nat.reduceAdd, Nat.reduceSub, Nat.reduceLeDiff, Int.reduceAdd, Int.reduceLE, s_sc, s_strC, s_strV, s_alenC, s_baldC, s_gst, s_i2c, s_cret, s_athrow])
      repeat' (first | with_reducible apply And.intro | with_reducible intro _)
      all_goals first | contradiction | omega | exact st | (exfalso; omega)
  · have f1 := inT_0 (v := h.2) (c := a) (lo := 0) (hi := R 1 - 1) (by omega)
    have st := hq0 (fun q => c1 q.1)
    have cl := call 0 (Or.inl rfl)
    clear hq0 hq1 sq ts tr hTs hT call ok hr s5
    refine Mo_change_241 _ _ _ ?_
    simp only [w_Mo_change_241, w_Mo_change_275, w_Mo_change_276, s_ic, s_lc, s_null, s_iload, s_lload, s_aload, s_istore, s_lstore, s_astore, s_iinc, s_iadd, s_isub, s_imul, s_iand, s_ior, s_ixor, s_ishl, s_ishr, s_idiv, s_irem, s_ineg, s_ladd, s_lsub, s_lmul, s_lneg, s_ldiv, s_lrem, s_lshl, s_lshr, s_lor, s_land, s_lcmp, s_i2l, s_l2i, s_i2b, s_dup, s_pop, s_dup2, s_dupx1, s_alen, s_ifnull, s_ifnon, s_icmp_eq, s_icmp_ne, s_icmp_lt, s_icmp_ge, s_icmp_gt, s_icmp_le, s_if_eq, s_if_ne, s_if_lt, s_if_ge, s_if_gt, s_if_le, s_getI, s_getL, s_getR, s_putI, s_putZ, s_putL, s_putR, s_iald, s_bald, s_lald, s_aald, s_iast, s_bast, s_last, s_iret, s_zret, s_lret, s_aret, s_vret, s_tbl, q_tab, s_acopy, s_new, s_newa, s_oinit, s_aast, q_nth, qst1, qst2, q_cl1, q_nx, q_ent, qcat, q_cs, q_up_mk, q_cpy_mk, List.cons_append, List.nil_append, List.append_nil, List.replicate, List.take_succ_cons, List.take_zero, List.drop_succ_cons, List.drop_zero, List.reverse_cons, List.reverse_nil, List.length_cons, List.length_nil, List.map_cons, List.map_nil, List.sum_cons, List.sum_nil, Option.toList_some, Option.toList_none, true_and, and_true, true_or, or_true, Nat.sub_zero, Nat.reduceAdd, Nat.reduceSub, Nat.reduceLeDiff, Int.reduceAdd, Int.reduceLE, s_sc, s_strC, s_strV, s_alenC, s_baldC, s_gst, s_i2c, s_cret, s_athrow, s_Mo_nodes, e_Mo_nodes, p_Mo_nodes, f_Mo_nodes, s_Mo_edges, e_Mo_edges, p_Mo_edges, f_Mo_edges, s_Mo_groups, e_Mo_groups, p_Mo_groups, f_Mo_groups, s_Mo_in, er, z2, t0, t1, t2, sh_280, f1]
    repeat' (first | with_reducible apply And.intro | with_reducible intro _)
    all_goals first | contradiction | omega | (unfold r32; omega) | (exfalso; omega) | skip
    all_goals (refine ⟨by simp only [List.length_cons, List.length_nil]; omega, Nat.le_of_ble_eq_true rfl, ⟨by decide, by rw [sh_280]⟩, ?_⟩)
    all_goals (refine cl _ (fun _ => ?_) (fun z => absurd rfl z))
    all_goals (simp only [s_ic, s_lc, s_null, s_iload, s_lload, s_aload, s_istore, s_lstore, s_astore, s_iinc, s_iadd, s_isub, s_imul, s_iand, s_ior, s_ixor, s_ishl, s_ishr, s_idiv, s_irem, s_ineg, s_ladd, s_lsub, s_lmul, s_lneg, s_ldiv, s_lrem, s_lshl, s_lshr, s_lor, s_land, s_lcmp, s_i2l, s_l2i, s_i2b, s_dup, s_pop, s_dup2, s_dupx1, s_alen, s_ifnull, s_ifnon, s_icmp_eq, s_icmp_ne, s_icmp_lt, s_icmp_ge, s_icmp_gt, s_icmp_le, s_if_eq, s_if_ne, s_if_lt, s_if_ge, s_if_gt, s_if_le, s_getI, s_getL, s_getR, s_putI, s_putZ, s_putL, s_putR, s_iald, s_bald, s_lald, s_aald, s_iast, s_bast, s_last, s_iret, s_zret, s_lret, s_aret, s_vret, s_tbl, q_tab, s_acopy, s_new, s_newa, s_oinit, s_aast, q_nth, qst1, qst2, q_cl1, q_nx, q_ent, qcat, q_cs, q_up_mk, q_cpy_mk, List.cons_append, List.nil_append, List.append_nil, List.replicate, List.take_succ_cons, List.take_zero, List.drop_succ_cons, List.drop_zero, List.reverse_cons, List.reverse_nil, List.length_cons, List.length_nil, List.map_cons, List.map_nil, List.sum_cons, List.sum_nil, Option.toList_some, Option.toList_none, true_and, and_true, true_or, or_true, Nat.sub_zero, Nat.reduceAdd, Nat.reduceSub, Nat.reduceLeDiff, Int.reduceAdd, Int.reduceLE, s_sc, s_strC, s_strV, s_alenC, s_baldC, s_gst, s_i2c, s_cret, s_athrow])
    repeat' (first | with_reducible apply And.intro | with_reducible intro _)
    all_goals first | contradiction | omega | exact st | (exfalso; omega)
set_option maxRecDepth 100000 in
theorem mc_283 {l : Launch} {D : qD} {d : Nat} {gi a b what r : Int} {R : Int → Int} {h : qh} {Q : qQ} (hT : TW h.2) (hg : 0 ≤ gi ∧ gi < 4) (hn : 0 ≤ h.2 283 gi ∧ h.2 283 gi ≤ 30) (er : h.2 280 5 = r) (hr : r = 539 * (31 * gi + h.2 283 gi)) (tr : TRw h.2 r R) (ok : GOK R)
    (hq0 : ¬ CAN R 6 a b → Q (some (.inl (-1))) h) (hq1 : CAN R 6 a b → ∀ v, TRw v (tR h.2 gi) (upr R (243 + a) b) → FV (tmS (tR h.2 gi)) (stp1 (stp0 h.2 gi) gi) v → Q (some (.inl 0)) (h.1, v)) : qR l D (d + 5, 0, 0) m_Mo_change 283 Q [some (.inr (.inr 280)), some (.inl gi), some (.inl what), some (.inl a), some (.inl b)] [] h := by
  have rb := tr.1
  have z2 := hT.f2
  have n0 := ok.1.1
  have m0 := ok.1.2.1
  have g0 := ok.1.2.2
  have t0 : h.2 282 r = R 0 := by have := tr.2 0 (by decide) (by decide); rw [show r + 0 = r by omega] at this; exact this
  have t1 : h.2 282 (r + 1) = R 1 := tr.2 1 (by decide) (by decide)
  have t2 : h.2 282 (r + 2) = R 2 := tr.2 2 (by decide) (by decide)
  have sq := stp_q hg hn
  have mb := moN_b hn
  have hTs : TW (stp1 (stp0 h.2 gi) gi) := TW_stp1 (TW_stp0 hT)
  have ts : TRw (stp1 (stp0 h.2 gi) gi) (tR h.2 gi) R := sq.tr hg hn (by rw [← hr]; exact tr)
  have s5 : stp1 (stp0 h.2 gi) gi 280 5 = tR h.2 gi := sq.2.2.1
  rw [CAN_6] at hq0 hq1
  have call : ∀ m : Int, (m = 0 ∨ 0 ≤ a ∧ 243 + a < 539) → ∀ Q' : qQ, (m = 0 → Q' (some (.inl (-1))) h) → (m ≠ 0 → Q' (some (.inl 0)) (h.1, up2 (stp1 (stp0 h.2 gi) gi) 282 (tR h.2 gi + 243 + a) b)) → qM l D (d + 4, 0, 0) m_Mo_becomes [.inr (.inr 280), .inl gi, .inl 243, .inl m, .inl a, .inl b] h Q' := fun m hm Q' c0 c1 => sp_Mo_becomes (d := d) hT hg hn (by omega) c0 (fun z => by rw [s5]; exact c1 z)
  by_cases c1 : 0 ≤ a ∧ a < R 0
  · have f1 := inT_1 (v := h.2) (c := a) (lo := 0) (hi := R 0 - 1) (by omega)
    by_cases c2 : 0 ≤ b ∧ b < R 2
    · have f2 := inT_1 (v := h.2) (c := b) (lo := 0) (hi := R 2 - 1) (by omega)
      have st := hq1 ⟨c1, c2⟩ _ (ts.sU (o := 243 + a) (x := tR h.2 gi + 243 + a) (z := b) (by omega) (by omega)) (FV.rf.tm (o := 243 + a) (x := tR h.2 gi + 243 + a) (z := b) (by omega) (by omega))
      have cl := call 1 (Or.inr ⟨c1.1, by omega⟩)
      clear hq0 hq1 sq ts tr hTs hT call ok hr s5
      refine Mo_change_283 _ _ _ ?_
      simp only [w_Mo_change_283, w_Mo_change_321, w_Mo_change_322, s_ic, s_lc, s_null, s_iload, s_lload, s_aload, s_istore, s_lstore, s_astore, s_iinc, s_iadd, s_isub, s_imul, s_iand, s_ior, s_ixor, s_ishl, s_ishr, s_idiv, s_irem, s_ineg, s_ladd, s_lsub, s_lmul, s_lneg, s_ldiv, s_lrem, s_lshl, s_lshr, s_lor, s_land, s_lcmp, s_i2l, s_l2i, s_i2b, s_dup, s_pop, s_dup2, s_dupx1, s_alen, s_ifnull, s_ifnon, s_icmp_eq, s_icmp_ne, s_icmp_lt, s_icmp_ge, s_icmp_gt, s_icmp_le, s_if_eq, s_if_ne, s_if_lt, s_if_ge, s_if_gt, s_if_le, s_getI, s_getL, s_getR, s_putI, s_putZ, s_putL, s_putR, s_iald, s_bald, s_lald, s_aald, s_iast, s_bast, s_last, s_iret, s_zret, s_lret, s_aret, s_vret, s_tbl, q_tab, s_acopy, s_new, s_newa, s_oinit, s_aast, q_nth, qst1, qst2, q_cl1, q_nx, q_ent, qcat, q_cs, q_up_mk, q_cpy_mk, List.cons_append, List.nil_append, List.append_nil, List.replicate, List.take_succ_cons, List.take_zero, List.drop_succ_cons, List.drop_zero, List.reverse_cons, List.reverse_nil, List.length_cons, List.length_nil, List.map_cons, List.map_nil, List.sum_cons, List.sum_nil, Option.toList_some, Option.toList_none, true_and, and_true, true_or, or_true, Nat.sub_zero, Nat.reduceAdd, Nat.reduceSub, Nat.reduceLeDiff, Int.reduceAdd, Int.reduceLE, s_sc, s_strC, s_strV, s_alenC, s_baldC, s_gst, s_i2c, s_cret, s_athrow, s_Mo_nodes, e_Mo_nodes, p_Mo_nodes, f_Mo_nodes, s_Mo_edges, e_Mo_edges, p_Mo_edges, f_Mo_edges, s_Mo_groups, e_Mo_groups, p_Mo_groups, f_Mo_groups, s_Mo_in, er, z2, t0, t1, t2, sh_280, f1, f2]
      repeat' (first | with_reducible apply And.intro | with_reducible intro _)
      all_goals first | contradiction | omega | (unfold r32; omega) | (exfalso; omega) | skip
      all_goals (refine ⟨by simp only [List.length_cons, List.length_nil]; omega, Nat.le_of_ble_eq_true rfl, ⟨by decide, by rw [sh_280]⟩, ?_⟩)
      all_goals (refine cl _ (fun z => absurd z (by decide)) (fun _ => ?_))
      all_goals (simp only [s_ic, s_lc, s_null, s_iload, s_lload, s_aload, s_istore, s_lstore, s_astore, s_iinc, s_iadd, s_isub, s_imul, s_iand, s_ior, s_ixor, s_ishl, s_ishr, s_idiv, s_irem, s_ineg, s_ladd, s_lsub, s_lmul, s_lneg, s_ldiv, s_lrem, s_lshl, s_lshr, s_lor, s_land, s_lcmp, s_i2l, s_l2i, s_i2b, s_dup, s_pop, s_dup2, s_dupx1, s_alen, s_ifnull, s_ifnon, s_icmp_eq, s_icmp_ne, s_icmp_lt, s_icmp_ge, s_icmp_gt, s_icmp_le, s_if_eq, s_if_ne, s_if_lt, s_if_ge, s_if_gt, s_if_le, s_getI, s_getL, s_getR, s_putI, s_putZ, s_putL, s_putR, s_iald, s_bald, s_lald, s_aald, s_iast, s_bast, s_last, s_iret, s_zret, s_lret, s_aret, s_vret, s_tbl, q_tab, s_acopy, s_new, s_newa, s_oinit, s_aast, q_nth, qst1, qst2, q_cl1, q_nx, q_ent, qcat, q_cs, q_up_mk, q_cpy_mk, List.cons_append, List.nil_append, List.append_nil, List.replicate, List.take_succ_cons, List.take_zero, List.drop_succ_cons, List.drop_zero, List.reverse_cons, List.reverse_nil, List.length_cons, List.length_nil, List.map_cons, List.map_nil, List.sum_cons, List.sum_nil, Option.toList_some, Option.toList_none, true_and, and_true, true_or, or_true, Nat.sub_zero, Nat.reduceAdd, Nat.reduceSub, Nat.reduceLeDiff, Int.reduceAdd, Int.reduceLE, s_sc, s_strC, s_strV, s_alenC, s_baldC, s_gst, s_i2c, s_cret, s_athrow])
      repeat' (first | with_reducible apply And.intro | with_reducible intro _)
      all_goals first | contradiction | omega | exact st | (exfalso; omega)
    · have f2 := inT_0 (v := h.2) (c := b) (lo := 0) (hi := R 2 - 1) (by omega)
      have st := hq0 (fun q => c2 q.2)
      have cl := call 0 (Or.inl rfl)
      clear hq0 hq1 sq ts tr hTs hT call ok hr s5
      refine Mo_change_283 _ _ _ ?_
      simp only [w_Mo_change_283, w_Mo_change_321, w_Mo_change_322, s_ic, s_lc, s_null, s_iload, s_lload, s_aload, s_istore, s_lstore, s_astore, s_iinc, s_iadd, s_isub, s_imul, s_iand, s_ior, s_ixor, s_ishl, s_ishr, s_idiv, s_irem, s_ineg, s_ladd, s_lsub, s_lmul, s_lneg, s_ldiv, s_lrem, s_lshl, s_lshr, s_lor, s_land, s_lcmp, s_i2l, s_l2i, s_i2b, s_dup, s_pop, s_dup2, s_dupx1, s_alen, s_ifnull, s_ifnon, s_icmp_eq, s_icmp_ne, s_icmp_lt, s_icmp_ge, s_icmp_gt, s_icmp_le, s_if_eq, s_if_ne, s_if_lt, s_if_ge, s_if_gt, s_if_le, s_getI, s_getL, s_getR, s_putI, s_putZ, s_putL, s_putR, s_iald, s_bald, s_lald, s_aald, s_iast, s_bast, s_last, s_iret, s_zret, s_lret, s_aret, s_vret, s_tbl, q_tab, s_acopy, s_new, s_newa, s_oinit, s_aast, q_nth, qst1, qst2, q_cl1, q_nx, q_ent, qcat, q_cs, q_up_mk, q_cpy_mk, List.cons_append, List.nil_append, List.append_nil, List.replicate, List.take_succ_cons, List.take_zero, List.drop_succ_cons, List.drop_zero, List.reverse_cons, List.reverse_nil, List.length_cons, List.length_nil, List.map_cons, List.map_nil, List.sum_cons, List.sum_nil, Option.toList_some, Option.toList_none, true_and, and_true, true_or, or_true, Nat.sub_zero, Nat.reduceAdd, Nat.reduceSub, Nat.reduceLeDiff, Int.reduceAdd, Int.reduceLE, s_sc, s_strC, s_strV, s_alenC, s_baldC, s_gst, s_i2c, s_cret, s_athrow, s_Mo_nodes, e_Mo_nodes, p_Mo_nodes, f_Mo_nodes, s_Mo_edges, e_Mo_edges, p_Mo_edges, f_Mo_edges, s_Mo_groups, e_Mo_groups, p_Mo_groups, f_Mo_groups, s_Mo_in, er, z2, t0, t1, t2, sh_280, f1, f2]
      repeat' (first | with_reducible apply And.intro | with_reducible intro _)
      all_goals first | contradiction | omega | (unfold r32; omega) | (exfalso; omega) | skip
      all_goals (refine ⟨by simp only [List.length_cons, List.length_nil]; omega, Nat.le_of_ble_eq_true rfl, ⟨by decide, by rw [sh_280]⟩, ?_⟩)
      all_goals (refine cl _ (fun _ => ?_) (fun z => absurd rfl z))
      all_goals (simp only [s_ic, s_lc, s_null, s_iload, s_lload, s_aload, s_istore, s_lstore, s_astore, s_iinc, s_iadd, s_isub, s_imul, s_iand, s_ior, s_ixor, s_ishl, s_ishr, s_idiv, s_irem, s_ineg, s_ladd, s_lsub, s_lmul, s_lneg, s_ldiv, s_lrem, s_lshl, s_lshr, s_lor, s_land, s_lcmp, s_i2l, s_l2i, s_i2b, s_dup, s_pop, s_dup2, s_dupx1, s_alen, s_ifnull, s_ifnon, s_icmp_eq, s_icmp_ne, s_icmp_lt, s_icmp_ge, s_icmp_gt, s_icmp_le, s_if_eq, s_if_ne, s_if_lt, s_if_ge, s_if_gt, s_if_le, s_getI, s_getL, s_getR, s_putI, s_putZ, s_putL, s_putR, s_iald, s_bald, s_lald, s_aald, s_iast, s_bast, s_last, s_iret, s_zret, s_lret, s_aret, s_vret, s_tbl, q_tab, s_acopy, s_new, s_newa, s_oinit, s_aast, q_nth, qst1, qst2, q_cl1, q_nx, q_ent, qcat, q_cs, q_up_mk, q_cpy_mk, List.cons_append, List.nil_append, List.append_nil, List.replicate, List.take_succ_cons, List.take_zero, List.drop_succ_cons, List.drop_zero, List.reverse_cons, List.reverse_nil, List.length_cons, List.length_nil, List.map_cons, List.map_nil, List.sum_cons, List.sum_nil, Option.toList_some, Option.toList_none, true_and, and_true, true_or, or_true, Nat.sub_zero, Nat.reduceAdd, Nat.reduceSub, Nat.reduceLeDiff, Int.reduceAdd, Int.reduceLE, s_sc, s_strC, s_strV, s_alenC, s_baldC, s_gst, s_i2c, s_cret, s_athrow])
      repeat' (first | with_reducible apply And.intro | with_reducible intro _)
      all_goals first | contradiction | omega | exact st | (exfalso; omega)
  · have f1 := inT_0 (v := h.2) (c := a) (lo := 0) (hi := R 0 - 1) (by omega)
    have st := hq0 (fun q => c1 q.1)
    have cl := call 0 (Or.inl rfl)
    clear hq0 hq1 sq ts tr hTs hT call ok hr s5
    refine Mo_change_283 _ _ _ ?_
    simp only [w_Mo_change_283, w_Mo_change_321, w_Mo_change_322, s_ic, s_lc, s_null, s_iload, s_lload, s_aload, s_istore, s_lstore, s_astore, s_iinc, s_iadd, s_isub, s_imul, s_iand, s_ior, s_ixor, s_ishl, s_ishr, s_idiv, s_irem, s_ineg, s_ladd, s_lsub, s_lmul, s_lneg, s_ldiv, s_lrem, s_lshl, s_lshr, s_lor, s_land, s_lcmp, s_i2l, s_l2i, s_i2b, s_dup, s_pop, s_dup2, s_dupx1, s_alen, s_ifnull, s_ifnon, s_icmp_eq, s_icmp_ne, s_icmp_lt, s_icmp_ge, s_icmp_gt, s_icmp_le, s_if_eq, s_if_ne, s_if_lt, s_if_ge, s_if_gt, s_if_le, s_getI, s_getL, s_getR, s_putI, s_putZ, s_putL, s_putR, s_iald, s_bald, s_lald, s_aald, s_iast, s_bast, s_last, s_iret, s_zret, s_lret, s_aret, s_vret, s_tbl, q_tab, s_acopy, s_new, s_newa, s_oinit, s_aast, q_nth, qst1, qst2, q_cl1, q_nx, q_ent, qcat, q_cs, q_up_mk, q_cpy_mk, List.cons_append, List.nil_append, List.append_nil, List.replicate, List.take_succ_cons, List.take_zero, List.drop_succ_cons, List.drop_zero, List.reverse_cons, List.reverse_nil, List.length_cons, List.length_nil, List.map_cons, List.map_nil, List.sum_cons, List.sum_nil, Option.toList_some, Option.toList_none, true_and, and_true, true_or, or_true, Nat.sub_zero, Nat.reduceAdd, Nat.reduceSub, Nat.reduceLeDiff, Int.reduceAdd, Int.reduceLE, s_sc, s_strC, s_strV, s_alenC, s_baldC, s_gst, s_i2c, s_cret, s_athrow, s_Mo_nodes, e_Mo_nodes, p_Mo_nodes, f_Mo_nodes, s_Mo_edges, e_Mo_edges, p_Mo_edges, f_Mo_edges, s_Mo_groups, e_Mo_groups, p_Mo_groups, f_Mo_groups, s_Mo_in, er, z2, t0, t1, t2, sh_280, f1]
    repeat' (first | with_reducible apply And.intro | with_reducible intro _)
    all_goals first | contradiction | omega | (unfold r32; omega) | (exfalso; omega) | skip
    all_goals (refine ⟨by simp only [List.length_cons, List.length_nil]; omega, Nat.le_of_ble_eq_true rfl, ⟨by decide, by rw [sh_280]⟩, ?_⟩)
    all_goals (refine cl _ (fun _ => ?_) (fun z => absurd rfl z))
    all_goals (simp only [s_ic, s_lc, s_null, s_iload, s_lload, s_aload, s_istore, s_lstore, s_astore, s_iinc, s_iadd, s_isub, s_imul, s_iand, s_ior, s_ixor, s_ishl, s_ishr, s_idiv, s_irem, s_ineg, s_ladd, s_lsub, s_lmul, s_lneg, s_ldiv, s_lrem, s_lshl, s_lshr, s_lor, s_land, s_lcmp, s_i2l, s_l2i, s_i2b, s_dup, s_pop, s_dup2, s_dupx1, s_alen, s_ifnull, s_ifnon, s_icmp_eq, s_icmp_ne, s_icmp_lt, s_icmp_ge, s_icmp_gt, s_icmp_le, s_if_eq, s_if_ne, s_if_lt, s_if_ge, s_if_gt, s_if_le, s_getI, s_getL, s_getR, s_putI, s_putZ, s_putL, s_putR, s_iald, s_bald, s_lald, s_aald, s_iast, s_bast, s_last, s_iret, s_zret, s_lret, s_aret, s_vret, s_tbl, q_tab, s_acopy, s_new, s_newa, s_oinit, s_aast, q_nth, qst1, qst2, q_cl1, q_nx, q_ent, qcat, q_cs, q_up_mk, q_cpy_mk, List.cons_append, List.nil_append, List.append_nil, List.replicate, List.take_succ_cons, List.take_zero, List.drop_succ_cons, List.drop_zero, List.reverse_cons, List.reverse_nil, List.length_cons, List.length_nil, List.map_cons, List.map_nil, List.sum_cons, List.sum_nil, Option.toList_some, Option.toList_none, true_and, and_true, true_or, or_true, Nat.sub_zero, Nat.reduceAdd, Nat.reduceSub, Nat.reduceLeDiff, Int.reduceAdd, Int.reduceLE, s_sc, s_strC, s_strV, s_alenC, s_baldC, s_gst, s_i2c, s_cret, s_athrow])
    repeat' (first | with_reducible apply And.intro | with_reducible intro _)
    all_goals first | contradiction | omega | exact st | (exfalso; omega)
set_option maxRecDepth 100000 in
theorem mc_329 {l : Launch} {D : qD} {d : Nat} {gi a b what r : Int} {R : Int → Int} {h : qh} {Q : qQ} (hT : TW h.2) (hg : 0 ≤ gi ∧ gi < 4) (hn : 0 ≤ h.2 283 gi ∧ h.2 283 gi ≤ 30) (er : h.2 280 5 = r) (hr : r = 539 * (31 * gi + h.2 283 gi)) (tr : TRw h.2 r R) (ok : GOK R)
    (hq0 : ¬ CAN R 7 a b → Q (some (.inl (-1))) h) (hq1 : CAN R 7 a b → ∀ v, TRw v (tR h.2 gi) (upr R (411 + a) b) → FV (tmS (tR h.2 gi)) (stp1 (stp0 h.2 gi) gi) v → Q (some (.inl 0)) (h.1, v)) : qR l D (d + 5, 0, 0) m_Mo_change 329 Q [some (.inr (.inr 280)), some (.inl gi), some (.inl what), some (.inl a), some (.inl b)] [] h := by
  have rb := tr.1
  have z2 := hT.f2
  have n0 := ok.1.1
  have m0 := ok.1.2.1
  have g0 := ok.1.2.2
  have t0 : h.2 282 r = R 0 := by have := tr.2 0 (by decide) (by decide); rw [show r + 0 = r by omega] at this; exact this
  have t1 : h.2 282 (r + 1) = R 1 := tr.2 1 (by decide) (by decide)
  have t2 : h.2 282 (r + 2) = R 2 := tr.2 2 (by decide) (by decide)
  have sq := stp_q hg hn
  have mb := moN_b hn
  have hTs : TW (stp1 (stp0 h.2 gi) gi) := TW_stp1 (TW_stp0 hT)
  have ts : TRw (stp1 (stp0 h.2 gi) gi) (tR h.2 gi) R := sq.tr hg hn (by rw [← hr]; exact tr)
  have s5 : stp1 (stp0 h.2 gi) gi 280 5 = tR h.2 gi := sq.2.2.1
  rw [CAN_7] at hq0 hq1
  have call : ∀ m : Int, (m = 0 ∨ 0 ≤ a ∧ 411 + a < 539) → ∀ Q' : qQ, (m = 0 → Q' (some (.inl (-1))) h) → (m ≠ 0 → Q' (some (.inl 0)) (h.1, up2 (stp1 (stp0 h.2 gi) gi) 282 (tR h.2 gi + 411 + a) b)) → qM l D (d + 4, 0, 0) m_Mo_becomes [.inr (.inr 280), .inl gi, .inl 411, .inl m, .inl a, .inl b] h Q' := fun m hm Q' c0 c1 => sp_Mo_becomes (d := d) hT hg hn (by omega) c0 (fun z => by rw [s5]; exact c1 z)
  by_cases c1 : 0 ≤ a ∧ a < R 1
  · have f1 := inT_1 (v := h.2) (c := a) (lo := 0) (hi := R 1 - 1) (by omega)
    by_cases c2 : b = 0 ∨ b = 1
    · have f2 := inT_1 (v := h.2) (c := b) (lo := 0) (hi := 1) (by omega)
      have st := hq1 ⟨c1, c2⟩ _ (ts.sU (o := 411 + a) (x := tR h.2 gi + 411 + a) (z := b) (by omega) (by omega)) (FV.rf.tm (o := 411 + a) (x := tR h.2 gi + 411 + a) (z := b) (by omega) (by omega))
      have cl := call 1 (Or.inr ⟨c1.1, by omega⟩)
      clear hq0 hq1 sq ts tr hTs hT call ok hr s5
      refine Mo_change_329 _ _ _ ?_
      simp only [w_Mo_change_329, w_Mo_change_362, w_Mo_change_363, s_ic, s_lc, s_null, s_iload, s_lload, s_aload, s_istore, s_lstore, s_astore, s_iinc, s_iadd, s_isub, s_imul, s_iand, s_ior, s_ixor, s_ishl, s_ishr, s_idiv, s_irem, s_ineg, s_ladd, s_lsub, s_lmul, s_lneg, s_ldiv, s_lrem, s_lshl, s_lshr, s_lor, s_land, s_lcmp, s_i2l, s_l2i, s_i2b, s_dup, s_pop, s_dup2, s_dupx1, s_alen, s_ifnull, s_ifnon, s_icmp_eq, s_icmp_ne, s_icmp_lt, s_icmp_ge, s_icmp_gt, s_icmp_le, s_if_eq, s_if_ne, s_if_lt, s_if_ge, s_if_gt, s_if_le, s_getI, s_getL, s_getR, s_putI, s_putZ, s_putL, s_putR, s_iald, s_bald, s_lald, s_aald, s_iast, s_bast, s_last, s_iret, s_zret, s_lret, s_aret, s_vret, s_tbl, q_tab, s_acopy, s_new, s_newa, s_oinit, s_aast, q_nth, qst1, qst2, q_cl1, q_nx, q_ent, qcat, q_cs, q_up_mk, q_cpy_mk, List.cons_append, List.nil_append, List.append_nil, List.replicate, List.take_succ_cons, List.take_zero, List.drop_succ_cons, List.drop_zero, List.reverse_cons, List.reverse_nil, List.length_cons, List.length_nil, List.map_cons, List.map_nil, List.sum_cons, List.sum_nil, Option.toList_some, Option.toList_none, true_and, and_true, true_or, or_true, Nat.sub_zero, Nat.reduceAdd, Nat.reduceSub, Nat.reduceLeDiff, Int.reduceAdd, Int.reduceLE, s_sc, s_strC, s_strV, s_alenC, s_baldC, s_gst, s_i2c, s_cret, s_athrow, s_Mo_nodes, e_Mo_nodes, p_Mo_nodes, f_Mo_nodes, s_Mo_edges, e_Mo_edges, p_Mo_edges, f_Mo_edges, s_Mo_groups, e_Mo_groups, p_Mo_groups, f_Mo_groups, s_Mo_in, er, z2, t0, t1, t2, sh_280, f1, f2]
      repeat' (first | with_reducible apply And.intro | with_reducible intro _)
      all_goals first | contradiction | omega | (unfold r32; omega) | (exfalso; omega) | skip
      all_goals (refine ⟨by simp only [List.length_cons, List.length_nil]; omega, Nat.le_of_ble_eq_true rfl, ⟨by decide, by rw [sh_280]⟩, ?_⟩)
      all_goals (refine cl _ (fun z => absurd z (by decide)) (fun _ => ?_))
      all_goals (simp only [s_ic, s_lc, s_null, s_iload, s_lload, s_aload, s_istore, s_lstore, s_astore, s_iinc, s_iadd, s_isub, s_imul, s_iand, s_ior, s_ixor, s_ishl, s_ishr, s_idiv, s_irem, s_ineg, s_ladd, s_lsub, s_lmul, s_lneg, s_ldiv, s_lrem, s_lshl, s_lshr, s_lor, s_land, s_lcmp, s_i2l, s_l2i, s_i2b, s_dup, s_pop, s_dup2, s_dupx1, s_alen, s_ifnull, s_ifnon, s_icmp_eq, s_icmp_ne, s_icmp_lt, s_icmp_ge, s_icmp_gt, s_icmp_le, s_if_eq, s_if_ne, s_if_lt, s_if_ge, s_if_gt, s_if_le, s_getI, s_getL, s_getR, s_putI, s_putZ, s_putL, s_putR, s_iald, s_bald, s_lald, s_aald, s_iast, s_bast, s_last, s_iret, s_zret, s_lret, s_aret, s_vret, s_tbl, q_tab, s_acopy, s_new, s_newa, s_oinit, s_aast, q_nth, qst1, qst2, q_cl1, q_nx, q_ent, qcat, q_cs, q_up_mk, q_cpy_mk, List.cons_append, List.nil_append, List.append_nil, List.replicate, List.take_succ_cons, List.take_zero, List.drop_succ_cons, List.drop_zero, List.reverse_cons, List.reverse_nil, List.length_cons, List.length_nil, List.map_cons, List.map_nil, List.sum_cons, List.sum_nil, Option.toList_some, Option.toList_none, true_and, and_true, true_or, or_true, Nat.sub_zero, Nat.reduceAdd, Nat.reduceSub, Nat.reduceLeDiff, Int.reduceAdd, Int.reduceLE, s_sc, s_strC, s_strV, s_alenC, s_baldC, s_gst, s_i2c, s_cret, s_athrow])
      repeat' (first | with_reducible apply And.intro | with_reducible intro _)
      all_goals first | contradiction | omega | exact st | (exfalso; omega)
    · have f2 := inT_0 (v := h.2) (c := b) (lo := 0) (hi := 1) (by omega)
      have st := hq0 (fun q => c2 q.2)
      have cl := call 0 (Or.inl rfl)
      clear hq0 hq1 sq ts tr hTs hT call ok hr s5
      refine Mo_change_329 _ _ _ ?_
      simp only [w_Mo_change_329, w_Mo_change_362, w_Mo_change_363, s_ic, s_lc, s_null, s_iload, s_lload, s_aload, s_istore, s_lstore, s_astore, s_iinc, s_iadd, s_isub, s_imul, s_iand, s_ior, s_ixor, s_ishl, s_ishr, s_idiv, s_irem, s_ineg, s_ladd, s_lsub, s_lmul, s_lneg, s_ldiv, s_lrem, s_lshl, s_lshr, s_lor, s_land, s_lcmp, s_i2l, s_l2i, s_i2b, s_dup, s_pop, s_dup2, s_dupx1, s_alen, s_ifnull, s_ifnon, s_icmp_eq, s_icmp_ne, s_icmp_lt, s_icmp_ge, s_icmp_gt, s_icmp_le, s_if_eq, s_if_ne, s_if_lt, s_if_ge, s_if_gt, s_if_le, s_getI, s_getL, s_getR, s_putI, s_putZ, s_putL, s_putR, s_iald, s_bald, s_lald, s_aald, s_iast, s_bast, s_last, s_iret, s_zret, s_lret, s_aret, s_vret, s_tbl, q_tab, s_acopy, s_new, s_newa, s_oinit, s_aast, q_nth, qst1, qst2, q_cl1, q_nx, q_ent, qcat, q_cs, q_up_mk, q_cpy_mk, List.cons_append, List.nil_append, List.append_nil, List.replicate, List.take_succ_cons, List.take_zero, List.drop_succ_cons, List.drop_zero, List.reverse_cons, List.reverse_nil, List.length_cons, List.length_nil, List.map_cons, List.map_nil, List.sum_cons, List.sum_nil, Option.toList_some, Option.toList_none, true_and, and_true, true_or, or_true, Nat.sub_zero, Nat.reduceAdd, Nat.reduceSub, Nat.reduceLeDiff, Int.reduceAdd, Int.reduceLE, s_sc, s_strC, s_strV, s_alenC, s_baldC, s_gst, s_i2c, s_cret, s_athrow, s_Mo_nodes, e_Mo_nodes, p_Mo_nodes, f_Mo_nodes, s_Mo_edges, e_Mo_edges, p_Mo_edges, f_Mo_edges, s_Mo_groups, e_Mo_groups, p_Mo_groups, f_Mo_groups, s_Mo_in, er, z2, t0, t1, t2, sh_280, f1, f2]
      repeat' (first | with_reducible apply And.intro | with_reducible intro _)
      all_goals first | contradiction | omega | (unfold r32; omega) | (exfalso; omega) | skip
      all_goals (refine ⟨by simp only [List.length_cons, List.length_nil]; omega, Nat.le_of_ble_eq_true rfl, ⟨by decide, by rw [sh_280]⟩, ?_⟩)
      all_goals (refine cl _ (fun _ => ?_) (fun z => absurd rfl z))
      all_goals (simp only [s_ic, s_lc, s_null, s_iload, s_lload, s_aload, s_istore, s_lstore, s_astore, s_iinc, s_iadd, s_isub, s_imul, s_iand, s_ior, s_ixor, s_ishl, s_ishr, s_idiv, s_irem, s_ineg, s_ladd, s_lsub, s_lmul, s_lneg, s_ldiv, s_lrem, s_lshl, s_lshr, s_lor, s_land, s_lcmp, s_i2l, s_l2i, s_i2b, s_dup, s_pop, s_dup2, s_dupx1, s_alen, s_ifnull, s_ifnon, s_icmp_eq, s_icmp_ne, s_icmp_lt, s_icmp_ge, s_icmp_gt, s_icmp_le, s_if_eq, s_if_ne, s_if_lt, s_if_ge, s_if_gt, s_if_le, s_getI, s_getL, s_getR, s_putI, s_putZ, s_putL, s_putR, s_iald, s_bald, s_lald, s_aald, s_iast, s_bast, s_last, s_iret, s_zret, s_lret, s_aret, s_vret, s_tbl, q_tab, s_acopy, s_new, s_newa, s_oinit, s_aast, q_nth, qst1, qst2, q_cl1, q_nx, q_ent, qcat, q_cs, q_up_mk, q_cpy_mk, List.cons_append, List.nil_append, List.append_nil, List.replicate, List.take_succ_cons, List.take_zero, List.drop_succ_cons, List.drop_zero, List.reverse_cons, List.reverse_nil, List.length_cons, List.length_nil, List.map_cons, List.map_nil, List.sum_cons, List.sum_nil, Option.toList_some, Option.toList_none, true_and, and_true, true_or, or_true, Nat.sub_zero, Nat.reduceAdd, Nat.reduceSub, Nat.reduceLeDiff, Int.reduceAdd, Int.reduceLE, s_sc, s_strC, s_strV, s_alenC, s_baldC, s_gst, s_i2c, s_cret, s_athrow])
      repeat' (first | with_reducible apply And.intro | with_reducible intro _)
      all_goals first | contradiction | omega | exact st | (exfalso; omega)
  · have f1 := inT_0 (v := h.2) (c := a) (lo := 0) (hi := R 1 - 1) (by omega)
    have st := hq0 (fun q => c1 q.1)
    have cl := call 0 (Or.inl rfl)
    clear hq0 hq1 sq ts tr hTs hT call ok hr s5
    refine Mo_change_329 _ _ _ ?_
    simp only [w_Mo_change_329, w_Mo_change_362, w_Mo_change_363, s_ic, s_lc, s_null, s_iload, s_lload, s_aload, s_istore, s_lstore, s_astore, s_iinc, s_iadd, s_isub, s_imul, s_iand, s_ior, s_ixor, s_ishl, s_ishr, s_idiv, s_irem, s_ineg, s_ladd, s_lsub, s_lmul, s_lneg, s_ldiv, s_lrem, s_lshl, s_lshr, s_lor, s_land, s_lcmp, s_i2l, s_l2i, s_i2b, s_dup, s_pop, s_dup2, s_dupx1, s_alen, s_ifnull, s_ifnon, s_icmp_eq, s_icmp_ne, s_icmp_lt, s_icmp_ge, s_icmp_gt, s_icmp_le, s_if_eq, s_if_ne, s_if_lt, s_if_ge, s_if_gt, s_if_le, s_getI, s_getL, s_getR, s_putI, s_putZ, s_putL, s_putR, s_iald, s_bald, s_lald, s_aald, s_iast, s_bast, s_last, s_iret, s_zret, s_lret, s_aret, s_vret, s_tbl, q_tab, s_acopy, s_new, s_newa, s_oinit, s_aast, q_nth, qst1, qst2, q_cl1, q_nx, q_ent, qcat, q_cs, q_up_mk, q_cpy_mk, List.cons_append, List.nil_append, List.append_nil, List.replicate, List.take_succ_cons, List.take_zero, List.drop_succ_cons, List.drop_zero, List.reverse_cons, List.reverse_nil, List.length_cons, List.length_nil, List.map_cons, List.map_nil, List.sum_cons, List.sum_nil, Option.toList_some, Option.toList_none, true_and, and_true, true_or, or_true, Nat.sub_zero, Nat.reduceAdd, Nat.reduceSub, Nat.reduceLeDiff, Int.reduceAdd, Int.reduceLE, s_sc, s_strC, s_strV, s_alenC, s_baldC, s_gst, s_i2c, s_cret, s_athrow, s_Mo_nodes, e_Mo_nodes, p_Mo_nodes, f_Mo_nodes, s_Mo_edges, e_Mo_edges, p_Mo_edges, f_Mo_edges, s_Mo_groups, e_Mo_groups, p_Mo_groups, f_Mo_groups, s_Mo_in, er, z2, t0, t1, t2, sh_280, f1]
    repeat' (first | with_reducible apply And.intro | with_reducible intro _)
    all_goals first | contradiction | omega | (unfold r32; omega) | (exfalso; omega) | skip
    all_goals (refine ⟨by simp only [List.length_cons, List.length_nil]; omega, Nat.le_of_ble_eq_true rfl, ⟨by decide, by rw [sh_280]⟩, ?_⟩)
    all_goals (refine cl _ (fun _ => ?_) (fun z => absurd rfl z))
    all_goals (simp only [s_ic, s_lc, s_null, s_iload, s_lload, s_aload, s_istore, s_lstore, s_astore, s_iinc, s_iadd, s_isub, s_imul, s_iand, s_ior, s_ixor, s_ishl, s_ishr, s_idiv, s_irem, s_ineg, s_ladd, s_lsub, s_lmul, s_lneg, s_ldiv, s_lrem, s_lshl, s_lshr, s_lor, s_land, s_lcmp, s_i2l, s_l2i, s_i2b, s_dup, s_pop, s_dup2, s_dupx1, s_alen, s_ifnull, s_ifnon, s_icmp_eq, s_icmp_ne, s_icmp_lt, s_icmp_ge, s_icmp_gt, s_icmp_le, s_if_eq, s_if_ne, s_if_lt, s_if_ge, s_if_gt, s_if_le, s_getI, s_getL, s_getR, s_putI, s_putZ, s_putL, s_putR, s_iald, s_bald, s_lald, s_aald, s_iast, s_bast, s_last, s_iret, s_zret, s_lret, s_aret, s_vret, s_tbl, q_tab, s_acopy, s_new, s_newa, s_oinit, s_aast, q_nth, qst1, qst2, q_cl1, q_nx, q_ent, qcat, q_cs, q_up_mk, q_cpy_mk, List.cons_append, List.nil_append, List.append_nil, List.replicate, List.take_succ_cons, List.take_zero, List.drop_succ_cons, List.drop_zero, List.reverse_cons, List.reverse_nil, List.length_cons, List.length_nil, List.map_cons, List.map_nil, List.sum_cons, List.sum_nil, Option.toList_some, Option.toList_none, true_and, and_true, true_or, or_true, Nat.sub_zero, Nat.reduceAdd, Nat.reduceSub, Nat.reduceLeDiff, Int.reduceAdd, Int.reduceLE, s_sc, s_strC, s_strV, s_alenC, s_baldC, s_gst, s_i2c, s_cret, s_athrow])
    repeat' (first | with_reducible apply And.intro | with_reducible intro _)
    all_goals first | contradiction | omega | exact st | (exfalso; omega)
set_option maxRecDepth 100000 in
theorem mc_143 {l : Launch} {D : qD} {d : Nat} {gi a b what r : Int} {R : Int → Int} {h : qh} {Q : qQ} (hT : TW h.2) (hg : 0 ≤ gi ∧ gi < 4) (hn : 0 ≤ h.2 283 gi ∧ h.2 283 gi ≤ 30) (er : h.2 280 5 = r) (hr : r = 539 * (31 * gi + h.2 283 gi)) (tr : TRw h.2 r R) (ok : GOK R)
    (hq0 : ¬ CAN R 2 a b → Q (some (.inl (-1))) h) (hq1 : CAN R 2 a b → ∀ v, TRw v (tR h.2 gi) (rDe R a) → FV (tmS (tR h.2 gi)) (stp1 (stp0 h.2 gi) gi) v → Q (some (.inl 0)) (h.1, v)) : qR l D (d + 5, 0, 0) m_Mo_change 143 Q [some (.inr (.inr 280)), some (.inl gi), some (.inl what), some (.inl a), some (.inl b)] [] h := by
  have rb := tr.1
  have z2 := hT.f2
  have n0 := ok.1.1
  have m0 := ok.1.2.1
  have g0 := ok.1.2.2
  have t0 : h.2 282 r = R 0 := by have := tr.2 0 (by decide) (by decide); rw [show r + 0 = r by omega] at this; exact this
  have t1 : h.2 282 (r + 1) = R 1 := tr.2 1 (by decide) (by decide)
  have t2 : h.2 282 (r + 2) = R 2 := tr.2 2 (by decide) (by decide)
  have sq := stp_q hg hn
  have mb := moN_b hn
  have hTs : TW (stp1 (stp0 h.2 gi) gi) := TW_stp1 (TW_stp0 hT)
  have ts : TRw (stp1 (stp0 h.2 gi) gi) (tR h.2 gi) R := sq.tr hg hn (by rw [← hr]; exact tr)
  have s5 : stp1 (stp0 h.2 gi) gi 280 5 = tR h.2 gi := sq.2.2.1
  rw [CAN_2] at hq0 hq1
  have callS : ∀ Q' : qQ, Q' none (h.1, stp1 (stp0 h.2 gi) gi) → qM l D (d + 4, 0, 0) m_Mo_step [.inr (.inr 280), .inl gi] h Q' := fun Q' c => sp_Mo_step (d := d + 1) hT hg hn c
  by_cases c1 : 0 ≤ a ∧ a < R 1
  · have f1 := inT_1 (v := h.2) (c := a) (lo := 0) (hi := R 1 - 1) (by omega)
    have c := hq1 c1
    obtain ⟨s, hs⟩ : ∃ s, s = stp1 (stp0 h.2 gi) gi := ⟨_, rfl⟩
    obtain ⟨r', hr'⟩ : ∃ r', r' = tR h.2 gi := ⟨_, rfl⟩
    rw [← hs] at c hTs ts s5 callS
    rw [← hr'] at c ts s5
    have rb' := ts.1
    have u1 : s 282 (r' + 1) = R 1 := ts.2 1 (by decide) (by decide)
    have callD : ∀ Q' : qQ, (∀ v, Q (some (.inl 0)) (h.1, v) → Q' none (h.1, v)) → qM l D (d + 4, 0, 0) m_Mo_dropEdge [.inr (.inr 280), .inl a] (h.1, s) Q' := fun Q' k => sp_Mo_dropEdge (d := d + 2) (h := (h.1, s)) hTs ⟨by show 0 ≤ s 280 5; omega, by show s 280 5 ≤ 66297; omega⟩ ⟨c1.1, by show a < s 282 (s 280 5 + 1); rw [s5, u1]; exact c1.2, by show s 282 (s 280 5 + 1) ≤ 48; rw [s5, u1]; exact m0.2⟩ (k _ (c _ (TRw_De ts s5 ⟨c1.1, c1.2, m0.2⟩) (tE_fv FV.rf s5 c1.1 (by show s 282 (s 280 5 + 1) - 1 ≤ 48; rw [s5, u1]; omega))))
    clear hq0 hq1 sq ts tr hTs hT ok hr s5 c hs hr'
    refine Mo_change_143 _ _ _ ?_
    simp only [w_Mo_change_143, w_Mo_change_159, s_ic, s_lc, s_null, s_iload, s_lload, s_aload, s_istore, s_lstore, s_astore, s_iinc, s_iadd, s_isub, s_imul, s_iand, s_ior, s_ixor, s_ishl, s_ishr, s_idiv, s_irem, s_ineg, s_ladd, s_lsub, s_lmul, s_lneg, s_ldiv, s_lrem, s_lshl, s_lshr, s_lor, s_land, s_lcmp, s_i2l, s_l2i, s_i2b, s_dup, s_pop, s_dup2, s_dupx1, s_alen, s_ifnull, s_ifnon, s_icmp_eq, s_icmp_ne, s_icmp_lt, s_icmp_ge, s_icmp_gt, s_icmp_le, s_if_eq, s_if_ne, s_if_lt, s_if_ge, s_if_gt, s_if_le, s_getI, s_getL, s_getR, s_putI, s_putZ, s_putL, s_putR, s_iald, s_bald, s_lald, s_aald, s_iast, s_bast, s_last, s_iret, s_zret, s_lret, s_aret, s_vret, s_tbl, q_tab, s_acopy, s_new, s_newa, s_oinit, s_aast, q_nth, qst1, qst2, q_cl1, q_nx, q_ent, qcat, q_cs, q_up_mk, q_cpy_mk, List.cons_append, List.nil_append, List.append_nil, List.replicate, List.take_succ_cons, List.take_zero, List.drop_succ_cons, List.drop_zero, List.reverse_cons, List.reverse_nil, List.length_cons, List.length_nil, List.map_cons, List.map_nil, List.sum_cons, List.sum_nil, Option.toList_some, Option.toList_none, true_and, and_true, true_or, or_true, Nat.sub_zero, Nat.reduceAdd, Nat.reduceSub, Nat.reduceLeDiff, Int.reduceAdd, Int.reduceLE, s_sc, s_strC, s_strV, s_alenC, s_baldC, s_gst, s_i2c, s_cret, s_athrow, s_Mo_nodes, e_Mo_nodes, p_Mo_nodes, f_Mo_nodes, s_Mo_edges, e_Mo_edges, p_Mo_edges, f_Mo_edges, s_Mo_groups, e_Mo_groups, p_Mo_groups, f_Mo_groups, s_Mo_in, er, z2, t0, t1, t2, sh_280, f1]
    repeat' (first | with_reducible apply And.intro | with_reducible intro _)
    all_goals first | contradiction | omega | (unfold r32; omega) | (exfalso; omega) | skip
    all_goals (refine ⟨by simp only [List.length_cons, List.length_nil]; omega, Nat.le_of_ble_eq_true rfl, ⟨by decide, by rw [sh_280]⟩, ?_⟩)
    all_goals (refine callS _ ?_)
    all_goals (simp only [s_ic, s_lc, s_null, s_iload, s_lload, s_aload, s_istore, s_lstore, s_astore, s_iinc, s_iadd, s_isub, s_imul, s_iand, s_ior, s_ixor, s_ishl, s_ishr, s_idiv, s_irem, s_ineg, s_ladd, s_lsub, s_lmul, s_lneg, s_ldiv, s_lrem, s_lshl, s_lshr, s_lor, s_land, s_lcmp, s_i2l, s_l2i, s_i2b, s_dup, s_pop, s_dup2, s_dupx1, s_alen, s_ifnull, s_ifnon, s_icmp_eq, s_icmp_ne, s_icmp_lt, s_icmp_ge, s_icmp_gt, s_icmp_le, s_if_eq, s_if_ne, s_if_lt, s_if_ge, s_if_gt, s_if_le, s_getI, s_getL, s_getR, s_putI, s_putZ, s_putL, s_putR, s_iald, s_bald, s_lald, s_aald, s_iast, s_bast, s_last, s_iret, s_zret, s_lret, s_aret, s_vret, s_tbl, q_tab, s_acopy, s_new, s_newa, s_oinit, s_aast, q_nth, qst1, qst2, q_cl1, q_nx, q_ent, qcat, q_cs, q_up_mk, q_cpy_mk, List.cons_append, List.nil_append, List.append_nil, List.replicate, List.take_succ_cons, List.take_zero, List.drop_succ_cons, List.drop_zero, List.reverse_cons, List.reverse_nil, List.length_cons, List.length_nil, List.map_cons, List.map_nil, List.sum_cons, List.sum_nil, Option.toList_some, Option.toList_none, true_and, and_true, true_or, or_true, Nat.sub_zero, Nat.reduceAdd, Nat.reduceSub, Nat.reduceLeDiff, Int.reduceAdd, Int.reduceLE, s_sc, s_strC, s_strV, s_alenC, s_baldC, s_gst, s_i2c, s_cret, s_athrow])
    all_goals (refine ⟨by simp only [List.length_cons, List.length_nil]; omega, Nat.le_of_ble_eq_true rfl, ⟨by decide, by rw [sh_280]⟩, ?_⟩)
    all_goals (refine callD _ (fun v st => ?_))
    all_goals (simp only [s_ic, s_lc, s_null, s_iload, s_lload, s_aload, s_istore, s_lstore, s_astore, s_iinc, s_iadd, s_isub, s_imul, s_iand, s_ior, s_ixor, s_ishl, s_ishr, s_idiv, s_irem, s_ineg, s_ladd, s_lsub, s_lmul, s_lneg, s_ldiv, s_lrem, s_lshl, s_lshr, s_lor, s_land, s_lcmp, s_i2l, s_l2i, s_i2b, s_dup, s_pop, s_dup2, s_dupx1, s_alen, s_ifnull, s_ifnon, s_icmp_eq, s_icmp_ne, s_icmp_lt, s_icmp_ge, s_icmp_gt, s_icmp_le, s_if_eq, s_if_ne, s_if_lt, s_if_ge, s_if_gt, s_if_le, s_getI, s_getL, s_getR, s_putI, s_putZ, s_putL, s_putR, s_iald, s_bald, s_lald, s_aald, s_iast, s_bast, s_last, s_iret, s_zret, s_lret, s_aret, s_vret, s_tbl, q_tab, s_acopy, s_new, s_newa, s_oinit, s_aast, q_nth, qst1, qst2, q_cl1, q_nx, q_ent, qcat, q_cs, q_up_mk, q_cpy_mk, List.cons_append, List.nil_append, List.append_nil, List.replicate, List.take_succ_cons, List.take_zero, List.drop_succ_cons, List.drop_zero, List.reverse_cons, List.reverse_nil, List.length_cons, List.length_nil, List.map_cons, List.map_nil, List.sum_cons, List.sum_nil, Option.toList_some, Option.toList_none, true_and, and_true, true_or, or_true, Nat.sub_zero, Nat.reduceAdd, Nat.reduceSub, Nat.reduceLeDiff, Int.reduceAdd, Int.reduceLE, s_sc, s_strC, s_strV, s_alenC, s_baldC, s_gst, s_i2c, s_cret, s_athrow])
    repeat' (first | with_reducible apply And.intro | with_reducible intro _)
    all_goals first | contradiction | omega | exact st | (exfalso; omega)
  · have f1 := inT_0 (v := h.2) (c := a) (lo := 0) (hi := R 1 - 1) (by omega)
    have st := hq0 c1
    clear hq0 hq1 sq ts tr hTs hT ok hr s5 callS
    refine Mo_change_143 _ _ _ ?_
    simp only [w_Mo_change_143, s_ic, s_lc, s_null, s_iload, s_lload, s_aload, s_istore, s_lstore, s_astore, s_iinc, s_iadd, s_isub, s_imul, s_iand, s_ior, s_ixor, s_ishl, s_ishr, s_idiv, s_irem, s_ineg, s_ladd, s_lsub, s_lmul, s_lneg, s_ldiv, s_lrem, s_lshl, s_lshr, s_lor, s_land, s_lcmp, s_i2l, s_l2i, s_i2b, s_dup, s_pop, s_dup2, s_dupx1, s_alen, s_ifnull, s_ifnon, s_icmp_eq, s_icmp_ne, s_icmp_lt, s_icmp_ge, s_icmp_gt, s_icmp_le, s_if_eq, s_if_ne, s_if_lt, s_if_ge, s_if_gt, s_if_le, s_getI, s_getL, s_getR, s_putI, s_putZ, s_putL, s_putR, s_iald, s_bald, s_lald, s_aald, s_iast, s_bast, s_last, s_iret, s_zret, s_lret, s_aret, s_vret, s_tbl, q_tab, s_acopy, s_new, s_newa, s_oinit, s_aast, q_nth, qst1, qst2, q_cl1, q_nx, q_ent, qcat, q_cs, q_up_mk, q_cpy_mk, List.cons_append, List.nil_append, List.append_nil, List.replicate, List.take_succ_cons, List.take_zero, List.drop_succ_cons, List.drop_zero, List.reverse_cons, List.reverse_nil, List.length_cons, List.length_nil, List.map_cons, List.map_nil, List.sum_cons, List.sum_nil, Option.toList_some, Option.toList_none, true_and, and_true, true_or, or_true, Nat.sub_zero, Nat.reduceAdd, Nat.reduceSub, Nat.reduceLeDiff, Int.reduceAdd, Int.reduceLE, s_sc, s_strC, s_strV, s_alenC, s_baldC, s_gst, s_i2c, s_cret, s_athrow, s_Mo_nodes, e_Mo_nodes, p_Mo_nodes, f_Mo_nodes, s_Mo_edges, e_Mo_edges, p_Mo_edges, f_Mo_edges, s_Mo_groups, e_Mo_groups, p_Mo_groups, f_Mo_groups, s_Mo_in, er, z2, t0, t1, t2, sh_280, f1]
    repeat' (first | with_reducible apply And.intro | with_reducible intro _)
    all_goals first | contradiction | omega | (unfold r32; omega) | exact st | (exfalso; omega)
set_option maxRecDepth 100000 in
theorem mc_171 {l : Launch} {D : qD} {d : Nat} {gi a b what r : Int} {R : Int → Int} {h : qh} {Q : qQ} (hT : TW h.2) (hg : 0 ≤ gi ∧ gi < 4) (hn : 0 ≤ h.2 283 gi ∧ h.2 283 gi ≤ 30) (er : h.2 280 5 = r) (hr : r = 539 * (31 * gi + h.2 283 gi)) (tr : TRw h.2 r R) (ok : GOK R)
    (hq0 : ¬ CAN R 3 a b → Q (some (.inl (-1))) h) (hq1 : CAN R 3 a b → ∀ v, TRw v (tR h.2 gi) (rDn R a) → FV (tmS (tR h.2 gi)) (stp1 (stp0 h.2 gi) gi) v → Q (some (.inl 0)) (h.1, v)) : qR l D (d + 5, 0, 0) m_Mo_change 171 Q [some (.inr (.inr 280)), some (.inl gi), some (.inl what), some (.inl a), some (.inl b)] [] h := by
  have rb := tr.1
  have z2 := hT.f2
  have n0 := ok.1.1
  have m0 := ok.1.2.1
  have g0 := ok.1.2.2
  have t0 : h.2 282 r = R 0 := by have := tr.2 0 (by decide) (by decide); rw [show r + 0 = r by omega] at this; exact this
  have t1 : h.2 282 (r + 1) = R 1 := tr.2 1 (by decide) (by decide)
  have t2 : h.2 282 (r + 2) = R 2 := tr.2 2 (by decide) (by decide)
  have sq := stp_q hg hn
  have mb := moN_b hn
  have hTs : TW (stp1 (stp0 h.2 gi) gi) := TW_stp1 (TW_stp0 hT)
  have ts : TRw (stp1 (stp0 h.2 gi) gi) (tR h.2 gi) R := sq.tr hg hn (by rw [← hr]; exact tr)
  have s5 : stp1 (stp0 h.2 gi) gi 280 5 = tR h.2 gi := sq.2.2.1
  rw [CAN_3] at hq0 hq1
  have callS : ∀ Q' : qQ, Q' none (h.1, stp1 (stp0 h.2 gi) gi) → qM l D (d + 4, 0, 0) m_Mo_step [.inr (.inr 280), .inl gi] h Q' := fun Q' c => sp_Mo_step (d := d + 1) hT hg hn c
  by_cases c1 : 0 ≤ a ∧ a < R 0
  · have f1 := inT_1 (v := h.2) (c := a) (lo := 0) (hi := R 0 - 1) (by omega)
    have c := hq1 c1
    obtain ⟨s, hs⟩ : ∃ s, s = stp1 (stp0 h.2 gi) gi := ⟨_, rfl⟩
    obtain ⟨r', hr'⟩ : ∃ r', r' = tR h.2 gi := ⟨_, rfl⟩
    rw [← hs] at c hTs ts s5 callS
    rw [← hr'] at c ts s5
    have rb' := ts.1
    have u1 : s 282 (r' + 1) = R 1 := ts.2 1 (by decide) (by decide)
    have callD : ∀ Q' : qQ, (∀ v, Q (some (.inl 0)) (h.1, v) → Q' none (h.1, v)) → qM l D (d + 4, 0, 0) m_Mo_dropNode [.inr (.inr 280), .inl a] (h.1, s) Q' := fun Q' k => sp_Mo_dropNode (d := d + 1) (h := (h.1, s)) hTs s5 ts ok c1 (fun v tv fv => k v (c v tv fv))
    clear hq0 hq1 sq ts tr hTs hT ok hr s5 c hs hr'
    refine Mo_change_171 _ _ _ ?_
    simp only [w_Mo_change_171, w_Mo_change_187, s_ic, s_lc, s_null, s_iload, s_lload, s_aload, s_istore, s_lstore, s_astore, s_iinc, s_iadd, s_isub, s_imul, s_iand, s_ior, s_ixor, s_ishl, s_ishr, s_idiv, s_irem, s_ineg, s_ladd, s_lsub, s_lmul, s_lneg, s_ldiv, s_lrem, s_lshl, s_lshr, s_lor, s_land, s_lcmp, s_i2l, s_l2i, s_i2b, s_dup, s_pop, s_dup2, s_dupx1, s_alen, s_ifnull, s_ifnon, s_icmp_eq, s_icmp_ne, s_icmp_lt, s_icmp_ge, s_icmp_gt, s_icmp_le, s_if_eq, s_if_ne, s_if_lt, s_if_ge, s_if_gt, s_if_le, s_getI, s_getL, s_getR, s_putI, s_putZ, s_putL, s_putR, s_iald, s_bald, s_lald, s_aald, s_iast, s_bast, s_last, s_iret, s_zret, s_lret, s_aret, s_vret, s_tbl, q_tab, s_acopy, s_new, s_newa, s_oinit, s_aast, q_nth, qst1, qst2, q_cl1, q_nx, q_ent, qcat, q_cs, q_up_mk, q_cpy_mk, List.cons_append, List.nil_append, List.append_nil, List.replicate, List.take_succ_cons, List.take_zero, List.drop_succ_cons, List.drop_zero, List.reverse_cons, List.reverse_nil, List.length_cons, List.length_nil, List.map_cons, List.map_nil, List.sum_cons, List.sum_nil, Option.toList_some, Option.toList_none, true_and, and_true, true_or, or_true, Nat.sub_zero, Nat.reduceAdd, Nat.reduceSub, Nat.reduceLeDiff, Int.reduceAdd, Int.reduceLE, s_sc, s_strC, s_strV, s_alenC, s_baldC, s_gst, s_i2c, s_cret, s_athrow, s_Mo_nodes, e_Mo_nodes, p_Mo_nodes, f_Mo_nodes, s_Mo_edges, e_Mo_edges, p_Mo_edges, f_Mo_edges, s_Mo_groups, e_Mo_groups, p_Mo_groups, f_Mo_groups, s_Mo_in, er, z2, t0, t1, t2, sh_280, f1]
    repeat' (first | with_reducible apply And.intro | with_reducible intro _)
    all_goals first | contradiction | omega | (unfold r32; omega) | (exfalso; omega) | skip
    all_goals (refine ⟨by simp only [List.length_cons, List.length_nil]; omega, Nat.le_of_ble_eq_true rfl, ⟨by decide, by rw [sh_280]⟩, ?_⟩)
    all_goals (refine callS _ ?_)
    all_goals (simp only [s_ic, s_lc, s_null, s_iload, s_lload, s_aload, s_istore, s_lstore, s_astore, s_iinc, s_iadd, s_isub, s_imul, s_iand, s_ior, s_ixor, s_ishl, s_ishr, s_idiv, s_irem, s_ineg, s_ladd, s_lsub, s_lmul, s_lneg, s_ldiv, s_lrem, s_lshl, s_lshr, s_lor, s_land, s_lcmp, s_i2l, s_l2i, s_i2b, s_dup, s_pop, s_dup2, s_dupx1, s_alen, s_ifnull, s_ifnon, s_icmp_eq, s_icmp_ne, s_icmp_lt, s_icmp_ge, s_icmp_gt, s_icmp_le, s_if_eq, s_if_ne, s_if_lt, s_if_ge, s_if_gt, s_if_le, s_getI, s_getL, s_getR, s_putI, s_putZ, s_putL, s_putR, s_iald, s_bald, s_lald, s_aald, s_iast, s_bast, s_last, s_iret, s_zret, s_lret, s_aret, s_vret, s_tbl, q_tab, s_acopy, s_new, s_newa, s_oinit, s_aast, q_nth, qst1, qst2, q_cl1, q_nx, q_ent, qcat, q_cs, q_up_mk, q_cpy_mk, List.cons_append, List.nil_append, List.append_nil, List.replicate, List.take_succ_cons, List.take_zero, List.drop_succ_cons, List.drop_zero, List.reverse_cons, List.reverse_nil, List.length_cons, List.length_nil, List.map_cons, List.map_nil, List.sum_cons, List.sum_nil, Option.toList_some, Option.toList_none, true_and, and_true, true_or, or_true, Nat.sub_zero, Nat.reduceAdd, Nat.reduceSub, Nat.reduceLeDiff, Int.reduceAdd, Int.reduceLE, s_sc, s_strC, s_strV, s_alenC, s_baldC, s_gst, s_i2c, s_cret, s_athrow])
    all_goals (refine ⟨by simp only [List.length_cons, List.length_nil]; omega, Nat.le_of_ble_eq_true rfl, ⟨by decide, by rw [sh_280]⟩, ?_⟩)
    all_goals (refine callD _ (fun v st => ?_))
    all_goals (simp only [s_ic, s_lc, s_null, s_iload, s_lload, s_aload, s_istore, s_lstore, s_astore, s_iinc, s_iadd, s_isub, s_imul, s_iand, s_ior, s_ixor, s_ishl, s_ishr, s_idiv, s_irem, s_ineg, s_ladd, s_lsub, s_lmul, s_lneg, s_ldiv, s_lrem, s_lshl, s_lshr, s_lor, s_land, s_lcmp, s_i2l, s_l2i, s_i2b, s_dup, s_pop, s_dup2, s_dupx1, s_alen, s_ifnull, s_ifnon, s_icmp_eq, s_icmp_ne, s_icmp_lt, s_icmp_ge, s_icmp_gt, s_icmp_le, s_if_eq, s_if_ne, s_if_lt, s_if_ge, s_if_gt, s_if_le, s_getI, s_getL, s_getR, s_putI, s_putZ, s_putL, s_putR, s_iald, s_bald, s_lald, s_aald, s_iast, s_bast, s_last, s_iret, s_zret, s_lret, s_aret, s_vret, s_tbl, q_tab, s_acopy, s_new, s_newa, s_oinit, s_aast, q_nth, qst1, qst2, q_cl1, q_nx, q_ent, qcat, q_cs, q_up_mk, q_cpy_mk, List.cons_append, List.nil_append, List.append_nil, List.replicate, List.take_succ_cons, List.take_zero, List.drop_succ_cons, List.drop_zero, List.reverse_cons, List.reverse_nil, List.length_cons, List.length_nil, List.map_cons, List.map_nil, List.sum_cons, List.sum_nil, Option.toList_some, Option.toList_none, true_and, and_true, true_or, or_true, Nat.sub_zero, Nat.reduceAdd, Nat.reduceSub, Nat.reduceLeDiff, Int.reduceAdd, Int.reduceLE, s_sc, s_strC, s_strV, s_alenC, s_baldC, s_gst, s_i2c, s_cret, s_athrow])
    repeat' (first | with_reducible apply And.intro | with_reducible intro _)
    all_goals first | contradiction | omega | exact st | (exfalso; omega)
  · have f1 := inT_0 (v := h.2) (c := a) (lo := 0) (hi := R 0 - 1) (by omega)
    have st := hq0 c1
    clear hq0 hq1 sq ts tr hTs hT ok hr s5 callS
    refine Mo_change_171 _ _ _ ?_
    simp only [w_Mo_change_171, s_ic, s_lc, s_null, s_iload, s_lload, s_aload, s_istore, s_lstore, s_astore, s_iinc, s_iadd, s_isub, s_imul, s_iand, s_ior, s_ixor, s_ishl, s_ishr, s_idiv, s_irem, s_ineg, s_ladd, s_lsub, s_lmul, s_lneg, s_ldiv, s_lrem, s_lshl, s_lshr, s_lor, s_land, s_lcmp, s_i2l, s_l2i, s_i2b, s_dup, s_pop, s_dup2, s_dupx1, s_alen, s_ifnull, s_ifnon, s_icmp_eq, s_icmp_ne, s_icmp_lt, s_icmp_ge, s_icmp_gt, s_icmp_le, s_if_eq, s_if_ne, s_if_lt, s_if_ge, s_if_gt, s_if_le, s_getI, s_getL, s_getR, s_putI, s_putZ, s_putL, s_putR, s_iald, s_bald, s_lald, s_aald, s_iast, s_bast, s_last, s_iret, s_zret, s_lret, s_aret, s_vret, s_tbl, q_tab, s_acopy, s_new, s_newa, s_oinit, s_aast, q_nth, qst1, qst2, q_cl1, q_nx, q_ent, qcat, q_cs, q_up_mk, q_cpy_mk, List.cons_append, List.nil_append, List.append_nil, List.replicate, List.take_succ_cons, List.take_zero, List.drop_succ_cons, List.drop_zero, List.reverse_cons, List.reverse_nil, List.length_cons, List.length_nil, List.map_cons, List.map_nil, List.sum_cons, List.sum_nil, Option.toList_some, Option.toList_none, true_and, and_true, true_or, or_true, Nat.sub_zero, Nat.reduceAdd, Nat.reduceSub, Nat.reduceLeDiff, Int.reduceAdd, Int.reduceLE, s_sc, s_strC, s_strV, s_alenC, s_baldC, s_gst, s_i2c, s_cret, s_athrow, s_Mo_nodes, e_Mo_nodes, p_Mo_nodes, f_Mo_nodes, s_Mo_edges, e_Mo_edges, p_Mo_edges, f_Mo_edges, s_Mo_groups, e_Mo_groups, p_Mo_groups, f_Mo_groups, s_Mo_in, er, z2, t0, t1, t2, sh_280, f1]
    repeat' (first | with_reducible apply And.intro | with_reducible intro _)
    all_goals first | contradiction | omega | (unfold r32; omega) | exact st | (exfalso; omega)
set_option maxRecDepth 100000 in
theorem mc_67 {l : Launch} {D : qD} {d : Nat} {gi a b what r : Int} {R : Int → Int} {h : qh} {Q : qQ} (hT : TW h.2) (hg : 0 ≤ gi ∧ gi < 4) (hn : 0 ≤ h.2 283 gi ∧ h.2 283 gi ≤ 30) (er : h.2 280 5 = r) (hr : r = 539 * (31 * gi + h.2 283 gi)) (tr : TRw h.2 r R) (ok : GOK R)
    (hq0 : ¬ CAN R 1 a b → Q (some (.inl (-1))) h) (hq1 : CAN R 1 a b → ∀ v, TRw v (tR h.2 gi) (rNe R a b) → FV (tmS (tR h.2 gi)) (stp1 (stp0 h.2 gi) gi) v → Q (some (.inl (R 1))) (h.1, v)) : qR l D (d + 5, 0, 0) m_Mo_change 67 Q [some (.inr (.inr 280)), some (.inl gi), some (.inl what), some (.inl a), some (.inl b)] [] h := by
  have rb := tr.1
  have z2 := hT.f2
  have n0 := ok.1.1
  have m0 := ok.1.2.1
  have g0 := ok.1.2.2
  have t0 : h.2 282 r = R 0 := by have := tr.2 0 (by decide) (by decide); rw [show r + 0 = r by omega] at this; exact this
  have t1 : h.2 282 (r + 1) = R 1 := tr.2 1 (by decide) (by decide)
  have t2 : h.2 282 (r + 2) = R 2 := tr.2 2 (by decide) (by decide)
  have sq := stp_q hg hn
  have mb := moN_b hn
  have hTs : TW (stp1 (stp0 h.2 gi) gi) := TW_stp1 (TW_stp0 hT)
  have ts : TRw (stp1 (stp0 h.2 gi) gi) (tR h.2 gi) R := sq.tr hg hn (by rw [← hr]; exact tr)
  have s5 : stp1 (stp0 h.2 gi) gi 280 5 = tR h.2 gi := sq.2.2.1
  rw [CAN_1] at hq0 hq1
  have callS : ∀ Q' : qQ, Q' none (h.1, stp1 (stp0 h.2 gi) gi) → qM l D (d + 4, 0, 0) m_Mo_step [.inr (.inr 280), .inl gi] h Q' := fun Q' c => sp_Mo_step (d := d + 1) hT hg hn c
  by_cases c1 : 0 ≤ a ∧ a < R 0
  · have f1 := inT_1 (v := h.2) (c := a) (lo := 0) (hi := R 0 - 1) (by omega)
    by_cases c2 : 0 ≤ b ∧ b < R 0
    · have f2 := inT_1 (v := h.2) (c := b) (lo := 0) (hi := R 0 - 1) (by omega)
      by_cases ne : a ≠ b ∧ R 1 < 48
      · have jj : ∀ e, 0 ≤ e → e < R 1 → (jnT h.2 e a b ↔ jnR R e a b) := fun e x0 x1 => by
          have y1 : h.2 282 (h.2 280 5 + 267 + e) = R (267 + e) := by rw [er, show r + 267 + e = r + (267 + e) by omega]; exact tr.2 _ (by omega) (by omega)
          have y2 : h.2 282 (h.2 280 5 + 315 + e) = R (315 + e) := by rw [er, show r + 315 + e = r + (315 + e) by omega]; exact tr.2 _ (by omega) (by omega)
          have y3 := (ok.2.2.1 e x0 x1).1.2.2
          unfold jnT jnR
          rw [y1, y2]
          omega
        have e1 : h.2 282 (h.2 280 5 + 1) = R 1 := by rw [er]; exact t1
        have callB : ∀ Q' : qQ, (∀ i, 0 ≤ i → Q (some (.inl (-1))) h → Q' (some (.inl i)) h) → ((∀ e : Int, 0 ≤ e → e < R 1 → ¬ jnR R e a b) → Q' (some (.inl (-1))) h) → qM l D (d + 4, 0, 0) m_Mo_between [.inr (.inr 280), .inl a, .inl b] h Q' := fun Q' k1 k0 => by
          refine sp_Mo_between (d := d + 1) hT ⟨by omega, by omega⟩ (by rw [e1]; exact m0) (fun e x0 x1 q _ => k1 e x0 (hq0 (fun y => ?_))) (fun q => k0 (fun e x0 x1 z => ?_))
          · rw [e1] at x1
            exact y.2.2.2.2 e x0 x1 ((jj e x0 x1).1 q)
          · exact q e x0 (by rw [e1]; exact x1) ((jj e x0 x1).2 z)
        have c := fun (no : ∀ e : Int, 0 ≤ e → e < R 1 → ¬ jnR R e a b) => hq1 ⟨c1, c2, ne.1, ne.2, no⟩
        obtain ⟨s, hs⟩ : ∃ s, s = stp1 (stp0 h.2 gi) gi := ⟨_, rfl⟩
        obtain ⟨r', hr'⟩ : ∃ r', r' = tR h.2 gi := ⟨_, rfl⟩
        rw [← hs] at c hTs ts s5 callS
        rw [← hr'] at c ts s5
        have rb' := ts.1
        have s2 := hTs.f2
        have u1 : s 282 (r' + 1) = R 1 := ts.2 1 (by decide) (by decide)
        have tn : TRw (g_Mo_newEdge a b 0 s) r' (rNe R a b) := TRw_adE ts s5 ⟨m0.1, ne.2⟩
        have fn : FV (tmS r') s (g_Mo_newEdge a b 0 s) := by
          unfold g_Mo_newEdge f_Mo_edges
          rw [s5, u1]
          exact ((((FV.rf.tm (o := 1) (by decide) rfl).tm (o := 267 + R 1) (by omega) (by omega)).tm (o := 315 + R 1) (by omega) (by omega)).tm (o := 363 + R 1) (by omega) (by omega)).tm (o := 411 + R 1) (by omega) (by omega)
        have pe : e_Mo_newEdge a b 0 s := ⟨s2, s2⟩
        have pp : p_Mo_newEdge a b 0 s := by
          unfold p_Mo_newEdge p_Mo_edges f_Mo_edges r32
          rw [s5, u1]
          refine ⟨?_, ?_⟩ <;> omega
        have v1 : g_Mo_newEdge a b 0 s 282 (r' + 1) = R 1 + 1 := by rw [tn.2 1 (by decide) (by decide)]; unfold rNe; rw [if_pos rfl]
        have v5 : g_Mo_newEdge a b 0 s 280 5 = r' := by rw [fn.t280]; exact s5
        have v2 : g_Mo_newEdge a b 0 s 280 2 = 282 := by rw [fn.t280]; exact s2
        have fin := fun no => c no _ tn fn
        clear hq0 hq1 sq ts tr hTs hT ok hr c hs hr' jj tn fn
        refine Mo_change_67 _ _ _ ?_
        simp only [w_Mo_change_67, w_Mo_change_121, w_Mo_change_123, s_ic, s_lc, s_null, s_iload, s_lload, s_aload, s_istore, s_lstore, s_astore, s_iinc, s_iadd, s_isub, s_imul, s_iand, s_ior, s_ixor, s_ishl, s_ishr, s_idiv, s_irem, s_ineg, s_ladd, s_lsub, s_lmul, s_lneg, s_ldiv, s_lrem, s_lshl, s_lshr, s_lor, s_land, s_lcmp, s_i2l, s_l2i, s_i2b, s_dup, s_pop, s_dup2, s_dupx1, s_alen, s_ifnull, s_ifnon, s_icmp_eq, s_icmp_ne, s_icmp_lt, s_icmp_ge, s_icmp_gt, s_icmp_le, s_if_eq, s_if_ne, s_if_lt, s_if_ge, s_if_gt, s_if_le, s_getI, s_getL, s_getR, s_putI, s_putZ, s_putL, s_putR, s_iald, s_bald, s_lald, s_aald, s_iast, s_bast, s_last, s_iret, s_zret, s_lret, s_aret, s_vret, s_tbl, q_tab, s_acopy, s_new, s_newa, s_oinit, s_aast, q_nth, qst1, qst2, q_cl1, q_nx, q_ent, qcat, q_cs, q_up_mk, q_cpy_mk, List.cons_append, List.nil_append, List.append_nil, List.replicate, List.take_succ_cons, List.take_zero, List.drop_succ_cons, List.drop_zero, List.reverse_cons, List.reverse_nil, List.length_cons, List.length_nil, List.map_cons, List.map_nil, List.sum_cons, List.sum_nil, Option.toList_some, Option.toList_none, true_and, and_true, true_or, or_true, Nat.sub_zero, Nat.reduceAdd, Nat.reduceSub, Nat.reduceLeDiff, Int.reduceAdd, Int.reduceLE, s_sc, s_strC, s_strV, s_alenC, s_baldC, s_gst, s_i2c, s_cret, s_athrow, s_Mo_nodes, e_Mo_nodes, p_Mo_nodes, f_Mo_nodes, s_Mo_edges, e_Mo_edges, p_Mo_edges, f_Mo_edges, s_Mo_groups, e_Mo_groups, p_Mo_groups, f_Mo_groups, s_Mo_in, er, z2, t0, t1, t2, sh_280, f1, f2]
        repeat' (first | with_reducible apply And.intro | with_reducible intro _)
        all_goals first | contradiction | omega | (unfold r32; omega) | (exfalso; omega) | skip
        all_goals (refine ⟨by simp only [List.length_cons, List.length_nil]; omega, Nat.le_of_ble_eq_true rfl, ⟨by decide, by rw [sh_280]⟩, ?_⟩)
        all_goals (refine callB _ (fun i i0 st => ?_) (fun no => ?_))
        · simp only [s_ic, s_lc, s_null, s_iload, s_lload, s_aload, s_istore, s_lstore, s_astore, s_iinc, s_iadd, s_isub, s_imul, s_iand, s_ior, s_ixor, s_ishl, s_ishr, s_idiv, s_irem, s_ineg, s_ladd, s_lsub, s_lmul, s_lneg, s_ldiv, s_lrem, s_lshl, s_lshr, s_lor, s_land, s_lcmp, s_i2l, s_l2i, s_i2b, s_dup, s_pop, s_dup2, s_dupx1, s_alen, s_ifnull, s_ifnon, s_icmp_eq, s_icmp_ne, s_icmp_lt, s_icmp_ge, s_icmp_gt, s_icmp_le, s_if_eq, s_if_ne, s_if_lt, s_if_ge, s_if_gt, s_if_le, s_getI, s_getL, s_getR, s_putI, s_putZ, s_putL, s_putR, s_iald, s_bald, s_lald, s_aald, s_iast, s_bast, s_last, s_iret, s_zret, s_lret, s_aret, s_vret, s_tbl, q_tab, s_acopy, s_new, s_newa, s_oinit, s_aast, q_nth, qst1, qst2, q_cl1, q_nx, q_ent, qcat, q_cs, q_up_mk, q_cpy_mk, List.cons_append, List.nil_append, List.append_nil, List.replicate, List.take_succ_cons, List.take_zero, List.drop_succ_cons, List.drop_zero, List.reverse_cons, List.reverse_nil, List.length_cons, List.length_nil, List.map_cons, List.map_nil, List.sum_cons, List.sum_nil, Option.toList_some, Option.toList_none, true_and, and_true, true_or, or_true, Nat.sub_zero, Nat.reduceAdd, Nat.reduceSub, Nat.reduceLeDiff, Int.reduceAdd, Int.reduceLE, s_sc, s_strC, s_strV, s_alenC, s_baldC, s_gst, s_i2c, s_cret, s_athrow]
          repeat' (first | with_reducible apply And.intro | with_reducible intro _)
          all_goals first | contradiction | omega | exact st | (exfalso; omega)
        · have st := fin no
          clear fin callB no
          simp only [s_ic, s_lc, s_null, s_iload, s_lload, s_aload, s_istore, s_lstore, s_astore, s_iinc, s_iadd, s_isub, s_imul, s_iand, s_ior, s_ixor, s_ishl, s_ishr, s_idiv, s_irem, s_ineg, s_ladd, s_lsub, s_lmul, s_lneg, s_ldiv, s_lrem, s_lshl, s_lshr, s_lor, s_land, s_lcmp, s_i2l, s_l2i, s_i2b, s_dup, s_pop, s_dup2, s_dupx1, s_alen, s_ifnull, s_ifnon, s_icmp_eq, s_icmp_ne, s_icmp_lt, s_icmp_ge, s_icmp_gt, s_icmp_le, s_if_eq, s_if_ne, s_if_lt, s_if_ge, s_if_gt, s_if_le, s_getI, s_getL, s_getR, s_putI, s_putZ, s_putL, s_putR, s_iald, s_bald, s_lald, s_aald, s_iast, s_bast, s_last, s_iret, s_zret, s_lret, s_aret, s_vret, s_tbl, q_tab, s_acopy, s_new, s_newa, s_oinit, s_aast, q_nth, qst1, qst2, q_cl1, q_nx, q_ent, qcat, q_cs, q_up_mk, q_cpy_mk, List.cons_append, List.nil_append, List.append_nil, List.replicate, List.take_succ_cons, List.take_zero, List.drop_succ_cons, List.drop_zero, List.reverse_cons, List.reverse_nil, List.length_cons, List.length_nil, List.map_cons, List.map_nil, List.sum_cons, List.sum_nil, Option.toList_some, Option.toList_none, true_and, and_true, true_or, or_true, Nat.sub_zero, Nat.reduceAdd, Nat.reduceSub, Nat.reduceLeDiff, Int.reduceAdd, Int.reduceLE, s_sc, s_strC, s_strV, s_alenC, s_baldC, s_gst, s_i2c, s_cret, s_athrow]
          repeat' (first | with_reducible apply And.intro | with_reducible intro _)
          all_goals first | contradiction | (exfalso; omega) | skip
          all_goals (refine ⟨by simp only [List.length_cons, List.length_nil]; omega, Nat.le_of_ble_eq_true rfl, ⟨by decide, by rw [sh_280]⟩, ?_⟩)
          all_goals (refine callS _ ?_)
          all_goals (simp only [s_ic, s_lc, s_null, s_iload, s_lload, s_aload, s_istore, s_lstore, s_astore, s_iinc, s_iadd, s_isub, s_imul, s_iand, s_ior, s_ixor, s_ishl, s_ishr, s_idiv, s_irem, s_ineg, s_ladd, s_lsub, s_lmul, s_lneg, s_ldiv, s_lrem, s_lshl, s_lshr, s_lor, s_land, s_lcmp, s_i2l, s_l2i, s_i2b, s_dup, s_pop, s_dup2, s_dupx1, s_alen, s_ifnull, s_ifnon, s_icmp_eq, s_icmp_ne, s_icmp_lt, s_icmp_ge, s_icmp_gt, s_icmp_le, s_if_eq, s_if_ne, s_if_lt, s_if_ge, s_if_gt, s_if_le, s_getI, s_getL, s_getR, s_putI, s_putZ, s_putL, s_putR, s_iald, s_bald, s_lald, s_aald, s_iast, s_bast, s_last, s_iret, s_zret, s_lret, s_aret, s_vret, s_tbl, q_tab, s_acopy, s_new, s_newa, s_oinit, s_aast, q_nth, qst1, qst2, q_cl1, q_nx, q_ent, qcat, q_cs, q_up_mk, q_cpy_mk, List.cons_append, List.nil_append, List.append_nil, List.replicate, List.take_succ_cons, List.take_zero, List.drop_succ_cons, List.drop_zero, List.reverse_cons, List.reverse_nil, List.length_cons, List.length_nil, List.map_cons, List.map_nil, List.sum_cons, List.sum_nil, Option.toList_some, Option.toList_none, true_and, and_true, true_or, or_true, Nat.sub_zero, Nat.reduceAdd, Nat.reduceSub, Nat.reduceLeDiff, Int.reduceAdd, Int.reduceLE, s_sc, s_strC, s_strV, s_alenC, s_baldC, s_gst, s_i2c, s_cret, s_athrow, s_Mo_newEdge, s_Mo_edges, e_Mo_edges, p_Mo_edges, f_Mo_edges, v5, v2, v1, sh_280])
          repeat' (first | with_reducible apply And.intro | with_reducible intro _)
          all_goals first | contradiction | omega | exact pe | exact pp | (unfold r32; omega) | (rw [show R 1 + 1 - 1 = R 1 by omega]; exact st) | (exfalso; omega)
      · have st := hq0 (fun q => ne ⟨q.2.2.1, q.2.2.2.1⟩)
        clear hq0 hq1 sq ts tr hTs hT ok hr s5 callS
        refine Mo_change_67 _ _ _ ?_
        simp only [w_Mo_change_67, w_Mo_change_121, s_ic, s_lc, s_null, s_iload, s_lload, s_aload, s_istore, s_lstore, s_astore, s_iinc, s_iadd, s_isub, s_imul, s_iand, s_ior, s_ixor, s_ishl, s_ishr, s_idiv, s_irem, s_ineg, s_ladd, s_lsub, s_lmul, s_lneg, s_ldiv, s_lrem, s_lshl, s_lshr, s_lor, s_land, s_lcmp, s_i2l, s_l2i, s_i2b, s_dup, s_pop, s_dup2, s_dupx1, s_alen, s_ifnull, s_ifnon, s_icmp_eq, s_icmp_ne, s_icmp_lt, s_icmp_ge, s_icmp_gt, s_icmp_le, s_if_eq, s_if_ne, s_if_lt, s_if_ge, s_if_gt, s_if_le, s_getI, s_getL, s_getR, s_putI, s_putZ, s_putL, s_putR, s_iald, s_bald, s_lald, s_aald, s_iast, s_bast, s_last, s_iret, s_zret, s_lret, s_aret, s_vret, s_tbl, q_tab, s_acopy, s_new, s_newa, s_oinit, s_aast, q_nth, qst1, qst2, q_cl1, q_nx, q_ent, qcat, q_cs, q_up_mk, q_cpy_mk, List.cons_append, List.nil_append, List.append_nil, List.replicate, List.take_succ_cons, List.take_zero, List.drop_succ_cons, List.drop_zero, List.reverse_cons, List.reverse_nil, List.length_cons, List.length_nil, List.map_cons, List.map_nil, List.sum_cons, List.sum_nil, Option.toList_some, Option.toList_none, true_and, and_true, true_or, or_true, Nat.sub_zero, Nat.reduceAdd, Nat.reduceSub, Nat.reduceLeDiff, Int.reduceAdd, Int.reduceLE, s_sc, s_strC, s_strV, s_alenC, s_baldC, s_gst, s_i2c, s_cret, s_athrow, s_Mo_nodes, e_Mo_nodes, p_Mo_nodes, f_Mo_nodes, s_Mo_edges, e_Mo_edges, p_Mo_edges, f_Mo_edges, s_Mo_groups, e_Mo_groups, p_Mo_groups, f_Mo_groups, s_Mo_in, er, z2, t0, t1, t2, sh_280, f1, f2]
        repeat' (first | with_reducible apply And.intro | with_reducible intro _)
        all_goals first | contradiction | omega | (unfold r32; omega) | exact st | (exfalso; omega)
    · have f2 := inT_0 (v := h.2) (c := b) (lo := 0) (hi := R 0 - 1) (by omega)
      have st := hq0 (fun q => c2 q.2.1)
      clear hq0 hq1 sq ts tr hTs hT ok hr s5 callS
      refine Mo_change_67 _ _ _ ?_
      simp only [w_Mo_change_67, w_Mo_change_121, s_ic, s_lc, s_null, s_iload, s_lload, s_aload, s_istore, s_lstore, s_astore, s_iinc, s_iadd, s_isub, s_imul, s_iand, s_ior, s_ixor, s_ishl, s_ishr, s_idiv, s_irem, s_ineg, s_ladd, s_lsub, s_lmul, s_lneg, s_ldiv, s_lrem, s_lshl, s_lshr, s_lor, s_land, s_lcmp, s_i2l, s_l2i, s_i2b, s_dup, s_pop, s_dup2, s_dupx1, s_alen, s_ifnull, s_ifnon, s_icmp_eq, s_icmp_ne, s_icmp_lt, s_icmp_ge, s_icmp_gt, s_icmp_le, s_if_eq, s_if_ne, s_if_lt, s_if_ge, s_if_gt, s_if_le, s_getI, s_getL, s_getR, s_putI, s_putZ, s_putL, s_putR, s_iald, s_bald, s_lald, s_aald, s_iast, s_bast, s_last, s_iret, s_zret, s_lret, s_aret, s_vret, s_tbl, q_tab, s_acopy, s_new, s_newa, s_oinit, s_aast, q_nth, qst1, qst2, q_cl1, q_nx, q_ent, qcat, q_cs, q_up_mk, q_cpy_mk, List.cons_append, List.nil_append, List.append_nil, List.replicate, List.take_succ_cons, List.take_zero, List.drop_succ_cons, List.drop_zero, List.reverse_cons, List.reverse_nil, List.length_cons, List.length_nil, List.map_cons, List.map_nil, List.sum_cons, List.sum_nil, Option.toList_some, Option.toList_none, true_and, and_true, true_or, or_true, Nat.sub_zero, Nat.reduceAdd, Nat.reduceSub, Nat.reduceLeDiff, Int.reduceAdd, Int.reduceLE, s_sc, s_strC, s_strV, s_alenC, s_baldC, s_gst, s_i2c, s_cret, s_athrow, s_Mo_nodes, e_Mo_nodes, p_Mo_nodes, f_Mo_nodes, s_Mo_edges, e_Mo_edges, p_Mo_edges, f_Mo_edges, s_Mo_groups, e_Mo_groups, p_Mo_groups, f_Mo_groups, s_Mo_in, er, z2, t0, t1, t2, sh_280, f1, f2]
      repeat' (first | with_reducible apply And.intro | with_reducible intro _)
      all_goals first | contradiction | omega | (unfold r32; omega) | exact st | (exfalso; omega)
  · have f1 := inT_0 (v := h.2) (c := a) (lo := 0) (hi := R 0 - 1) (by omega)
    have st := hq0 (fun q => c1 q.1)
    clear hq0 hq1 sq ts tr hTs hT ok hr s5 callS
    refine Mo_change_67 _ _ _ ?_
    simp only [w_Mo_change_67, w_Mo_change_121, s_ic, s_lc, s_null, s_iload, s_lload, s_aload, s_istore, s_lstore, s_astore, s_iinc, s_iadd, s_isub, s_imul, s_iand, s_ior, s_ixor, s_ishl, s_ishr, s_idiv, s_irem, s_ineg, s_ladd, s_lsub, s_lmul, s_lneg, s_ldiv, s_lrem, s_lshl, s_lshr, s_lor, s_land, s_lcmp, s_i2l, s_l2i, s_i2b, s_dup, s_pop, s_dup2, s_dupx1, s_alen, s_ifnull, s_ifnon, s_icmp_eq, s_icmp_ne, s_icmp_lt, s_icmp_ge, s_icmp_gt, s_icmp_le, s_if_eq, s_if_ne, s_if_lt, s_if_ge, s_if_gt, s_if_le, s_getI, s_getL, s_getR, s_putI, s_putZ, s_putL, s_putR, s_iald, s_bald, s_lald, s_aald, s_iast, s_bast, s_last, s_iret, s_zret, s_lret, s_aret, s_vret, s_tbl, q_tab, s_acopy, s_new, s_newa, s_oinit, s_aast, q_nth, qst1, qst2, q_cl1, q_nx, q_ent, qcat, q_cs, q_up_mk, q_cpy_mk, List.cons_append, List.nil_append, List.append_nil, List.replicate, List.take_succ_cons, List.take_zero, List.drop_succ_cons, List.drop_zero, List.reverse_cons, List.reverse_nil, List.length_cons, List.length_nil, List.map_cons, List.map_nil, List.sum_cons, List.sum_nil, Option.toList_some, Option.toList_none, true_and, and_true, true_or, or_true, Nat.sub_zero, Nat.reduceAdd, Nat.reduceSub, Nat.reduceLeDiff, Int.reduceAdd, Int.reduceLE, s_sc, s_strC, s_strV, s_alenC, s_baldC, s_gst, s_i2c, s_cret, s_athrow, s_Mo_nodes, e_Mo_nodes, p_Mo_nodes, f_Mo_nodes, s_Mo_edges, e_Mo_edges, p_Mo_edges, f_Mo_edges, s_Mo_groups, e_Mo_groups, p_Mo_groups, f_Mo_groups, s_Mo_in, er, z2, t0, t1, t2, sh_280, f1]
    repeat' (first | with_reducible apply And.intro | with_reducible intro _)
    all_goals first | contradiction | omega | (unfold r32; omega) | exact st | (exfalso; omega)
set_option maxRecDepth 100000 in
theorem mc_60 {l : Launch} {D : qD} {d : Nat} {gi a b what r : Int} {R : Int → Int} {h : qh} {Q : qQ} (hT : TW h.2) (hg : 0 ≤ gi ∧ gi < 4) (hn : 0 ≤ h.2 283 gi ∧ h.2 283 gi ≤ 30) (er : h.2 280 5 = r) (hr : r = 539 * (31 * gi + h.2 283 gi)) (tr : TRw h.2 r R) (ok : GOK R)
    (hq0 : ¬ CAN R 0 a b → Q (some (.inl (-1))) h) (hq1 : CAN R 0 a b → ∀ v, TRw v (tR h.2 gi) (rNn R a) → FV (tmS (tR h.2 gi)) (stp1 (stp0 h.2 gi) gi) v → Q (some (.inl (R 0))) (h.1, v)) : qR l D (d + 5, 0, 0) m_Mo_change 60 Q [some (.inr (.inr 280)), some (.inl gi), some (.inl what), some (.inl a), some (.inl b)] [] h := by
  have call : ∀ Q' : qQ, (Q (some (.inl (-1))) h → Q' (some (.inl (-1))) h) → (∀ v, Q (some (.inl (R 0))) (h.1, v) → Q' (some (.inl (R 0))) (h.1, v)) → qM l D (d + 4, 0, 0) m_Mo_newNode [.inr (.inr 280), .inl gi, .inl a] h Q' := fun Q' k0 k1 => sp_Mo_newNode (d := d) (b := b) hT hg hn er hr tr ok (fun no => k0 (hq0 no)) (fun can v tv fv => k1 v (hq1 can v tv fv))
  clear hq0 hq1
  refine Mo_change_60 _ _ _ ?_
  simp only [w_Mo_change_60, s_ic, s_lc, s_null, s_iload, s_lload, s_aload, s_istore, s_lstore, s_astore, s_iinc, s_iadd, s_isub, s_imul, s_iand, s_ior, s_ixor, s_ishl, s_ishr, s_idiv, s_irem, s_ineg, s_ladd, s_lsub, s_lmul, s_lneg, s_ldiv, s_lrem, s_lshl, s_lshr, s_lor, s_land, s_lcmp, s_i2l, s_l2i, s_i2b, s_dup, s_pop, s_dup2, s_dupx1, s_alen, s_ifnull, s_ifnon, s_icmp_eq, s_icmp_ne, s_icmp_lt, s_icmp_ge, s_icmp_gt, s_icmp_le, s_if_eq, s_if_ne, s_if_lt, s_if_ge, s_if_gt, s_if_le, s_getI, s_getL, s_getR, s_putI, s_putZ, s_putL, s_putR, s_iald, s_bald, s_lald, s_aald, s_iast, s_bast, s_last, s_iret, s_zret, s_lret, s_aret, s_vret, s_tbl, q_tab, s_acopy, s_new, s_newa, s_oinit, s_aast, q_nth, qst1, qst2, q_cl1, q_nx, q_ent, qcat, q_cs, q_up_mk, q_cpy_mk, List.cons_append, List.nil_append, List.append_nil, List.replicate, List.take_succ_cons, List.take_zero, List.drop_succ_cons, List.drop_zero, List.reverse_cons, List.reverse_nil, List.length_cons, List.length_nil, List.map_cons, List.map_nil, List.sum_cons, List.sum_nil, Option.toList_some, Option.toList_none, true_and, and_true, true_or, or_true, Nat.sub_zero, Nat.reduceAdd, Nat.reduceSub, Nat.reduceLeDiff, Int.reduceAdd, Int.reduceLE, s_sc, s_strC, s_strV, s_alenC, s_baldC, s_gst, s_i2c, s_cret, s_athrow]
  refine ⟨by simp only [List.length_cons, List.length_nil]; omega, Nat.le_of_ble_eq_true rfl, ⟨by decide, by rw [sh_280]⟩, ?_⟩
  refine call _ (fun st => ?_) (fun v st => ?_)
  · simp only [s_ic, s_lc, s_null, s_iload, s_lload, s_aload, s_istore, s_lstore, s_astore, s_iinc, s_iadd, s_isub, s_imul, s_iand, s_ior, s_ixor, s_ishl, s_ishr, s_idiv, s_irem, s_ineg, s_ladd, s_lsub, s_lmul, s_lneg, s_ldiv, s_lrem, s_lshl, s_lshr, s_lor, s_land, s_lcmp, s_i2l, s_l2i, s_i2b, s_dup, s_pop, s_dup2, s_dupx1, s_alen, s_ifnull, s_ifnon, s_icmp_eq, s_icmp_ne, s_icmp_lt, s_icmp_ge, s_icmp_gt, s_icmp_le, s_if_eq, s_if_ne, s_if_lt, s_if_ge, s_if_gt, s_if_le, s_getI, s_getL, s_getR, s_putI, s_putZ, s_putL, s_putR, s_iald, s_bald, s_lald, s_aald, s_iast, s_bast, s_last, s_iret, s_zret, s_lret, s_aret, s_vret, s_tbl, q_tab, s_acopy, s_new, s_newa, s_oinit, s_aast, q_nth, qst1, qst2, q_cl1, q_nx, q_ent, qcat, q_cs, q_up_mk, q_cpy_mk, List.cons_append, List.nil_append, List.append_nil, List.replicate, List.take_succ_cons, List.take_zero, List.drop_succ_cons, List.drop_zero, List.reverse_cons, List.reverse_nil, List.length_cons, List.length_nil, List.map_cons, List.map_nil, List.sum_cons, List.sum_nil, Option.toList_some, Option.toList_none, true_and, and_true, true_or, or_true, Nat.sub_zero, Nat.reduceAdd, Nat.reduceSub, Nat.reduceLeDiff, Int.reduceAdd, Int.reduceLE, s_sc, s_strC, s_strV, s_alenC, s_baldC, s_gst, s_i2c, s_cret, s_athrow]
    repeat' (first | with_reducible apply And.intro | with_reducible intro _)
    all_goals first | contradiction | omega | exact st
  · simp only [s_ic, s_lc, s_null, s_iload, s_lload, s_aload, s_istore, s_lstore, s_astore, s_iinc, s_iadd, s_isub, s_imul, s_iand, s_ior, s_ixor, s_ishl, s_ishr, s_idiv, s_irem, s_ineg, s_ladd, s_lsub, s_lmul, s_lneg, s_ldiv, s_lrem, s_lshl, s_lshr, s_lor, s_land, s_lcmp, s_i2l, s_l2i, s_i2b, s_dup, s_pop, s_dup2, s_dupx1, s_alen, s_ifnull, s_ifnon, s_icmp_eq, s_icmp_ne, s_icmp_lt, s_icmp_ge, s_icmp_gt, s_icmp_le, s_if_eq, s_if_ne, s_if_lt, s_if_ge, s_if_gt, s_if_le, s_getI, s_getL, s_getR, s_putI, s_putZ, s_putL, s_putR, s_iald, s_bald, s_lald, s_aald, s_iast, s_bast, s_last, s_iret, s_zret, s_lret, s_aret, s_vret, s_tbl, q_tab, s_acopy, s_new, s_newa, s_oinit, s_aast, q_nth, qst1, qst2, q_cl1, q_nx, q_ent, qcat, q_cs, q_up_mk, q_cpy_mk, List.cons_append, List.nil_append, List.append_nil, List.replicate, List.take_succ_cons, List.take_zero, List.drop_succ_cons, List.drop_zero, List.reverse_cons, List.reverse_nil, List.length_cons, List.length_nil, List.map_cons, List.map_nil, List.sum_cons, List.sum_nil, Option.toList_some, Option.toList_none, true_and, and_true, true_or, or_true, Nat.sub_zero, Nat.reduceAdd, Nat.reduceSub, Nat.reduceLeDiff, Int.reduceAdd, Int.reduceLE, s_sc, s_strC, s_strV, s_alenC, s_baldC, s_gst, s_i2c, s_cret, s_athrow]
    repeat' (first | with_reducible apply And.intro | with_reducible intro _)
    all_goals first | contradiction | omega | exact st
set_option maxRecDepth 100000 in
theorem mc_370 {l : Launch} {D : qD} {d : Nat} {gi a b what : Int} {h : qh} {Q : qQ} (hq0 : Q (some (.inl (-1))) h) : qR l D (d + 5, 0, 0) m_Mo_change 370 Q [some (.inr (.inr 280)), some (.inl gi), some (.inl what), some (.inl a), some (.inl b)] [] h := by
  refine Mo_change_370 _ _ _ ?_
  simp only [w_Mo_change_370, s_ic, s_lc, s_null, s_iload, s_lload, s_aload, s_istore, s_lstore, s_astore, s_iinc, s_iadd, s_isub, s_imul, s_iand, s_ior, s_ixor, s_ishl, s_ishr, s_idiv, s_irem, s_ineg, s_ladd, s_lsub, s_lmul, s_lneg, s_ldiv, s_lrem, s_lshl, s_lshr, s_lor, s_land, s_lcmp, s_i2l, s_l2i, s_i2b, s_dup, s_pop, s_dup2, s_dupx1, s_alen, s_ifnull, s_ifnon, s_icmp_eq, s_icmp_ne, s_icmp_lt, s_icmp_ge, s_icmp_gt, s_icmp_le, s_if_eq, s_if_ne, s_if_lt, s_if_ge, s_if_gt, s_if_le, s_getI, s_getL, s_getR, s_putI, s_putZ, s_putL, s_putR, s_iald, s_bald, s_lald, s_aald, s_iast, s_bast, s_last, s_iret, s_zret, s_lret, s_aret, s_vret, s_tbl, q_tab, s_acopy, s_new, s_newa, s_oinit, s_aast, q_nth, qst1, qst2, q_cl1, q_nx, q_ent, qcat, q_cs, q_up_mk, q_cpy_mk, List.cons_append, List.nil_append, List.append_nil, List.replicate, List.take_succ_cons, List.take_zero, List.drop_succ_cons, List.drop_zero, List.reverse_cons, List.reverse_nil, List.length_cons, List.length_nil, List.map_cons, List.map_nil, List.sum_cons, List.sum_nil, Option.toList_some, Option.toList_none, true_and, and_true, true_or, or_true, Nat.sub_zero, Nat.reduceAdd, Nat.reduceSub, Nat.reduceLeDiff, Int.reduceAdd, Int.reduceLE, s_sc, s_strC, s_strV, s_alenC, s_baldC, s_gst, s_i2c, s_cret, s_athrow]
  repeat' (first | with_reducible apply And.intro | with_reducible intro _)
  all_goals first | contradiction | omega | exact hq0
/-- the row at hand is the place's -/
abbrev tkT (v : Int → Int → Int) (gi : Int) : Int → Int → Int := up2 v 280 5 (539 * (31 * gi + v 283 gi))
set_option maxRecDepth 100000 in
theorem sp_Mo_change {l : Launch} {D : qD} {d : Nat} {gi what a b : Int} {R : Int → Int} {h : qh} {Q : qQ} (hT : TW h.2) (hn : (0 ≤ gi ∧ gi < 4) → (0 ≤ h.2 283 gi ∧ h.2 283 gi ≤ 30) ∧ TRw h.2 (539 * (31 * gi + h.2 283 gi)) R ∧ GOK R)
    (hq0 : ¬ ((0 ≤ gi ∧ gi < 4) ∧ CAN R what a b) → ∀ v, FV (fun a j => a = 280 ∧ j = 5) h.2 v → Q (some (.inl (-1))) (h.1, v))
    (hq1 : (0 ≤ gi ∧ gi < 4) → CAN R what a b → ∀ s v, STQ gi (tkT h.2 gi) s → TRw v (tR h.2 gi) (ACT R what a b) → FV (tmS (tR h.2 gi)) s v → Q (some (.inl (ANS R what))) (h.1, v)) : qM l D (d + 5, 0, 0) m_Mo_change [.inr (.inr 280), .inl gi, .inl what, .inl a, .inl b] h Q := by
  have y3 := hT.f3
  refine qM.o0 5 rfl (by decide) (Nat.le_of_ble_eq_true rfl) ?_
  refine Mo_change_0 _ _ _ ?_
  by_cases hg : 0 ≤ gi ∧ gi < 4
  · have pi := isPT_1 (v := h.2) hg
    obtain ⟨kb, tr, ok⟩ := hn hg
    obtain ⟨v1, hv1⟩ : ∃ v1, v1 = tkT h.2 gi := ⟨_, rfl⟩
    have gt : g_Mo_take gi h.2 = v1 := by rw [hv1]; rfl
    have hT1 : TW v1 := by
      rw [hv1]
      exact hT.pt (fun j hj => up2_k (fun e => absurd hj (by rw [e]; decide)))
    have e3 : v1 283 = h.2 283 := by rw [hv1]; exact up2_a (by decide)
    have e5 : v1 280 5 = 539 * (31 * gi + v1 283 gi) := by rw [e3, hv1]; exact up2_at _ _ _ _
    have tr1 : TRw v1 (539 * (31 * gi + v1 283 gi)) R := by
      rw [e3]
      exact tr.cg (by rw [hv1]; exact up2_a (by decide))
    have kb1 : 0 ≤ v1 283 gi ∧ v1 283 gi ≤ 30 := by rw [e3]; exact kb
    have pp : p_Mo_take gi h.2 := by
      unfold p_Mo_take p_Mo_rowOf r32
      refine ⟨hg.1, hg.2, ?_⟩
      omega
    have q0 : ¬ CAN R what a b → Q (some (.inl (-1))) (h.1, v1) := fun no => hq0 (fun q => no q.2) v1 (by rw [hv1]; exact FV.rf.up ⟨rfl, rfl⟩)
    have q1 : CAN R what a b → ∀ v, TRw v (tR v1 gi) (ACT R what a b) → FV (tmS (tR v1 gi)) (stp1 (stp0 v1 gi) gi) v → Q (some (.inl (ANS R what))) (h.1, v) := fun can v tv fv => by
      have et : tR v1 gi = tR h.2 gi := by simp only [tR]; rw [e3]
      rw [et] at tv fv
      exact hq1 hg can _ v (by rw [← hv1]; exact stp_q hg kb1) tv fv
    have key : ∀ pc, (pc = 60 ∧ what = 0) ∨ (pc = 67 ∧ what = 1) ∨ (pc = 143 ∧ what = 2) ∨ (pc = 171 ∧ what = 3) ∨ (pc = 199 ∧ what = 4) ∨ (pc = 241 ∧ what = 5) ∨ (pc = 283 ∧ what = 6) ∨ (pc = 329 ∧ what = 7) ∨ (pc = 370 ∧ (what < 0 ∨ 7 < what)) → qR l D (d + 5, 0, 0) m_Mo_change pc (fun r h' => Q r ((h'.1.1, h.1.2.1, h.1.2.2), h'.2)) [some (.inr (.inr 280)), some (.inl gi), some (.inl what), some (.inl a), some (.inl b)] [] ((h.1.1, 0, 0), v1) := fun pc hpc => by
      rcases hpc with ⟨e, e'⟩ | ⟨e, e'⟩ | ⟨e, e'⟩ | ⟨e, e'⟩ | ⟨e, e'⟩ | ⟨e, e'⟩ | ⟨e, e'⟩ | ⟨e, e'⟩ | ⟨e, e'⟩ <;> subst e
      · subst e'
        exact mc_60 (h := ((h.1.1, 0, 0), v1)) hT1 hg kb1 e5 rfl tr1 ok q0 q1
      · subst e'
        exact mc_67 (h := ((h.1.1, 0, 0), v1)) hT1 hg kb1 e5 rfl tr1 ok q0 q1
      · subst e'
        exact mc_143 (h := ((h.1.1, 0, 0), v1)) hT1 hg kb1 e5 rfl tr1 ok q0 q1
      · subst e'
        exact mc_171 (h := ((h.1.1, 0, 0), v1)) hT1 hg kb1 e5 rfl tr1 ok q0 q1
      · subst e'
        exact mc_199 (h := ((h.1.1, 0, 0), v1)) hT1 hg kb1 e5 rfl tr1 ok q0 q1
      · subst e'
        exact mc_241 (h := ((h.1.1, 0, 0), v1)) hT1 hg kb1 e5 rfl tr1 ok q0 q1
      · subst e'
        exact mc_283 (h := ((h.1.1, 0, 0), v1)) hT1 hg kb1 e5 rfl tr1 ok q0 q1
      · subst e'
        exact mc_329 (h := ((h.1.1, 0, 0), v1)) hT1 hg kb1 e5 rfl tr1 ok q0 q1
      · exact mc_370 (h := ((h.1.1, 0, 0), v1)) (q0 (CAN_no e'))
    clear hq0 hq1 q0 q1 tr1 tr ok hT1 e5 e3 hn
    simp only [w_Mo_change_0, w_Mo_change_9, s_ic, s_lc, s_null, s_iload, s_lload, s_aload, s_istore, s_lstore, s_astore, s_iinc, s_iadd, s_isub, s_imul, s_iand, s_ior, s_ixor, s_ishl, s_ishr, s_idiv, s_irem, s_ineg, s_ladd, s_lsub, s_lmul, s_lneg, s_ldiv, s_lrem, s_lshl, s_lshr, s_lor, s_land, s_lcmp, s_i2l, s_l2i, s_i2b, s_dup, s_pop, s_dup2, s_dupx1, s_alen, s_ifnull, s_ifnon, s_icmp_eq, s_icmp_ne, s_icmp_lt, s_icmp_ge, s_icmp_gt, s_icmp_le, s_if_eq, s_if_ne, s_if_lt, s_if_ge, s_if_gt, s_if_le, s_getI, s_getL, s_getR, s_putI, s_putZ, s_putL, s_putR, s_iald, s_bald, s_lald, s_aald, s_iast, s_bast, s_last, s_iret, s_zret, s_lret, s_aret, s_vret, s_tbl, q_tab, s_acopy, s_new, s_newa, s_oinit, s_aast, q_nth, qst1, qst2, q_cl1, q_nx, q_ent, qcat, q_cs, q_up_mk, q_cpy_mk, List.cons_append, List.nil_append, List.append_nil, List.replicate, List.take_succ_cons, List.take_zero, List.drop_succ_cons, List.drop_zero, List.reverse_cons, List.reverse_nil, List.length_cons, List.length_nil, List.map_cons, List.map_nil, List.sum_cons, List.sum_nil, Option.toList_some, Option.toList_none, true_and, and_true, true_or, or_true, Nat.sub_zero, Nat.reduceAdd, Nat.reduceSub, Nat.reduceLeDiff, Int.reduceAdd, Int.reduceLE, s_sc, s_strC, s_strV, s_alenC, s_baldC, s_gst, s_i2c, s_cret, s_athrow, s_Mo_isPlace, s_Mo_take, e_Mo_take, pi, y3, gt, List.map_cons, List.map_nil]
    repeat' (first | with_reducible apply And.intro | with_reducible intro _)
    all_goals first | contradiction | omega | exact pp | (exact key _ (by omega)) | (exfalso; omega)
  · have pi := isPT_0 (v := h.2) hg
    have st := hq0 (fun q => hg q.1) h.2 FV.rf
    clear hq0 hq1 hn
    simp only [w_Mo_change_0, s_ic, s_lc, s_null, s_iload, s_lload, s_aload, s_istore, s_lstore, s_astore, s_iinc, s_iadd, s_isub, s_imul, s_iand, s_ior, s_ixor, s_ishl, s_ishr, s_idiv, s_irem, s_ineg, s_ladd, s_lsub, s_lmul, s_lneg, s_ldiv, s_lrem, s_lshl, s_lshr, s_lor, s_land, s_lcmp, s_i2l, s_l2i, s_i2b, s_dup, s_pop, s_dup2, s_dupx1, s_alen, s_ifnull, s_ifnon, s_icmp_eq, s_icmp_ne, s_icmp_lt, s_icmp_ge, s_icmp_gt, s_icmp_le, s_if_eq, s_if_ne, s_if_lt, s_if_ge, s_if_gt, s_if_le, s_getI, s_getL, s_getR, s_putI, s_putZ, s_putL, s_putR, s_iald, s_bald, s_lald, s_aald, s_iast, s_bast, s_last, s_iret, s_zret, s_lret, s_aret, s_vret, s_tbl, q_tab, s_acopy, s_new, s_newa, s_oinit, s_aast, q_nth, qst1, qst2, q_cl1, q_nx, q_ent, qcat, q_cs, q_up_mk, q_cpy_mk, List.cons_append, List.nil_append, List.append_nil, List.replicate, List.take_succ_cons, List.take_zero, List.drop_succ_cons, List.drop_zero, List.reverse_cons, List.reverse_nil, List.length_cons, List.length_nil, List.map_cons, List.map_nil, List.sum_cons, List.sum_nil, Option.toList_some, Option.toList_none, true_and, and_true, true_or, or_true, Nat.sub_zero, Nat.reduceAdd, Nat.reduceSub, Nat.reduceLeDiff, Int.reduceAdd, Int.reduceLE, s_sc, s_strC, s_strV, s_alenC, s_baldC, s_gst, s_i2c, s_cret, s_athrow, s_Mo_isPlace, pi]
    repeat' (first | with_reducible apply And.intro | with_reducible intro _)
    all_goals first | contradiction | omega | exact st | (exfalso; omega)
