/-! ===== change: what may be asked for (printed by gen/p_cch.py) ===== -/
set_option maxRecDepth 100000 in
theorem cc_141 {l : Launch} {D : qD} {d : Nat} {g a b what : Int} {R : Int → Int} {h : qh} {Q : qQ} (gs : q_shp g = (3, 0)) (g0 : 0 ≤ g) (e0 : h.2 g 0 = R 0) (e1 : h.2 g 1 = R 1) (e2 : h.2 g 2 = R 2)
    (hq1 : (0 ≤ a ∧ a < R 1) → Q (some (.inl 1)) h) (hq0 : ¬ (0 ≤ a ∧ a < R 1) → Q (some (.inl 0)) h) : qR l D (d + 2, 0, 0) m_DH_canChange 141 Q [some (.inr (.inr 0)), some (.inr (.inr g)), some (.inl what), some (.inl a), some (.inl b)] [] h := by
  by_cases na : 0 ≤ a ∧ a < R 1
  · have fa := isEd_1 (g := g) (v := h.2) (a := a) (by rw [e1]; exact na)
    refine DH_canChange_141 _ _ _ ?_
    simp only [w_DH_canChange_141, s_ic, s_lc, s_null, s_iload, s_lload, s_aload, s_istore, s_lstore, s_astore, s_iinc, s_iadd, s_isub, s_imul, s_iand, s_ior, s_ixor, s_ishl, s_ishr, s_idiv, s_irem, s_ineg, s_ladd, s_lsub, s_lmul, s_lneg, s_ldiv, s_lrem, s_lshl, s_lshr, s_lor, s_land, s_lcmp, s_i2l, s_l2i, s_i2b, s_dup, s_pop, s_dup2, s_dupx1, s_alen, s_ifnull, s_ifnon, s_icmp_eq, s_icmp_ne, s_icmp_lt, s_icmp_ge, s_icmp_gt, s_icmp_le, s_if_eq, s_if_ne, s_if_lt, s_if_ge, s_if_gt, s_if_le, s_getI, s_getL, s_getR, s_putI, s_putZ, s_putL, s_putR, s_iald, s_bald, s_lald, s_aald, s_iast, s_bast, s_last, s_iret, s_zret, s_lret, s_aret, s_vret, s_tbl, q_tab, s_acopy, s_new, s_newa, s_oinit, s_aast, q_nth, qst1, qst2, q_cl1, q_nx, q_ent, qcat, q_cs, q_up_mk, q_cpy_mk, List.cons_append, List.nil_append, List.append_nil, List.replicate, List.take_succ_cons, List.take_zero, List.drop_succ_cons, List.drop_zero, List.reverse_cons, List.reverse_nil, List.length_cons, List.length_nil, List.map_cons, List.map_nil, List.sum_cons, List.sum_nil, Option.toList_some, Option.toList_none, true_and, and_true, true_or, or_true, Nat.sub_zero, Nat.reduceAdd, Nat.reduceSub, Nat.reduceLeDiff, Int.reduceAdd, Int.reduceLE, s_sc, s_strC, s_strV, s_alenC, s_baldC, s_gst, s_i2c, s_cret, s_athrow, s_Gr_isEdge, fa, gs]
    repeat' (first | with_reducible apply And.intro | with_reducible intro _)
    all_goals first | contradiction | omega | (with_reducible refine hq1 ?_ <;> omega) | (with_reducible refine hq0 ?_ <;> omega) | (exfalso; omega)
  · have fa := isEd_0 (g := g) (v := h.2) (a := a) (by rw [e1]; exact na)
    refine DH_canChange_141 _ _ _ ?_
    simp only [w_DH_canChange_141, s_ic, s_lc, s_null, s_iload, s_lload, s_aload, s_istore, s_lstore, s_astore, s_iinc, s_iadd, s_isub, s_imul, s_iand, s_ior, s_ixor, s_ishl, s_ishr, s_idiv, s_irem, s_ineg, s_ladd, s_lsub, s_lmul, s_lneg, s_ldiv, s_lrem, s_lshl, s_lshr, s_lor, s_land, s_lcmp, s_i2l, s_l2i, s_i2b, s_dup, s_pop, s_dup2, s_dupx1, s_alen, s_ifnull, s_ifnon, s_icmp_eq, s_icmp_ne, s_icmp_lt, s_icmp_ge, s_icmp_gt, s_icmp_le, s_if_eq, s_if_ne, s_if_lt, s_if_ge, s_if_gt, s_if_le, s_getI, s_getL, s_getR, s_putI, s_putZ, s_putL, s_putR, s_iald, s_bald, s_lald, s_aald, s_iast, s_bast, s_last, s_iret, s_zret, s_lret, s_aret, s_vret, s_tbl, q_tab, s_acopy, s_new, s_newa, s_oinit, s_aast, q_nth, qst1, qst2, q_cl1, q_nx, q_ent, qcat, q_cs, q_up_mk, q_cpy_mk, List.cons_append, List.nil_append, List.append_nil, List.replicate, List.take_succ_cons, List.take_zero, List.drop_succ_cons, List.drop_zero, List.reverse_cons, List.reverse_nil, List.length_cons, List.length_nil, List.map_cons, List.map_nil, List.sum_cons, List.sum_nil, Option.toList_some, Option.toList_none, true_and, and_true, true_or, or_true, Nat.sub_zero, Nat.reduceAdd, Nat.reduceSub, Nat.reduceLeDiff, Int.reduceAdd, Int.reduceLE, s_sc, s_strC, s_strV, s_alenC, s_baldC, s_gst, s_i2c, s_cret, s_athrow, s_Gr_isEdge, fa, gs]
    repeat' (first | with_reducible apply And.intro | with_reducible intro _)
    all_goals first | contradiction | omega | (with_reducible refine hq1 ?_ <;> omega) | (with_reducible refine hq0 ?_ <;> omega) | (exfalso; omega)
set_option maxRecDepth 100000 in
theorem cc_147 {l : Launch} {D : qD} {d : Nat} {g a b what : Int} {R : Int → Int} {h : qh} {Q : qQ} (gs : q_shp g = (3, 0)) (g0 : 0 ≤ g) (e0 : h.2 g 0 = R 0) (e1 : h.2 g 1 = R 1) (e2 : h.2 g 2 = R 2)
    (hq1 : (0 ≤ a ∧ a < R 0) → Q (some (.inl 1)) h) (hq0 : ¬ (0 ≤ a ∧ a < R 0) → Q (some (.inl 0)) h) : qR l D (d + 2, 0, 0) m_DH_canChange 147 Q [some (.inr (.inr 0)), some (.inr (.inr g)), some (.inl what), some (.inl a), some (.inl b)] [] h := by
  by_cases na : 0 ≤ a ∧ a < R 0
  · have fa := isNd_1 (g := g) (v := h.2) (a := a) (by rw [e0]; exact na)
    refine DH_canChange_147 _ _ _ ?_
    simp only [w_DH_canChange_147, s_ic, s_lc, s_null, s_iload, s_lload, s_aload, s_istore, s_lstore, s_astore, s_iinc, s_iadd, s_isub, s_imul, s_iand, s_ior, s_ixor, s_ishl, s_ishr, s_idiv, s_irem, s_ineg, s_ladd, s_lsub, s_lmul, s_lneg, s_ldiv, s_lrem, s_lshl, s_lshr, s_lor, s_land, s_lcmp, s_i2l, s_l2i, s_i2b, s_dup, s_pop, s_dup2, s_dupx1, s_alen, s_ifnull, s_ifnon, s_icmp_eq, s_icmp_ne, s_icmp_lt, s_icmp_ge, s_icmp_gt, s_icmp_le, s_if_eq, s_if_ne, s_if_lt, s_if_ge, s_if_gt, s_if_le, s_getI, s_getL, s_getR, s_putI, s_putZ, s_putL, s_putR, s_iald, s_bald, s_lald, s_aald, s_iast, s_bast, s_last, s_iret, s_zret, s_lret, s_aret, s_vret, s_tbl, q_tab, s_acopy, s_new, s_newa, s_oinit, s_aast, q_nth, qst1, qst2, q_cl1, q_nx, q_ent, qcat, q_cs, q_up_mk, q_cpy_mk, List.cons_append, List.nil_append, List.append_nil, List.replicate, List.take_succ_cons, List.take_zero, List.drop_succ_cons, List.drop_zero, List.reverse_cons, List.reverse_nil, List.length_cons, List.length_nil, List.map_cons, List.map_nil, List.sum_cons, List.sum_nil, Option.toList_some, Option.toList_none, true_and, and_true, true_or, or_true, Nat.sub_zero, Nat.reduceAdd, Nat.reduceSub, Nat.reduceLeDiff, Int.reduceAdd, Int.reduceLE, s_sc, s_strC, s_strV, s_alenC, s_baldC, s_gst, s_i2c, s_cret, s_athrow, s_Gr_isNode, fa, gs]
    repeat' (first | with_reducible apply And.intro | with_reducible intro _)
    all_goals first | contradiction | omega | (with_reducible refine hq1 ?_ <;> omega) | (with_reducible refine hq0 ?_ <;> omega) | (exfalso; omega)
  · have fa := isNd_0 (g := g) (v := h.2) (a := a) (by rw [e0]; exact na)
    refine DH_canChange_147 _ _ _ ?_
    simp only [w_DH_canChange_147, s_ic, s_lc, s_null, s_iload, s_lload, s_aload, s_istore, s_lstore, s_astore, s_iinc, s_iadd, s_isub, s_imul, s_iand, s_ior, s_ixor, s_ishl, s_ishr, s_idiv, s_irem, s_ineg, s_ladd, s_lsub, s_lmul, s_lneg, s_ldiv, s_lrem, s_lshl, s_lshr, s_lor, s_land, s_lcmp, s_i2l, s_l2i, s_i2b, s_dup, s_pop, s_dup2, s_dupx1, s_alen, s_ifnull, s_ifnon, s_icmp_eq, s_icmp_ne, s_icmp_lt, s_icmp_ge, s_icmp_gt, s_icmp_le, s_if_eq, s_if_ne, s_if_lt, s_if_ge, s_if_gt, s_if_le, s_getI, s_getL, s_getR, s_putI, s_putZ, s_putL, s_putR, s_iald, s_bald, s_lald, s_aald, s_iast, s_bast, s_last, s_iret, s_zret, s_lret, s_aret, s_vret, s_tbl, q_tab, s_acopy, s_new, s_newa, s_oinit, s_aast, q_nth, qst1, qst2, q_cl1, q_nx, q_ent, qcat, q_cs, q_up_mk, q_cpy_mk, List.cons_append, List.nil_append, List.append_nil, List.replicate, List.take_succ_cons, List.take_zero, List.drop_succ_cons, List.drop_zero, List.reverse_cons, List.reverse_nil, List.length_cons, List.length_nil, List.map_cons, List.map_nil, List.sum_cons, List.sum_nil, Option.toList_some, Option.toList_none, true_and, and_true, true_or, or_true, Nat.sub_zero, Nat.reduceAdd, Nat.reduceSub, Nat.reduceLeDiff, Int.reduceAdd, Int.reduceLE, s_sc, s_strC, s_strV, s_alenC, s_baldC, s_gst, s_i2c, s_cret, s_athrow, s_Gr_isNode, fa, gs]
    repeat' (first | with_reducible apply And.intro | with_reducible intro _)
    all_goals first | contradiction | omega | (with_reducible refine hq1 ?_ <;> omega) | (with_reducible refine hq0 ?_ <;> omega) | (exfalso; omega)
set_option maxRecDepth 100000 in
theorem cc_153 {l : Launch} {D : qD} {d : Nat} {g a b what : Int} {R : Int → Int} {h : qh} {Q : qQ} (gs : q_shp g = (3, 0)) (g0 : 0 ≤ g) (e0 : h.2 g 0 = R 0) (e1 : h.2 g 1 = R 1) (e2 : h.2 g 2 = R 2)
    (hq1 : ((0 ≤ a ∧ a < R 0) ∧ 1 ≤ b ∧ b ≤ 99) → Q (some (.inl 1)) h) (hq0 : ¬ ((0 ≤ a ∧ a < R 0) ∧ 1 ≤ b ∧ b ≤ 99) → Q (some (.inl 0)) h) : qR l D (d + 2, 0, 0) m_DH_canChange 153 Q [some (.inr (.inr 0)), some (.inr (.inr g)), some (.inl what), some (.inl a), some (.inl b)] [] h := by
  by_cases na : 0 ≤ a ∧ a < R 0
  · have fa := isNd_1 (g := g) (v := h.2) (a := a) (by rw [e0]; exact na)
    refine DH_canChange_153 _ _ _ ?_
    simp only [w_DH_canChange_153, w_DH_canChange_178, w_DH_canChange_179, s_ic, s_lc, s_null, s_iload, s_lload, s_aload, s_istore, s_lstore, s_astore, s_iinc, s_iadd, s_isub, s_imul, s_iand, s_ior, s_ixor, s_ishl, s_ishr, s_idiv, s_irem, s_ineg, s_ladd, s_lsub, s_lmul, s_lneg, s_ldiv, s_lrem, s_lshl, s_lshr, s_lor, s_land, s_lcmp, s_i2l, s_l2i, s_i2b, s_dup, s_pop, s_dup2, s_dupx1, s_alen, s_ifnull, s_ifnon, s_icmp_eq, s_icmp_ne, s_icmp_lt, s_icmp_ge, s_icmp_gt, s_icmp_le, s_if_eq, s_if_ne, s_if_lt, s_if_ge, s_if_gt, s_if_le, s_getI, s_getL, s_getR, s_putI, s_putZ, s_putL, s_putR, s_iald, s_bald, s_lald, s_aald, s_iast, s_bast, s_last, s_iret, s_zret, s_lret, s_aret, s_vret, s_tbl, q_tab, s_acopy, s_new, s_newa, s_oinit, s_aast, q_nth, qst1, qst2, q_cl1, q_nx, q_ent, qcat, q_cs, q_up_mk, q_cpy_mk, List.cons_append, List.nil_append, List.append_nil, List.replicate, List.take_succ_cons, List.take_zero, List.drop_succ_cons, List.drop_zero, List.reverse_cons, List.reverse_nil, List.length_cons, List.length_nil, List.map_cons, List.map_nil, List.sum_cons, List.sum_nil, Option.toList_some, Option.toList_none, true_and, and_true, true_or, or_true, Nat.sub_zero, Nat.reduceAdd, Nat.reduceSub, Nat.reduceLeDiff, Int.reduceAdd, Int.reduceLE, s_sc, s_strC, s_strV, s_alenC, s_baldC, s_gst, s_i2c, s_cret, s_athrow, s_Gr_isNode, fa, gs]
    repeat' (first | with_reducible apply And.intro | with_reducible intro _)
    all_goals first | contradiction | omega | (with_reducible refine hq1 ?_ <;> omega) | (with_reducible refine hq0 ?_ <;> omega) | (exfalso; omega)
  · have fa := isNd_0 (g := g) (v := h.2) (a := a) (by rw [e0]; exact na)
    refine DH_canChange_153 _ _ _ ?_
    simp only [w_DH_canChange_153, w_DH_canChange_178, w_DH_canChange_179, s_ic, s_lc, s_null, s_iload, s_lload, s_aload, s_istore, s_lstore, s_astore, s_iinc, s_iadd, s_isub, s_imul, s_iand, s_ior, s_ixor, s_ishl, s_ishr, s_idiv, s_irem, s_ineg, s_ladd, s_lsub, s_lmul, s_lneg, s_ldiv, s_lrem, s_lshl, s_lshr, s_lor, s_land, s_lcmp, s_i2l, s_l2i, s_i2b, s_dup, s_pop, s_dup2, s_dupx1, s_alen, s_ifnull, s_ifnon, s_icmp_eq, s_icmp_ne, s_icmp_lt, s_icmp_ge, s_icmp_gt, s_icmp_le, s_if_eq, s_if_ne, s_if_lt, s_if_ge, s_if_gt, s_if_le, s_getI, s_getL, s_getR, s_putI, s_putZ, s_putL, s_putR, s_iald, s_bald, s_lald, s_aald, s_iast, s_bast, s_last, s_iret, s_zret, s_lret, s_aret, s_vret, s_tbl, q_tab, s_acopy, s_new, s_newa, s_oinit, s_aast, q_nth, qst1, qst2, q_cl1, q_nx, q_ent, qcat, q_cs, q_up_mk, q_cpy_mk, List.cons_append, List.nil_append, List.append_nil, List.replicate, List.take_succ_cons, List.take_zero, List.drop_succ_cons, List.drop_zero, List.reverse_cons, List.reverse_nil, List.length_cons, List.length_nil, List.map_cons, List.map_nil, List.sum_cons, List.sum_nil, Option.toList_some, Option.toList_none, true_and, and_true, true_or, or_true, Nat.sub_zero, Nat.reduceAdd, Nat.reduceSub, Nat.reduceLeDiff, Int.reduceAdd, Int.reduceLE, s_sc, s_strC, s_strV, s_alenC, s_baldC, s_gst, s_i2c, s_cret, s_athrow, s_Gr_isNode, fa, gs]
    repeat' (first | with_reducible apply And.intro | with_reducible intro _)
    all_goals first | contradiction | omega | (with_reducible refine hq1 ?_ <;> omega) | (with_reducible refine hq0 ?_ <;> omega) | (exfalso; omega)
set_option maxRecDepth 100000 in
theorem cc_180 {l : Launch} {D : qD} {d : Nat} {g a b what : Int} {R : Int → Int} {h : qh} {Q : qQ} (gs : q_shp g = (3, 0)) (g0 : 0 ≤ g) (e0 : h.2 g 0 = R 0) (e1 : h.2 g 1 = R 1) (e2 : h.2 g 2 = R 2)
    (hq1 : ((0 ≤ a ∧ a < R 1) ∧ 1 ≤ b ∧ b ≤ 9) → Q (some (.inl 1)) h) (hq0 : ¬ ((0 ≤ a ∧ a < R 1) ∧ 1 ≤ b ∧ b ≤ 9) → Q (some (.inl 0)) h) : qR l D (d + 2, 0, 0) m_DH_canChange 180 Q [some (.inr (.inr 0)), some (.inr (.inr g)), some (.inl what), some (.inl a), some (.inl b)] [] h := by
  by_cases na : 0 ≤ a ∧ a < R 1
  · have fa := isEd_1 (g := g) (v := h.2) (a := a) (by rw [e1]; exact na)
    refine DH_canChange_180 _ _ _ ?_
    simp only [w_DH_canChange_180, w_DH_canChange_205, w_DH_canChange_206, s_ic, s_lc, s_null, s_iload, s_lload, s_aload, s_istore, s_lstore, s_astore, s_iinc, s_iadd, s_isub, s_imul, s_iand, s_ior, s_ixor, s_ishl, s_ishr, s_idiv, s_irem, s_ineg, s_ladd, s_lsub, s_lmul, s_lneg, s_ldiv, s_lrem, s_lshl, s_lshr, s_lor, s_land, s_lcmp, s_i2l, s_l2i, s_i2b, s_dup, s_pop, s_dup2, s_dupx1, s_alen, s_ifnull, s_ifnon, s_icmp_eq, s_icmp_ne, s_icmp_lt, s_icmp_ge, s_icmp_gt, s_icmp_le, s_if_eq, s_if_ne, s_if_lt, s_if_ge, s_if_gt, s_if_le, s_getI, s_getL, s_getR, s_putI, s_putZ, s_putL, s_putR, s_iald, s_bald, s_lald, s_aald, s_iast, s_bast, s_last, s_iret, s_zret, s_lret, s_aret, s_vret, s_tbl, q_tab, s_acopy, s_new, s_newa, s_oinit, s_aast, q_nth, qst1, qst2, q_cl1, q_nx, q_ent, qcat, q_cs, q_up_mk, q_cpy_mk, List.cons_append, List.nil_append, List.append_nil, List.replicate, List.take_succ_cons, List.take_zero, List.drop_succ_cons, List.drop_zero, List.reverse_cons, List.reverse_nil, List.length_cons, List.length_nil, List.map_cons, List.map_nil, List.sum_cons, List.sum_nil, Option.toList_some, Option.toList_none, true_and, and_true, true_or, or_true, Nat.sub_zero, Nat.reduceAdd, Nat.reduceSub, Nat.reduceLeDiff, Int.reduceAdd, Int.reduceLE, s_sc, s_strC, s_strV, s_alenC, s_baldC, s_gst, s_i2c, s_cret, s_athrow, s_Gr_isEdge, fa, gs]
    repeat' (first | with_reducible apply And.intro | with_reducible intro _)
    all_goals first | contradiction | omega | (with_reducible refine hq1 ?_ <;> omega) | (with_reducible refine hq0 ?_ <;> omega) | (exfalso; omega)
  · have fa := isEd_0 (g := g) (v := h.2) (a := a) (by rw [e1]; exact na)
    refine DH_canChange_180 _ _ _ ?_
    simp only [w_DH_canChange_180, w_DH_canChange_205, w_DH_canChange_206, s_ic, s_lc, s_null, s_iload, s_lload, s_aload, s_istore, s_lstore, s_astore, s_iinc, s_iadd, s_isub, s_imul, s_iand, s_ior, s_ixor, s_ishl, s_ishr, s_idiv, s_irem, s_ineg, s_ladd, s_lsub, s_lmul, s_lneg, s_ldiv, s_lrem, s_lshl, s_lshr, s_lor, s_land, s_lcmp, s_i2l, s_l2i, s_i2b, s_dup, s_pop, s_dup2, s_dupx1, s_alen, s_ifnull, s_ifnon, s_icmp_eq, s_icmp_ne, s_icmp_lt, s_icmp_ge, s_icmp_gt, s_icmp_le, s_if_eq, s_if_ne, s_if_lt, s_if_ge, s_if_gt, s_if_le, s_getI, s_getL, s_getR, s_putI, s_putZ, s_putL, s_putR, s_iald, s_bald, s_lald, s_aald, s_iast, s_bast, s_last, s_iret, s_zret, s_lret, s_aret, s_vret, s_tbl, q_tab, s_acopy, s_new, s_newa, s_oinit, s_aast, q_nth, qst1, qst2, q_cl1, q_nx, q_ent, qcat, q_cs, q_up_mk, q_cpy_mk, List.cons_append, List.nil_append, List.append_nil, List.replicate, List.take_succ_cons, List.take_zero, List.drop_succ_cons, List.drop_zero, List.reverse_cons, List.reverse_nil, List.length_cons, List.length_nil, List.map_cons, List.map_nil, List.sum_cons, List.sum_nil, Option.toList_some, Option.toList_none, true_and, and_true, true_or, or_true, Nat.sub_zero, Nat.reduceAdd, Nat.reduceSub, Nat.reduceLeDiff, Int.reduceAdd, Int.reduceLE, s_sc, s_strC, s_strV, s_alenC, s_baldC, s_gst, s_i2c, s_cret, s_athrow, s_Gr_isEdge, fa, gs]
    repeat' (first | with_reducible apply And.intro | with_reducible intro _)
    all_goals first | contradiction | omega | (with_reducible refine hq1 ?_ <;> omega) | (with_reducible refine hq0 ?_ <;> omega) | (exfalso; omega)
set_option maxRecDepth 100000 in
theorem cc_207 {l : Launch} {D : qD} {d : Nat} {g a b what : Int} {R : Int → Int} {h : qh} {Q : qQ} (gs : q_shp g = (3, 0)) (g0 : 0 ≤ g) (e0 : h.2 g 0 = R 0) (e1 : h.2 g 1 = R 1) (e2 : h.2 g 2 = R 2)
    (hq1 : ((0 ≤ a ∧ a < R 0) ∧ 0 ≤ b ∧ b < R 2) → Q (some (.inl 1)) h) (hq0 : ¬ ((0 ≤ a ∧ a < R 0) ∧ 0 ≤ b ∧ b < R 2) → Q (some (.inl 0)) h) : qR l D (d + 2, 0, 0) m_DH_canChange 207 Q [some (.inr (.inr 0)), some (.inr (.inr g)), some (.inl what), some (.inl a), some (.inl b)] [] h := by
  by_cases na : 0 ≤ a ∧ a < R 0
  · have fa := isNd_1 (g := g) (v := h.2) (a := a) (by rw [e0]; exact na)
    by_cases nb : 0 ≤ b ∧ b < R 2
    · have fb := isGp_1 (g := g) (v := h.2) (a := b) (by rw [e2]; exact nb)
      refine DH_canChange_207 _ _ _ ?_
      simp only [w_DH_canChange_207, w_DH_canChange_228, w_DH_canChange_229, s_ic, s_lc, s_null, s_iload, s_lload, s_aload, s_istore, s_lstore, s_astore, s_iinc, s_iadd, s_isub, s_imul, s_iand, s_ior, s_ixor, s_ishl, s_ishr, s_idiv, s_irem, s_ineg, s_ladd, s_lsub, s_lmul, s_lneg, s_ldiv, s_lrem, s_lshl, s_lshr, s_lor, s_land, s_lcmp, s_i2l, s_l2i, s_i2b, s_dup, s_pop, s_dup2, s_dupx1, s_alen, s_ifnull, s_ifnon, s_icmp_eq, s_icmp_ne, s_icmp_lt, s_icmp_ge, s_icmp_gt, s_icmp_le, s_if_eq, s_if_ne, s_if_lt, s_if_ge, s_if_gt, s_if_le, s_getI, s_getL, s_getR, s_putI, s_putZ, s_putL, s_putR, s_iald, s_bald, s_lald, s_aald, s_iast, s_bast, s_last, s_iret, s_zret, s_lret, s_aret, s_vret, s_tbl, q_tab, s_acopy, s_new, s_newa, s_oinit, s_aast, q_nth, qst1, qst2, q_cl1, q_nx, q_ent, qcat, q_cs, q_up_mk, q_cpy_mk, List.cons_append, List.nil_append, List.append_nil, List.replicate, List.take_succ_cons, List.take_zero, List.drop_succ_cons, List.drop_zero, List.reverse_cons, List.reverse_nil, List.length_cons, List.length_nil, List.map_cons, List.map_nil, List.sum_cons, List.sum_nil, Option.toList_some, Option.toList_none, true_and, and_true, true_or, or_true, Nat.sub_zero, Nat.reduceAdd, Nat.reduceSub, Nat.reduceLeDiff, Int.reduceAdd, Int.reduceLE, s_sc, s_strC, s_strV, s_alenC, s_baldC, s_gst, s_i2c, s_cret, s_athrow, s_Gr_isGroup, s_Gr_isNode, fa, fb, gs]
      repeat' (first | with_reducible apply And.intro | with_reducible intro _)
      all_goals first | contradiction | omega | (with_reducible refine hq1 ?_ <;> omega) | (with_reducible refine hq0 ?_ <;> omega) | (exfalso; omega)
    · have fb := isGp_0 (g := g) (v := h.2) (a := b) (by rw [e2]; exact nb)
      refine DH_canChange_207 _ _ _ ?_
      simp only [w_DH_canChange_207, w_DH_canChange_228, w_DH_canChange_229, s_ic, s_lc, s_null, s_iload, s_lload, s_aload, s_istore, s_lstore, s_astore, s_iinc, s_iadd, s_isub, s_imul, s_iand, s_ior, s_ixor, s_ishl, s_ishr, s_idiv, s_irem, s_ineg, s_ladd, s_lsub, s_lmul, s_lneg, s_ldiv, s_lrem, s_lshl, s_lshr, s_lor, s_land, s_lcmp, s_i2l, s_l2i, s_i2b, s_dup, s_pop, s_dup2, s_dupx1, s_alen, s_ifnull, s_ifnon, s_icmp_eq, s_icmp_ne, s_icmp_lt, s_icmp_ge, s_icmp_gt, s_icmp_le, s_if_eq, s_if_ne, s_if_lt, s_if_ge, s_if_gt, s_if_le, s_getI, s_getL, s_getR, s_putI, s_putZ, s_putL, s_putR, s_iald, s_bald, s_lald, s_aald, s_iast, s_bast, s_last, s_iret, s_zret, s_lret, s_aret, s_vret, s_tbl, q_tab, s_acopy, s_new, s_newa, s_oinit, s_aast, q_nth, qst1, qst2, q_cl1, q_nx, q_ent, qcat, q_cs, q_up_mk, q_cpy_mk, List.cons_append, List.nil_append, List.append_nil, List.replicate, List.take_succ_cons, List.take_zero, List.drop_succ_cons, List.drop_zero, List.reverse_cons, List.reverse_nil, List.length_cons, List.length_nil, List.map_cons, List.map_nil, List.sum_cons, List.sum_nil, Option.toList_some, Option.toList_none, true_and, and_true, true_or, or_true, Nat.sub_zero, Nat.reduceAdd, Nat.reduceSub, Nat.reduceLeDiff, Int.reduceAdd, Int.reduceLE, s_sc, s_strC, s_strV, s_alenC, s_baldC, s_gst, s_i2c, s_cret, s_athrow, s_Gr_isGroup, s_Gr_isNode, fa, fb, gs]
      repeat' (first | with_reducible apply And.intro | with_reducible intro _)
      all_goals first | contradiction | omega | (with_reducible refine hq1 ?_ <;> omega) | (with_reducible refine hq0 ?_ <;> omega) | (exfalso; omega)
  · have fa := isNd_0 (g := g) (v := h.2) (a := a) (by rw [e0]; exact na)
    refine DH_canChange_207 _ _ _ ?_
    simp only [w_DH_canChange_207, w_DH_canChange_228, w_DH_canChange_229, s_ic, s_lc, s_null, s_iload, s_lload, s_aload, s_istore, s_lstore, s_astore, s_iinc, s_iadd, s_isub, s_imul, s_iand, s_ior, s_ixor, s_ishl, s_ishr, s_idiv, s_irem, s_ineg, s_ladd, s_lsub, s_lmul, s_lneg, s_ldiv, s_lrem, s_lshl, s_lshr, s_lor, s_land, s_lcmp, s_i2l, s_l2i, s_i2b, s_dup, s_pop, s_dup2, s_dupx1, s_alen, s_ifnull, s_ifnon, s_icmp_eq, s_icmp_ne, s_icmp_lt, s_icmp_ge, s_icmp_gt, s_icmp_le, s_if_eq, s_if_ne, s_if_lt, s_if_ge, s_if_gt, s_if_le, s_getI, s_getL, s_getR, s_putI, s_putZ, s_putL, s_putR, s_iald, s_bald, s_lald, s_aald, s_iast, s_bast, s_last, s_iret, s_zret, s_lret, s_aret, s_vret, s_tbl, q_tab, s_acopy, s_new, s_newa, s_oinit, s_aast, q_nth, qst1, qst2, q_cl1, q_nx, q_ent, qcat, q_cs, q_up_mk, q_cpy_mk, List.cons_append, List.nil_append, List.append_nil, List.replicate, List.take_succ_cons, List.take_zero, List.drop_succ_cons, List.drop_zero, List.reverse_cons, List.reverse_nil, List.length_cons, List.length_nil, List.map_cons, List.map_nil, List.sum_cons, List.sum_nil, Option.toList_some, Option.toList_none, true_and, and_true, true_or, or_true, Nat.sub_zero, Nat.reduceAdd, Nat.reduceSub, Nat.reduceLeDiff, Int.reduceAdd, Int.reduceLE, s_sc, s_strC, s_strV, s_alenC, s_baldC, s_gst, s_i2c, s_cret, s_athrow, s_Gr_isGroup, s_Gr_isNode, fa, gs]
    repeat' (first | with_reducible apply And.intro | with_reducible intro _)
    all_goals first | contradiction | omega | (with_reducible refine hq1 ?_ <;> omega) | (with_reducible refine hq0 ?_ <;> omega) | (exfalso; omega)
set_option maxRecDepth 100000 in
theorem cc_230 {l : Launch} {D : qD} {d : Nat} {g a b what : Int} {R : Int → Int} {h : qh} {Q : qQ} (gs : q_shp g = (3, 0)) (g0 : 0 ≤ g) (e0 : h.2 g 0 = R 0) (e1 : h.2 g 1 = R 1) (e2 : h.2 g 2 = R 2)
    (hq1 : ((0 ≤ a ∧ a < R 1) ∧ (b = 0 ∨ b = 1)) → Q (some (.inl 1)) h) (hq0 : ¬ ((0 ≤ a ∧ a < R 1) ∧ (b = 0 ∨ b = 1)) → Q (some (.inl 0)) h) : qR l D (d + 2, 0, 0) m_DH_canChange 230 Q [some (.inr (.inr 0)), some (.inr (.inr g)), some (.inl what), some (.inl a), some (.inl b)] [] h := by
  by_cases na : 0 ≤ a ∧ a < R 1
  · have fa := isEd_1 (g := g) (v := h.2) (a := a) (by rw [e1]; exact na)
    refine DH_canChange_230 _ _ _ ?_
    simp only [w_DH_canChange_230, w_DH_canChange_249, w_DH_canChange_253, w_DH_canChange_254, s_ic, s_lc, s_null, s_iload, s_lload, s_aload, s_istore, s_lstore, s_astore, s_iinc, s_iadd, s_isub, s_imul, s_iand, s_ior, s_ixor, s_ishl, s_ishr, s_idiv, s_irem, s_ineg, s_ladd, s_lsub, s_lmul, s_lneg, s_ldiv, s_lrem, s_lshl, s_lshr, s_lor, s_land, s_lcmp, s_i2l, s_l2i, s_i2b, s_dup, s_pop, s_dup2, s_dupx1, s_alen, s_ifnull, s_ifnon, s_icmp_eq, s_icmp_ne, s_icmp_lt, s_icmp_ge, s_icmp_gt, s_icmp_le, s_if_eq, s_if_ne, s_if_lt, s_if_ge, s_if_gt, s_if_le, s_getI, s_getL, s_getR, s_putI, s_putZ, s_putL, s_putR, s_iald, s_bald, s_lald, s_aald, s_iast, s_bast, s_last, s_iret, s_zret, s_lret, s_aret, s_vret, s_tbl, q_tab, s_acopy, s_new, s_newa, s_oinit, s_aast, q_nth, qst1, qst2, q_cl1, q_nx, q_ent, qcat, q_cs, q_up_mk, q_cpy_mk, List.cons_append, List.nil_append, List.append_nil, List.replicate, List.take_succ_cons, List.take_zero, List.drop_succ_cons, List.drop_zero, List.reverse_cons, List.reverse_nil, List.length_cons, List.length_nil, List.map_cons, List.map_nil, List.sum_cons, List.sum_nil, Option.toList_some, Option.toList_none, true_and, and_true, true_or, or_true, Nat.sub_zero, Nat.reduceAdd, Nat.reduceSub, Nat.reduceLeDiff, Int.reduceAdd, Int.reduceLE, s_sc, s_strC, s_strV, s_alenC, s_baldC, s_gst, s_i2c, s_cret, s_athrow, s_Gr_isEdge, fa, gs]
    repeat' (first | with_reducible apply And.intro | with_reducible intro _)
    all_goals first | contradiction | omega | (with_reducible refine hq1 ?_ <;> omega) | (with_reducible refine hq0 ?_ <;> omega) | (exfalso; omega)
  · have fa := isEd_0 (g := g) (v := h.2) (a := a) (by rw [e1]; exact na)
    refine DH_canChange_230 _ _ _ ?_
    simp only [w_DH_canChange_230, w_DH_canChange_249, w_DH_canChange_253, w_DH_canChange_254, s_ic, s_lc, s_null, s_iload, s_lload, s_aload, s_istore, s_lstore, s_astore, s_iinc, s_iadd, s_isub, s_imul, s_iand, s_ior, s_ixor, s_ishl, s_ishr, s_idiv, s_irem, s_ineg, s_ladd, s_lsub, s_lmul, s_lneg, s_ldiv, s_lrem, s_lshl, s_lshr, s_lor, s_land, s_lcmp, s_i2l, s_l2i, s_i2b, s_dup, s_pop, s_dup2, s_dupx1, s_alen, s_ifnull, s_ifnon, s_icmp_eq, s_icmp_ne, s_icmp_lt, s_icmp_ge, s_icmp_gt, s_icmp_le, s_if_eq, s_if_ne, s_if_lt, s_if_ge, s_if_gt, s_if_le, s_getI, s_getL, s_getR, s_putI, s_putZ, s_putL, s_putR, s_iald, s_bald, s_lald, s_aald, s_iast, s_bast, s_last, s_iret, s_zret, s_lret, s_aret, s_vret, s_tbl, q_tab, s_acopy, s_new, s_newa, s_oinit, s_aast, q_nth, qst1, qst2, q_cl1, q_nx, q_ent, qcat, q_cs, q_up_mk, q_cpy_mk, List.cons_append, List.nil_append, List.append_nil, List.replicate, List.take_succ_cons, List.take_zero, List.drop_succ_cons, List.drop_zero, List.reverse_cons, List.reverse_nil, List.length_cons, List.length_nil, List.map_cons, List.map_nil, List.sum_cons, List.sum_nil, Option.toList_some, Option.toList_none, true_and, and_true, true_or, or_true, Nat.sub_zero, Nat.reduceAdd, Nat.reduceSub, Nat.reduceLeDiff, Int.reduceAdd, Int.reduceLE, s_sc, s_strC, s_strV, s_alenC, s_baldC, s_gst, s_i2c, s_cret, s_athrow, s_Gr_isEdge, fa, gs]
    repeat' (first | with_reducible apply And.intro | with_reducible intro _)
    all_goals first | contradiction | omega | (with_reducible refine hq1 ?_ <;> omega) | (with_reducible refine hq0 ?_ <;> omega) | (exfalso; omega)
set_option maxRecDepth 100000 in
theorem cc_255 {l : Launch} {D : qD} {d : Nat} {g a b what : Int} {h : qh} {Q : qQ} (hq0 : Q (some (.inl 0)) h) : qR l D (d + 2, 0, 0) m_DH_canChange 255 Q [some (.inr (.inr 0)), some (.inr (.inr g)), some (.inl what), some (.inl a), some (.inl b)] [] h := by
  refine DH_canChange_255 _ _ _ ?_
  simp only [w_DH_canChange_255, s_ic, s_lc, s_null, s_iload, s_lload, s_aload, s_istore, s_lstore, s_astore, s_iinc, s_iadd, s_isub, s_imul, s_iand, s_ior, s_ixor, s_ishl, s_ishr, s_idiv, s_irem, s_ineg, s_ladd, s_lsub, s_lmul, s_lneg, s_ldiv, s_lrem, s_lshl, s_lshr, s_lor, s_land, s_lcmp, s_i2l, s_l2i, s_i2b, s_dup, s_pop, s_dup2, s_dupx1, s_alen, s_ifnull, s_ifnon, s_icmp_eq, s_icmp_ne, s_icmp_lt, s_icmp_ge, s_icmp_gt, s_icmp_le, s_if_eq, s_if_ne, s_if_lt, s_if_ge, s_if_gt, s_if_le, s_getI, s_getL, s_getR, s_putI, s_putZ, s_putL, s_putR, s_iald, s_bald, s_lald, s_aald, s_iast, s_bast, s_last, s_iret, s_zret, s_lret, s_aret, s_vret, s_tbl, q_tab, s_acopy, s_new, s_newa, s_oinit, s_aast, q_nth, qst1, qst2, q_cl1, q_nx, q_ent, qcat, q_cs, q_up_mk, q_cpy_mk, List.cons_append, List.nil_append, List.append_nil, List.replicate, List.take_succ_cons, List.take_zero, List.drop_succ_cons, List.drop_zero, List.reverse_cons, List.reverse_nil, List.length_cons, List.length_nil, List.map_cons, List.map_nil, List.sum_cons, List.sum_nil, Option.toList_some, Option.toList_none, true_and, and_true, true_or, or_true, Nat.sub_zero, Nat.reduceAdd, Nat.reduceSub, Nat.reduceLeDiff, Int.reduceAdd, Int.reduceLE, s_sc, s_strC, s_strV, s_alenC, s_baldC, s_gst, s_i2c, s_cret, s_athrow]
  repeat' (first | with_reducible apply And.intro | with_reducible intro _)
  all_goals first | contradiction | omega | exact hq0
/-- the draft holds the name n and a number -/
theorem nmO {n : Int} {v : Int → Int → Int} (n0 : 0 ≤ n) (n1 : n < 24) : (∀ a : Int, a ≠ 275 → g_DH_nameOf n v a = v a) ∧ f_DH_nameOf n v = nml n ∧ (∀ k : Int, 0 ≤ k → k < nml n → g_DH_nameOf n v 275 k = nmc n k) ∧ p_DH_nameOf n v := by
  have e1 : Int.tmod n 10 = n % 10 := Int.tmod_eq_emod_of_nonneg n0
  have e2 : Int.tdiv n 10 = n / 10 := Int.tdiv_eq_ediv_of_nonneg n0
  have b1 : z_i2b (48 + n % 10) = 48 + n % 10 := i2b_c (by omega)
  have b2 : z_i2b (48 + n / 10) = 48 + n / 10 := i2b_c (by omega)
  unfold g_DH_nameOf f_DH_nameOf p_DH_nameOf nml nmc
  rw [e1, e2, b1, b2]
  by_cases z : n ≤ 9
  · rw [if_pos z, if_pos z, if_pos z]
    refine ⟨fun a ha => by rw [up2_a ha, up2_a ha], by omega, fun k k0 k1 => ?_, ?_⟩
    · have : k = 0 ∨ k = 1 := by omega
      rcases this with e | e
      · rw [e, up2_k (by decide), up2_at, if_pos rfl]
      · rw [e, up2_at, if_neg (by decide), if_pos z, if_pos rfl]
    · unfold r32
      refine ⟨by omega, by omega, by omega, fun _ => ?_, fun q => absurd z (by omega)⟩
      refine ⟨by omega, by omega, by omega, by omega, by omega, by omega⟩
  · rw [if_neg z, if_neg z, if_neg z]
    refine ⟨fun a ha => by rw [up2_a ha, up2_a ha, up2_a ha], by omega, fun k k0 k1 => ?_, ?_⟩
    · have : k = 0 ∨ k = 1 ∨ k = 2 := by omega
      rcases this with e | e | e
      · rw [e, up2_k (by decide), up2_k (by decide), up2_at, if_pos rfl]
      · rw [e, up2_k (by decide), up2_at, if_neg (by decide), if_neg z, if_pos rfl]
      · rw [e, show (1 + 1 : Int) = 2 by decide, up2_at, if_neg (by decide), if_neg z, if_neg (by decide), if_pos rfl]
    · unfold r32
      refine ⟨by omega, by omega, by omega, fun q => absurd q z, fun _ => ?_⟩
      refine ⟨by omega, by omega, by omega, by omega, by omega, by omega, by omega, by omega, by omega, by omega, by omega, by omega⟩
/-- only the draft changes -/
abbrev dfS (a _j : Int) : Prop := a = 275
theorem nmO_fv {n : Int} {v : Int → Int → Int} (n0 : 0 ≤ n) (n1 : n < 24) : FV dfS v (g_DH_nameOf n v) := fun a j q => by rw [(nmO n0 n1).1 a q]
set_option maxRecDepth 100000 in
theorem cc_48 {l : Launch} {D : qD} {d : Nat} {g a b what : Int} {R : Int → Int} {h : qh} {Q : qQ} (hw : HW h.2) (cr : CR h.2 g R) (ok : GOK R) (ng : 275 < g ∨ g + 11 < 275)
    (hq1 : ((0 ≤ a ∧ a < R 2) ∧ R 0 < 24 ∧ noN R) → ∀ v, FV dfS h.2 v → Q (some (.inl 1)) (h.1, v)) (hq0 : ¬ ((0 ≤ a ∧ a < R 2) ∧ R 0 < 24 ∧ noN R) → ∀ v, FV dfS h.2 v → Q (some (.inl 0)) (h.1, v)) : qR l D (d + 2, 0, 0) m_DH_canChange 48 Q [some (.inr (.inr 0)), some (.inr (.inr g)), some (.inl what), some (.inl a), some (.inl b)] [] h := by
  obtain ⟨e0, e1, e2⟩ := cr.2.1
  have gs := cr.1.1.2.1
  have g0 := cr.1.1.1
  have gs3 : (q_shp g).1 = 3 := by rw [gs]
  have z30 := hw.f0_30
  have n0 := ok.1.1
  by_cases na : 0 ≤ a ∧ a < R 2
  · have f := isGp_1 (g := g) (v := h.2) (a := a) (by rw [e2]; exact na)
    by_cases n24 : R 0 < 24
    · obtain ⟨o1, o2, o3, o4⟩ := nmO (v := h.2) n0.1 n24
      obtain ⟨v1, hv1⟩ : ∃ v1, v1 = g_DH_nameOf (R 0) h.2 := ⟨_, rfl⟩
      have fv : FV dfS h.2 v1 := by rw [hv1]; exact nmO_fv n0.1 n24
      rw [← hv1] at o1 o3
      have cr1 : CR v1 g R := cr.cg (fun j j0 j1 => o1 _ (by omega))
      have lb := nml_b (n := R 0)
      have nm : ∀ i, 0 ≤ i → i < R 0 → (nmd v1 g i 275 0 (nml (R 0)) ↔ (R (195 + i) = nml (R 0) ∧ ∀ k : Int, 0 ≤ k → k < nml (R 0) → R (3 + 8 * i + k) = nmc (R 0) k)) := fun i i0 i1 => by
        obtain ⟨⟨c3, -, -⟩, cb⟩ := cr1.2.2.1 i i0 i1
        unfold nmd
        rw [c3]
        refine ⟨fun q => ⟨q.1, fun k k0 k1 => ?_⟩, fun q => ⟨q.1, fun k k0 k1 => ?_⟩⟩
        · rw [← cb k k0 (by rw [q.1]; exact k1), q.2 k k0 k1, show (0 : Int) + k = k by omega]
          exact o3 k k0 k1
        · rw [cb k k0 (by rw [q.1]; exact k1), q.2 k k0 k1, show (0 : Int) + k = k by omega]
          exact (o3 k k0 k1).symm
      have e10 : v1 g 0 = R 0 := cr1.2.1.1
      have call : ∀ Q' : qQ, (∀ i, 0 ≤ i → ¬ noN R → Q' (some (.inl i)) (h.1, v1)) → (noN R → Q' (some (.inl (-1))) (h.1, v1)) → qM l D (d + 1, 0, 0) m_Gr_find [.inr (.inr g), .inr (.inr 275), .inl 0, .inl (nml (R 0))] (h.1, v1) Q' := fun Q' c1 c0 => by
        refine sp_Gr_find (d := d) (L := 4000) (h := (h.1, v1)) cr1.1.1 cr1.1.2 ⟨by show 0 ≤ v1 g 0; omega, by show v1 g 0 ≤ 24; omega⟩ ⟨by decide, sh_275⟩ ⟨by omega, by omega, by omega, by omega⟩ (by decide) (fun i i0 i1 q _ => c1 i i0 (fun no => ?_)) (fun q => c0 (fun i i0 i1 z => ?_))
        · have i1' : i < R 0 := by rw [← e10]; exact i1
          exact no i i0 i1' ((nm i i0 i1').1 q)
        · exact q i i0 (by show i < v1 g 0; omega) ((nm i i0 i1).2 z)
      have st1 := fun (q : noN R) => hq1 ⟨na, n24, q⟩ v1 fv
      have st0 := fun (q : ¬ noN R) => hq0 (fun z => q z.2.2) v1 fv
      clear hq1 hq0 nm cr cr1 o1 o3 fv ok hw
      refine DH_canChange_48 _ _ _ ?_
      simp only [w_DH_canChange_48, w_DH_canChange_90, w_DH_canChange_91, s_ic, s_lc, s_null, s_iload, s_lload, s_aload, s_istore, s_lstore, s_astore, s_iinc, s_iadd, s_isub, s_imul, s_iand, s_ior, s_ixor, s_ishl, s_ishr, s_idiv, s_irem, s_ineg, s_ladd, s_lsub, s_lmul, s_lneg, s_ldiv, s_lrem, s_lshl, s_lshr, s_lor, s_land, s_lcmp, s_i2l, s_l2i, s_i2b, s_dup, s_pop, s_dup2, s_dupx1, s_alen, s_ifnull, s_ifnon, s_icmp_eq, s_icmp_ne, s_icmp_lt, s_icmp_ge, s_icmp_gt, s_icmp_le, s_if_eq, s_if_ne, s_if_lt, s_if_ge, s_if_gt, s_if_le, s_getI, s_getL, s_getR, s_putI, s_putZ, s_putL, s_putR, s_iald, s_bald, s_lald, s_aald, s_iast, s_bast, s_last, s_iret, s_zret, s_lret, s_aret, s_vret, s_tbl, q_tab, s_acopy, s_new, s_newa, s_oinit, s_aast, q_nth, qst1, qst2, q_cl1, q_nx, q_ent, qcat, q_cs, q_up_mk, q_cpy_mk, List.cons_append, List.nil_append, List.append_nil, List.replicate, List.take_succ_cons, List.take_zero, List.drop_succ_cons, List.drop_zero, List.reverse_cons, List.reverse_nil, List.length_cons, List.length_nil, List.map_cons, List.map_nil, List.sum_cons, List.sum_nil, Option.toList_some, Option.toList_none, true_and, and_true, true_or, or_true, Nat.sub_zero, Nat.reduceAdd, Nat.reduceSub, Nat.reduceLeDiff, Int.reduceAdd, Int.reduceLE, s_sc, s_strC, s_strV, s_alenC, s_baldC, s_gst, s_i2c, s_cret, s_athrow, s_Gr_isGroup, s_DH_nameOf, e_DH_nameOf, f, gs, e0, z30, sh_0, o2, ← hv1]
      repeat' (first | with_reducible apply And.intro | with_reducible intro _)
      all_goals first | contradiction | omega | exact o4 | (exfalso; omega) | skip
      all_goals (refine ⟨by simp only [List.length_cons, List.length_nil]; omega, Nat.le_of_ble_eq_true rfl, ⟨g0, gs3⟩, ?_⟩)
      all_goals (refine call _ (fun i i0 q => ?_) (fun q => ?_))
      all_goals (simp only [s_ic, s_lc, s_null, s_iload, s_lload, s_aload, s_istore, s_lstore, s_astore, s_iinc, s_iadd, s_isub, s_imul, s_iand, s_ior, s_ixor, s_ishl, s_ishr, s_idiv, s_irem, s_ineg, s_ladd, s_lsub, s_lmul, s_lneg, s_ldiv, s_lrem, s_lshl, s_lshr, s_lor, s_land, s_lcmp, s_i2l, s_l2i, s_i2b, s_dup, s_pop, s_dup2, s_dupx1, s_alen, s_ifnull, s_ifnon, s_icmp_eq, s_icmp_ne, s_icmp_lt, s_icmp_ge, s_icmp_gt, s_icmp_le, s_if_eq, s_if_ne, s_if_lt, s_if_ge, s_if_gt, s_if_le, s_getI, s_getL, s_getR, s_putI, s_putZ, s_putL, s_putR, s_iald, s_bald, s_lald, s_aald, s_iast, s_bast, s_last, s_iret, s_zret, s_lret, s_aret, s_vret, s_tbl, q_tab, s_acopy, s_new, s_newa, s_oinit, s_aast, q_nth, qst1, qst2, q_cl1, q_nx, q_ent, qcat, q_cs, q_up_mk, q_cpy_mk, List.cons_append, List.nil_append, List.append_nil, List.replicate, List.take_succ_cons, List.take_zero, List.drop_succ_cons, List.drop_zero, List.reverse_cons, List.reverse_nil, List.length_cons, List.length_nil, List.map_cons, List.map_nil, List.sum_cons, List.sum_nil, Option.toList_some, Option.toList_none, true_and, and_true, true_or, or_true, Nat.sub_zero, Nat.reduceAdd, Nat.reduceSub, Nat.reduceLeDiff, Int.reduceAdd, Int.reduceLE, s_sc, s_strC, s_strV, s_alenC, s_baldC, s_gst, s_i2c, s_cret, s_athrow])
      repeat' (first | with_reducible apply And.intro | with_reducible intro _)
      all_goals first | contradiction | omega | (exact st1 q) | (exact st0 q) | (exfalso; omega)
    · have st := hq0 (fun q => n24 q.2.1) h.2 FV.rf
      clear hq1 hq0
      refine DH_canChange_48 _ _ _ ?_
      simp only [w_DH_canChange_48, w_DH_canChange_90, w_DH_canChange_91, s_ic, s_lc, s_null, s_iload, s_lload, s_aload, s_istore, s_lstore, s_astore, s_iinc, s_iadd, s_isub, s_imul, s_iand, s_ior, s_ixor, s_ishl, s_ishr, s_idiv, s_irem, s_ineg, s_ladd, s_lsub, s_lmul, s_lneg, s_ldiv, s_lrem, s_lshl, s_lshr, s_lor, s_land, s_lcmp, s_i2l, s_l2i, s_i2b, s_dup, s_pop, s_dup2, s_dupx1, s_alen, s_ifnull, s_ifnon, s_icmp_eq, s_icmp_ne, s_icmp_lt, s_icmp_ge, s_icmp_gt, s_icmp_le, s_if_eq, s_if_ne, s_if_lt, s_if_ge, s_if_gt, s_if_le, s_getI, s_getL, s_getR, s_putI, s_putZ, s_putL, s_putR, s_iald, s_bald, s_lald, s_aald, s_iast, s_bast, s_last, s_iret, s_zret, s_lret, s_aret, s_vret, s_tbl, q_tab, s_acopy, s_new, s_newa, s_oinit, s_aast, q_nth, qst1, qst2, q_cl1, q_nx, q_ent, qcat, q_cs, q_up_mk, q_cpy_mk, List.cons_append, List.nil_append, List.append_nil, List.replicate, List.take_succ_cons, List.take_zero, List.drop_succ_cons, List.drop_zero, List.reverse_cons, List.reverse_nil, List.length_cons, List.length_nil, List.map_cons, List.map_nil, List.sum_cons, List.sum_nil, Option.toList_some, Option.toList_none, true_and, and_true, true_or, or_true, Nat.sub_zero, Nat.reduceAdd, Nat.reduceSub, Nat.reduceLeDiff, Int.reduceAdd, Int.reduceLE, s_sc, s_strC, s_strV, s_alenC, s_baldC, s_gst, s_i2c, s_cret, s_athrow, s_Gr_isGroup, s_DH_nameOf, f, gs, e0, z30, sh_0]
      repeat' (first | with_reducible apply And.intro | with_reducible intro _)
      all_goals first | contradiction | omega | exact st | (exfalso; omega)
  · have f := isGp_0 (g := g) (v := h.2) (a := a) (by rw [e2]; exact na)
    have st := hq0 (fun q => na q.1) h.2 FV.rf
    clear hq1 hq0
    refine DH_canChange_48 _ _ _ ?_
    simp only [w_DH_canChange_48, w_DH_canChange_90, w_DH_canChange_91, s_ic, s_lc, s_null, s_iload, s_lload, s_aload, s_istore, s_lstore, s_astore, s_iinc, s_iadd, s_isub, s_imul, s_iand, s_ior, s_ixor, s_ishl, s_ishr, s_idiv, s_irem, s_ineg, s_ladd, s_lsub, s_lmul, s_lneg, s_ldiv, s_lrem, s_lshl, s_lshr, s_lor, s_land, s_lcmp, s_i2l, s_l2i, s_i2b, s_dup, s_pop, s_dup2, s_dupx1, s_alen, s_ifnull, s_ifnon, s_icmp_eq, s_icmp_ne, s_icmp_lt, s_icmp_ge, s_icmp_gt, s_icmp_le, s_if_eq, s_if_ne, s_if_lt, s_if_ge, s_if_gt, s_if_le, s_getI, s_getL, s_getR, s_putI, s_putZ, s_putL, s_putR, s_iald, s_bald, s_lald, s_aald, s_iast, s_bast, s_last, s_iret, s_zret, s_lret, s_aret, s_vret, s_tbl, q_tab, s_acopy, s_new, s_newa, s_oinit, s_aast, q_nth, qst1, qst2, q_cl1, q_nx, q_ent, qcat, q_cs, q_up_mk, q_cpy_mk, List.cons_append, List.nil_append, List.append_nil, List.replicate, List.take_succ_cons, List.take_zero, List.drop_succ_cons, List.drop_zero, List.reverse_cons, List.reverse_nil, List.length_cons, List.length_nil, List.map_cons, List.map_nil, List.sum_cons, List.sum_nil, Option.toList_some, Option.toList_none, true_and, and_true, true_or, or_true, Nat.sub_zero, Nat.reduceAdd, Nat.reduceSub, Nat.reduceLeDiff, Int.reduceAdd, Int.reduceLE, s_sc, s_strC, s_strV, s_alenC, s_baldC, s_gst, s_i2c, s_cret, s_athrow, s_Gr_isGroup, s_DH_nameOf, f, gs, e0, z30, sh_0]
    repeat' (first | with_reducible apply And.intro | with_reducible intro _)
    all_goals first | contradiction | omega | exact st | (exfalso; omega)
set_option maxRecDepth 100000 in
theorem cc_92 {l : Launch} {D : qD} {d : Nat} {g a b what : Int} {R : Int → Int} {h : qh} {Q : qQ} (cr : CR h.2 g R) (ok : GOK R)
    (hq1 : ((0 ≤ a ∧ a < R 0) ∧ (0 ≤ b ∧ b < R 0) ∧ a ≠ b ∧ R 1 < 48 ∧ ∀ e : Int, 0 ≤ e → e < R 1 → ¬ jnR R e a b) → Q (some (.inl 1)) h) (hq0 : ¬ ((0 ≤ a ∧ a < R 0) ∧ (0 ≤ b ∧ b < R 0) ∧ a ≠ b ∧ R 1 < 48 ∧ ∀ e : Int, 0 ≤ e → e < R 1 → ¬ jnR R e a b) → Q (some (.inl 0)) h) : qR l D (d + 2, 0, 0) m_DH_canChange 92 Q [some (.inr (.inr 0)), some (.inr (.inr g)), some (.inl what), some (.inl a), some (.inl b)] [] h := by
  obtain ⟨e0, e1, e2⟩ := cr.2.1
  have gs := cr.1.1.2.1
  have g0 := cr.1.1.1
  have gs3 : (q_shp g).1 = 3 := by rw [gs]
  have m0 := ok.1.2.1
  by_cases na : 0 ≤ a ∧ a < R 0
  · have fa := isNd_1 (g := g) (v := h.2) (a := a) (by rw [e0]; exact na)
    by_cases nb : 0 ≤ b ∧ b < R 0
    · have fb := isNd_1 (g := g) (v := h.2) (a := b) (by rw [e0]; exact nb)
      by_cases ne : a ≠ b ∧ R 1 < 48
      · have jj : ∀ e, 0 ≤ e → e < R 1 → (jn h.2 g e a b ↔ jnR R e a b) := fun e x0 x1 => by
          obtain ⟨y1, y2, -⟩ := cr.2.2.2.1 e x0 x1
          unfold jn jnR
          rw [y1, y2]
        have call : ∀ Q' : qQ, (∀ i, 0 ≤ i → ¬ (∀ e : Int, 0 ≤ e → e < R 1 → ¬ jnR R e a b) → Q' (some (.inl i)) h) → ((∀ e : Int, 0 ≤ e → e < R 1 → ¬ jnR R e a b) → Q' (some (.inl (-1))) h) → qM l D (d + 1, 0, 0) m_Gr_between [.inr (.inr g), .inl a, .inl b] h Q' := fun Q' c1 c0 => by
          refine sp_Gr_between (d := d) cr.1.1 cr.1.2 (by rw [e1]; exact m0) (fun e x0 x1 q _ => c1 e x0 (fun no => ?_)) (fun q => c0 (fun e x0 x1 z => ?_))
          · have x1' : e < R 1 := by rw [← e1]; exact x1
            exact no e x0 x1' ((jj e x0 x1').1 q)
          · exact q e x0 (by rw [e1]; exact x1) ((jj e x0 x1).2 z)
        have st1 := fun (q : ∀ e : Int, 0 ≤ e → e < R 1 → ¬ jnR R e a b) => hq1 ⟨na, nb, ne.1, ne.2, q⟩
        have st0 := fun (q : ¬ ∀ e : Int, 0 ≤ e → e < R 1 → ¬ jnR R e a b) => hq0 (fun z => q z.2.2.2.2)
        clear hq1 hq0 cr ok jj
        refine DH_canChange_92 _ _ _ ?_
        simp only [w_DH_canChange_92, w_DH_canChange_139, w_DH_canChange_140, s_ic, s_lc, s_null, s_iload, s_lload, s_aload, s_istore, s_lstore, s_astore, s_iinc, s_iadd, s_isub, s_imul, s_iand, s_ior, s_ixor, s_ishl, s_ishr, s_idiv, s_irem, s_ineg, s_ladd, s_lsub, s_lmul, s_lneg, s_ldiv, s_lrem, s_lshl, s_lshr, s_lor, s_land, s_lcmp, s_i2l, s_l2i, s_i2b, s_dup, s_pop, s_dup2, s_dupx1, s_alen, s_ifnull, s_ifnon, s_icmp_eq, s_icmp_ne, s_icmp_lt, s_icmp_ge, s_icmp_gt, s_icmp_le, s_if_eq, s_if_ne, s_if_lt, s_if_ge, s_if_gt, s_if_le, s_getI, s_getL, s_getR, s_putI, s_putZ, s_putL, s_putR, s_iald, s_bald, s_lald, s_aald, s_iast, s_bast, s_last, s_iret, s_zret, s_lret, s_aret, s_vret, s_tbl, q_tab, s_acopy, s_new, s_newa, s_oinit, s_aast, q_nth, qst1, qst2, q_cl1, q_nx, q_ent, qcat, q_cs, q_up_mk, q_cpy_mk, List.cons_append, List.nil_append, List.append_nil, List.replicate, List.take_succ_cons, List.take_zero, List.drop_succ_cons, List.drop_zero, List.reverse_cons, List.reverse_nil, List.length_cons, List.length_nil, List.map_cons, List.map_nil, List.sum_cons, List.sum_nil, Option.toList_some, Option.toList_none, true_and, and_true, true_or, or_true, Nat.sub_zero, Nat.reduceAdd, Nat.reduceSub, Nat.reduceLeDiff, Int.reduceAdd, Int.reduceLE, s_sc, s_strC, s_strV, s_alenC, s_baldC, s_gst, s_i2c, s_cret, s_athrow, s_Gr_isNode, fa, fb, gs, e1]
        repeat' (first | with_reducible apply And.intro | with_reducible intro _)
        all_goals first | contradiction | omega | (exfalso; omega) | skip
        all_goals (refine ⟨by simp only [List.length_cons, List.length_nil]; omega, Nat.le_of_ble_eq_true rfl, ⟨g0, gs3⟩, ?_⟩)
        all_goals (refine call _ (fun i i0 q => ?_) (fun q => ?_))
        all_goals (simp only [s_ic, s_lc, s_null, s_iload, s_lload, s_aload, s_istore, s_lstore, s_astore, s_iinc, s_iadd, s_isub, s_imul, s_iand, s_ior, s_ixor, s_ishl, s_ishr, s_idiv, s_irem, s_ineg, s_ladd, s_lsub, s_lmul, s_lneg, s_ldiv, s_lrem, s_lshl, s_lshr, s_lor, s_land, s_lcmp, s_i2l, s_l2i, s_i2b, s_dup, s_pop, s_dup2, s_dupx1, s_alen, s_ifnull, s_ifnon, s_icmp_eq, s_icmp_ne, s_icmp_lt, s_icmp_ge, s_icmp_gt, s_icmp_le, s_if_eq, s_if_ne, s_if_lt, s_if_ge, s_if_gt, s_if_le, s_getI, s_getL, s_getR, s_putI, s_putZ, s_putL, s_putR, s_iald, s_bald, s_lald, s_aald, s_iast, s_bast, s_last, s_iret, s_zret, s_lret, s_aret, s_vret, s_tbl, q_tab, s_acopy, s_new, s_newa, s_oinit, s_aast, q_nth, qst1, qst2, q_cl1, q_nx, q_ent, qcat, q_cs, q_up_mk, q_cpy_mk, List.cons_append, List.nil_append, List.append_nil, List.replicate, List.take_succ_cons, List.take_zero, List.drop_succ_cons, List.drop_zero, List.reverse_cons, List.reverse_nil, List.length_cons, List.length_nil, List.map_cons, List.map_nil, List.sum_cons, List.sum_nil, Option.toList_some, Option.toList_none, true_and, and_true, true_or, or_true, Nat.sub_zero, Nat.reduceAdd, Nat.reduceSub, Nat.reduceLeDiff, Int.reduceAdd, Int.reduceLE, s_sc, s_strC, s_strV, s_alenC, s_baldC, s_gst, s_i2c, s_cret, s_athrow])
        repeat' (first | with_reducible apply And.intro | with_reducible intro _)
        all_goals first | contradiction | omega | (exact st1 q) | (exact st0 q) | (exfalso; omega)
      · have st := hq0 (fun q => ne ⟨q.2.2.1, q.2.2.2.1⟩)
        clear hq1 hq0
        refine DH_canChange_92 _ _ _ ?_
        simp only [w_DH_canChange_92, w_DH_canChange_139, w_DH_canChange_140, s_ic, s_lc, s_null, s_iload, s_lload, s_aload, s_istore, s_lstore, s_astore, s_iinc, s_iadd, s_isub, s_imul, s_iand, s_ior, s_ixor, s_ishl, s_ishr, s_idiv, s_irem, s_ineg, s_ladd, s_lsub, s_lmul, s_lneg, s_ldiv, s_lrem, s_lshl, s_lshr, s_lor, s_land, s_lcmp, s_i2l, s_l2i, s_i2b, s_dup, s_pop, s_dup2, s_dupx1, s_alen, s_ifnull, s_ifnon, s_icmp_eq, s_icmp_ne, s_icmp_lt, s_icmp_ge, s_icmp_gt, s_icmp_le, s_if_eq, s_if_ne, s_if_lt, s_if_ge, s_if_gt, s_if_le, s_getI, s_getL, s_getR, s_putI, s_putZ, s_putL, s_putR, s_iald, s_bald, s_lald, s_aald, s_iast, s_bast, s_last, s_iret, s_zret, s_lret, s_aret, s_vret, s_tbl, q_tab, s_acopy, s_new, s_newa, s_oinit, s_aast, q_nth, qst1, qst2, q_cl1, q_nx, q_ent, qcat, q_cs, q_up_mk, q_cpy_mk, List.cons_append, List.nil_append, List.append_nil, List.replicate, List.take_succ_cons, List.take_zero, List.drop_succ_cons, List.drop_zero, List.reverse_cons, List.reverse_nil, List.length_cons, List.length_nil, List.map_cons, List.map_nil, List.sum_cons, List.sum_nil, Option.toList_some, Option.toList_none, true_and, and_true, true_or, or_true, Nat.sub_zero, Nat.reduceAdd, Nat.reduceSub, Nat.reduceLeDiff, Int.reduceAdd, Int.reduceLE, s_sc, s_strC, s_strV, s_alenC, s_baldC, s_gst, s_i2c, s_cret, s_athrow, s_Gr_isNode, fa, fb, gs, e1]
        repeat' (first | with_reducible apply And.intro | with_reducible intro _)
        all_goals first | contradiction | omega | exact st | (exfalso; omega)
    · have fb := isNd_0 (g := g) (v := h.2) (a := b) (by rw [e0]; exact nb)
      have st := hq0 (fun q => nb q.2.1)
      clear hq1 hq0
      refine DH_canChange_92 _ _ _ ?_
      simp only [w_DH_canChange_92, w_DH_canChange_139, w_DH_canChange_140, s_ic, s_lc, s_null, s_iload, s_lload, s_aload, s_istore, s_lstore, s_astore, s_iinc, s_iadd, s_isub, s_imul, s_iand, s_ior, s_ixor, s_ishl, s_ishr, s_idiv, s_irem, s_ineg, s_ladd, s_lsub, s_lmul, s_lneg, s_ldiv, s_lrem, s_lshl, s_lshr, s_lor, s_land, s_lcmp, s_i2l, s_l2i, s_i2b, s_dup, s_pop, s_dup2, s_dupx1, s_alen, s_ifnull, s_ifnon, s_icmp_eq, s_icmp_ne, s_icmp_lt, s_icmp_ge, s_icmp_gt, s_icmp_le, s_if_eq, s_if_ne, s_if_lt, s_if_ge, s_if_gt, s_if_le, s_getI, s_getL, s_getR, s_putI, s_putZ, s_putL, s_putR, s_iald, s_bald, s_lald, s_aald, s_iast, s_bast, s_last, s_iret, s_zret, s_lret, s_aret, s_vret, s_tbl, q_tab, s_acopy, s_new, s_newa, s_oinit, s_aast, q_nth, qst1, qst2, q_cl1, q_nx, q_ent, qcat, q_cs, q_up_mk, q_cpy_mk, List.cons_append, List.nil_append, List.append_nil, List.replicate, List.take_succ_cons, List.take_zero, List.drop_succ_cons, List.drop_zero, List.reverse_cons, List.reverse_nil, List.length_cons, List.length_nil, List.map_cons, List.map_nil, List.sum_cons, List.sum_nil, Option.toList_some, Option.toList_none, true_and, and_true, true_or, or_true, Nat.sub_zero, Nat.reduceAdd, Nat.reduceSub, Nat.reduceLeDiff, Int.reduceAdd, Int.reduceLE, s_sc, s_strC, s_strV, s_alenC, s_baldC, s_gst, s_i2c, s_cret, s_athrow, s_Gr_isNode, fa, fb, gs, e1]
      repeat' (first | with_reducible apply And.intro | with_reducible intro _)
      all_goals first | contradiction | omega | exact st | (exfalso; omega)
  · have fa := isNd_0 (g := g) (v := h.2) (a := a) (by rw [e0]; exact na)
    have st := hq0 (fun q => na q.1)
    clear hq1 hq0
    refine DH_canChange_92 _ _ _ ?_
    simp only [w_DH_canChange_92, w_DH_canChange_139, w_DH_canChange_140, s_ic, s_lc, s_null, s_iload, s_lload, s_aload, s_istore, s_lstore, s_astore, s_iinc, s_iadd, s_isub, s_imul, s_iand, s_ior, s_ixor, s_ishl, s_ishr, s_idiv, s_irem, s_ineg, s_ladd, s_lsub, s_lmul, s_lneg, s_ldiv, s_lrem, s_lshl, s_lshr, s_lor, s_land, s_lcmp, s_i2l, s_l2i, s_i2b, s_dup, s_pop, s_dup2, s_dupx1, s_alen, s_ifnull, s_ifnon, s_icmp_eq, s_icmp_ne, s_icmp_lt, s_icmp_ge, s_icmp_gt, s_icmp_le, s_if_eq, s_if_ne, s_if_lt, s_if_ge, s_if_gt, s_if_le, s_getI, s_getL, s_getR, s_putI, s_putZ, s_putL, s_putR, s_iald, s_bald, s_lald, s_aald, s_iast, s_bast, s_last, s_iret, s_zret, s_lret, s_aret, s_vret, s_tbl, q_tab, s_acopy, s_new, s_newa, s_oinit, s_aast, q_nth, qst1, qst2, q_cl1, q_nx, q_ent, qcat, q_cs, q_up_mk, q_cpy_mk, List.cons_append, List.nil_append, List.append_nil, List.replicate, List.take_succ_cons, List.take_zero, List.drop_succ_cons, List.drop_zero, List.reverse_cons, List.reverse_nil, List.length_cons, List.length_nil, List.map_cons, List.map_nil, List.sum_cons, List.sum_nil, Option.toList_some, Option.toList_none, true_and, and_true, true_or, or_true, Nat.sub_zero, Nat.reduceAdd, Nat.reduceSub, Nat.reduceLeDiff, Int.reduceAdd, Int.reduceLE, s_sc, s_strC, s_strV, s_alenC, s_baldC, s_gst, s_i2c, s_cret, s_athrow, s_Gr_isNode, fa, gs, e1]
    repeat' (first | with_reducible apply And.intro | with_reducible intro _)
    all_goals first | contradiction | omega | exact st | (exfalso; omega)
theorem CAN_0 {R : Int → Int} {a b : Int} : CAN R 0 a b ↔ ((0 ≤ a ∧ a < R 2) ∧ R 0 < 24 ∧ noN R) := by
  unfold CAN
  simp only [Int.reduceEq, false_and, false_or, or_false, true_and]
theorem CAN_1 {R : Int → Int} {a b : Int} : CAN R 1 a b ↔ ((0 ≤ a ∧ a < R 0) ∧ (0 ≤ b ∧ b < R 0) ∧ a ≠ b ∧ R 1 < 48 ∧ ∀ e : Int, 0 ≤ e → e < R 1 → ¬ jnR R e a b) := by
  unfold CAN
  simp only [Int.reduceEq, false_and, false_or, or_false, true_and]
theorem CAN_2 {R : Int → Int} {a b : Int} : CAN R 2 a b ↔ (0 ≤ a ∧ a < R 1) := by
  unfold CAN
  simp only [Int.reduceEq, false_and, false_or, or_false, true_and]
theorem CAN_3 {R : Int → Int} {a b : Int} : CAN R 3 a b ↔ (0 ≤ a ∧ a < R 0) := by
  unfold CAN
  simp only [Int.reduceEq, false_and, false_or, or_false, true_and]
theorem CAN_4 {R : Int → Int} {a b : Int} : CAN R 4 a b ↔ ((0 ≤ a ∧ a < R 0) ∧ 1 ≤ b ∧ b ≤ 99) := by
  unfold CAN
  simp only [Int.reduceEq, false_and, false_or, or_false, true_and]
theorem CAN_5 {R : Int → Int} {a b : Int} : CAN R 5 a b ↔ ((0 ≤ a ∧ a < R 1) ∧ 1 ≤ b ∧ b ≤ 9) := by
  unfold CAN
  simp only [Int.reduceEq, false_and, false_or, or_false, true_and]
theorem CAN_6 {R : Int → Int} {a b : Int} : CAN R 6 a b ↔ ((0 ≤ a ∧ a < R 0) ∧ 0 ≤ b ∧ b < R 2) := by
  unfold CAN
  simp only [Int.reduceEq, false_and, false_or, or_false, true_and]
theorem CAN_7 {R : Int → Int} {a b : Int} : CAN R 7 a b ↔ ((0 ≤ a ∧ a < R 1) ∧ (b = 0 ∨ b = 1)) := by
  unfold CAN
  simp only [Int.reduceEq, false_and, false_or, or_false, true_and]
theorem CAN_no {R : Int → Int} {what a b : Int} (h : what < 0 ∨ 7 < what) : ¬ CAN R what a b := by
  unfold CAN
  intro q
  rcases q with q | q | q | q | q | q | q | q <;> (have := q.1; omega)
set_option maxRecDepth 100000 in
theorem sp_DH_canChange {l : Launch} {D : qD} {d : Nat} {g what a b : Int} {R : Int → Int} {h : qh} {Q : qQ} (hw : HW h.2) (cr : CR h.2 g R) (ok : GOK R) (ng : 275 < g ∨ g + 11 < 275)
    (hq1 : CAN R what a b → ∀ v, FV dfS h.2 v → Q (some (.inl 1)) (h.1, v)) (hq0 : ¬ CAN R what a b → ∀ v, FV dfS h.2 v → Q (some (.inl 0)) (h.1, v)) : qM l D (d + 2, 0, 0) m_DH_canChange [.inr (.inr 0), .inr (.inr g), .inl what, .inl a, .inl b] h Q := by
  obtain ⟨e0, e1, e2⟩ := cr.2.1
  have gs := cr.1.1.2.1
  have g0 := cr.1.1.1
  refine qM.o0 5 rfl (by decide) (Nat.le_of_ble_eq_true rfl) ?_
  refine DH_canChange_0 _ _ _ ?_
  simp only [w_DH_canChange_0, s_ic, s_lc, s_null, s_iload, s_lload, s_aload, s_istore, s_lstore, s_astore, s_iinc, s_iadd, s_isub, s_imul, s_iand, s_ior, s_ixor, s_ishl, s_ishr, s_idiv, s_irem, s_ineg, s_ladd, s_lsub, s_lmul, s_lneg, s_ldiv, s_lrem, s_lshl, s_lshr, s_lor, s_land, s_lcmp, s_i2l, s_l2i, s_i2b, s_dup, s_pop, s_dup2, s_dupx1, s_alen, s_ifnull, s_ifnon, s_icmp_eq, s_icmp_ne, s_icmp_lt, s_icmp_ge, s_icmp_gt, s_icmp_le, s_if_eq, s_if_ne, s_if_lt, s_if_ge, s_if_gt, s_if_le, s_getI, s_getL, s_getR, s_putI, s_putZ, s_putL, s_putR, s_iald, s_bald, s_lald, s_aald, s_iast, s_bast, s_last, s_iret, s_zret, s_lret, s_aret, s_vret, s_tbl, q_tab, s_acopy, s_new, s_newa, s_oinit, s_aast, q_nth, qst1, qst2, q_cl1, q_nx, q_ent, qcat, q_cs, q_up_mk, q_cpy_mk, List.cons_append, List.nil_append, List.append_nil, List.replicate, List.take_succ_cons, List.take_zero, List.drop_succ_cons, List.drop_zero, List.reverse_cons, List.reverse_nil, List.length_cons, List.length_nil, List.map_cons, List.map_nil, List.sum_cons, List.sum_nil, Option.toList_some, Option.toList_none, true_and, and_true, true_or, or_true, Nat.sub_zero, Nat.reduceAdd, Nat.reduceSub, Nat.reduceLeDiff, Int.reduceAdd, Int.reduceLE, s_sc, s_strC, s_strV, s_alenC, s_baldC, s_gst, s_i2c, s_cret, s_athrow, List.map_cons, List.map_nil]
  refine ⟨⟨fun e => ?_, fun e => ?_, fun e => ?_, fun e => ?_, fun e => ?_, fun e => ?_, fun e => ?_, fun e => ?_⟩, fun e => ?_⟩
  · have e' : what = 0 := by omega
    subst e'
    rw [CAN_0] at hq1 hq0
    exact cc_48 (h := ((h.1.1, 0, 0), h.2)) hw cr ok ng (fun q v f => hq1 q v f) (fun q v f => hq0 q v f)
  · have e' : what = 1 := by omega
    subst e'
    rw [CAN_1] at hq1 hq0
    exact cc_92 (h := ((h.1.1, 0, 0), h.2)) cr ok (fun q => hq1 q _ FV.rf) (fun q => hq0 q _ FV.rf)
  · have e' : what = 2 := by omega
    subst e'
    rw [CAN_2] at hq1 hq0
    exact cc_141 (R := R) (h := ((h.1.1, 0, 0), h.2)) gs g0 e0 e1 e2 (fun q => hq1 q _ FV.rf) (fun q => hq0 q _ FV.rf)
  · have e' : what = 3 := by omega
    subst e'
    rw [CAN_3] at hq1 hq0
    exact cc_147 (R := R) (h := ((h.1.1, 0, 0), h.2)) gs g0 e0 e1 e2 (fun q => hq1 q _ FV.rf) (fun q => hq0 q _ FV.rf)
  · have e' : what = 4 := by omega
    subst e'
    rw [CAN_4] at hq1 hq0
    exact cc_153 (R := R) (h := ((h.1.1, 0, 0), h.2)) gs g0 e0 e1 e2 (fun q => hq1 q _ FV.rf) (fun q => hq0 q _ FV.rf)
  · have e' : what = 5 := by omega
    subst e'
    rw [CAN_5] at hq1 hq0
    exact cc_180 (R := R) (h := ((h.1.1, 0, 0), h.2)) gs g0 e0 e1 e2 (fun q => hq1 q _ FV.rf) (fun q => hq0 q _ FV.rf)
  · have e' : what = 6 := by omega
    subst e'
    rw [CAN_6] at hq1 hq0
    exact cc_207 (R := R) (h := ((h.1.1, 0, 0), h.2)) gs g0 e0 e1 e2 (fun q => hq1 q _ FV.rf) (fun q => hq0 q _ FV.rf)
  · have e' : what = 7 := by omega
    subst e'
    rw [CAN_7] at hq1 hq0
    exact cc_230 (R := R) (h := ((h.1.1, 0, 0), h.2)) gs g0 e0 e1 e2 (fun q => hq1 q _ FV.rf) (fun q => hq0 q _ FV.rf)
  · exact cc_255 (hq0 (CAN_no e) _ FV.rf)
