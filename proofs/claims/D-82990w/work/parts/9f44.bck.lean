/-! ===== the operation back ===== -/
/-- a step back may be taken, or one forth -/
abbrev bkOk (v : Int → Int → Int) (gi redo : Int) : Prop := (0 ≤ gi ∧ gi < 4) ∧ ((redo = 0 ∧ v (pcO gi) 1 ≠ 0) ∨ (redo = 1 ∧ v (pcO gi) 1 ≠ v (pcO gi) 2))
def bkD (redo : Int) : Int := if redo = 0 then -1 else 1
set_option maxRecDepth 100000 in
theorem sp_DH_back {l : Launch} {D : qD} {d : Nat} {nc gi redo : Int} {h : qh} {Q : qQ} (R : REL nc h.2)
    (hq0 : ¬ bkOk h.2 gi redo → Q (some (.inl 0)) h)
    (hq1 : bkOk h.2 gi redo → ∀ v, cgQ gi (up2 h.2 (3 + 27 * gi) 1 (h.2 (pcO gi) 1 + bkD redo)) v → Q (some (.inl 1)) (h.1, v)) : qM l D (d + 3, 0, 0) m_DH_back [.inr (.inr 0), .inl gi, .inl redo] h Q := by
  have hw := R.1.1.1
  refine qM.o0 4 rfl (by decide) (Nat.le_of_ble_eq_true rfl) ?_
  refine DH_back_0 _ _ _ ?_
  by_cases hg : 0 ≤ gi ∧ gi < 4
  · have pi := isPl_1 (v := h.2) hg
    obtain ⟨gc, -⟩ := gNow_g (R.2.1.1 gi hg)
    obtain ⟨-, pk, pl, p30⟩ := (R.2.1.1 gi hg).1
    obtain ⟨⟨p2, -, -⟩, ⟨q1, -, -⟩, -, ⟨b1, -, -⟩, -⟩ := isPs_f hw (isPs_O hg)
    have q1' : (q_shp (3 + 27 * gi)).1 = 1 := by have : q_shp (3 + 27 * gi) = (1, 0) := q1; rw [this]
    have p2' : h.2 2 gi = 3 + 27 * gi := p2
    have z2 := hw.f0_2
    obtain ⟨k, hk⟩ : ∃ k, k = h.2 (3 + 27 * gi) 1 := ⟨_, rfl⟩
    obtain ⟨L, hL⟩ : ∃ L, L = h.2 (3 + 27 * gi) 2 := ⟨_, rfl⟩
    have pk' : 0 ≤ k := by rw [hk]; exact pk
    have pl' : k ≤ L := by rw [hk, hL]; exact pl
    have p30' : L ≤ 30 := by rw [hL]; exact p30
    have bo : bkOk h.2 gi redo ↔ ((redo = 0 ∧ k ≠ 0) ∨ (redo = 1 ∧ k ≠ L)) := by
      unfold bkOk
      simp only [pcO, ← hk, ← hL]
      exact ⟨fun q => q.2, fun q => ⟨hg, q⟩⟩
    have go : ((redo = 0 ∧ k ≠ 0) ∨ (redo = 1 ∧ k ≠ L)) → ∀ v, cgQ gi (up2 h.2 (3 + 27 * gi) 1 (k + bkD redo)) v → Q (some (.inl 1)) (h.1, v) := fun q v c => hq1 (bo.2 q) v (by rw [hk] at c; exact c)
    have no : ¬ ((redo = 0 ∧ k ≠ 0) ∨ (redo = 1 ∧ k ≠ L)) → Q (some (.inl 0)) h := fun q => hq0 (fun z => q (bo.1 z))
    have hw1 : ∀ x, HW (up2 h.2 (3 + 27 * gi) 1 x) := fun x => hw.fv (g := gNow h.2 gi) hg gc (FV.rf.up (by unfold zcS; omega))
    clear hq0 hq1 bo pk pl p30 R hw gc
    by_cases r0 : redo = 0
    · have ed : bkD redo = -1 := by unfold bkD; rw [if_pos r0]
      by_cases k0 : k = 0
      · have st := no (by omega)
        rw [hk] at k0
        clear go no hw1
        simp only [w_DH_back_0, w_DH_back_18, w_DH_back_50, s_ic, s_lc, s_null, s_iload, s_lload, s_aload, s_istore, s_lstore, s_astore, s_iinc, s_iadd, s_isub, s_imul, s_iand, s_ior, s_ixor, s_ishl, s_ishr, s_idiv, s_irem, s_ineg, s_ladd, s_lsub, s_lmul, s_lneg, s_ldiv, s_lrem, s_lshl, s_lshr, s_lor, s_land, s_lcmp, s_i2l, s_l2i, s_i2b, s_dup, s_pop, s_dup2, s_dupx1, s_alen, s_ifnull, s_ifnon, s_icmp_eq, s_icmp_ne, s_icmp_lt, s_icmp_ge, s_icmp_gt, s_icmp_le, s_if_eq, s_if_ne, s_if_lt, s_if_ge, s_if_gt, s_if_le, s_getI, s_getL, s_getR, s_putI, s_putZ, s_putL, s_putR, s_iald, s_bald, s_lald, s_aald, s_iast, s_bast, s_last, s_iret, s_zret, s_lret, s_aret, s_vret, s_tbl, q_tab, s_acopy, s_new, s_newa, s_oinit, s_aast, q_nth, qst1, qst2, q_cl1, q_nx, q_ent, qcat, q_cs, q_up_mk, q_cpy_mk, List.cons_append, List.nil_append, List.append_nil, List.replicate, List.take_succ_cons, List.take_zero, List.drop_succ_cons, List.drop_zero, List.reverse_cons, List.reverse_nil, List.length_cons, List.length_nil, List.map_cons, List.map_nil, List.sum_cons, List.sum_nil, Option.toList_some, Option.toList_none, true_and, and_true, true_or, or_true, Nat.sub_zero, Nat.reduceAdd, Nat.reduceSub, Nat.reduceLeDiff, Int.reduceAdd, Int.reduceLE, s_sc, s_strC, s_strV, s_alenC, s_baldC, s_gst, s_i2c, s_cret, s_athrow, s_DH_isPlace, pi, z2, p2', k0, sh_0, sh_2, q1']
        repeat' (first | with_reducible apply And.intro | with_reducible intro _)
        all_goals first | contradiction | with_reducible exact st | (exfalso; omega) | omega | (unfold r32; omega) | trivial
      · have st := go (by omega)
        rw [ed] at st
        clear go no
        simp only [w_DH_back_0, w_DH_back_18, w_DH_back_52, w_DH_back_66, s_ic, s_lc, s_null, s_iload, s_lload, s_aload, s_istore, s_lstore, s_astore, s_iinc, s_iadd, s_isub, s_imul, s_iand, s_ior, s_ixor, s_ishl, s_ishr, s_idiv, s_irem, s_ineg, s_ladd, s_lsub, s_lmul, s_lneg, s_ldiv, s_lrem, s_lshl, s_lshr, s_lor, s_land, s_lcmp, s_i2l, s_l2i, s_i2b, s_dup, s_pop, s_dup2, s_dupx1, s_alen, s_ifnull, s_ifnon, s_icmp_eq, s_icmp_ne, s_icmp_lt, s_icmp_ge, s_icmp_gt, s_icmp_le, s_if_eq, s_if_ne, s_if_lt, s_if_ge, s_if_gt, s_if_le, s_getI, s_getL, s_getR, s_putI, s_putZ, s_putL, s_putR, s_iald, s_bald, s_lald, s_aald, s_iast, s_bast, s_last, s_iret, s_zret, s_lret, s_aret, s_vret, s_tbl, q_tab, s_acopy, s_new, s_newa, s_oinit, s_aast, q_nth, qst1, qst2, q_cl1, q_nx, q_ent, qcat, q_cs, q_up_mk, q_cpy_mk, List.cons_append, List.nil_append, List.append_nil, List.replicate, List.take_succ_cons, List.take_zero, List.drop_succ_cons, List.drop_zero, List.reverse_cons, List.reverse_nil, List.length_cons, List.length_nil, List.map_cons, List.map_nil, List.sum_cons, List.sum_nil, Option.toList_some, Option.toList_none, true_and, and_true, true_or, or_true, Nat.sub_zero, Nat.reduceAdd, Nat.reduceSub, Nat.reduceLeDiff, Int.reduceAdd, Int.reduceLE, s_sc, s_strC, s_strV, s_alenC, s_baldC, s_gst, s_i2c, s_cret, s_athrow, s_DH_isPlace, pi, z2, p2', ← hk, sh_0, sh_2, q1']
        repeat' (first | with_reducible apply And.intro | with_reducible intro _)
        all_goals first | contradiction | omega | (unfold r32; omega) | (exfalso; omega) | skip
        refine iv_chd (d := d) (hw1 _) hg (Nat.le_of_ble_eq_true rfl) (fun v c => ?_)
        have s := st v c
        clear st hw1
        simp only [s_ic, s_lc, s_null, s_iload, s_lload, s_aload, s_istore, s_lstore, s_astore, s_iinc, s_iadd, s_isub, s_imul, s_iand, s_ior, s_ixor, s_ishl, s_ishr, s_idiv, s_irem, s_ineg, s_ladd, s_lsub, s_lmul, s_lneg, s_ldiv, s_lrem, s_lshl, s_lshr, s_lor, s_land, s_lcmp, s_i2l, s_l2i, s_i2b, s_dup, s_pop, s_dup2, s_dupx1, s_alen, s_ifnull, s_ifnon, s_icmp_eq, s_icmp_ne, s_icmp_lt, s_icmp_ge, s_icmp_gt, s_icmp_le, s_if_eq, s_if_ne, s_if_lt, s_if_ge, s_if_gt, s_if_le, s_getI, s_getL, s_getR, s_putI, s_putZ, s_putL, s_putR, s_iald, s_bald, s_lald, s_aald, s_iast, s_bast, s_last, s_iret, s_zret, s_lret, s_aret, s_vret, s_tbl, q_tab, s_acopy, s_new, s_newa, s_oinit, s_aast, q_nth, qst1, qst2, q_cl1, q_nx, q_ent, qcat, q_cs, q_up_mk, q_cpy_mk, List.cons_append, List.nil_append, List.append_nil, List.replicate, List.take_succ_cons, List.take_zero, List.drop_succ_cons, List.drop_zero, List.reverse_cons, List.reverse_nil, List.length_cons, List.length_nil, List.map_cons, List.map_nil, List.sum_cons, List.sum_nil, Option.toList_some, Option.toList_none, true_and, and_true, true_or, or_true, Nat.sub_zero, Nat.reduceAdd, Nat.reduceSub, Nat.reduceLeDiff, Int.reduceAdd, Int.reduceLE, s_sc, s_strC, s_strV, s_alenC, s_baldC, s_gst, s_i2c, s_cret, s_athrow]
        repeat' (first | with_reducible apply And.intro | with_reducible intro _)
        all_goals first | contradiction | with_reducible exact s | omega | (unfold r32; omega) | trivial
    · by_cases r1 : redo = 1
      · have ed : bkD redo = 1 := by unfold bkD; rw [if_neg r0]
        by_cases k0 : k = L
        · have st := no (by omega)
          clear go no hw1
          simp only [w_DH_back_0, w_DH_back_18, w_DH_back_39, w_DH_back_50, s_ic, s_lc, s_null, s_iload, s_lload, s_aload, s_istore, s_lstore, s_astore, s_iinc, s_iadd, s_isub, s_imul, s_iand, s_ior, s_ixor, s_ishl, s_ishr, s_idiv, s_irem, s_ineg, s_ladd, s_lsub, s_lmul, s_lneg, s_ldiv, s_lrem, s_lshl, s_lshr, s_lor, s_land, s_lcmp, s_i2l, s_l2i, s_i2b, s_dup, s_pop, s_dup2, s_dupx1, s_alen, s_ifnull, s_ifnon, s_icmp_eq, s_icmp_ne, s_icmp_lt, s_icmp_ge, s_icmp_gt, s_icmp_le, s_if_eq, s_if_ne, s_if_lt, s_if_ge, s_if_gt, s_if_le, s_getI, s_getL, s_getR, s_putI, s_putZ, s_putL, s_putR, s_iald, s_bald, s_lald, s_aald, s_iast, s_bast, s_last, s_iret, s_zret, s_lret, s_aret, s_vret, s_tbl, q_tab, s_acopy, s_new, s_newa, s_oinit, s_aast, q_nth, qst1, qst2, q_cl1, q_nx, q_ent, qcat, q_cs, q_up_mk, q_cpy_mk, List.cons_append, List.nil_append, List.append_nil, List.replicate, List.take_succ_cons, List.take_zero, List.drop_succ_cons, List.drop_zero, List.reverse_cons, List.reverse_nil, List.length_cons, List.length_nil, List.map_cons, List.map_nil, List.sum_cons, List.sum_nil, Option.toList_some, Option.toList_none, true_and, and_true, true_or, or_true, Nat.sub_zero, Nat.reduceAdd, Nat.reduceSub, Nat.reduceLeDiff, Int.reduceAdd, Int.reduceLE, s_sc, s_strC, s_strV, s_alenC, s_baldC, s_gst, s_i2c, s_cret, s_athrow, s_DH_isPlace, pi, z2, p2', ← hk, ← hL, k0, sh_0, sh_2, q1']
          repeat' (first | with_reducible apply And.intro | with_reducible intro _)
          all_goals first | contradiction | with_reducible exact st | (exfalso; omega) | omega | (unfold r32; omega) | trivial
        · have st := go (by omega)
          rw [ed] at st
          clear go no
          simp only [w_DH_back_0, w_DH_back_18, w_DH_back_39, w_DH_back_52, w_DH_back_65, w_DH_back_66, s_ic, s_lc, s_null, s_iload, s_lload, s_aload, s_istore, s_lstore, s_astore, s_iinc, s_iadd, s_isub, s_imul, s_iand, s_ior, s_ixor, s_ishl, s_ishr, s_idiv, s_irem, s_ineg, s_ladd, s_lsub, s_lmul, s_lneg, s_ldiv, s_lrem, s_lshl, s_lshr, s_lor, s_land, s_lcmp, s_i2l, s_l2i, s_i2b, s_dup, s_pop, s_dup2, s_dupx1, s_alen, s_ifnull, s_ifnon, s_icmp_eq, s_icmp_ne, s_icmp_lt, s_icmp_ge, s_icmp_gt, s_icmp_le, s_if_eq, s_if_ne, s_if_lt, s_if_ge, s_if_gt, s_if_le, s_getI, s_getL, s_getR, s_putI, s_putZ, s_putL, s_putR, s_iald, s_bald, s_lald, s_aald, s_iast, s_bast, s_last, s_iret, s_zret, s_lret, s_aret, s_vret, s_tbl, q_tab, s_acopy, s_new, s_newa, s_oinit, s_aast, q_nth, qst1, qst2, q_cl1, q_nx, q_ent, qcat, q_cs, q_up_mk, q_cpy_mk, List.cons_append, List.nil_append, List.append_nil, List.replicate, List.take_succ_cons, List.take_zero, List.drop_succ_cons, List.drop_zero, List.reverse_cons, List.reverse_nil, List.length_cons, List.length_nil, List.map_cons, List.map_nil, List.sum_cons, List.sum_nil, Option.toList_some, Option.toList_none, true_and, and_true, true_or, or_true, Nat.sub_zero, Nat.reduceAdd, Nat.reduceSub, Nat.reduceLeDiff, Int.reduceAdd, Int.reduceLE, s_sc, s_strC, s_strV, s_alenC, s_baldC, s_gst, s_i2c, s_cret, s_athrow, s_DH_isPlace, pi, z2, p2', ← hk, ← hL, sh_0, sh_2, q1']
          repeat' (first | with_reducible apply And.intro | with_reducible intro _)
          all_goals first | contradiction | omega | (unfold r32; omega) | (exfalso; omega) | skip
          refine iv_chd (d := d) (hw1 _) hg (Nat.le_of_ble_eq_true rfl) (fun v c => ?_)
          have s := st v c
          clear st hw1
          simp only [s_ic, s_lc, s_null, s_iload, s_lload, s_aload, s_istore, s_lstore, s_astore, s_iinc, s_iadd, s_isub, s_imul, s_iand, s_ior, s_ixor, s_ishl, s_ishr, s_idiv, s_irem, s_ineg, s_ladd, s_lsub, s_lmul, s_lneg, s_ldiv, s_lrem, s_lshl, s_lshr, s_lor, s_land, s_lcmp, s_i2l, s_l2i, s_i2b, s_dup, s_pop, s_dup2, s_dupx1, s_alen, s_ifnull, s_ifnon, s_icmp_eq, s_icmp_ne, s_icmp_lt, s_icmp_ge, s_icmp_gt, s_icmp_le, s_if_eq, s_if_ne, s_if_lt, s_if_ge, s_if_gt, s_if_le, s_getI, s_getL, s_getR, s_putI, s_putZ, s_putL, s_putR, s_iald, s_bald, s_lald, s_aald, s_iast, s_bast, s_last, s_iret, s_zret, s_lret, s_aret, s_vret, s_tbl, q_tab, s_acopy, s_new, s_newa, s_oinit, s_aast, q_nth, qst1, qst2, q_cl1, q_nx, q_ent, qcat, q_cs, q_up_mk, q_cpy_mk, List.cons_append, List.nil_append, List.append_nil, List.replicate, List.take_succ_cons, List.take_zero, List.drop_succ_cons, List.drop_zero, List.reverse_cons, List.reverse_nil, List.length_cons, List.length_nil, List.map_cons, List.map_nil, List.sum_cons, List.sum_nil, Option.toList_some, Option.toList_none, true_and, and_true, true_or, or_true, Nat.sub_zero, Nat.reduceAdd, Nat.reduceSub, Nat.reduceLeDiff, Int.reduceAdd, Int.reduceLE, s_sc, s_strC, s_strV, s_alenC, s_baldC, s_gst, s_i2c, s_cret, s_athrow]
          repeat' (first | with_reducible apply And.intro | with_reducible intro _)
          all_goals first | contradiction | with_reducible exact s | omega | (unfold r32; omega) | trivial
      · have st := no (by omega)
        clear go no hw1
        simp only [w_DH_back_0, w_DH_back_16, s_ic, s_lc, s_null, s_iload, s_lload, s_aload, s_istore, s_lstore, s_astore, s_iinc, s_iadd, s_isub, s_imul, s_iand, s_ior, s_ixor, s_ishl, s_ishr, s_idiv, s_irem, s_ineg, s_ladd, s_lsub, s_lmul, s_lneg, s_ldiv, s_lrem, s_lshl, s_lshr, s_lor, s_land, s_lcmp, s_i2l, s_l2i, s_i2b, s_dup, s_pop, s_dup2, s_dupx1, s_alen, s_ifnull, s_ifnon, s_icmp_eq, s_icmp_ne, s_icmp_lt, s_icmp_ge, s_icmp_gt, s_icmp_le, s_if_eq, s_if_ne, s_if_lt, s_if_ge, s_if_gt, s_if_le, s_getI, s_getL, s_getR, s_putI, s_putZ, s_putL, s_putR, s_iald, s_bald, s_lald, s_aald, s_iast, s_bast, s_last, s_iret, s_zret, s_lret, s_aret, s_vret, s_tbl, q_tab, s_acopy, s_new, s_newa, s_oinit, s_aast, q_nth, qst1, qst2, q_cl1, q_nx, q_ent, qcat, q_cs, q_up_mk, q_cpy_mk, List.cons_append, List.nil_append, List.append_nil, List.replicate, List.take_succ_cons, List.take_zero, List.drop_succ_cons, List.drop_zero, List.reverse_cons, List.reverse_nil, List.length_cons, List.length_nil, List.map_cons, List.map_nil, List.sum_cons, List.sum_nil, Option.toList_some, Option.toList_none, true_and, and_true, true_or, or_true, Nat.sub_zero, Nat.reduceAdd, Nat.reduceSub, Nat.reduceLeDiff, Int.reduceAdd, Int.reduceLE, s_sc, s_strC, s_strV, s_alenC, s_baldC, s_gst, s_i2c, s_cret, s_athrow, s_DH_isPlace, pi]
        repeat' (first | with_reducible apply And.intro | with_reducible intro _)
        all_goals first | contradiction | with_reducible exact st | (exfalso; omega) | omega | (unfold r32; omega) | trivial
  · have pi := isPl_0 (v := h.2) hg
    have st := hq0 (fun q => hg q.1)
    clear hq0 hq1 R
    simp only [w_DH_back_0, w_DH_back_16, s_ic, s_lc, s_null, s_iload, s_lload, s_aload, s_istore, s_lstore, s_astore, s_iinc, s_iadd, s_isub, s_imul, s_iand, s_ior, s_ixor, s_ishl, s_ishr, s_idiv, s_irem, s_ineg, s_ladd, s_lsub, s_lmul, s_lneg, s_ldiv, s_lrem, s_lshl, s_lshr, s_lor, s_land, s_lcmp, s_i2l, s_l2i, s_i2b, s_dup, s_pop, s_dup2, s_dupx1, s_alen, s_ifnull, s_ifnon, s_icmp_eq, s_icmp_ne, s_icmp_lt, s_icmp_ge, s_icmp_gt, s_icmp_le, s_if_eq, s_if_ne, s_if_lt, s_if_ge, s_if_gt, s_if_le, s_getI, s_getL, s_getR, s_putI, s_putZ, s_putL, s_putR, s_iald, s_bald, s_lald, s_aald, s_iast, s_bast, s_last, s_iret, s_zret, s_lret, s_aret, s_vret, s_tbl, q_tab, s_acopy, s_new, s_newa, s_oinit, s_aast, q_nth, qst1, qst2, q_cl1, q_nx, q_ent, qcat, q_cs, q_up_mk, q_cpy_mk, List.cons_append, List.nil_append, List.append_nil, List.replicate, List.take_succ_cons, List.take_zero, List.drop_succ_cons, List.drop_zero, List.reverse_cons, List.reverse_nil, List.length_cons, List.length_nil, List.map_cons, List.map_nil, List.sum_cons, List.sum_nil, Option.toList_some, Option.toList_none, true_and, and_true, true_or, or_true, Nat.sub_zero, Nat.reduceAdd, Nat.reduceSub, Nat.reduceLeDiff, Int.reduceAdd, Int.reduceLE, s_sc, s_strC, s_strV, s_alenC, s_baldC, s_gst, s_i2c, s_cret, s_athrow, s_DH_isPlace, pi]
    repeat' (first | with_reducible apply And.intro | with_reducible intro _)
    all_goals first | contradiction | with_reducible exact st | omega | (unfold r32; omega) | trivial
/-- the twin's marks of a change -/
def chgT (v : Int → Int → Int) (gi : Int) : Int → Int → Int := fl2 (up2 v 316 gi (-1)) 328 (216 * gi) 216 0
set_option maxRecDepth 100000 in
theorem sp_Mo_back {l : Launch} {D : qD} {d : Nat} {gi redo k L : Int} {h : qh} {Q : qQ} (hT : TW h.2) (ek : (0 ≤ gi ∧ gi < 4) → (h.2 283 gi = k ∧ h.2 284 gi = L) ∧ 0 ≤ k ∧ k ≤ L ∧ L ≤ 30)
    (hq0 : ¬ ((0 ≤ gi ∧ gi < 4) ∧ ((redo = 0 ∧ k ≠ 0) ∨ (redo = 1 ∧ k ≠ L))) → Q (some (.inl 0)) h)
    (hq1 : (0 ≤ gi ∧ gi < 4) → ((redo = 0 ∧ k ≠ 0) ∨ (redo = 1 ∧ k ≠ L)) → Q (some (.inl 1)) (h.1, chgT (up2 h.2 283 gi (k + bkD redo)) gi)) : qM l D (d + 3, 0, 0) m_Mo_back [.inr (.inr 280), .inl gi, .inl redo] h Q := by
  have y3 := hT.f3
  have y4 := hT.f4
  refine qM.o0 3 rfl (by decide) (Nat.le_of_ble_eq_true rfl) ?_
  refine Mo_back_0 _ _ _ ?_
  by_cases hg : 0 ≤ gi ∧ gi < 4
  · have pi := isPT_1 (v := h.2) hg
    obtain ⟨⟨e3, e4⟩, pk, pl, p30⟩ := ek hg
    have hT1 : ∀ x, TW (up2 h.2 283 gi x) := fun x => by show TW0 (up2 h.2 283 gi x 280); rw [up2_a (by decide)]; exact hT
    clear ek hT
    by_cases r0 : redo = 0
    · have fi := inT_1 (v := h.2) (c := redo) (lo := 0) (hi := 1) (by omega)
      have ed : bkD redo = -1 := by unfold bkD; rw [if_pos r0]
      by_cases k0 : k = 0
      · have st := hq0 (by omega)
        clear hq0 hq1 hT1
        rw [k0] at e3
        simp only [w_Mo_back_0, w_Mo_back_47, s_ic, s_lc, s_null, s_iload, s_lload, s_aload, s_istore, s_lstore, s_astore, s_iinc, s_iadd, s_isub, s_imul, s_iand, s_ior, s_ixor, s_ishl, s_ishr, s_idiv, s_irem, s_ineg, s_ladd, s_lsub, s_lmul, s_lneg, s_ldiv, s_lrem, s_lshl, s_lshr, s_lor, s_land, s_lcmp, s_i2l, s_l2i, s_i2b, s_dup, s_pop, s_dup2, s_dupx1, s_alen, s_ifnull, s_ifnon, s_icmp_eq, s_icmp_ne, s_icmp_lt, s_icmp_ge, s_icmp_gt, s_icmp_le, s_if_eq, s_if_ne, s_if_lt, s_if_ge, s_if_gt, s_if_le, s_getI, s_getL, s_getR, s_putI, s_putZ, s_putL, s_putR, s_iald, s_bald, s_lald, s_aald, s_iast, s_bast, s_last, s_iret, s_zret, s_lret, s_aret, s_vret, s_tbl, q_tab, s_acopy, s_new, s_newa, s_oinit, s_aast, q_nth, qst1, qst2, q_cl1, q_nx, q_ent, qcat, q_cs, q_up_mk, q_cpy_mk, List.cons_append, List.nil_append, List.append_nil, List.replicate, List.take_succ_cons, List.take_zero, List.drop_succ_cons, List.drop_zero, List.reverse_cons, List.reverse_nil, List.length_cons, List.length_nil, List.map_cons, List.map_nil, List.sum_cons, List.sum_nil, Option.toList_some, Option.toList_none, true_and, and_true, true_or, or_true, Nat.sub_zero, Nat.reduceAdd, Nat.reduceSub, Nat.reduceLeDiff, Int.reduceAdd, Int.reduceLE, s_sc, s_strC, s_strV, s_alenC, s_baldC, s_gst, s_i2c, s_cret, s_athrow, s_Mo_isPlace, s_Mo_in, pi, fi, y3, e3, sh_280, sh_283]
        repeat' (first | with_reducible apply And.intro | with_reducible intro _)
        all_goals first | contradiction | with_reducible exact st | (exfalso; omega) | omega | (unfold r32; omega) | trivial
      · have st := hq1 hg (by omega)
        rw [ed] at st
        unfold chgT at st
        clear hq0 hq1
        simp only [w_Mo_back_0, w_Mo_back_49, w_Mo_back_65, s_ic, s_lc, s_null, s_iload, s_lload, s_aload, s_istore, s_lstore, s_astore, s_iinc, s_iadd, s_isub, s_imul, s_iand, s_ior, s_ixor, s_ishl, s_ishr, s_idiv, s_irem, s_ineg, s_ladd, s_lsub, s_lmul, s_lneg, s_ldiv, s_lrem, s_lshl, s_lshr, s_lor, s_land, s_lcmp, s_i2l, s_l2i, s_i2b, s_dup, s_pop, s_dup2, s_dupx1, s_alen, s_ifnull, s_ifnon, s_icmp_eq, s_icmp_ne, s_icmp_lt, s_icmp_ge, s_icmp_gt, s_icmp_le, s_if_eq, s_if_ne, s_if_lt, s_if_ge, s_if_gt, s_if_le, s_getI, s_getL, s_getR, s_putI, s_putZ, s_putL, s_putR, s_iald, s_bald, s_lald, s_aald, s_iast, s_bast, s_last, s_iret, s_zret, s_lret, s_aret, s_vret, s_tbl, q_tab, s_acopy, s_new, s_newa, s_oinit, s_aast, q_nth, qst1, qst2, q_cl1, q_nx, q_ent, qcat, q_cs, q_up_mk, q_cpy_mk, List.cons_append, List.nil_append, List.append_nil, List.replicate, List.take_succ_cons, List.take_zero, List.drop_succ_cons, List.drop_zero, List.reverse_cons, List.reverse_nil, List.length_cons, List.length_nil, List.map_cons, List.map_nil, List.sum_cons, List.sum_nil, Option.toList_some, Option.toList_none, true_and, and_true, true_or, or_true, Nat.sub_zero, Nat.reduceAdd, Nat.reduceSub, Nat.reduceLeDiff, Int.reduceAdd, Int.reduceLE, s_sc, s_strC, s_strV, s_alenC, s_baldC, s_gst, s_i2c, s_cret, s_athrow, s_Mo_isPlace, s_Mo_in, pi, fi, y3, e3, sh_280, sh_283]
        repeat' (first | with_reducible apply And.intro | with_reducible intro _)
        all_goals first | contradiction | omega | (unfold r32; omega) | (exfalso; omega) | skip
        refine ⟨by simp only [List.length_cons, List.length_nil]; omega, Nat.le_of_ble_eq_true rfl, ⟨by decide, by rw [sh_280]⟩, ?_⟩
        refine sp_Mo_changed (d := d + 1) (h := ((h.1.1, 0, 0), up2 h.2 283 gi (k + -1))) (hT1 _) hg ?_
        clear hT1
        simp only [s_ic, s_lc, s_null, s_iload, s_lload, s_aload, s_istore, s_lstore, s_astore, s_iinc, s_iadd, s_isub, s_imul, s_iand, s_ior, s_ixor, s_ishl, s_ishr, s_idiv, s_irem, s_ineg, s_ladd, s_lsub, s_lmul, s_lneg, s_ldiv, s_lrem, s_lshl, s_lshr, s_lor, s_land, s_lcmp, s_i2l, s_l2i, s_i2b, s_dup, s_pop, s_dup2, s_dupx1, s_alen, s_ifnull, s_ifnon, s_icmp_eq, s_icmp_ne, s_icmp_lt, s_icmp_ge, s_icmp_gt, s_icmp_le, s_if_eq, s_if_ne, s_if_lt, s_if_ge, s_if_gt, s_if_le, s_getI, s_getL, s_getR, s_putI, s_putZ, s_putL, s_putR, s_iald, s_bald, s_lald, s_aald, s_iast, s_bast, s_last, s_iret, s_zret, s_lret, s_aret, s_vret, s_tbl, q_tab, s_acopy, s_new, s_newa, s_oinit, s_aast, q_nth, qst1, qst2, q_cl1, q_nx, q_ent, qcat, q_cs, q_up_mk, q_cpy_mk, List.cons_append, List.nil_append, List.append_nil, List.replicate, List.take_succ_cons, List.take_zero, List.drop_succ_cons, List.drop_zero, List.reverse_cons, List.reverse_nil, List.length_cons, List.length_nil, List.map_cons, List.map_nil, List.sum_cons, List.sum_nil, Option.toList_some, Option.toList_none, true_and, and_true, true_or, or_true, Nat.sub_zero, Nat.reduceAdd, Nat.reduceSub, Nat.reduceLeDiff, Int.reduceAdd, Int.reduceLE, s_sc, s_strC, s_strV, s_alenC, s_baldC, s_gst, s_i2c, s_cret, s_athrow]
        repeat' (first | with_reducible apply And.intro | with_reducible intro _)
        all_goals first | contradiction | with_reducible exact st | omega | (unfold r32; omega) | trivial
    · by_cases r1 : redo = 1
      · have fi := inT_1 (v := h.2) (c := redo) (lo := 0) (hi := 1) (by omega)
        have ed : bkD redo = 1 := by unfold bkD; rw [if_neg r0]
        by_cases k0 : k = L
        · have st := hq0 (by omega)
          clear hq0 hq1 hT1
          simp only [w_Mo_back_0, w_Mo_back_32, w_Mo_back_47, s_ic, s_lc, s_null, s_iload, s_lload, s_aload, s_istore, s_lstore, s_astore, s_iinc, s_iadd, s_isub, s_imul, s_iand, s_ior, s_ixor, s_ishl, s_ishr, s_idiv, s_irem, s_ineg, s_ladd, s_lsub, s_lmul, s_lneg, s_ldiv, s_lrem, s_lshl, s_lshr, s_lor, s_land, s_lcmp, s_i2l, s_l2i, s_i2b, s_dup, s_pop, s_dup2, s_dupx1, s_alen, s_ifnull, s_ifnon, s_icmp_eq, s_icmp_ne, s_icmp_lt, s_icmp_ge, s_icmp_gt, s_icmp_le, s_if_eq, s_if_ne, s_if_lt, s_if_ge, s_if_gt, s_if_le, s_getI, s_getL, s_getR, s_putI, s_putZ, s_putL, s_putR, s_iald, s_bald, s_lald, s_aald, s_iast, s_bast, s_last, s_iret, s_zret, s_lret, s_aret, s_vret, s_tbl, q_tab, s_acopy, s_new, s_newa, s_oinit, s_aast, q_nth, qst1, qst2, q_cl1, q_nx, q_ent, qcat, q_cs, q_up_mk, q_cpy_mk, List.cons_append, List.nil_append, List.append_nil, List.replicate, List.take_succ_cons, List.take_zero, List.drop_succ_cons, List.drop_zero, List.reverse_cons, List.reverse_nil, List.length_cons, List.length_nil, List.map_cons, List.map_nil, List.sum_cons, List.sum_nil, Option.toList_some, Option.toList_none, true_and, and_true, true_or, or_true, Nat.sub_zero, Nat.reduceAdd, Nat.reduceSub, Nat.reduceLeDiff, Int.reduceAdd, Int.reduceLE, s_sc, s_strC, s_strV, s_alenC, s_baldC, s_gst, s_i2c, s_cret, s_athrow, s_Mo_isPlace, s_Mo_in, pi, fi, y3, y4, e3, e4, k0, sh_280, sh_283, sh_284]
          repeat' (first | with_reducible apply And.intro | with_reducible intro _)
          all_goals first | contradiction | with_reducible exact st | (exfalso; omega) | omega | (unfold r32; omega) | trivial
        · have st := hq1 hg (by omega)
          rw [ed] at st
          unfold chgT at st
          clear hq0 hq1
          simp only [w_Mo_back_0, w_Mo_back_32, w_Mo_back_49, w_Mo_back_64, w_Mo_back_65, s_ic, s_lc, s_null, s_iload, s_lload, s_aload, s_istore, s_lstore, s_astore, s_iinc, s_iadd, s_isub, s_imul, s_iand, s_ior, s_ixor, s_ishl, s_ishr, s_idiv, s_irem, s_ineg, s_ladd, s_lsub, s_lmul, s_lneg, s_ldiv, s_lrem, s_lshl, s_lshr, s_lor, s_land, s_lcmp, s_i2l, s_l2i, s_i2b, s_dup, s_pop, s_dup2, s_dupx1, s_alen, s_ifnull, s_ifnon, s_icmp_eq, s_icmp_ne, s_icmp_lt, s_icmp_ge, s_icmp_gt, s_icmp_le, s_if_eq, s_if_ne, s_if_lt, s_if_ge, s_if_gt, s_if_le, s_getI, s_getL, s_getR, s_putI, s_putZ, s_putL, s_putR, s_iald, s_bald, s_lald, s_aald, s_iast, s_bast, s_last, s_iret, s_zret, s_lret, s_aret, s_vret, s_tbl, q_tab, s_acopy, s_new, s_newa, s_oinit, s_aast, q_nth, qst1, qst2, q_cl1, q_nx, q_ent, qcat, q_cs, q_up_mk, q_cpy_mk, List.cons_append, List.nil_append, List.append_nil, List.replicate, List.take_succ_cons, List.take_zero, List.drop_succ_cons, List.drop_zero, List.reverse_cons, List.reverse_nil, List.length_cons, List.length_nil, List.map_cons, List.map_nil, List.sum_cons, List.sum_nil, Option.toList_some, Option.toList_none, true_and, and_true, true_or, or_true, Nat.sub_zero, Nat.reduceAdd, Nat.reduceSub, Nat.reduceLeDiff, Int.reduceAdd, Int.reduceLE, s_sc, s_strC, s_strV, s_alenC, s_baldC, s_gst, s_i2c, s_cret, s_athrow, s_Mo_isPlace, s_Mo_in, pi, fi, y3, y4, e3, e4, sh_280, sh_283, sh_284]
          repeat' (first | with_reducible apply And.intro | with_reducible intro _)
          all_goals first | contradiction | omega | (unfold r32; omega) | (exfalso; omega) | skip
          refine ⟨by simp only [List.length_cons, List.length_nil]; omega, Nat.le_of_ble_eq_true rfl, ⟨by decide, by rw [sh_280]⟩, ?_⟩
          refine sp_Mo_changed (d := d + 1) (h := ((h.1.1, 0, 0), up2 h.2 283 gi (k + 1))) (hT1 _) hg ?_
          clear hT1
          simp only [s_ic, s_lc, s_null, s_iload, s_lload, s_aload, s_istore, s_lstore, s_astore, s_iinc, s_iadd, s_isub, s_imul, s_iand, s_ior, s_ixor, s_ishl, s_ishr, s_idiv, s_irem, s_ineg, s_ladd, s_lsub, s_lmul, s_lneg, s_ldiv, s_lrem, s_lshl, s_lshr, s_lor, s_land, s_lcmp, s_i2l, s_l2i, s_i2b, s_dup, s_pop, s_dup2, s_dupx1, s_alen, s_ifnull, s_ifnon, s_icmp_eq, s_icmp_ne, s_icmp_lt, s_icmp_ge, s_icmp_gt, s_icmp_le, s_if_eq, s_if_ne, s_if_lt, s_if_ge, s_if_gt, s_if_le, s_getI, s_getL, s_getR, s_putI, s_putZ, s_putL, s_putR, s_iald, s_bald, s_lald, s_aald, s_iast, s_bast, s_last, s_iret, s_zret, s_lret, s_aret, s_vret, s_tbl, q_tab, s_acopy, s_new, s_newa, s_oinit, s_aast, q_nth, qst1, qst2, q_cl1, q_nx, q_ent, qcat, q_cs, q_up_mk, q_cpy_mk, List.cons_append, List.nil_append, List.append_nil, List.replicate, List.take_succ_cons, List.take_zero, List.drop_succ_cons, List.drop_zero, List.reverse_cons, List.reverse_nil, List.length_cons, List.length_nil, List.map_cons, List.map_nil, List.sum_cons, List.sum_nil, Option.toList_some, Option.toList_none, true_and, and_true, true_or, or_true, Nat.sub_zero, Nat.reduceAdd, Nat.reduceSub, Nat.reduceLeDiff, Int.reduceAdd, Int.reduceLE, s_sc, s_strC, s_strV, s_alenC, s_baldC, s_gst, s_i2c, s_cret, s_athrow]
          repeat' (first | with_reducible apply And.intro | with_reducible intro _)
          all_goals first | contradiction | with_reducible exact st | omega | (unfold r32; omega) | trivial
      · have fi := inT_0 (v := h.2) (c := redo) (lo := 0) (hi := 1) (by omega)
        have st := hq0 (by omega)
        clear hq0 hq1 hT1
        simp only [w_Mo_back_0, w_Mo_back_47, s_ic, s_lc, s_null, s_iload, s_lload, s_aload, s_istore, s_lstore, s_astore, s_iinc, s_iadd, s_isub, s_imul, s_iand, s_ior, s_ixor, s_ishl, s_ishr, s_idiv, s_irem, s_ineg, s_ladd, s_lsub, s_lmul, s_lneg, s_ldiv, s_lrem, s_lshl, s_lshr, s_lor, s_land, s_lcmp, s_i2l, s_l2i, s_i2b, s_dup, s_pop, s_dup2, s_dupx1, s_alen, s_ifnull, s_ifnon, s_icmp_eq, s_icmp_ne, s_icmp_lt, s_icmp_ge, s_icmp_gt, s_icmp_le, s_if_eq, s_if_ne, s_if_lt, s_if_ge, s_if_gt, s_if_le, s_getI, s_getL, s_getR, s_putI, s_putZ, s_putL, s_putR, s_iald, s_bald, s_lald, s_aald, s_iast, s_bast, s_last, s_iret, s_zret, s_lret, s_aret, s_vret, s_tbl, q_tab, s_acopy, s_new, s_newa, s_oinit, s_aast, q_nth, qst1, qst2, q_cl1, q_nx, q_ent, qcat, q_cs, q_up_mk, q_cpy_mk, List.cons_append, List.nil_append, List.append_nil, List.replicate, List.take_succ_cons, List.take_zero, List.drop_succ_cons, List.drop_zero, List.reverse_cons, List.reverse_nil, List.length_cons, List.length_nil, List.map_cons, List.map_nil, List.sum_cons, List.sum_nil, Option.toList_some, Option.toList_none, true_and, and_true, true_or, or_true, Nat.sub_zero, Nat.reduceAdd, Nat.reduceSub, Nat.reduceLeDiff, Int.reduceAdd, Int.reduceLE, s_sc, s_strC, s_strV, s_alenC, s_baldC, s_gst, s_i2c, s_cret, s_athrow, s_Mo_isPlace, s_Mo_in, pi, fi]
        repeat' (first | with_reducible apply And.intro | with_reducible intro _)
        all_goals first | contradiction | with_reducible exact st | (exfalso; omega) | omega | (unfold r32; omega) | trivial
  · have pi := isPT_0 (v := h.2) hg
    have st := hq0 (fun q => hg q.1)
    clear hq0 hq1 ek
    simp only [w_Mo_back_0, w_Mo_back_47, s_ic, s_lc, s_null, s_iload, s_lload, s_aload, s_istore, s_lstore, s_astore, s_iinc, s_iadd, s_isub, s_imul, s_iand, s_ior, s_ixor, s_ishl, s_ishr, s_idiv, s_irem, s_ineg, s_ladd, s_lsub, s_lmul, s_lneg, s_ldiv, s_lrem, s_lshl, s_lshr, s_lor, s_land, s_lcmp, s_i2l, s_l2i, s_i2b, s_dup, s_pop, s_dup2, s_dupx1, s_alen, s_ifnull, s_ifnon, s_icmp_eq, s_icmp_ne, s_icmp_lt, s_icmp_ge, s_icmp_gt, s_icmp_le, s_if_eq, s_if_ne, s_if_lt, s_if_ge, s_if_gt, s_if_le, s_getI, s_getL, s_getR, s_putI, s_putZ, s_putL, s_putR, s_iald, s_bald, s_lald, s_aald, s_iast, s_bast, s_last, s_iret, s_zret, s_lret, s_aret, s_vret, s_tbl, q_tab, s_acopy, s_new, s_newa, s_oinit, s_aast, q_nth, qst1, qst2, q_cl1, q_nx, q_ent, qcat, q_cs, q_up_mk, q_cpy_mk, List.cons_append, List.nil_append, List.append_nil, List.replicate, List.take_succ_cons, List.take_zero, List.drop_succ_cons, List.drop_zero, List.reverse_cons, List.reverse_nil, List.length_cons, List.length_nil, List.map_cons, List.map_nil, List.sum_cons, List.sum_nil, Option.toList_some, Option.toList_none, true_and, and_true, true_or, or_true, Nat.sub_zero, Nat.reduceAdd, Nat.reduceSub, Nat.reduceLeDiff, Int.reduceAdd, Int.reduceLE, s_sc, s_strC, s_strV, s_alenC, s_baldC, s_gst, s_i2c, s_cret, s_athrow, s_Mo_isPlace, pi]
    repeat' (first | with_reducible apply And.intro | with_reducible intro _)
    all_goals first | contradiction | with_reducible exact st | omega | (unfold r32; omega) | trivial
theorem chgT_v {v : Int → Int → Int} {gi : Int} : (∀ a : Int, a ≠ 316 → a ≠ 328 → chgT v gi a = v a) ∧ chgT v gi 316 gi = -1 ∧ (∀ k : Int, 0 ≤ k → k < 216 → chgT v gi 328 (216 * gi + k) = 0) ∧ FV (fun a j => (a = 316 ∧ j = gi) ∨ (a = 328 ∧ 216 * gi ≤ j ∧ j < 216 * gi + 216)) v (chgT v gi) := by
  unfold chgT
  refine ⟨fun a a1 a2 => ?_, ?_, fun k k0 k1 => ?_, fun a j q => ?_⟩
  · funext j
    simp only [fl2]
    rw [if_neg (fun q => a2 q.1), up2_a a1]
  · simp only [fl2]
    rw [if_neg (by omega), up2_at]
  · simp only [fl2]
    rw [if_pos ⟨trivial, by omega, by omega⟩]
  · have q' : ¬ ((a = 316 ∧ j = gi) ∨ (a = 328 ∧ 216 * gi ≤ j ∧ j < 216 * gi + 216)) := q
    simp only [fl2]
    rw [if_neg (fun z => q' (Or.inr z)), up2_ne (fun z => q' (Or.inl z))]
/-- the place stands at another state -/
def bkF (gi a : Int) : Prop := (a ≠ 316 ∧ a ≠ 328 ∧ a ≠ 283 ∧ a ≠ 0) ∧ a ≠ 5 + 27 * gi ∧ a ≠ 16 + 27 * gi ∧ a ≠ 17 + 27 * gi ∧ a ≠ 3 + 27 * gi
theorem bkF_g {gi g j : Int} (hg : 0 ≤ gi ∧ gi < 4) (gl : (g = 18 ∨ g = 45 ∨ g = 72 ∨ g = 99) ∨ 399 ≤ g) (j0 : 0 ≤ j) (j1 : j ≤ 11) : bkF gi (g + j) := by
  unfold bkF
  rcases gl with (e | e | e | e) | e
  · subst e; omega
  · subst e; omega
  · subst e; omega
  · subst e; omega
  · omega
theorem bkF_n {gi a : Int} (hg : 0 ≤ gi ∧ gi < 4) (h : a = 1 ∨ (111 ≤ a ∧ a ≠ 316 ∧ a ≠ 328 ∧ a ≠ 283)) : bkF gi a := by unfold bkF; omega
theorem bkF_p {gi gj : Int} (hj : 0 ≤ gj ∧ gj < 4) : bkF gi (4 + 27 * gj) := by unfold bkF; omega
theorem bk_C {gi k' : Int} {v0 v : Int → Int → Int} (kc : FV (cgS gi) (up2 v0 (3 + 27 * gi) 1 k') v) (a : Int) (h : bkF gi a) : chgT (up2 v 283 gi k') gi a = v0 a := by
  obtain ⟨⟨a1, a2, a3, a4⟩, a5, a6, a7, a8⟩ := h
  rw [(chgT_v (v := up2 v 283 gi k') (gi := gi)).1 a a1 a2, up2_a a3, kc.c (fun j s => ?_), up2_a a8]
  unfold cgS cdS at s
  rcases s with (s | s | s) | s
  · exact a5 s.1
  · exact a6 s
  · exact a7 s
  · exact a4 s.1
theorem bk_k {gi k' g : Int} {v0 v : Int → Int → Int} (kc : FV (cgS gi) (up2 v0 (3 + 27 * gi) 1 k') v) : FV (zcS gi g) v0 (chgT (up2 v 283 gi k') gi) :=
  ((FV.rf.up (a := 3 + 27 * gi) (j := 1) (z := k') (rdS_zc (rdS_pc (Or.inl rfl)))).tr (kc.wk (fun a j s => rdS_zc (rdS_cg s)))).tr ((FV.rf.up (a := 283) (j := gi) (z := k') (tr_ch _ _ (Or.inr (Or.inr (Or.inr (Or.inl ⟨rfl, rfl⟩)))))).tr ((chgT_v (v := up2 v 283 gi k') (gi := gi)).2.2.2.wk (fun a j s => by
    have s' : (a = 316 ∧ j = gi) ∨ (a = 328 ∧ 216 * gi ≤ j ∧ j < 216 * gi + 216) := s
    rcases s' with s' | s'
    · exact tr_ch _ _ (Or.inr (Or.inr (Or.inr (Or.inr (Or.inr (Or.inl s'))))))
    · exact tr_ch _ _ (Or.inr (Or.inr (Or.inr (Or.inr (Or.inr (Or.inr s')))))))))
theorem REL.bk {nc gi k' : Int} {v0 v : Int → Int → Int} (R : REL nc v0) (hg : 0 ≤ gi ∧ gi < 4) (kb : 0 ≤ k' ∧ k' ≤ v0 (pcO gi) 2) (c : cgQ gi (up2 v0 (3 + 27 * gi) 1 k') v) : REL nc (chgT (up2 v 283 gi k') gi) := by
  obtain ⟨kc, w0, w1, w2, w8, w12⟩ := c
  obtain ⟨T1, T2, T3, -⟩ := chgT_v (v := up2 v 283 gi k') (gi := gi)
  have C := bk_C kc
  have k := bk_k (g := gNow v0 gi) kc
  obtain ⟨v2, hv2⟩ : ∃ v2, v2 = chgT (up2 v 283 gi k') gi := ⟨_, rfl⟩
  rw [← hv2] at T1 T2 T3 C k ⊢
  obtain ⟨p1, p2, p3⟩ := R.2.1.1 gi hg
  obtain ⟨gc, -⟩ := gNow_g (R.2.1.1 gi hg)
  have V : ∀ a : Int, a ≠ 316 → a ≠ 328 → a ≠ 283 → v2 a = v a := fun a a1 a2 a3 => by rw [T1 a a1 a2, up2_a a3]
  have gr : ∀ g, gcl nc g → ∀ j : Int, 0 ≤ j → j ≤ 11 → v2 (g + j) = v0 (g + j) := fun g gcg j j0 j1 => C _ (bkF_g hg (gcl_l gcg) j0 j1)
  have psv : ∀ gj : Int, (0 ≤ gj ∧ gj < 4) → v2 (psO gj) = v0 (psO gj) := fun gj hj => C _ (bkF_p hj)
  have c282 : v2 282 = v0 282 := C 282 (bkF_n hg (by decide))
  have ne3 : (3 + 27 * gi : Int) ≠ 316 ∧ (3 + 27 * gi : Int) ≠ 328 ∧ (3 + 27 * gi : Int) ≠ 283 ∧ (5 + 27 * gi : Int) ≠ 316 ∧ (5 + 27 * gi : Int) ≠ 328 ∧ (5 + 27 * gi : Int) ≠ 283 := by clear p1 kb; omega
  have ne4 : (16 + 27 * gi : Int) ≠ 316 ∧ (16 + 27 * gi : Int) ≠ 328 ∧ (16 + 27 * gi : Int) ≠ 283 ∧ (17 + 27 * gi : Int) ≠ 316 ∧ (17 + 27 * gi : Int) ≠ 328 ∧ (17 + 27 * gi : Int) ≠ 283 ∧ (0 : Int) ≠ 3 + 27 * gi := by clear p1 kb; omega
  have pcn : ∀ j : Int, ¬ cgS gi (3 + 27 * gi) j := fun j s => by unfold cgS cdS at s; clear p1 kb; omega
  have zn : ∀ j : Int, j ≠ 8 → j ≠ 12 → ¬ cgS gi 0 j := fun j a b s => by unfold cgS cdS at s; clear p1 kb; omega
  have pc1 : v2 (pcO gi) 1 = k' := by
    show v2 (3 + 27 * gi) 1 = k'
    rw [V _ ne3.1 ne3.2.1 ne3.2.2.1, kc _ _ (pcn 1), up2_at]
  have pc2 : v2 (pcO gi) 2 = v0 (pcO gi) 2 := by
    show v2 (3 + 27 * gi) 2 = v0 (3 + 27 * gi) 2
    rw [V _ ne3.1 ne3.2.1 ne3.2.2.1, kc _ _ (pcn 2), up2_k (by decide)]
  have n3 : v2 283 gi = k' := by rw [T1 283 (by decide) (by decide), up2_at]
  have n4 : v2 284 gi = v0 284 gi := by rw [C 284 (bkF_n hg (by decide))]
  have o : ∀ j : Int, j ≠ 8 → j ≠ 12 → v2 0 j = v0 0 j := fun j a b => by
    rw [V 0 (by decide) (by decide) (by decide), kc 0 j (zn j a b), up2_a ne4.2.2.2.2.2.2]
  have z80 : v2 280 = v0 280 := C 280 (bkF_n hg (by decide))
  refine R.ch hg (Int.le_refl _) R.1.2.2 gc (Or.inr ⟨v0 (pcO gi) 1, ⟨p1.2.1, by have := p1.2.2; omega⟩, rfl⟩) k (fun j _ => by rw [c282]) ⟨?_, fun x x0 x1 => ?_, fun x x0 x1 => ?_⟩ (R.2.1.2.cg psv) ⟨?_, T2⟩ (fun x x0 x1 => ?_) (fun x x0 x1 => ?_) T3 ?_ ?_ ?_ ?_
  · rw [pc1, pc2, n3, n4]
    exact ⟨⟨rfl, p1.1.2⟩, kb.1, kb.2, p1.2.2.2⟩
  · rw [psv gi hg]
    rcases p2 x x0 x1 with w | ⟨w1, w2, w3⟩
    · exact Or.inl w
    · have G := gr _ w1
      have G0 : v2 (v0 (psO gi) x) = v0 (v0 (psO gi) x) := by have := G 0 (by decide) (by decide); rw [show v0 (psO gi) x + 0 = v0 (psO gi) x by omega] at this; exact this
      refine Or.inr ⟨w1, ?_, ?_⟩
      · unfold GA at w2 ⊢; rw [G0]; exact w2
      · rw [G 10 (by decide) (by decide)]; exact w3
  · rw [pc2] at x1
    obtain ⟨w1, Rr, w2, w3, w4⟩ := p3 x x0 x1
    rw [psv gi hg]
    exact ⟨w1, Rr, w2.cg (gr _ w1), w3.cg c282, w4⟩
  · show v2 (5 + 27 * gi) 0 = 0
    rw [V _ ne3.2.2.2.1 ne3.2.2.2.2.1 ne3.2.2.2.2.2]; exact w0
  · rw [V _ ne4.1 ne4.2.1 ne4.2.2.1]; exact w1 x x0 x1
  · rw [V _ ne4.2.2.2.1 ne4.2.2.2.2.1 ne4.2.2.2.2.2.1]; exact w2 x x0 x1
  · rw [V 0 (by decide) (by decide) (by decide), w8, up2_a ne4.2.2.2.2.2.2]
  · rw [V 0 (by decide) (by decide) (by decide), w12, up2_a ne4.2.2.2.2.2.2]
  · have t := R.2.2.2.2.1.1
    unfold TAP
    rw [z80, o 1 (by decide) (by decide), C 281 (bkF_n hg (by decide)), C 1 (bkF_n hg (by decide))]
    exact t
  · have t := R.2.2.2.2.1.2
    unfold FTS
    rw [z80, o 5 (by decide) (by decide), o 6 (by decide) (by decide), C 111 (bkF_n hg (by decide)), C 126 (bkF_n hg (by decide)), C 124 (bkF_n hg (by decide))]
    exact t
theorem op_back {l : Launch} {D : qD} {d : Nat} {gi redo : Int} : OP0 l D (d + 3) m_DH_back m_Mo_back [.inl gi, .inl redo] := by
  intro h R
  have hT := R.1.1.2.1
  have pl : (0 ≤ gi ∧ gi < 4) → (h.2 283 gi = h.2 (pcO gi) 1 ∧ h.2 284 gi = h.2 (pcO gi) 2) ∧ 0 ≤ h.2 (pcO gi) 1 ∧ h.2 (pcO gi) 1 ≤ h.2 (pcO gi) 2 ∧ h.2 (pcO gi) 2 ≤ 30 := fun hg => (R.2.1.1 gi hg).1
  refine sp_DH_back (d := d) R (fun no => ⟨rfl, ⟨_, rfl⟩, ?_⟩) (fun ok v c => ⟨rfl, ⟨_, rfl⟩, ?_⟩)
  · exact sp_Mo_back (d := d) (k := h.2 (pcO gi) 1) (L := h.2 (pcO gi) 2) hT pl (fun _ => ⟨rfl, rfl, R⟩) (fun a b => absurd ⟨a, b⟩ no)
  · have hg := ok.1
    have P := pl hg
    have cc : ∀ a : Int, 280 ≤ a → a ≤ 315 → v a = h.2 a := fun a a0 a1 => by
      rw [c.1.c (fun j s => by unfold cgS cdS at s; omega), up2_a (by omega)]
    have hTv : TW v := by show TW0 (v 280); rw [cc 280 (by decide) (by decide)]; exact hT
    refine sp_Mo_back (d := d) (h := (h.1, v)) (k := h.2 (pcO gi) 1) (L := h.2 (pcO gi) 2) hTv (fun _ => ?_) (fun no => absurd ok no) (fun _ _ => ⟨rfl, rfl, ?_⟩)
    · show (v 283 gi = _ ∧ v 284 gi = _) ∧ _
      rw [cc 283 (by decide) (by decide), cc 284 (by decide) (by decide)]
      exact P
    · refine R.bk hg ?_ c
      have ok2 := ok.2
      unfold bkD
      by_cases r0 : redo = 0
      · rw [if_pos r0]; omega
      · rw [if_neg r0]; omega
