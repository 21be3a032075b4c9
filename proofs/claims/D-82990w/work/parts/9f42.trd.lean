/-! ===== read: the twin ===== -/
/-- what reading may touch of the twin -/
def ztS (gi a j : Int) : Prop := (a = 280 ∧ (j = 0 ∨ j = 5 ∨ (7 ≤ j ∧ j ≤ 15))) ∨ a = 282 ∨ a = 285 ∨ (a = 283 ∧ j = gi) ∨ (a = 284 ∧ j = gi) ∨ (a = 316 ∧ j = gi) ∨ (a = 328 ∧ 216 * gi ≤ j ∧ j < 216 * gi + 216)
def TRQ (gi r : Int) (Rn : Int → Int) (v v' : Int → Int → Int) : Prop := FV (ztS gi) v v' ∧ (∀ j, (j < r ∨ r + 539 ≤ j) → v' 282 j = v 282 j) ∧ TRw v' r Rn ∧ (v' 283 gi = 0 ∧ v' 284 gi = 0) ∧ (v' 316 gi = -1 ∧ ∀ k : Int, 0 ≤ k → k < 216 → v' 328 (216 * gi + k) = 0) ∧ v' 280 0 = 0 ∧ v' 280 7 = 1 ∧ v' 280 8 = 0
theorem TW.tr {gi : Int} {v v' : Int → Int → Int} (h : TW v) (k : FV (ztS gi) v v') : TW v' := by
  have key : twr.all (fun j => decide (j ≠ 0 ∧ j ≠ 5 ∧ ¬ (7 ≤ j ∧ j ≤ 15))) = true := by decide +kernel
  refine h.pt (fun j hj => k 280 j (fun s => ?_))
  have := of_decide_eq_true (List.all_eq_true.mp key j hj)
  unfold ztS at s
  omega
/-- .. where there is a fault -/
def tfS (a j : Int) : Prop := (a = 280 ∧ (j = 0 ∨ j = 5 ∨ (7 ≤ j ∧ j ≤ 15))) ∨ a = 282 ∨ a = 285
theorem tfr {gi : Int} : ∀ a j, tfS a j → ztS gi a j := fun a j s => by unfold tfS at s; unfold ztS; omega
theorem KT.fv {r : Int} {v v' : Int → Int → Int} (k : KT r v v') : FV tfS v v' := (FV.fw k.1).wk (fun a j s => by
  have s' : a ∈ [282] ∨ (a, j) ∈ tPr := s
  simp only [tPr, List.mem_cons, List.not_mem_nil, or_false, Prod.mk.injEq] at s'
  unfold tfS
  omega)
set_option maxRecDepth 100000 in
theorem Mo_rd_100 {l : Launch} {D : qD} {d : Nat} {gi n r : Int} {b : Int → Int} {h : qh} {Q : qQ} (hT0 : TW h.2) (hg : 0 ≤ gi ∧ gi < 4) (nb : 0 ≤ n ∧ n ≤ 2000) (rb : 0 ≤ r ∧ r ≤ 66297)
    (hq1 : ∀ v Rn, gtt b n (cGo [] (tkn mG b n 0) R0) (cD Rn) → GOK Rn → TRQ gi r Rn h.2 v → Q (some (.inl (Rn 0))) (h.1, v))
    (hq0 : ∀ v x p, gtt b n (cGo [] (tkn mG b n 0) R0) (cF x p) → 0 < x → FV tfS h.2 v → v 282 = h.2 282 → (v 280 0 = 0 ∧ v 280 7 = 1) → (v 280 8 = x ∧ v 280 9 = p) → Q (some (.inl (-1))) (h.1, v)) :
    ∀ (m : Nat) (v : Int → Int → Int) (t : Tk) (R : Int → Int), (n - t.2.1).toNat = m → FV tfS h.2 v → (∀ j, (j < r ∨ r + 539 ≤ j) → v 282 j = h.2 282 j) → (∀ j : Int, 0 ≤ j → j < 539 → v 285 j = h.2 282 (r + j)) → (v 280 0 = 0 ∧ v 280 7 = 1) → gtt b n (cGo [] (tkn mG b n 0) R0) (cGo [] t R) → TS v b n t R r → qR l D (d + 21, 0, 0) m_Mo_read 100 (fun r h' => Q r ((h'.1.1, h.1.2.1, h.1.2.2), h'.2)) [some (.inr (.inr (280))), some (.inl (gi)), some (.inl (n)), some (.inl (539))] [] ((h.1.1, 0, 0), v) := by
  -- what was there comes back
  have l132 : ∀ i : Int, i ≤ 539 → ∀ v x p, 0 ≤ i → gtt b n (cGo [] (tkn mG b n 0) R0) (cF x p) → 0 < x → FV tfS h.2 v → (∀ j, (j < r + i ∧ r ≤ j) → v 282 j = h.2 282 j) → (∀ j, (j < r ∨ r + 539 ≤ j) → v 282 j = h.2 282 j) → (∀ j : Int, 0 ≤ j → j < 539 → v 285 j = h.2 282 (r + j)) → (v 280 5 = r ∧ v 280 0 = 0 ∧ v 280 7 = 1) → (v 280 8 = x ∧ v 280 9 = p) → qR l D (d + 21, 0, 0) m_Mo_read 132 (fun r h' => Q r ((h'.1.1, h.1.2.1, h.1.2.2), h'.2)) [some (.inr (.inr (280))), some (.inl (gi)), some (.inl (n)), some (.inl (i))] [] ((h.1.1, 0, 0), v) := by
    refine up_loop _ ?_ ?_
    · intro v x p i0 gt x0 kv w1 w2 w3 w4 w5
      have st := hq0 v x p gt x0 kv (funext (fun j => by
        by_cases c : j < r ∨ r + 539 ≤ j
        · exact w2 j c
        · exact w1 j (by omega))) w4.2 w5
      clear hq1 hq0 w1 w2 w3 kv gt hT0
      refine Mo_read_132 _ _ _ ?_
      simp only [w_Mo_read_132, w_Mo_read_162, s_ic, s_lc, s_null, s_iload, s_lload, s_aload, s_istore, s_lstore, s_astore, s_iinc, s_iadd, s_isub, s_imul, s_iand, s_ior, s_ixor, s_ishl, s_ishr, s_idiv, s_irem, s_ineg, s_ladd, s_lsub, s_lmul, s_lneg, s_ldiv, s_lrem, s_lshl, s_lshr, s_lor, s_land, s_lcmp, s_i2l, s_l2i, s_i2b, s_dup, s_pop, s_dup2, s_dupx1, s_alen, s_ifnull, s_ifnon, s_icmp_eq, s_icmp_ne, s_icmp_lt, s_icmp_ge, s_icmp_gt, s_icmp_le, s_if_eq, s_if_ne, s_if_lt, s_if_ge, s_if_gt, s_if_le, s_getI, s_getL, s_getR, s_putI, s_putZ, s_putL, s_putR, s_iald, s_bald, s_lald, s_aald, s_iast, s_bast, s_last, s_iret, s_zret, s_lret, s_aret, s_vret, s_tbl, q_tab, s_acopy, s_new, s_newa, s_oinit, s_aast, q_nth, qst1, qst2, q_cl1, q_nx, q_ent, qcat, q_cs, q_up_mk, q_cpy_mk, List.cons_append, List.nil_append, List.append_nil, List.replicate, List.take_succ_cons, List.take_zero, List.drop_succ_cons, List.drop_zero, List.reverse_cons, List.reverse_nil, List.length_cons, List.length_nil, List.map_cons, List.map_nil, List.sum_cons, List.sum_nil, Option.toList_some, Option.toList_none, true_and, and_true, true_or, or_true, Nat.sub_zero, Nat.reduceAdd, Nat.reduceSub, Nat.reduceLeDiff, Int.reduceAdd, Int.reduceLE, s_sc, s_strC, s_strV, s_alenC, s_baldC, s_gst, s_i2c, s_cret, s_athrow]
      repeat' (first | with_reducible apply And.intro | with_reducible intro _)
      all_goals first | contradiction | with_reducible exact st | (exfalso; omega) | omega | (unfold r32; omega) | trivial
    · intro i hi ih v x p i0 gt x0 kv w1 w2 w3 w4 w5
      have hT := hT0.tr (kv.wk (tfr (gi := gi)))
      have y2 := hT.f2
      have y6 := hT.f6
      have e85 := w3 i i0 hi
      have st := ih (up2 v 282 (r + i) (v 285 i)) x p (by omega) gt x0 (kv.up (Or.inr (Or.inl rfl))) (fun j q => by
        by_cases e : j = r + i
        · rw [e, up2_at]; exact e85
        · rw [up2_k e]; exact w1 j (by omega)) (fun j q => by rw [up2_k (by omega)]; exact w2 j q) (fun j q0 q1 => by rw [up2_a (by decide)]; exact w3 j q0 q1) (by rw [up2_a (by decide)]; exact w4) (by rw [up2_a (by decide)]; exact w5)
      have w45 := w4.1
      clear hq1 hq0 w1 w2 w3 kv gt hT0 ih hT w5 w4
      refine Mo_read_132 _ _ _ ?_
      simp only [w_Mo_read_132, w_Mo_read_162, s_ic, s_lc, s_null, s_iload, s_lload, s_aload, s_istore, s_lstore, s_astore, s_iinc, s_iadd, s_isub, s_imul, s_iand, s_ior, s_ixor, s_ishl, s_ishr, s_idiv, s_irem, s_ineg, s_ladd, s_lsub, s_lmul, s_lneg, s_ldiv, s_lrem, s_lshl, s_lshr, s_lor, s_land, s_lcmp, s_i2l, s_l2i, s_i2b, s_dup, s_pop, s_dup2, s_dupx1, s_alen, s_ifnull, s_ifnon, s_icmp_eq, s_icmp_ne, s_icmp_lt, s_icmp_ge, s_icmp_gt, s_icmp_le, s_if_eq, s_if_ne, s_if_lt, s_if_ge, s_if_gt, s_if_le, s_getI, s_getL, s_getR, s_putI, s_putZ, s_putL, s_putR, s_iald, s_bald, s_lald, s_aald, s_iast, s_bast, s_last, s_iret, s_zret, s_lret, s_aret, s_vret, s_tbl, q_tab, s_acopy, s_new, s_newa, s_oinit, s_aast, q_nth, qst1, qst2, q_cl1, q_nx, q_ent, qcat, q_cs, q_up_mk, q_cpy_mk, List.cons_append, List.nil_append, List.append_nil, List.replicate, List.take_succ_cons, List.take_zero, List.drop_succ_cons, List.drop_zero, List.reverse_cons, List.reverse_nil, List.length_cons, List.length_nil, List.map_cons, List.map_nil, List.sum_cons, List.sum_nil, Option.toList_some, Option.toList_none, true_and, and_true, true_or, or_true, Nat.sub_zero, Nat.reduceAdd, Nat.reduceSub, Nat.reduceLeDiff, Int.reduceAdd, Int.reduceLE, s_sc, s_strC, s_strV, s_alenC, s_baldC, s_gst, s_i2c, s_cret, s_athrow, y2, y6, w45, sh_280, sh_282, sh_285]
      repeat' (first | with_reducible apply And.intro | with_reducible intro _)
      all_goals first | contradiction | with_reducible exact st | (exfalso; omega) | omega | (unfold r32; omega) | trivial
  have s132 := fun v x p => l132 0 (by omega) v x p (by omega)
  clear l132
  -- a fault
  have flt : ∀ v x p, gtt b n (cGo [] (tkn mG b n 0) R0) (cF x p) → 0 < x → FV tfS h.2 v → (∀ j, (j < r ∨ r + 539 ≤ j) → v 282 j = h.2 282 j) → (∀ j : Int, 0 ≤ j → j < 539 → v 285 j = h.2 282 (r + j)) → (v 280 5 = r ∧ v 280 0 = 0 ∧ v 280 7 = 1) → (v 280 8 = x ∧ v 280 9 = p) → qR l D (d + 21, 0, 0) m_Mo_read 100 (fun r h' => Q r ((h'.1.1, h.1.2.1, h.1.2.2), h'.2)) [some (.inr (.inr (280))), some (.inl (gi)), some (.inl (n)), some (.inl (539))] [] ((h.1.1, 0, 0), v) := fun v x p gt x0 kv w2 w3 w4 w5 => by
    have st := s132 v x p gt x0 kv (fun j q => by omega) w2 w3 w4 w5
    have w8 := w5.1
    clear hq1 hq0 s132 w2 w3 w4 w5 kv gt hT0
    refine Mo_read_100 _ _ _ ?_
    simp only [w_Mo_read_100, w_Mo_read_123, s_ic, s_lc, s_null, s_iload, s_lload, s_aload, s_istore, s_lstore, s_astore, s_iinc, s_iadd, s_isub, s_imul, s_iand, s_ior, s_ixor, s_ishl, s_ishr, s_idiv, s_irem, s_ineg, s_ladd, s_lsub, s_lmul, s_lneg, s_ldiv, s_lrem, s_lshl, s_lshr, s_lor, s_land, s_lcmp, s_i2l, s_l2i, s_i2b, s_dup, s_pop, s_dup2, s_dupx1, s_alen, s_ifnull, s_ifnon, s_icmp_eq, s_icmp_ne, s_icmp_lt, s_icmp_ge, s_icmp_gt, s_icmp_le, s_if_eq, s_if_ne, s_if_lt, s_if_ge, s_if_gt, s_if_le, s_getI, s_getL, s_getR, s_putI, s_putZ, s_putL, s_putR, s_iald, s_bald, s_lald, s_aald, s_iast, s_bast, s_last, s_iret, s_zret, s_lret, s_aret, s_vret, s_tbl, q_tab, s_acopy, s_new, s_newa, s_oinit, s_aast, q_nth, qst1, qst2, q_cl1, q_nx, q_ent, qcat, q_cs, q_up_mk, q_cpy_mk, List.cons_append, List.nil_append, List.append_nil, List.replicate, List.take_succ_cons, List.take_zero, List.drop_succ_cons, List.drop_zero, List.reverse_cons, List.reverse_nil, List.length_cons, List.length_nil, List.map_cons, List.map_nil, List.sum_cons, List.sum_nil, Option.toList_some, Option.toList_none, true_and, and_true, true_or, or_true, Nat.sub_zero, Nat.reduceAdd, Nat.reduceSub, Nat.reduceLeDiff, Int.reduceAdd, Int.reduceLE, s_sc, s_strC, s_strV, s_alenC, s_baldC, s_gst, s_i2c, s_cret, s_athrow, w8, sh_280]
    repeat' (first | with_reducible apply And.intro | with_reducible intro _)
    all_goals first | contradiction | with_reducible exact st | (exfalso; omega) | omega | (unfold r32; omega) | trivial
  -- the end
  have fin : ∀ v t R, t.1 = 0 → FV tfS h.2 v → (∀ j, (j < r ∨ r + 539 ≤ j) → v 282 j = h.2 282 j) → (v 280 0 = 0 ∧ v 280 7 = 1) → gtt b n (cGo [] (tkn mG b n 0) R0) (cGo [] t R) → TS v b n t R r → qR l D (d + 21, 0, 0) m_Mo_read 100 (fun r h' => Q r ((h'.1.1, h.1.2.1, h.1.2.2), h'.2)) [some (.inr (.inr (280))), some (.inl (gi)), some (.inl (n)), some (.inl (539))] [] ((h.1.1, 0, 0), v) := fun v t R t0 kv w2 w4 gt ts => by
    obtain ⟨⟨hT, rd, e5, e8⟩, ⟨⟨t12, -⟩, -⟩, tr, ok⟩ := id ts
    have gd : gtt b n (cGo [] (tkn mG b n 0) R0) (cD R) := gt.tr (gtt.st (by rw [stG_x (by omega)]; show (if t.1 = 0 then cD R else cF 1 t.2.1) = _; rw [if_pos t0]))
    obtain ⟨v4, hv4⟩ : ∃ v4, v4 = up2 (up2 v 283 gi 0) 284 gi 0 := ⟨_, rfl⟩
    have k4 : FV (ztS gi) h.2 v4 := by rw [hv4]; exact ((kv.wk tfr).up (by unfold ztS; omega)).up (by unfold ztS; omega)
    obtain ⟨v5, hv5⟩ : ∃ v5, v5 = fl2 (up2 v4 316 gi (-1)) 328 (216 * gi) 216 0 := ⟨_, rfl⟩
    have k5 : FV (ztS gi) h.2 v5 := by
      rw [hv5]
      intro a j q
      have q' : ¬ (a = 328 ∧ 216 * gi ≤ j ∧ j < 216 * gi + 216) := fun z => q (by unfold ztS; omega)
      simp only [fl2]
      rw [if_neg q']
      exact (k4.up (a := 316) (j := gi) (z := -1) (by unfold ztS; omega)) a j q
    have c5 : ∀ a : Int, a ≠ 328 → a ≠ 316 → v5 a = v4 a := fun a a1 a2 => by
      funext j
      rw [hv5]
      simp only [fl2]
      rw [if_neg (fun q => a1 q.1), up2_a a2]
    have c4 : ∀ a : Int, a ≠ 283 → a ≠ 284 → v4 a = v a := fun a a1 a2 => by rw [hv4, up2_a a2, up2_a a1]
    have c282 : v5 282 = v 282 := by rw [c5 282 (by decide) (by decide), c4 282 (by decide) (by decide)]
    have c280 : v5 280 = v 280 := by rw [c5 280 (by decide) (by decide), c4 280 (by decide) (by decide)]
    have tr5 : TRw v5 r R := tr.cg c282
    have q316 : v5 316 gi = -1 := by
      rw [hv5]
      simp only [fl2]
      rw [if_neg (by omega), up2_at]
    have q328 : ∀ k : Int, 0 ≤ k → k < 216 → v5 328 (216 * gi + k) = 0 := fun k k0 k1 => by
      rw [hv5]
      simp only [fl2]
      rw [if_pos ⟨trivial, by omega, by omega⟩]
    have st := hq1 v5 R gd ok ⟨k5, fun j q => by rw [c282]; exact w2 j q, tr5, ⟨by rw [c5 283 (by decide) (by decide), hv4, up2_a (by decide), up2_at], by rw [c5 284 (by decide) (by decide), hv4, up2_at]⟩, ⟨q316, q328⟩, by rw [c280]; exact w4.1, by rw [c280]; exact w4.2, by rw [c280]; exact e8⟩
    have hT4 : TW v4 := hT0.tr k4
    have y2 := (hT0.tr k5).f2
    have y3 := hT.f3
    have y4 := (hT0.tr ((kv.wk (tfr (gi := gi))).up (a := 283) (j := gi) (z := 0) (by unfold ztS; omega))).f4
    have e55 : v5 280 5 = r := by rw [c280]; exact e5
    have pn : p_Mo_nodes v5 := by unfold p_Mo_nodes; omega
    have fn : f_Mo_nodes v5 = R 0 := by unfold f_Mo_nodes; rw [e55]; exact tr5.a0
    rw [← fn] at st
    rw [t0] at t12
    clear hq1 hq0 s132 flt kv k4 k5 w2 gt gd hT0 ts rd tr ok tr5 c282 c280 c4 c5 hT
    refine Mo_read_100 _ _ _ ?_
    simp only [w_Mo_read_100, w_Mo_read_123, w_Mo_read_164, s_ic, s_lc, s_null, s_iload, s_lload, s_aload, s_istore, s_lstore, s_astore, s_iinc, s_iadd, s_isub, s_imul, s_iand, s_ior, s_ixor, s_ishl, s_ishr, s_idiv, s_irem, s_ineg, s_ladd, s_lsub, s_lmul, s_lneg, s_ldiv, s_lrem, s_lshl, s_lshr, s_lor, s_land, s_lcmp, s_i2l, s_l2i, s_i2b, s_dup, s_pop, s_dup2, s_dupx1, s_alen, s_ifnull, s_ifnon, s_icmp_eq, s_icmp_ne, s_icmp_lt, s_icmp_ge, s_icmp_gt, s_icmp_le, s_if_eq, s_if_ne, s_if_lt, s_if_ge, s_if_gt, s_if_le, s_getI, s_getL, s_getR, s_putI, s_putZ, s_putL, s_putR, s_iald, s_bald, s_lald, s_aald, s_iast, s_bast, s_last, s_iret, s_zret, s_lret, s_aret, s_vret, s_tbl, q_tab, s_acopy, s_new, s_newa, s_oinit, s_aast, q_nth, qst1, qst2, q_cl1, q_nx, q_ent, qcat, q_cs, q_up_mk, q_cpy_mk, List.cons_append, List.nil_append, List.append_nil, List.replicate, List.take_succ_cons, List.take_zero, List.drop_succ_cons, List.drop_zero, List.reverse_cons, List.reverse_nil, List.length_cons, List.length_nil, List.map_cons, List.map_nil, List.sum_cons, List.sum_nil, Option.toList_some, Option.toList_none, true_and, and_true, true_or, or_true, Nat.sub_zero, Nat.reduceAdd, Nat.reduceSub, Nat.reduceLeDiff, Int.reduceAdd, Int.reduceLE, s_sc, s_strC, s_strV, s_alenC, s_baldC, s_gst, s_i2c, s_cret, s_athrow, e8, t12, y3, y4, sh_280, sh_283, sh_284]
    repeat' (first | with_reducible apply And.intro | with_reducible intro _)
    all_goals first | contradiction | omega | (exfalso; omega) | skip
    rw [← hv4]
    refine ⟨by simp only [List.length_cons, List.length_nil]; omega, Nat.le_of_ble_eq_true rfl, ⟨by decide, by rw [sh_280]⟩, ?_⟩
    refine sp_Mo_changed (d := d + 19) (h := ((h.1.1, 0, 0), v4)) hT4 hg ?_
    rw [← hv5]
    simp only [s_ic, s_lc, s_null, s_iload, s_lload, s_aload, s_istore, s_lstore, s_astore, s_iinc, s_iadd, s_isub, s_imul, s_iand, s_ior, s_ixor, s_ishl, s_ishr, s_idiv, s_irem, s_ineg, s_ladd, s_lsub, s_lmul, s_lneg, s_ldiv, s_lrem, s_lshl, s_lshr, s_lor, s_land, s_lcmp, s_i2l, s_l2i, s_i2b, s_dup, s_pop, s_dup2, s_dupx1, s_alen, s_ifnull, s_ifnon, s_icmp_eq, s_icmp_ne, s_icmp_lt, s_icmp_ge, s_icmp_gt, s_icmp_le, s_if_eq, s_if_ne, s_if_lt, s_if_ge, s_if_gt, s_if_le, s_getI, s_getL, s_getR, s_putI, s_putZ, s_putL, s_putR, s_iald, s_bald, s_lald, s_aald, s_iast, s_bast, s_last, s_iret, s_zret, s_lret, s_aret, s_vret, s_tbl, q_tab, s_acopy, s_new, s_newa, s_oinit, s_aast, q_nth, qst1, qst2, q_cl1, q_nx, q_ent, qcat, q_cs, q_up_mk, q_cpy_mk, List.cons_append, List.nil_append, List.append_nil, List.replicate, List.take_succ_cons, List.take_zero, List.drop_succ_cons, List.drop_zero, List.reverse_cons, List.reverse_nil, List.length_cons, List.length_nil, List.map_cons, List.map_nil, List.sum_cons, List.sum_nil, Option.toList_some, Option.toList_none, true_and, and_true, true_or, or_true, Nat.sub_zero, Nat.reduceAdd, Nat.reduceSub, Nat.reduceLeDiff, Int.reduceAdd, Int.reduceLE, s_sc, s_strC, s_strV, s_alenC, s_baldC, s_gst, s_i2c, s_cret, s_athrow, s_Mo_nodes]
    repeat' (first | with_reducible apply And.intro | with_reducible intro _)
    all_goals first | contradiction | with_reducible exact st | with_reducible exact pn | with_reducible exact y2 | omega | (unfold r32; omega) | trivial
  intro m
  induction m using Nat.strongRecOn with
  | _ m ih =>
    intro v t R mm kv w2 w3 w4 gt ts
    by_cases t0 : t.1 = 0
    · exact fin v t R t0 kv w2 w4 gt ts
    · obtain ⟨⟨hT, rd, e5, e8⟩, ⟨⟨t12, -⟩, tg⟩, tr, ok⟩ := id ts
      have tb := tg.1
      have it := ITx_all (l := l) (D := D) (b := b) (N := n) (r := r) (d := d) 4 [] t R ((h.1.1, 0, 0), v) (Q := fun rr h' => qR l D (d + 21, 0, 0) m_Mo_read 100 (fun r h' => Q r ((h'.1.1, h.1.2.1, h.1.2.2), h'.2)) [some (.inr (.inr 280)), some (.inl gi), some (.inl n), some (.inl 539)] (rr.toList ++ []) h') rfl ts trivial (fun q => by rw [stG_x q]; show (if t.1 = 0 then cD R else cF 1 t.2.1) = _; rw [if_neg t0])
        (fun v' t' R' g' lt _ kt ts' => by
          have tb' := ts'.2.1.2.1
          have a := kt.1 280 0 (by decide) (by decide)
          have a7 := kt.1 280 7 (by decide) (by decide)
          refine ih (n - t'.2.1).toNat (by omega) v' t' R' rfl (kv.tr kt.fv) (fun j q => by rw [kt.2 j q]; exact w2 j q) (fun j q0 q1 => by rw [kt.1 285 j (by decide) (by simp)]; exact w3 j q0 q1) ⟨by rw [a]; exact w4.1, by rw [a7]; exact w4.2⟩ (gt.tr g') ts')
        (fun v' x p g' x0 kt ft => by
          have a := kt.1 280 0 (by decide) (by decide)
          have a7 := kt.1 280 7 (by decide) (by decide)
          have a5 := kt.1 280 5 (by decide) (by decide)
          exact flt v' x p (gt.tr g') x0 (kv.tr kt.fv) (fun j q => by rw [kt.2 j q]; exact w2 j q) (fun j q0 q1 => by rw [kt.1 285 j (by decide) (by simp)]; exact w3 j q0 q1) ⟨by rw [a5]; exact e5, by rw [a]; exact w4.1, by rw [a7]; exact w4.2⟩ ft)
      clear fin flt s132 hq1 hq0 kv w2 w3 gt ts ih rd tr ok hT0 hT
      refine Mo_read_100 _ _ _ ?_
      simp only [w_Mo_read_100, w_Mo_read_123, s_ic, s_lc, s_null, s_iload, s_lload, s_aload, s_istore, s_lstore, s_astore, s_iinc, s_iadd, s_isub, s_imul, s_iand, s_ior, s_ixor, s_ishl, s_ishr, s_idiv, s_irem, s_ineg, s_ladd, s_lsub, s_lmul, s_lneg, s_ldiv, s_lrem, s_lshl, s_lshr, s_lor, s_land, s_lcmp, s_i2l, s_l2i, s_i2b, s_dup, s_pop, s_dup2, s_dupx1, s_alen, s_ifnull, s_ifnon, s_icmp_eq, s_icmp_ne, s_icmp_lt, s_icmp_ge, s_icmp_gt, s_icmp_le, s_if_eq, s_if_ne, s_if_lt, s_if_ge, s_if_gt, s_if_le, s_getI, s_getL, s_getR, s_putI, s_putZ, s_putL, s_putR, s_iald, s_bald, s_lald, s_aald, s_iast, s_bast, s_last, s_iret, s_zret, s_lret, s_aret, s_vret, s_tbl, q_tab, s_acopy, s_new, s_newa, s_oinit, s_aast, q_nth, qst1, qst2, q_cl1, q_nx, q_ent, qcat, q_cs, q_up_mk, q_cpy_mk, List.cons_append, List.nil_append, List.append_nil, List.replicate, List.take_succ_cons, List.take_zero, List.drop_succ_cons, List.drop_zero, List.reverse_cons, List.reverse_nil, List.length_cons, List.length_nil, List.map_cons, List.map_nil, List.sum_cons, List.sum_nil, Option.toList_some, Option.toList_none, true_and, and_true, true_or, or_true, Nat.sub_zero, Nat.reduceAdd, Nat.reduceSub, Nat.reduceLeDiff, Int.reduceAdd, Int.reduceLE, s_sc, s_strC, s_strV, s_alenC, s_baldC, s_gst, s_i2c, s_cret, s_athrow, e8, t12, sh_280]
      repeat' (first | with_reducible apply And.intro | with_reducible intro _)
      all_goals first | contradiction | omega | (exfalso; omega) | skip
      refine ⟨by simp only [List.length_cons, List.length_nil]; omega, Nat.le_of_ble_eq_true rfl, ⟨by decide, by rw [sh_280]⟩, ?_⟩
      exact it
set_option maxRecDepth 100000 in
theorem sp_Mo_read {l : Launch} {D : qD} {d : Nat} {gi n r : Int} {b : Int → Int} {h : qh} {Q : qQ} (hT : TW h.2) (er : r = 539 * (31 * gi + 0))
    (hb : (0 ≤ gi ∧ gi < 4) → (0 ≤ n ∧ n ≤ h.2 280 0) → n ≤ 2000 ∧ (∀ j, 0 ≤ j → j < n → z_iand (h.2 281 j) 255 = b j ∧ 0 ≤ b j ∧ b j ≤ 255) ∧ ∀ j, n ≤ j → b j = -1)
    (hqb : ¬ ((0 ≤ gi ∧ gi < 4) ∧ 0 ≤ n ∧ n ≤ h.2 280 0) → Q (some (.inl (-2))) h)
    (hq1 : (0 ≤ gi ∧ gi < 4) → (0 ≤ n ∧ n ≤ h.2 280 0) → ∀ v Rn, gtt b n (cGo [] (tkn mG b n 0) R0) (cD Rn) → GOK Rn → TRQ gi r Rn h.2 v → Q (some (.inl (Rn 0))) (h.1, v))
    (hq0 : (0 ≤ gi ∧ gi < 4) → (0 ≤ n ∧ n ≤ h.2 280 0) → ∀ v x p, gtt b n (cGo [] (tkn mG b n 0) R0) (cF x p) → 0 < x → FV tfS h.2 v → v 282 = h.2 282 → (v 280 0 = 0 ∧ v 280 7 = 1) → (v 280 8 = x ∧ v 280 9 = p) → Q (some (.inl (-1))) (h.1, v)) : qM l D (d + 21, 0, 0) m_Mo_read [.inr (.inr 280), .inl gi, .inl n] h Q := by
  refine qM.o0 4 rfl (by decide) (Nat.le_of_ble_eq_true rfl) ?_
  refine Mo_read_0 _ _ _ ?_
  by_cases hg : 0 ≤ gi ∧ gi < 4
  · have pi := isPT_1 (v := h.2) hg
    by_cases hn : 0 ≤ n ∧ n ≤ h.2 280 0
    · obtain ⟨n2, hb1, hb2⟩ := hb hg hn
      have rb : 0 ≤ r ∧ r ≤ 66297 := by omega
      have m100 := Mo_rd_100 (l := l) (D := D) (d := d) (gi := gi) (n := n) (r := r) (b := b) (h := h) (Q := Q) hT hg ⟨hn.1, n2⟩ rb (hq1 hg hn) (hq0 hg hn)
      obtain ⟨w0, hw0⟩ : ∃ w0, w0 = up2 (up2 (up2 (up2 (up2 (up2 h.2 280 0 0) 280 7 1) 280 8 0) 280 10 n) 280 11 0) 280 5 r := ⟨_, rfl⟩
      have kw : FV tfS h.2 w0 := by
        rw [hw0]
        exact (((((FV.rf.up (by unfold tfS; omega)).up (by unfold tfS; omega)).up (by unfold tfS; omega)).up (by unfold tfS; omega)).up (by unfold tfS; omega)).up (by unfold tfS; omega)
      have cw : ∀ a : Int, a ≠ 280 → w0 a = h.2 a := fun a ha => by rw [hw0, up2_a ha, up2_a ha, up2_a ha, up2_a ha, up2_a ha, up2_a ha]
      have f0 : w0 280 0 = 0 := by rw [hw0, up2_k (by decide), up2_k (by decide), up2_k (by decide), up2_k (by decide), up2_k (by decide), up2_at]
      have f7 : w0 280 7 = 1 := by rw [hw0, up2_k (by decide), up2_k (by decide), up2_k (by decide), up2_k (by decide), up2_at]
      have f8 : w0 280 8 = 0 := by rw [hw0, up2_k (by decide), up2_k (by decide), up2_k (by decide), up2_at]
      have f10 : w0 280 10 = n := by rw [hw0, up2_k (by decide), up2_k (by decide), up2_at]
      have f11 : w0 280 11 = 0 := by rw [hw0, up2_k (by decide), up2_at]
      have f5 : w0 280 5 = r := by rw [hw0, up2_at]
      -- behind the copy
      have s88 : ∀ v, FV (fun a _ => a = 285) w0 v → (∀ j : Int, 0 ≤ j → j < 539 → v 285 j = h.2 282 (r + j)) → w_Mo_read_88 l D (d + 20) (0, 0) (fun r h' => Q r ((h'.1.1, h.1.2.1, h.1.2.2), h'.2)) [some (.inr (.inr (280))), some (.inl (gi)), some (.inl (n)), some (.inl (539))] [] ((h.1.1, 0, 0), v) := fun v k1 w3 => by
        have cv : ∀ a : Int, a ≠ 285 → v a = w0 a := fun a ha => k1.c (fun j s => ha s)
        have kv : FV tfS h.2 v := kw.tr (k1.wk (fun a j s => by have s' : a = 285 := s; unfold tfS; omega))
        have hTv := hT.tr (kv.wk (tfr (gi := gi)))
        have e5 : v 280 5 = r := by rw [cv 280 (by decide)]; exact f5
        obtain ⟨v2, hv2⟩ : ∃ v2, v2 = up2 (up2 (fl2 v 282 r 539 0) 282 (r + 2) 1) 282 (r + 531) (-1) := ⟨_, rfl⟩
        have c2 : ∀ a : Int, a ≠ 282 → v2 a = v a := fun a ha => by
          rw [hv2, up2_a ha, up2_a ha]
          funext j
          simp only [fl2]
          rw [if_neg (fun q => ha q.1)]
        have o2 : ∀ j, (j < r ∨ r + 539 ≤ j) → v2 282 j = h.2 282 j := fun j q => by
          rw [hv2, up2_k (by omega), up2_k (by omega)]
          simp only [fl2]
          rw [if_neg (by omega), cv 282 (by decide), cw 282 (by decide)]
        have k2 : FV tfS h.2 v2 := fun a j q => by
          rw [c2 a (fun z => q (by unfold tfS; omega))]
          exact kv a j q
        have tr2 : TRw v2 r R0 := ⟨rb, fun j j0 j1 => by
          rw [hv2]
          unfold R0
          by_cases z2 : j = 2
          · rw [if_pos z2, up2_k (by omega), z2, up2_at]
          · rw [if_neg z2]
            by_cases z5 : j = 531
            · rw [if_pos z5, z5, up2_at]
            · rw [if_neg z5, up2_k (by omega), up2_k (by omega)]
              simp only [fl2]
              rw [if_pos ⟨trivial, by omega, by omega⟩]⟩
        have c80 : v2 280 = w0 280 := by rw [c2 280 (by decide), cv 280 (by decide)]
        have rd2 : RDT v2 b n := ⟨⟨(hT.tr (k2.wk (tfr (gi := gi)))).f1, by rw [c80]; exact f10⟩, ⟨hn.1, n2⟩, fun j j0 j1 => by rw [c2 281 (by decide), cv 281 (by decide), cw 281 (by decide)]; exact hb1 j j0 j1, hb2⟩
        have nx : ∀ v3, FW [] nPt v2 v3 → TT v3 (tkn mG b n 0) → qR l D (d + 21, 0, 0) m_Mo_read 100 (fun r h' => Q r ((h'.1.1, h.1.2.1, h.1.2.2), h'.2)) [some (.inr (.inr (280))), some (.inl (gi)), some (.inl (n)), some (.inl (539))] [] ((h.1.1, 0, 0), v3) := fun v3 k3 tt => by
          have k3v : FV tfS v2 v3 := (FV.fw k3).wk (fun a j s => by
            have s' : a ∈ ([] : List Int) ∨ (a, j) ∈ nPt := s
            simp only [nPt, List.mem_cons, List.not_mem_nil, or_false, false_or, Prod.mk.injEq] at s'
            unfold tfS
            omega)
          have c3 : ∀ a : Int, a ≠ 280 → v3 a = v2 a := fun a ha => funext (fun j => k3 a j (by simp) (by simp only [nPt, List.mem_cons, List.not_mem_nil, or_false, Prod.mk.injEq]; omega))
          have kk := k2.tr k3v
          refine m100 _ v3 (tkn mG b n 0) R0 rfl kk (fun j q => by rw [c3 282 (by decide)]; exact o2 j q) (fun j j0 j1 => by rw [c3 285 (by decide), c2 285 (by decide)]; exact w3 j j0 j1) ⟨by rw [k3 280 0 (by simp) (by decide), c80]; exact f0, by rw [k3 280 7 (by simp) (by decide), c80]; exact f7⟩ gtt.rf ⟨⟨hT.tr (kk.wk (tfr (gi := gi))), ?_, by rw [k3 280 5 (by simp) (by decide), c80]; exact f5, by rw [k3 280 8 (by simp) (by decide), c80]; exact f8⟩, ⟨tt, tkn_ok mG_ok.1 mG_ok.2.1 hn.1⟩, tr2.cg (c3 282 (by decide)), R0_ok⟩
          obtain ⟨⟨x1, x2⟩, x3, x4, x5⟩ := rd2
          exact ⟨⟨by rw [k3 280 1 (by simp) (by decide)]; exact x1, by rw [k3 280 10 (by simp) (by decide)]; exact x2⟩, x3, fun j j0 j1 => by rw [c3 281 (by decide)]; exact x4 j j0 j1, x5⟩
        have e11 : v2 280 11 = 0 := by rw [c80]; exact f11
        clear m100 hqb hq1 hq0 hb hb1 hb2 k1 kv w3 cv k2 tr2 kw cw o2
        simp only [w_Mo_read_88, s_ic, s_lc, s_null, s_iload, s_lload, s_aload, s_istore, s_lstore, s_astore, s_iinc, s_iadd, s_isub, s_imul, s_iand, s_ior, s_ixor, s_ishl, s_ishr, s_idiv, s_irem, s_ineg, s_ladd, s_lsub, s_lmul, s_lneg, s_ldiv, s_lrem, s_lshl, s_lshr, s_lor, s_land, s_lcmp, s_i2l, s_l2i, s_i2b, s_dup, s_pop, s_dup2, s_dupx1, s_alen, s_ifnull, s_ifnon, s_icmp_eq, s_icmp_ne, s_icmp_lt, s_icmp_ge, s_icmp_gt, s_icmp_le, s_if_eq, s_if_ne, s_if_lt, s_if_ge, s_if_gt, s_if_le, s_getI, s_getL, s_getR, s_putI, s_putZ, s_putL, s_putR, s_iald, s_bald, s_lald, s_aald, s_iast, s_bast, s_last, s_iret, s_zret, s_lret, s_aret, s_vret, s_tbl, q_tab, s_acopy, s_new, s_newa, s_oinit, s_aast, q_nth, qst1, qst2, q_cl1, q_nx, q_ent, qcat, q_cs, q_up_mk, q_cpy_mk, List.cons_append, List.nil_append, List.append_nil, List.replicate, List.take_succ_cons, List.take_zero, List.drop_succ_cons, List.drop_zero, List.reverse_cons, List.reverse_nil, List.length_cons, List.length_nil, List.map_cons, List.map_nil, List.sum_cons, List.sum_nil, Option.toList_some, Option.toList_none, true_and, and_true, true_or, or_true, Nat.sub_zero, Nat.reduceAdd, Nat.reduceSub, Nat.reduceLeDiff, Int.reduceAdd, Int.reduceLE, s_sc, s_strC, s_strV, s_alenC, s_baldC, s_gst, s_i2c, s_cret, s_athrow, e5, sh_280]
        repeat' (first | with_reducible apply And.intro | with_reducible intro _)
        all_goals first | contradiction | omega | skip
        refine ⟨by simp only [List.length_cons, List.length_nil]; omega, Nat.le_of_ble_eq_true rfl, ⟨by decide, by rw [sh_280]⟩, ?_⟩
        refine sp_Mo_clear (d := d + 19) (h := ((h.1.1, 0, 0), v)) hTv rb ?_
        rw [← hv2]
        simp only [s_ic, s_lc, s_null, s_iload, s_lload, s_aload, s_istore, s_lstore, s_astore, s_iinc, s_iadd, s_isub, s_imul, s_iand, s_ior, s_ixor, s_ishl, s_ishr, s_idiv, s_irem, s_ineg, s_ladd, s_lsub, s_lmul, s_lneg, s_ldiv, s_lrem, s_lshl, s_lshr, s_lor, s_land, s_lcmp, s_i2l, s_l2i, s_i2b, s_dup, s_pop, s_dup2, s_dupx1, s_alen, s_ifnull, s_ifnon, s_icmp_eq, s_icmp_ne, s_icmp_lt, s_icmp_ge, s_icmp_gt, s_icmp_le, s_if_eq, s_if_ne, s_if_lt, s_if_ge, s_if_gt, s_if_le, s_getI, s_getL, s_getR, s_putI, s_putZ, s_putL, s_putR, s_iald, s_bald, s_lald, s_aald, s_iast, s_bast, s_last, s_iret, s_zret, s_lret, s_aret, s_vret, s_tbl, q_tab, s_acopy, s_new, s_newa, s_oinit, s_aast, q_nth, qst1, qst2, q_cl1, q_nx, q_ent, qcat, q_cs, q_up_mk, q_cpy_mk, List.cons_append, List.nil_append, List.append_nil, List.replicate, List.take_succ_cons, List.take_zero, List.drop_succ_cons, List.drop_zero, List.reverse_cons, List.reverse_nil, List.length_cons, List.length_nil, List.map_cons, List.map_nil, List.sum_cons, List.sum_nil, Option.toList_some, Option.toList_none, true_and, and_true, true_or, or_true, Nat.sub_zero, Nat.reduceAdd, Nat.reduceSub, Nat.reduceLeDiff, Int.reduceAdd, Int.reduceLE, s_sc, s_strC, s_strV, s_alenC, s_baldC, s_gst, s_i2c, s_cret, s_athrow]
        repeat' (first | with_reducible apply And.intro | with_reducible intro _)
        all_goals first | contradiction | omega | skip
        refine iv_M0 (Nat.le_of_ble_eq_true rfl) ?_
        refine sp_Mo_next (d := d + 17) (h := ((h.1.1, 0, 0), v2)) rd2 e11 (by omega) (fun v3 k3 tt => ?_)
        exact nx v3 k3 tt
      have l58 : ∀ i : Int, i ≤ 539 → ∀ v, 0 ≤ i → FV (fun a _ => a = 285) w0 v → (∀ j : Int, 0 ≤ j → j < i → v 285 j = h.2 282 (r + j)) → qR l D (d + 21, 0, 0) m_Mo_read 58 (fun r h' => Q r ((h'.1.1, h.1.2.1, h.1.2.2), h'.2)) [some (.inr (.inr (280))), some (.inl (gi)), some (.inl (n)), some (.inl (i))] [] ((h.1.1, 0, 0), v) := by
        refine up_loop _ ?_ ?_
        · intro v i0 k1 w3
          have st := s88 v k1 w3
          clear m100 hqb hq1 hq0 hb hb1 hb2 k1 w3 kw cw s88
          refine Mo_read_58 _ _ _ ?_
          simp only [w_Mo_read_58, s_ic, s_lc, s_null, s_iload, s_lload, s_aload, s_istore, s_lstore, s_astore, s_iinc, s_iadd, s_isub, s_imul, s_iand, s_ior, s_ixor, s_ishl, s_ishr, s_idiv, s_irem, s_ineg, s_ladd, s_lsub, s_lmul, s_lneg, s_ldiv, s_lrem, s_lshl, s_lshr, s_lor, s_land, s_lcmp, s_i2l, s_l2i, s_i2b, s_dup, s_pop, s_dup2, s_dupx1, s_alen, s_ifnull, s_ifnon, s_icmp_eq, s_icmp_ne, s_icmp_lt, s_icmp_ge, s_icmp_gt, s_icmp_le, s_if_eq, s_if_ne, s_if_lt, s_if_ge, s_if_gt, s_if_le, s_getI, s_getL, s_getR, s_putI, s_putZ, s_putL, s_putR, s_iald, s_bald, s_lald, s_aald, s_iast, s_bast, s_last, s_iret, s_zret, s_lret, s_aret, s_vret, s_tbl, q_tab, s_acopy, s_new, s_newa, s_oinit, s_aast, q_nth, qst1, qst2, q_cl1, q_nx, q_ent, qcat, q_cs, q_up_mk, q_cpy_mk, List.cons_append, List.nil_append, List.append_nil, List.replicate, List.take_succ_cons, List.take_zero, List.drop_succ_cons, List.drop_zero, List.reverse_cons, List.reverse_nil, List.length_cons, List.length_nil, List.map_cons, List.map_nil, List.sum_cons, List.sum_nil, Option.toList_some, Option.toList_none, true_and, and_true, true_or, or_true, Nat.sub_zero, Nat.reduceAdd, Nat.reduceSub, Nat.reduceLeDiff, Int.reduceAdd, Int.reduceLE, s_sc, s_strC, s_strV, s_alenC, s_baldC, s_gst, s_i2c, s_cret, s_athrow]
          repeat' (first | with_reducible apply And.intro | with_reducible intro _)
          all_goals first | contradiction | with_reducible exact st | (exfalso; omega) | omega | (unfold r32; omega) | trivial
        · intro i hi ih v i0 k1 w3
          have cv : ∀ a : Int, a ≠ 285 → v a = w0 a := fun a ha => k1.c (fun j s => ha s)
          have kv : FV tfS h.2 v := kw.tr (k1.wk (fun a j s => by have s' : a = 285 := s; unfold tfS; omega))
          have hTv := hT.tr (kv.wk (tfr (gi := gi)))
          have y2 := hTv.f2
          have y6 := hTv.f6
          have e5 : v 280 5 = r := by rw [cv 280 (by decide)]; exact f5
          have st := ih (up2 v 285 i (v 282 (r + i))) (by omega) (k1.up rfl) (fun j j0 j1 => by
            by_cases e : j = i
            · rw [e, up2_at, cv 282 (by decide), cw 282 (by decide)]
            · rw [up2_k e]; exact w3 j j0 (by omega))
          clear m100 hqb hq1 hq0 hb hb1 hb2 k1 w3 kw cw s88 ih cv kv hTv
          refine Mo_read_58 _ _ _ ?_
          simp only [w_Mo_read_58, s_ic, s_lc, s_null, s_iload, s_lload, s_aload, s_istore, s_lstore, s_astore, s_iinc, s_iadd, s_isub, s_imul, s_iand, s_ior, s_ixor, s_ishl, s_ishr, s_idiv, s_irem, s_ineg, s_ladd, s_lsub, s_lmul, s_lneg, s_ldiv, s_lrem, s_lshl, s_lshr, s_lor, s_land, s_lcmp, s_i2l, s_l2i, s_i2b, s_dup, s_pop, s_dup2, s_dupx1, s_alen, s_ifnull, s_ifnon, s_icmp_eq, s_icmp_ne, s_icmp_lt, s_icmp_ge, s_icmp_gt, s_icmp_le, s_if_eq, s_if_ne, s_if_lt, s_if_ge, s_if_gt, s_if_le, s_getI, s_getL, s_getR, s_putI, s_putZ, s_putL, s_putR, s_iald, s_bald, s_lald, s_aald, s_iast, s_bast, s_last, s_iret, s_zret, s_lret, s_aret, s_vret, s_tbl, q_tab, s_acopy, s_new, s_newa, s_oinit, s_aast, q_nth, qst1, qst2, q_cl1, q_nx, q_ent, qcat, q_cs, q_up_mk, q_cpy_mk, List.cons_append, List.nil_append, List.append_nil, List.replicate, List.take_succ_cons, List.take_zero, List.drop_succ_cons, List.drop_zero, List.reverse_cons, List.reverse_nil, List.length_cons, List.length_nil, List.map_cons, List.map_nil, List.sum_cons, List.sum_nil, Option.toList_some, Option.toList_none, true_and, and_true, true_or, or_true, Nat.sub_zero, Nat.reduceAdd, Nat.reduceSub, Nat.reduceLeDiff, Int.reduceAdd, Int.reduceLE, s_sc, s_strC, s_strV, s_alenC, s_baldC, s_gst, s_i2c, s_cret, s_athrow, y2, y6, e5, sh_280, sh_282, sh_285]
          repeat' (first | with_reducible apply And.intro | with_reducible intro _)
          all_goals first | contradiction | with_reducible exact st | (exfalso; omega) | omega | (unfold r32; omega) | trivial
      have st := l58 0 (by omega) w0 (by omega) FV.rf (fun j j0 j1 => by omega)
      have pr : ∀ v, p_Mo_rowOf gi 0 v := fun v => by unfold p_Mo_rowOf r32; omega
      have fr : ∀ v, f_Mo_rowOf gi 0 v = r := fun v => by unfold f_Mo_rowOf; rw [er]
      rw [hw0] at st
      clear m100 hqb hq1 hq0 hb hb1 hb2 kw cw s88 l58 hT f0 f7 f8 f10 f11 f5
      simp only [w_Mo_read_0, w_Mo_read_22, s_ic, s_lc, s_null, s_iload, s_lload, s_aload, s_istore, s_lstore, s_astore, s_iinc, s_iadd, s_isub, s_imul, s_iand, s_ior, s_ixor, s_ishl, s_ishr, s_idiv, s_irem, s_ineg, s_ladd, s_lsub, s_lmul, s_lneg, s_ldiv, s_lrem, s_lshl, s_lshr, s_lor, s_land, s_lcmp, s_i2l, s_l2i, s_i2b, s_dup, s_pop, s_dup2, s_dupx1, s_alen, s_ifnull, s_ifnon, s_icmp_eq, s_icmp_ne, s_icmp_lt, s_icmp_ge, s_icmp_gt, s_icmp_le, s_if_eq, s_if_ne, s_if_lt, s_if_ge, s_if_gt, s_if_le, s_getI, s_getL, s_getR, s_putI, s_putZ, s_putL, s_putR, s_iald, s_bald, s_lald, s_aald, s_iast, s_bast, s_last, s_iret, s_zret, s_lret, s_aret, s_vret, s_tbl, q_tab, s_acopy, s_new, s_newa, s_oinit, s_aast, q_nth, qst1, qst2, q_cl1, q_nx, q_ent, qcat, q_cs, q_up_mk, q_cpy_mk, List.cons_append, List.nil_append, List.append_nil, List.replicate, List.take_succ_cons, List.take_zero, List.drop_succ_cons, List.drop_zero, List.reverse_cons, List.reverse_nil, List.length_cons, List.length_nil, List.map_cons, List.map_nil, List.sum_cons, List.sum_nil, Option.toList_some, Option.toList_none, true_and, and_true, true_or, or_true, Nat.sub_zero, Nat.reduceAdd, Nat.reduceSub, Nat.reduceLeDiff, Int.reduceAdd, Int.reduceLE, s_sc, s_strC, s_strV, s_alenC, s_baldC, s_gst, s_i2c, s_cret, s_athrow, s_Mo_isPlace, s_Mo_rowOf, pi, fr, sh_280]
      repeat' (first | with_reducible apply And.intro | with_reducible intro _)
      all_goals first | contradiction | with_reducible exact st | with_reducible exact pr _ | (exfalso; omega) | omega | (unfold r32; omega) | trivial
    · have st := hqb (fun q => hn q.2)
      clear hqb hq1 hq0 hb
      simp only [w_Mo_read_0, w_Mo_read_19, s_ic, s_lc, s_null, s_iload, s_lload, s_aload, s_istore, s_lstore, s_astore, s_iinc, s_iadd, s_isub, s_imul, s_iand, s_ior, s_ixor, s_ishl, s_ishr, s_idiv, s_irem, s_ineg, s_ladd, s_lsub, s_lmul, s_lneg, s_ldiv, s_lrem, s_lshl, s_lshr, s_lor, s_land, s_lcmp, s_i2l, s_l2i, s_i2b, s_dup, s_pop, s_dup2, s_dupx1, s_alen, s_ifnull, s_ifnon, s_icmp_eq, s_icmp_ne, s_icmp_lt, s_icmp_ge, s_icmp_gt, s_icmp_le, s_if_eq, s_if_ne, s_if_lt, s_if_ge, s_if_gt, s_if_le, s_getI, s_getL, s_getR, s_putI, s_putZ, s_putL, s_putR, s_iald, s_bald, s_lald, s_aald, s_iast, s_bast, s_last, s_iret, s_zret, s_lret, s_aret, s_vret, s_tbl, q_tab, s_acopy, s_new, s_newa, s_oinit, s_aast, q_nth, qst1, qst2, q_cl1, q_nx, q_ent, qcat, q_cs, q_up_mk, q_cpy_mk, List.cons_append, List.nil_append, List.append_nil, List.replicate, List.take_succ_cons, List.take_zero, List.drop_succ_cons, List.drop_zero, List.reverse_cons, List.reverse_nil, List.length_cons, List.length_nil, List.map_cons, List.map_nil, List.sum_cons, List.sum_nil, Option.toList_some, Option.toList_none, true_and, and_true, true_or, or_true, Nat.sub_zero, Nat.reduceAdd, Nat.reduceSub, Nat.reduceLeDiff, Int.reduceAdd, Int.reduceLE, s_sc, s_strC, s_strV, s_alenC, s_baldC, s_gst, s_i2c, s_cret, s_athrow, s_Mo_isPlace, pi, sh_280]
      repeat' (first | with_reducible apply And.intro | with_reducible intro _)
      all_goals first | contradiction | with_reducible exact st | (exfalso; omega) | omega | (unfold r32; omega) | trivial
  · have pi := isPT_0 (v := h.2) hg
    have st := hqb (fun q => hg q.1)
    clear hqb hq1 hq0 hb
    simp only [w_Mo_read_0, w_Mo_read_19, s_ic, s_lc, s_null, s_iload, s_lload, s_aload, s_istore, s_lstore, s_astore, s_iinc, s_iadd, s_isub, s_imul, s_iand, s_ior, s_ixor, s_ishl, s_ishr, s_idiv, s_irem, s_ineg, s_ladd, s_lsub, s_lmul, s_lneg, s_ldiv, s_lrem, s_lshl, s_lshr, s_lor, s_land, s_lcmp, s_i2l, s_l2i, s_i2b, s_dup, s_pop, s_dup2, s_dupx1, s_alen, s_ifnull, s_ifnon, s_icmp_eq, s_icmp_ne, s_icmp_lt, s_icmp_ge, s_icmp_gt, s_icmp_le, s_if_eq, s_if_ne, s_if_lt, s_if_ge, s_if_gt, s_if_le, s_getI, s_getL, s_getR, s_putI, s_putZ, s_putL, s_putR, s_iald, s_bald, s_lald, s_aald, s_iast, s_bast, s_last, s_iret, s_zret, s_lret, s_aret, s_vret, s_tbl, q_tab, s_acopy, s_new, s_newa, s_oinit, s_aast, q_nth, qst1, qst2, q_cl1, q_nx, q_ent, qcat, q_cs, q_up_mk, q_cpy_mk, List.cons_append, List.nil_append, List.append_nil, List.replicate, List.take_succ_cons, List.take_zero, List.drop_succ_cons, List.drop_zero, List.reverse_cons, List.reverse_nil, List.length_cons, List.length_nil, List.map_cons, List.map_nil, List.sum_cons, List.sum_nil, Option.toList_some, Option.toList_none, true_and, and_true, true_or, or_true, Nat.sub_zero, Nat.reduceAdd, Nat.reduceSub, Nat.reduceLeDiff, Int.reduceAdd, Int.reduceLE, s_sc, s_strC, s_strV, s_alenC, s_baldC, s_gst, s_i2c, s_cret, s_athrow, s_Mo_isPlace, pi]
    repeat' (first | with_reducible apply And.intro | with_reducible intro _)
    all_goals first | contradiction | with_reducible exact st | omega | (unfold r32; omega) | trivial
