/-! ===== change: what is done (printed by gen/p_act.py) ===== -/
/-- one value of a node or an edge, as the component keeps it -/
theorem CR_u {v : Int → Int → Int} {g x o a b : Int} {R : Int → Int} (h : CR v g R) (ok : GOK R) (c : (x = 4 ∧ o = 219 ∧ 0 ≤ a ∧ a < R 0) ∨ (x = 5 ∧ o = 243 ∧ 0 ≤ a ∧ a < R 0) ∨ (x = 8 ∧ o = 363 ∧ 0 ≤ a ∧ a < R 1) ∨ (x = 9 ∧ o = 411 ∧ 0 ≤ a ∧ a < R 1)) : CR (up2 v (g + x) a b) g (upr R (o + a) b) := by
  obtain ⟨⟨hg, hA⟩, ⟨h0, h1, h2⟩, hn, hE, hq, hr⟩ := h
  obtain ⟨⟨k0, k1, k2⟩, kn, -⟩ := ok
  have ob : (219 ≤ o + a ∧ o + a < 267) ∨ (363 ≤ o + a ∧ o + a < 459) := by omega
  have u := fun (i : Int) (hi : i ≠ o + a) => upr_ne (R := R) (z := b) hi
  have fo := fun (y : Int) (hy : y ≠ x) => up2_a (v := v) (a := g + x) (k := a) (z := b) (b := g + y) (by omega)
  have f0 : up2 v (g + x) a b g = v g := up2_a (by omega)
  have vl : ∀ y p i : Int, ((y = 4 ∧ p = 219) ∨ (y = 5 ∧ p = 243) ∨ (y = 8 ∧ p = 363) ∨ (y = 9 ∧ p = 411)) → v (g + y) i = R (p + i) → 0 ≤ i → i < 48 → ((y = 4 ∨ y = 5) → i < 24) → up2 v (g + x) a b (g + y) i = upr R (o + a) b (p + i) := fun y p i hy e i0 i1 i2 => by
    rw [up2_ap]
    unfold upr
    by_cases z : g + y = g + x ∧ i = a
    · rw [if_pos z, if_pos (by omega)]
    · rw [if_neg z, if_neg (by omega)]; exact e
  refine ⟨⟨hg, ?_⟩, ⟨by rw [f0, u 0 (by omega)]; exact h0, by rw [f0, u 1 (by omega)]; exact h1, by rw [f0, u 2 (by omega)]; exact h2⟩, fun i i0 i1 => ?_, fun e x0 x1 => ?_, fun q q0 q1 => ?_, fun k z0 z1 => by rw [fo 10 (by omega)]; exact hr k z0 z1⟩
  · unfold GA at hA ⊢
    rw [f0]
    exact hA
  · rw [u 0 (by omega)] at i1
    have := (kn i i0 i1).1
    obtain ⟨⟨y1, y2, y3⟩, y4⟩ := hn i i0 i1
    rw [fo 3 (by omega), fo 1 (by omega), u (195 + i) (by omega), vl 4 219 i (by omega) y2 i0 (by omega) (by omega), vl 5 243 i (by omega) y3 i0 (by omega) (by omega)]
    exact ⟨⟨y1, rfl, rfl⟩, fun k z0 z1 => by rw [u (3 + 8 * i + k) (by omega)]; exact y4 k z0 z1⟩
  · rw [u 1 (by omega)] at x1
    obtain ⟨y1, y2, y3, y4⟩ := hE e x0 x1
    rw [fo 6 (by omega), fo 7 (by omega), u (267 + e) (by omega), u (315 + e) (by omega), vl 8 363 e (by omega) y3 x0 (by omega) (by omega), vl 9 411 e (by omega) y4 x0 (by omega) (by omega)]
    exact ⟨y1, y2, rfl, rfl⟩
  · rw [u 2 (by omega)] at q1
    rw [fo 10 (by omega), fo 11 (by omega), fo 2 (by omega), u (531 + q) (by omega), u (523 + q) (by omega)]
    obtain ⟨y1, y2⟩ := hq q q0 q1
    exact ⟨y1, fun k z0 z1 => by rw [u (459 + 8 * q + k) (by omega)]; exact y2 k z0 z1⟩
/-- a node more, as the component keeps it -/
theorem CR_Nn {v : Int → Int → Int} {g w q : Int} {R : Int → Int} (h : CR v g R) (ok : GOK R) (n0 : R 0 < 24) (hw : w < g ∨ g + 11 < w) (hb : ∀ k, 0 ≤ k → k < nml (R 0) → v w k = nmc (R 0) k) : CR (aN v g w 0 (nml (R 0)) q) g (rNn R q) := by
  obtain ⟨⟨hg, hA⟩, ⟨h0, h1, h2⟩, hn, he, hq, hr⟩ := h
  obtain ⟨⟨k0, k1, k2⟩, kn, -⟩ := ok
  obtain ⟨r0, b1, b2, b3, bn⟩ := rNn_v (R := R) (g := q) k0.1 n0
  have lb := nml_b (n := R 0)
  have ro : ∀ j : Int, j ≠ 0 → (j < 3 ∨ 267 ≤ j) → rNn R q j = R j := fun j j0 j1 => rNn_o j0 (by omega) (by omega) (by omega) (by omega)
  have a1 : ∀ x i : Int, (x = 195 ∨ x = 219 ∨ x = 243) → 0 ≤ i → i < R 0 → rNn R q (x + i) = R (x + i) := fun x i hx i0 i1 => rNn_o (by omega) (by omega) (by omega) (by omega) (by omega)
  have a2 : ∀ i k : Int, 0 ≤ i → i < R 0 → 0 ≤ k → k < 8 → rNn R q (3 + 8 * i + k) = R (3 + 8 * i + k) := fun i k i0 i1 k0 k1 => rNn_o (by omega) (by omega) (by omega) (by omega) (by omega)
  obtain ⟨n, hln⟩ : ∃ n, n = nml (R 0) := ⟨_, rfl⟩
  rw [← hln] at b1 lb hb ⊢
  have f0 : aN v g w 0 n q g 0 = R 0 + 1 := by unfold aN; rw [up2_at, h0]
  have fg : ∀ k : Int, k ≠ 0 → aN v g w 0 n q g k = v g k := fun k kk => by
    unfold aN
    rw [up2_k kk, up2_a (by omega), up2_a (by omega), up2_a (by omega), cp2_a (by omega)]
  have fo : ∀ j : Int, (j = 2 ∨ (6 ≤ j ∧ j ≤ 11)) → aN v g w 0 n q (g + j) = v (g + j) := fun j hj => by
    unfold aN
    rw [up2_a (by omega), up2_a (by omega), up2_a (by omega), up2_a (by omega), cp2_a (by omega)]
  have f3 : ∀ i : Int, aN v g w 0 n q (g + 3) i = if i = R 0 then n else v (g + 3) i := fun i => by
    unfold aN
    rw [up2_a (by omega), up2_a (by omega), up2_a (by omega), up2_ap, cp2_a (by omega), h0]
    by_cases z : i = R 0
    · rw [if_pos ⟨rfl, z⟩, if_pos z]
    · rw [if_neg (fun y => z y.2), if_neg z]
  have f4 : ∀ i : Int, aN v g w 0 n q (g + 4) i = if i = R 0 then 1 else v (g + 4) i := fun i => by
    unfold aN
    rw [up2_a (by omega), up2_a (by omega), up2_ap, up2_a (by omega), cp2_a (by omega), h0]
    by_cases z : i = R 0
    · rw [if_pos ⟨rfl, z⟩, if_pos z]
    · rw [if_neg (fun y => z y.2), if_neg z]
  have f5 : ∀ i : Int, aN v g w 0 n q (g + 5) i = if i = R 0 then q else v (g + 5) i := fun i => by
    unfold aN
    rw [up2_a (by omega), up2_ap, up2_a (by omega), up2_a (by omega), cp2_a (by omega), h0]
    by_cases z : i = R 0
    · rw [if_pos ⟨rfl, z⟩, if_pos z]
    · rw [if_neg (fun y => z y.2), if_neg z]
  have f1 : ∀ x : Int, aN v g w 0 n q (g + 1) x = if 8 * R 0 ≤ x ∧ x < 8 * R 0 + n then v w (0 + (x - 8 * R 0)) else v (g + 1) x := fun x => by
    unfold aN cp2
    rw [up2_a (by omega), up2_a (by omega), up2_a (by omega), up2_a (by omega), h0]
    by_cases z : 8 * R 0 ≤ x ∧ x < 8 * R 0 + n
    · rw [if_pos ⟨rfl, z⟩, if_pos z]
    · rw [if_neg (fun y => z y.2), if_neg z]
  refine ⟨⟨hg, ?_⟩, ⟨by rw [f0, r0], by rw [fg 1 (by omega), ro 1 (by omega) (by omega)]; exact h1, by rw [fg 2 (by omega), ro 2 (by omega) (by omega)]; exact h2⟩, fun i i0 i1 => ?_, fun e e0 e1 => ?_, fun y y0 y1 => ?_, fun k z0 z1 => by rw [fo 10 (by omega)]; exact hr k z0 z1⟩
  · unfold GA at hA ⊢
    rw [fg 3 (by omega), fg 4 (by omega), fg 5 (by omega), fg 6 (by omega), fg 7 (by omega), fg 8 (by omega), fg 9 (by omega), fg 10 (by omega), fg 11 (by omega), fg 12 (by omega), fg 13 (by omega)]
    exact hA
  · rw [r0] at i1
    rw [f3, f4, f5]
    by_cases z : i = R 0
    · rw [if_pos z, if_pos z, if_pos z, z, b1, b2, b3]
      refine ⟨⟨rfl, rfl, rfl⟩, fun k z0 z1 => ?_⟩
      rw [f1, if_pos (by omega), bn k z0 (by omega), show (0 : Int) + (8 * R 0 + k - 8 * R 0) = k by omega]
      exact hb k z0 z1
    · rw [if_neg z, if_neg z, if_neg z, a1 195 i (by omega) i0 (by omega), a1 219 i (by omega) i0 (by omega), a1 243 i (by omega) i0 (by omega)]
      obtain ⟨y1, y2⟩ := hn i i0 (by omega)
      have := (kn i i0 (by omega)).1
      refine ⟨y1, fun k z0 z1 => ?_⟩
      rw [f1, if_neg (by omega), a2 i k i0 (by omega) z0 (by omega)]
      exact y2 k z0 z1
  · rw [ro 1 (by omega) (by omega)] at e1
    rw [fo 6 (by omega), fo 7 (by omega), fo 8 (by omega), fo 9 (by omega), ro _ (by omega) (by omega), ro _ (by omega) (by omega), ro _ (by omega) (by omega), ro _ (by omega) (by omega)]
    exact he e e0 e1
  · rw [ro 2 (by omega) (by omega)] at y1
    rw [fo 10 (by omega), fo 11 (by omega), fo 2 (by omega), ro _ (by omega) (by omega), ro _ (by omega) (by omega)]
    obtain ⟨x1, x2⟩ := hq y y0 y1
    exact ⟨x1, fun k z0 z1 => by rw [ro _ (by omega) (by omega)]; exact x2 k z0 z1⟩
def acS (g a j : Int) : Prop := grS g a j ∨ a = 275
theorem aN_fv {S : Int → Int → Prop} {v v' : Int → Int → Int} {g w p n q : Int} (f : FV S v v') (hS : ∀ a j, grS g a j → S a j) : FV S v (aN v' g w p n q) := by
  unfold aN
  have f0 : FV S v (cp2 v' w (g + 1) p (8 * v' g 0) n) := fun a j x => by
    rw [cp2_ap, if_neg (fun z => x (hS a j ⟨by omega, by omega, fun e => by omega⟩))]
    exact f a j x
  exact (((f0.up (hS _ _ ⟨by omega, by omega, fun e => by omega⟩)).up (hS _ _ ⟨by omega, by omega, fun e => by omega⟩)).up (hS _ _ ⟨by omega, by omega, fun e => by omega⟩)).up (hS _ _ ⟨by omega, by omega, fun e => by omega⟩)
set_option maxRecDepth 100000 in
theorem ac_88 {l : Launch} {D : qD} {d : Nat} {g a b what : Int} {R : Int → Int} {h : qh} {Q : qQ} (cr : CR h.2 g R) (ok : GOK R) (ha : 0 ≤ a ∧ a < R 0) (hq : ∀ v, CR v g (upr R (219 + a) b) → FV (acS g) h.2 v → Q (some (.inl 0)) (h.1, v)) : qR l D (d + 3, 0, 0) m_DH_act 88 Q [some (.inr (.inr 0)), some (.inr (.inr g)), some (.inl what), some (.inl a), some (.inl b)] [] h := by
  obtain ⟨g0, gs, s1, s2, s3, s4, s5, s6, s7, s8, s9, -⟩ := id cr.1.1
  obtain ⟨a3, a4, a5, a6, a7, a8, a9, a10, a11, -⟩ := id cr.1.2
  have st := hq _ (CR_u (x := 4) (o := 219) (a := a) (b := b) cr ok (by omega)) (FV.rf.up (Or.inl ⟨by omega, by omega, fun e => by omega⟩))
  have m0 := ok.1
  clear hq cr ok
  refine DH_act_88 _ _ _ ?_
  simp only [w_DH_act_88, w_DH_act_138, s_ic, s_lc, s_null, s_iload, s_lload, s_aload, s_istore, s_lstore, s_astore, s_iinc, s_iadd, s_isub, s_imul, s_iand, s_ior, s_ixor, s_ishl, s_ishr, s_idiv, s_irem, s_ineg, s_ladd, s_lsub, s_lmul, s_lneg, s_ldiv, s_lrem, s_lshl, s_lshr, s_lor, s_land, s_lcmp, s_i2l, s_l2i, s_i2b, s_dup, s_pop, s_dup2, s_dupx1, s_alen, s_ifnull, s_ifnon, s_icmp_eq, s_icmp_ne, s_icmp_lt, s_icmp_ge, s_icmp_gt, s_icmp_le, s_if_eq, s_if_ne, s_if_lt, s_if_ge, s_if_gt, s_if_le, s_getI, s_getL, s_getR, s_putI, s_putZ, s_putL, s_putR, s_iald, s_bald, s_lald, s_aald, s_iast, s_bast, s_last, s_iret, s_zret, s_lret, s_aret, s_vret, s_tbl, q_tab, s_acopy, s_new, s_newa, s_oinit, s_aast, q_nth, qst1, qst2, q_cl1, q_nx, q_ent, qcat, q_cs, q_up_mk, q_cpy_mk, List.cons_append, List.nil_append, List.append_nil, List.replicate, List.take_succ_cons, List.take_zero, List.drop_succ_cons, List.drop_zero, List.reverse_cons, List.reverse_nil, List.length_cons, List.length_nil, List.map_cons, List.map_nil, List.sum_cons, List.sum_nil, Option.toList_some, Option.toList_none, true_and, and_true, true_or, or_true, Nat.sub_zero, Nat.reduceAdd, Nat.reduceSub, Nat.reduceLeDiff, Int.reduceAdd, Int.reduceLE, s_sc, s_strC, s_strV, s_alenC, s_baldC, s_gst, s_i2c, s_cret, s_athrow, gs, a6, s4]
  repeat' (first | with_reducible apply And.intro | with_reducible intro _)
  all_goals first | contradiction | omega | exact st | (exfalso; omega)
set_option maxRecDepth 100000 in
theorem ac_99 {l : Launch} {D : qD} {d : Nat} {g a b what : Int} {R : Int → Int} {h : qh} {Q : qQ} (cr : CR h.2 g R) (ok : GOK R) (ha : 0 ≤ a ∧ a < R 1) (hq : ∀ v, CR v g (upr R (363 + a) b) → FV (acS g) h.2 v → Q (some (.inl 0)) (h.1, v)) : qR l D (d + 3, 0, 0) m_DH_act 99 Q [some (.inr (.inr 0)), some (.inr (.inr g)), some (.inl what), some (.inl a), some (.inl b)] [] h := by
  obtain ⟨g0, gs, s1, s2, s3, s4, s5, s6, s7, s8, s9, -⟩ := id cr.1.1
  obtain ⟨a3, a4, a5, a6, a7, a8, a9, a10, a11, -⟩ := id cr.1.2
  have st := hq _ (CR_u (x := 8) (o := 363) (a := a) (b := b) cr ok (by omega)) (FV.rf.up (Or.inl ⟨by omega, by omega, fun e => by omega⟩))
  have m0 := ok.1
  clear hq cr ok
  refine DH_act_99 _ _ _ ?_
  simp only [w_DH_act_99, w_DH_act_138, s_ic, s_lc, s_null, s_iload, s_lload, s_aload, s_istore, s_lstore, s_astore, s_iinc, s_iadd, s_isub, s_imul, s_iand, s_ior, s_ixor, s_ishl, s_ishr, s_idiv, s_irem, s_ineg, s_ladd, s_lsub, s_lmul, s_lneg, s_ldiv, s_lrem, s_lshl, s_lshr, s_lor, s_land, s_lcmp, s_i2l, s_l2i, s_i2b, s_dup, s_pop, s_dup2, s_dupx1, s_alen, s_ifnull, s_ifnon, s_icmp_eq, s_icmp_ne, s_icmp_lt, s_icmp_ge, s_icmp_gt, s_icmp_le, s_if_eq, s_if_ne, s_if_lt, s_if_ge, s_if_gt, s_if_le, s_getI, s_getL, s_getR, s_putI, s_putZ, s_putL, s_putR, s_iald, s_bald, s_lald, s_aald, s_iast, s_bast, s_last, s_iret, s_zret, s_lret, s_aret, s_vret, s_tbl, q_tab, s_acopy, s_new, s_newa, s_oinit, s_aast, q_nth, qst1, qst2, q_cl1, q_nx, q_ent, qcat, q_cs, q_up_mk, q_cpy_mk, List.cons_append, List.nil_append, List.append_nil, List.replicate, List.take_succ_cons, List.take_zero, List.drop_succ_cons, List.drop_zero, List.reverse_cons, List.reverse_nil, List.length_cons, List.length_nil, List.map_cons, List.map_nil, List.sum_cons, List.sum_nil, Option.toList_some, Option.toList_none, true_and, and_true, true_or, or_true, Nat.sub_zero, Nat.reduceAdd, Nat.reduceSub, Nat.reduceLeDiff, Int.reduceAdd, Int.reduceLE, s_sc, s_strC, s_strV, s_alenC, s_baldC, s_gst, s_i2c, s_cret, s_athrow, gs, a10, s8]
  repeat' (first | with_reducible apply And.intro | with_reducible intro _)
  all_goals first | contradiction | omega | exact st | (exfalso; omega)
set_option maxRecDepth 100000 in
theorem ac_110 {l : Launch} {D : qD} {d : Nat} {g a b what : Int} {R : Int → Int} {h : qh} {Q : qQ} (cr : CR h.2 g R) (ok : GOK R) (ha : 0 ≤ a ∧ a < R 0) (hq : ∀ v, CR v g (upr R (243 + a) b) → FV (acS g) h.2 v → Q (some (.inl 0)) (h.1, v)) : qR l D (d + 3, 0, 0) m_DH_act 110 Q [some (.inr (.inr 0)), some (.inr (.inr g)), some (.inl what), some (.inl a), some (.inl b)] [] h := by
  obtain ⟨g0, gs, s1, s2, s3, s4, s5, s6, s7, s8, s9, -⟩ := id cr.1.1
  obtain ⟨a3, a4, a5, a6, a7, a8, a9, a10, a11, -⟩ := id cr.1.2
  have st := hq _ (CR_u (x := 5) (o := 243) (a := a) (b := b) cr ok (by omega)) (FV.rf.up (Or.inl ⟨by omega, by omega, fun e => by omega⟩))
  have m0 := ok.1
  clear hq cr ok
  refine DH_act_110 _ _ _ ?_
  simp only [w_DH_act_110, w_DH_act_138, s_ic, s_lc, s_null, s_iload, s_lload, s_aload, s_istore, s_lstore, s_astore, s_iinc, s_iadd, s_isub, s_imul, s_iand, s_ior, s_ixor, s_ishl, s_ishr, s_idiv, s_irem, s_ineg, s_ladd, s_lsub, s_lmul, s_lneg, s_ldiv, s_lrem, s_lshl, s_lshr, s_lor, s_land, s_lcmp, s_i2l, s_l2i, s_i2b, s_dup, s_pop, s_dup2, s_dupx1, s_alen, s_ifnull, s_ifnon, s_icmp_eq, s_icmp_ne, s_icmp_lt, s_icmp_ge, s_icmp_gt, s_icmp_le, s_if_eq, s_if_ne, s_if_lt, s_if_ge, s_if_gt, s_if_le, s_getI, s_getL, s_getR, s_putI, s_putZ, s_putL, s_putR, s_iald, s_bald, s_lald, s_aald, s_iast, s_bast, s_last, s_iret, s_zret, s_lret, s_aret, s_vret, s_tbl, q_tab, s_acopy, s_new, s_newa, s_oinit, s_aast, q_nth, qst1, qst2, q_cl1, q_nx, q_ent, qcat, q_cs, q_up_mk, q_cpy_mk, List.cons_append, List.nil_append, List.append_nil, List.replicate, List.take_succ_cons, List.take_zero, List.drop_succ_cons, List.drop_zero, List.reverse_cons, List.reverse_nil, List.length_cons, List.length_nil, List.map_cons, List.map_nil, List.sum_cons, List.sum_nil, Option.toList_some, Option.toList_none, true_and, and_true, true_or, or_true, Nat.sub_zero, Nat.reduceAdd, Nat.reduceSub, Nat.reduceLeDiff, Int.reduceAdd, Int.reduceLE, s_sc, s_strC, s_strV, s_alenC, s_baldC, s_gst, s_i2c, s_cret, s_athrow, gs, a7, s5]
  repeat' (first | with_reducible apply And.intro | with_reducible intro _)
  all_goals first | contradiction | omega | exact st | (exfalso; omega)
set_option maxRecDepth 100000 in
theorem ac_121 {l : Launch} {D : qD} {d : Nat} {g a b what : Int} {R : Int → Int} {h : qh} {Q : qQ} (cr : CR h.2 g R) (ok : GOK R) (ha : 0 ≤ a ∧ a < R 1) (hb : b = 0 ∨ b = 1) (hq : ∀ v, CR v g (upr R (411 + a) b) → FV (acS g) h.2 v → Q (some (.inl 0)) (h.1, v)) : qR l D (d + 3, 0, 0) m_DH_act 121 Q [some (.inr (.inr 0)), some (.inr (.inr g)), some (.inl what), some (.inl a), some (.inl b)] [] h := by
  obtain ⟨g0, gs, s1, s2, s3, s4, s5, s6, s7, s8, s9, -⟩ := id cr.1.1
  obtain ⟨a3, a4, a5, a6, a7, a8, a9, a10, a11, -⟩ := id cr.1.2
  have st := hq _ (CR_u (x := 9) (o := 411) (a := a) (b := b) cr ok (by omega)) (FV.rf.up (Or.inl ⟨by omega, by omega, fun e => by omega⟩))
  have m0 := ok.1
  clear hq cr ok
  refine DH_act_121 _ _ _ ?_
  rcases hb with e | e
  · rw [e] at st ⊢
    simp only [w_DH_act_121, w_DH_act_136, w_DH_act_137, w_DH_act_138, s_ic, s_lc, s_null, s_iload, s_lload, s_aload, s_istore, s_lstore, s_astore, s_iinc, s_iadd, s_isub, s_imul, s_iand, s_ior, s_ixor, s_ishl, s_ishr, s_idiv, s_irem, s_ineg, s_ladd, s_lsub, s_lmul, s_lneg, s_ldiv, s_lrem, s_lshl, s_lshr, s_lor, s_land, s_lcmp, s_i2l, s_l2i, s_i2b, s_dup, s_pop, s_dup2, s_dupx1, s_alen, s_ifnull, s_ifnon, s_icmp_eq, s_icmp_ne, s_icmp_lt, s_icmp_ge, s_icmp_gt, s_icmp_le, s_if_eq, s_if_ne, s_if_lt, s_if_ge, s_if_gt, s_if_le, s_getI, s_getL, s_getR, s_putI, s_putZ, s_putL, s_putR, s_iald, s_bald, s_lald, s_aald, s_iast, s_bast, s_last, s_iret, s_zret, s_lret, s_aret, s_vret, s_tbl, q_tab, s_acopy, s_new, s_newa, s_oinit, s_aast, q_nth, qst1, qst2, q_cl1, q_nx, q_ent, qcat, q_cs, q_up_mk, q_cpy_mk, List.cons_append, List.nil_append, List.append_nil, List.replicate, List.take_succ_cons, List.take_zero, List.drop_succ_cons, List.drop_zero, List.reverse_cons, List.reverse_nil, List.length_cons, List.length_nil, List.map_cons, List.map_nil, List.sum_cons, List.sum_nil, Option.toList_some, Option.toList_none, true_and, and_true, true_or, or_true, Nat.sub_zero, Nat.reduceAdd, Nat.reduceSub, Nat.reduceLeDiff, Int.reduceAdd, Int.reduceLE, s_sc, s_strC, s_strV, s_alenC, s_baldC, s_gst, s_i2c, s_cret, s_athrow, gs, a11, s9]
    repeat' (first | with_reducible apply And.intro | with_reducible intro _)
    all_goals first | contradiction | omega | exact st | (exfalso; omega)
  · rw [e] at st ⊢
    simp only [w_DH_act_121, w_DH_act_136, w_DH_act_137, w_DH_act_138, s_ic, s_lc, s_null, s_iload, s_lload, s_aload, s_istore, s_lstore, s_astore, s_iinc, s_iadd, s_isub, s_imul, s_iand, s_ior, s_ixor, s_ishl, s_ishr, s_idiv, s_irem, s_ineg, s_ladd, s_lsub, s_lmul, s_lneg, s_ldiv, s_lrem, s_lshl, s_lshr, s_lor, s_land, s_lcmp, s_i2l, s_l2i, s_i2b, s_dup, s_pop, s_dup2, s_dupx1, s_alen, s_ifnull, s_ifnon, s_icmp_eq, s_icmp_ne, s_icmp_lt, s_icmp_ge, s_icmp_gt, s_icmp_le, s_if_eq, s_if_ne, s_if_lt, s_if_ge, s_if_gt, s_if_le, s_getI, s_getL, s_getR, s_putI, s_putZ, s_putL, s_putR, s_iald, s_bald, s_lald, s_aald, s_iast, s_bast, s_last, s_iret, s_zret, s_lret, s_aret, s_vret, s_tbl, q_tab, s_acopy, s_new, s_newa, s_oinit, s_aast, q_nth, qst1, qst2, q_cl1, q_nx, q_ent, qcat, q_cs, q_up_mk, q_cpy_mk, List.cons_append, List.nil_append, List.append_nil, List.replicate, List.take_succ_cons, List.take_zero, List.drop_succ_cons, List.drop_zero, List.reverse_cons, List.reverse_nil, List.length_cons, List.length_nil, List.map_cons, List.map_nil, List.sum_cons, List.sum_nil, Option.toList_some, Option.toList_none, true_and, and_true, true_or, or_true, Nat.sub_zero, Nat.reduceAdd, Nat.reduceSub, Nat.reduceLeDiff, Int.reduceAdd, Int.reduceLE, s_sc, s_strC, s_strV, s_alenC, s_baldC, s_gst, s_i2c, s_cret, s_athrow, gs, a11, s9]
    repeat' (first | with_reducible apply And.intro | with_reducible intro _)
    all_goals first | contradiction | omega | exact st | (exfalso; omega)
set_option maxRecDepth 100000 in
theorem ac_80 {l : Launch} {D : qD} {d : Nat} {g a b what : Int} {R : Int → Int} {h : qh} {Q : qQ} (cr : CR h.2 g R) (ok : GOK R) (ha : 0 ≤ a ∧ a < R 0) (hq : ∀ v, CR v g (rDn R a) → FV (acS g) h.2 v → Q (some (.inl 0)) (h.1, v)) : qR l D (d + 3, 0, 0) m_DH_act 80 Q [some (.inr (.inr 0)), some (.inr (.inr g)), some (.inl what), some (.inl a), some (.inl b)] [] h := by
  have g0 := cr.1.1.1
  have gs := cr.1.1.2.1
  have gs3 : (q_shp g).1 = 3 := by rw [gs]
  have call : ∀ Q' : qQ, (∀ v, Q (some (.inl 0)) (h.1, v) → Q' none (h.1, v)) → qM l D (d + 2, 0, 0) m_Gr_dropNode [.inr (.inr g), .inl a] h Q' := fun Q' c => sp_Gr_dropNode (d := d) cr ok ha (fun v cv fv => c v (hq v cv (fv.wk (fun _ _ s => Or.inl s))))
  clear hq cr ok
  refine DH_act_80 _ _ _ ?_
  simp only [w_DH_act_80, w_DH_act_138, s_ic, s_lc, s_null, s_iload, s_lload, s_aload, s_istore, s_lstore, s_astore, s_iinc, s_iadd, s_isub, s_imul, s_iand, s_ior, s_ixor, s_ishl, s_ishr, s_idiv, s_irem, s_ineg, s_ladd, s_lsub, s_lmul, s_lneg, s_ldiv, s_lrem, s_lshl, s_lshr, s_lor, s_land, s_lcmp, s_i2l, s_l2i, s_i2b, s_dup, s_pop, s_dup2, s_dupx1, s_alen, s_ifnull, s_ifnon, s_icmp_eq, s_icmp_ne, s_icmp_lt, s_icmp_ge, s_icmp_gt, s_icmp_le, s_if_eq, s_if_ne, s_if_lt, s_if_ge, s_if_gt, s_if_le, s_getI, s_getL, s_getR, s_putI, s_putZ, s_putL, s_putR, s_iald, s_bald, s_lald, s_aald, s_iast, s_bast, s_last, s_iret, s_zret, s_lret, s_aret, s_vret, s_tbl, q_tab, s_acopy, s_new, s_newa, s_oinit, s_aast, q_nth, qst1, qst2, q_cl1, q_nx, q_ent, qcat, q_cs, q_up_mk, q_cpy_mk, List.cons_append, List.nil_append, List.append_nil, List.replicate, List.take_succ_cons, List.take_zero, List.drop_succ_cons, List.drop_zero, List.reverse_cons, List.reverse_nil, List.length_cons, List.length_nil, List.map_cons, List.map_nil, List.sum_cons, List.sum_nil, Option.toList_some, Option.toList_none, true_and, and_true, true_or, or_true, Nat.sub_zero, Nat.reduceAdd, Nat.reduceSub, Nat.reduceLeDiff, Int.reduceAdd, Int.reduceLE, s_sc, s_strC, s_strV, s_alenC, s_baldC, s_gst, s_i2c, s_cret, s_athrow]
  refine ⟨by simp only [List.length_cons, List.length_nil]; omega, Nat.le_of_ble_eq_true rfl, ⟨g0, gs3⟩, ?_⟩
  refine call _ (fun v st => ?_)
  simp only [s_ic, s_lc, s_null, s_iload, s_lload, s_aload, s_istore, s_lstore, s_astore, s_iinc, s_iadd, s_isub, s_imul, s_iand, s_ior, s_ixor, s_ishl, s_ishr, s_idiv, s_irem, s_ineg, s_ladd, s_lsub, s_lmul, s_lneg, s_ldiv, s_lrem, s_lshl, s_lshr, s_lor, s_land, s_lcmp, s_i2l, s_l2i, s_i2b, s_dup, s_pop, s_dup2, s_dupx1, s_alen, s_ifnull, s_ifnon, s_icmp_eq, s_icmp_ne, s_icmp_lt, s_icmp_ge, s_icmp_gt, s_icmp_le, s_if_eq, s_if_ne, s_if_lt, s_if_ge, s_if_gt, s_if_le, s_getI, s_getL, s_getR, s_putI, s_putZ, s_putL, s_putR, s_iald, s_bald, s_lald, s_aald, s_iast, s_bast, s_last, s_iret, s_zret, s_lret, s_aret, s_vret, s_tbl, q_tab, s_acopy, s_new, s_newa, s_oinit, s_aast, q_nth, qst1, qst2, q_cl1, q_nx, q_ent, qcat, q_cs, q_up_mk, q_cpy_mk, List.cons_append, List.nil_append, List.append_nil, List.replicate, List.take_succ_cons, List.take_zero, List.drop_succ_cons, List.drop_zero, List.reverse_cons, List.reverse_nil, List.length_cons, List.length_nil, List.map_cons, List.map_nil, List.sum_cons, List.sum_nil, Option.toList_some, Option.toList_none, true_and, and_true, true_or, or_true, Nat.sub_zero, Nat.reduceAdd, Nat.reduceSub, Nat.reduceLeDiff, Int.reduceAdd, Int.reduceLE, s_sc, s_strC, s_strV, s_alenC, s_baldC, s_gst, s_i2c, s_cret, s_athrow]
  repeat' (first | with_reducible apply And.intro | with_reducible intro _)
  all_goals first | contradiction | omega | exact st | (exfalso; omega)
set_option maxRecDepth 100000 in
theorem ac_72 {l : Launch} {D : qD} {d : Nat} {g a b what : Int} {R : Int → Int} {h : qh} {Q : qQ} (cr : CR h.2 g R) (ok : GOK R) (ha : 0 ≤ a ∧ a < R 1) (hq : ∀ v, CR v g (rDe R a) → FV (acS g) h.2 v → Q (some (.inl 0)) (h.1, v)) : qR l D (d + 3, 0, 0) m_DH_act 72 Q [some (.inr (.inr 0)), some (.inr (.inr g)), some (.inl what), some (.inl a), some (.inl b)] [] h := by
  have g0 := cr.1.1.1
  have gs := cr.1.1.2.1
  have gs3 : (q_shp g).1 = 3 := by rw [gs]
  have e1 := cr.2.1.2.1
  have m0 := ok.1.2.1
  have call : ∀ Q' : qQ, (∀ v, Q (some (.inl 0)) (h.1, v) → Q' none (h.1, v)) → qM l D (d + 2, 0, 0) m_Gr_dropEdge [.inr (.inr g), .inl a] h Q' := fun Q' c => sp_Gr_dropEdge (d := d + 1) cr.1.1 cr.1.2 ⟨ha.1, by omega, by omega⟩ (fun j j0 j1 => by
    rw [e1] at j1
    rw [(cr.2.2.2.1 j j0 j1).2.2.2]
    exact (ok.2.2.1 j j0 j1).2.2) (c _ (hq _ (CR_De cr ok ha) (dE_fv FV.rf (fun _ _ s => Or.inl s))))
  clear hq cr ok
  refine DH_act_72 _ _ _ ?_
  simp only [w_DH_act_72, w_DH_act_138, s_ic, s_lc, s_null, s_iload, s_lload, s_aload, s_istore, s_lstore, s_astore, s_iinc, s_iadd, s_isub, s_imul, s_iand, s_ior, s_ixor, s_ishl, s_ishr, s_idiv, s_irem, s_ineg, s_ladd, s_lsub, s_lmul, s_lneg, s_ldiv, s_lrem, s_lshl, s_lshr, s_lor, s_land, s_lcmp, s_i2l, s_l2i, s_i2b, s_dup, s_pop, s_dup2, s_dupx1, s_alen, s_ifnull, s_ifnon, s_icmp_eq, s_icmp_ne, s_icmp_lt, s_icmp_ge, s_icmp_gt, s_icmp_le, s_if_eq, s_if_ne, s_if_lt, s_if_ge, s_if_gt, s_if_le, s_getI, s_getL, s_getR, s_putI, s_putZ, s_putL, s_putR, s_iald, s_bald, s_lald, s_aald, s_iast, s_bast, s_last, s_iret, s_zret, s_lret, s_aret, s_vret, s_tbl, q_tab, s_acopy, s_new, s_newa, s_oinit, s_aast, q_nth, qst1, qst2, q_cl1, q_nx, q_ent, qcat, q_cs, q_up_mk, q_cpy_mk, List.cons_append, List.nil_append, List.append_nil, List.replicate, List.take_succ_cons, List.take_zero, List.drop_succ_cons, List.drop_zero, List.reverse_cons, List.reverse_nil, List.length_cons, List.length_nil, List.map_cons, List.map_nil, List.sum_cons, List.sum_nil, Option.toList_some, Option.toList_none, true_and, and_true, true_or, or_true, Nat.sub_zero, Nat.reduceAdd, Nat.reduceSub, Nat.reduceLeDiff, Int.reduceAdd, Int.reduceLE, s_sc, s_strC, s_strV, s_alenC, s_baldC, s_gst, s_i2c, s_cret, s_athrow]
  refine ⟨by simp only [List.length_cons, List.length_nil]; omega, Nat.le_of_ble_eq_true rfl, ⟨g0, gs3⟩, ?_⟩
  refine call _ (fun v st => ?_)
  simp only [s_ic, s_lc, s_null, s_iload, s_lload, s_aload, s_istore, s_lstore, s_astore, s_iinc, s_iadd, s_isub, s_imul, s_iand, s_ior, s_ixor, s_ishl, s_ishr, s_idiv, s_irem, s_ineg, s_ladd, s_lsub, s_lmul, s_lneg, s_ldiv, s_lrem, s_lshl, s_lshr, s_lor, s_land, s_lcmp, s_i2l, s_l2i, s_i2b, s_dup, s_pop, s_dup2, s_dupx1, s_alen, s_ifnull, s_ifnon, s_icmp_eq, s_icmp_ne, s_icmp_lt, s_icmp_ge, s_icmp_gt, s_icmp_le, s_if_eq, s_if_ne, s_if_lt, s_if_ge, s_if_gt, s_if_le, s_getI, s_getL, s_getR, s_putI, s_putZ, s_putL, s_putR, s_iald, s_bald, s_lald, s_aald, s_iast, s_bast, s_last, s_iret, s_zret, s_lret, s_aret, s_vret, s_tbl, q_tab, s_acopy, s_new, s_newa, s_oinit, s_aast, q_nth, qst1, qst2, q_cl1, q_nx, q_ent, qcat, q_cs, q_up_mk, q_cpy_mk, List.cons_append, List.nil_append, List.append_nil, List.replicate, List.take_succ_cons, List.take_zero, List.drop_succ_cons, List.drop_zero, List.reverse_cons, List.reverse_nil, List.length_cons, List.length_nil, List.map_cons, List.map_nil, List.sum_cons, List.sum_nil, Option.toList_some, Option.toList_none, true_and, and_true, true_or, or_true, Nat.sub_zero, Nat.reduceAdd, Nat.reduceSub, Nat.reduceLeDiff, Int.reduceAdd, Int.reduceLE, s_sc, s_strC, s_strV, s_alenC, s_baldC, s_gst, s_i2c, s_cret, s_athrow]
  repeat' (first | with_reducible apply And.intro | with_reducible intro _)
  all_goals first | contradiction | omega | exact st | (exfalso; omega)
set_option maxRecDepth 100000 in
theorem ac_63 {l : Launch} {D : qD} {d : Nat} {g a b what : Int} {R : Int → Int} {h : qh} {Q : qQ} (cr : CR h.2 g R) (ok : GOK R) (m : R 1 < 48) (hq : ∀ v, CR v g (rNe R a b) → FV (acS g) h.2 v → Q (some (.inl (R 1))) (h.1, v)) : qR l D (d + 3, 0, 0) m_DH_act 63 Q [some (.inr (.inr 0)), some (.inr (.inr g)), some (.inl what), some (.inl a), some (.inl b)] [] h := by
  obtain ⟨g0, gs, s1, s2, s3, s4, s5, s6, s7, s8, s9, -⟩ := id cr.1.1
  obtain ⟨a3, a4, a5, a6, a7, a8, a9, a10, a11, -⟩ := id cr.1.2
  have e1 := cr.2.1.2.1
  have m0 := ok.1.2.1
  have gs3 : (q_shp g).1 = 3 := by rw [gs]
  have fv : FV (acS g) h.2 (g_Gr_addEdge g a b 0 h.2) := by
    unfold g_Gr_addEdge
    exact ((((FV.rf.up (Or.inl ⟨by omega, by omega, fun e => by omega⟩)).up (Or.inl ⟨by omega, by omega, fun e => by omega⟩)).up (Or.inl ⟨by omega, by omega, fun e => by omega⟩)).up (Or.inl ⟨by omega, by omega, fun e => by omega⟩)).up (Or.inl ⟨by omega, by omega, fun e => by omega⟩)
  have st := hq (g_Gr_addEdge g a b 0 h.2) (CR_adE cr ok m) fv
  have ee : e_Gr_addEdge g a b 0 h.2 := ⟨g0, gs, a8, s6, by omega, a9, s7, by omega, a10, s8, by omega, a11, s9, by omega⟩
  have pp : p_Gr_addEdge g a b 0 h.2 := by unfold p_Gr_addEdge r32; rw [e1]; omega
  have ff : f_Gr_addEdge g a b 0 h.2 = R 1 := e1
  clear hq cr ok fv
  refine DH_act_63 _ _ _ ?_
  simp only [w_DH_act_63, s_ic, s_lc, s_null, s_iload, s_lload, s_aload, s_istore, s_lstore, s_astore, s_iinc, s_iadd, s_isub, s_imul, s_iand, s_ior, s_ixor, s_ishl, s_ishr, s_idiv, s_irem, s_ineg, s_ladd, s_lsub, s_lmul, s_lneg, s_ldiv, s_lrem, s_lshl, s_lshr, s_lor, s_land, s_lcmp, s_i2l, s_l2i, s_i2b, s_dup, s_pop, s_dup2, s_dupx1, s_alen, s_ifnull, s_ifnon, s_icmp_eq, s_icmp_ne, s_icmp_lt, s_icmp_ge, s_icmp_gt, s_icmp_le, s_if_eq, s_if_ne, s_if_lt, s_if_ge, s_if_gt, s_if_le, s_getI, s_getL, s_getR, s_putI, s_putZ, s_putL, s_putR, s_iald, s_bald, s_lald, s_aald, s_iast, s_bast, s_last, s_iret, s_zret, s_lret, s_aret, s_vret, s_tbl, q_tab, s_acopy, s_new, s_newa, s_oinit, s_aast, q_nth, qst1, qst2, q_cl1, q_nx, q_ent, qcat, q_cs, q_up_mk, q_cpy_mk, List.cons_append, List.nil_append, List.append_nil, List.replicate, List.take_succ_cons, List.take_zero, List.drop_succ_cons, List.drop_zero, List.reverse_cons, List.reverse_nil, List.length_cons, List.length_nil, List.map_cons, List.map_nil, List.sum_cons, List.sum_nil, Option.toList_some, Option.toList_none, true_and, and_true, true_or, or_true, Nat.sub_zero, Nat.reduceAdd, Nat.reduceSub, Nat.reduceLeDiff, Int.reduceAdd, Int.reduceLE, s_sc, s_strC, s_strV, s_alenC, s_baldC, s_gst, s_i2c, s_cret, s_athrow, s_Gr_addEdge, ff]
  repeat' (first | with_reducible apply And.intro | with_reducible intro _)
  all_goals first | contradiction | omega | exact gs3 | exact ee | exact pp | exact st | (exfalso; omega)
set_option maxRecDepth 100000 in
theorem ac_44 {l : Launch} {D : qD} {d : Nat} {g a b what : Int} {R : Int → Int} {h : qh} {Q : qQ} (hw : HW h.2) (cr : CR h.2 g R) (ok : GOK R) (ng : 275 < g ∨ g + 11 < 275) (m : R 0 < 24) (hq : ∀ v, CR v g (rNn R a) → FV (acS g) h.2 v → Q (some (.inl (R 0))) (h.1, v)) : qR l D (d + 3, 0, 0) m_DH_act 44 Q [some (.inr (.inr 0)), some (.inr (.inr g)), some (.inl what), some (.inl a), some (.inl b)] [] h := by
  have g0 := cr.1.1.1
  have gs := cr.1.1.2.1
  have gs3 : (q_shp g).1 = 3 := by rw [gs]
  have e0 := cr.2.1.1
  have n0 := ok.1.1
  have z30 := hw.f0_30
  obtain ⟨o1, o2, o3, o4⟩ := nmO (v := h.2) n0.1 m
  have fv0 : FV (acS g) h.2 (g_DH_nameOf (R 0) h.2) := (nmO_fv n0.1 m).wk (fun _ _ s => Or.inr s)
  obtain ⟨v1, hv1⟩ : ∃ v1, v1 = g_DH_nameOf (R 0) h.2 := ⟨_, rfl⟩
  rw [← hv1] at o1 o3 fv0
  have cr1 : CR v1 g R := cr.cg (fun j j0 j1 => o1 _ (by omega))
  have e10 : v1 g 0 = R 0 := cr1.2.1.1
  have lb := nml_b (n := R 0)
  have fin := hq _ (CR_Nn (q := a) cr1 ok m (w := 275) (by omega) o3) (aN_fv fv0 (fun _ _ s => Or.inl s))
  have call : ∀ Q' : qQ, Q' (some (.inl (R 0))) (h.1, aN v1 g 275 0 (nml (R 0)) a) → qM l D (d + 2, 0, 0) m_Gr_addNode [.inr (.inr g), .inr (.inr 275), .inl 0, .inl (nml (R 0)), .inl a] (h.1, v1) Q' := fun Q' c => sp_Gr_addNode (d := d) (L := 4000) (h := (h.1, v1)) cr1.1.1 cr1.1.2 ⟨by show 0 ≤ v1 g 0; omega, by show v1 g 0 < 24; omega⟩ ⟨by decide, sh_275⟩ ⟨by omega, by omega, by omega, by omega⟩ (by show Q' (some (.inl (v1 g 0))) _; rw [e10]; exact c)
  clear hq cr cr1 ok hw o1 o3 fv0
  refine DH_act_44 _ _ _ ?_
  simp only [w_DH_act_44, s_ic, s_lc, s_null, s_iload, s_lload, s_aload, s_istore, s_lstore, s_astore, s_iinc, s_iadd, s_isub, s_imul, s_iand, s_ior, s_ixor, s_ishl, s_ishr, s_idiv, s_irem, s_ineg, s_ladd, s_lsub, s_lmul, s_lneg, s_ldiv, s_lrem, s_lshl, s_lshr, s_lor, s_land, s_lcmp, s_i2l, s_l2i, s_i2b, s_dup, s_pop, s_dup2, s_dupx1, s_alen, s_ifnull, s_ifnon, s_icmp_eq, s_icmp_ne, s_icmp_lt, s_icmp_ge, s_icmp_gt, s_icmp_le, s_if_eq, s_if_ne, s_if_lt, s_if_ge, s_if_gt, s_if_le, s_getI, s_getL, s_getR, s_putI, s_putZ, s_putL, s_putR, s_iald, s_bald, s_lald, s_aald, s_iast, s_bast, s_last, s_iret, s_zret, s_lret, s_aret, s_vret, s_tbl, q_tab, s_acopy, s_new, s_newa, s_oinit, s_aast, q_nth, qst1, qst2, q_cl1, q_nx, q_ent, qcat, q_cs, q_up_mk, q_cpy_mk, List.cons_append, List.nil_append, List.append_nil, List.replicate, List.take_succ_cons, List.take_zero, List.drop_succ_cons, List.drop_zero, List.reverse_cons, List.reverse_nil, List.length_cons, List.length_nil, List.map_cons, List.map_nil, List.sum_cons, List.sum_nil, Option.toList_some, Option.toList_none, true_and, and_true, true_or, or_true, Nat.sub_zero, Nat.reduceAdd, Nat.reduceSub, Nat.reduceLeDiff, Int.reduceAdd, Int.reduceLE, s_sc, s_strC, s_strV, s_alenC, s_baldC, s_gst, s_i2c, s_cret, s_athrow, s_DH_nameOf, e_DH_nameOf, gs, e0, z30, sh_0, o2, ← hv1]
  repeat' (first | with_reducible apply And.intro | with_reducible intro _)
  all_goals first | contradiction | omega | exact o4 | (exfalso; omega) | skip
  all_goals (refine ⟨by simp only [List.length_cons, List.length_nil]; omega, Nat.le_of_ble_eq_true rfl, ⟨g0, gs3⟩, ?_⟩)
  all_goals (refine call _ ?_)
  all_goals (simp only [s_ic, s_lc, s_null, s_iload, s_lload, s_aload, s_istore, s_lstore, s_astore, s_iinc, s_iadd, s_isub, s_imul, s_iand, s_ior, s_ixor, s_ishl, s_ishr, s_idiv, s_irem, s_ineg, s_ladd, s_lsub, s_lmul, s_lneg, s_ldiv, s_lrem, s_lshl, s_lshr, s_lor, s_land, s_lcmp, s_i2l, s_l2i, s_i2b, s_dup, s_pop, s_dup2, s_dupx1, s_alen, s_ifnull, s_ifnon, s_icmp_eq, s_icmp_ne, s_icmp_lt, s_icmp_ge, s_icmp_gt, s_icmp_le, s_if_eq, s_if_ne, s_if_lt, s_if_ge, s_if_gt, s_if_le, s_getI, s_getL, s_getR, s_putI, s_putZ, s_putL, s_putR, s_iald, s_bald, s_lald, s_aald, s_iast, s_bast, s_last, s_iret, s_zret, s_lret, s_aret, s_vret, s_tbl, q_tab, s_acopy, s_new, s_newa, s_oinit, s_aast, q_nth, qst1, qst2, q_cl1, q_nx, q_ent, qcat, q_cs, q_up_mk, q_cpy_mk, List.cons_append, List.nil_append, List.append_nil, List.replicate, List.take_succ_cons, List.take_zero, List.drop_succ_cons, List.drop_zero, List.reverse_cons, List.reverse_nil, List.length_cons, List.length_nil, List.map_cons, List.map_nil, List.sum_cons, List.sum_nil, Option.toList_some, Option.toList_none, true_and, and_true, true_or, or_true, Nat.sub_zero, Nat.reduceAdd, Nat.reduceSub, Nat.reduceLeDiff, Int.reduceAdd, Int.reduceLE, s_sc, s_strC, s_strV, s_alenC, s_baldC, s_gst, s_i2c, s_cret, s_athrow])
  repeat' (first | with_reducible apply And.intro | with_reducible intro _)
  all_goals first | contradiction | omega | exact fin | (exfalso; omega)
set_option maxRecDepth 100000 in
theorem sp_DH_act {l : Launch} {D : qD} {d : Nat} {g what a b : Int} {R : Int → Int} {h : qh} {Q : qQ} (hw : HW h.2) (cr : CR h.2 g R) (ok : GOK R) (ng : 275 < g ∨ g + 11 < 275) (can : CAN R what a b)
    (hq : ∀ v, CR v g (ACT R what a b) → FV (acS g) h.2 v → Q (some (.inl (ANS R what))) (h.1, v)) : qM l D (d + 3, 0, 0) m_DH_act [.inr (.inr 0), .inr (.inr g), .inl what, .inl a, .inl b] h Q := by
  refine qM.o0 5 rfl (by decide) (Nat.le_of_ble_eq_true rfl) ?_
  refine DH_act_0 _ _ _ ?_
  simp only [w_DH_act_0, s_ic, s_lc, s_null, s_iload, s_lload, s_aload, s_istore, s_lstore, s_astore, s_iinc, s_iadd, s_isub, s_imul, s_iand, s_ior, s_ixor, s_ishl, s_ishr, s_idiv, s_irem, s_ineg, s_ladd, s_lsub, s_lmul, s_lneg, s_ldiv, s_lrem, s_lshl, s_lshr, s_lor, s_land, s_lcmp, s_i2l, s_l2i, s_i2b, s_dup, s_pop, s_dup2, s_dupx1, s_alen, s_ifnull, s_ifnon, s_icmp_eq, s_icmp_ne, s_icmp_lt, s_icmp_ge, s_icmp_gt, s_icmp_le, s_if_eq, s_if_ne, s_if_lt, s_if_ge, s_if_gt, s_if_le, s_getI, s_getL, s_getR, s_putI, s_putZ, s_putL, s_putR, s_iald, s_bald, s_lald, s_aald, s_iast, s_bast, s_last, s_iret, s_zret, s_lret, s_aret, s_vret, s_tbl, q_tab, s_acopy, s_new, s_newa, s_oinit, s_aast, q_nth, qst1, qst2, q_cl1, q_nx, q_ent, qcat, q_cs, q_up_mk, q_cpy_mk, List.cons_append, List.nil_append, List.append_nil, List.replicate, List.take_succ_cons, List.take_zero, List.drop_succ_cons, List.drop_zero, List.reverse_cons, List.reverse_nil, List.length_cons, List.length_nil, List.map_cons, List.map_nil, List.sum_cons, List.sum_nil, Option.toList_some, Option.toList_none, true_and, and_true, true_or, or_true, Nat.sub_zero, Nat.reduceAdd, Nat.reduceSub, Nat.reduceLeDiff, Int.reduceAdd, Int.reduceLE, s_sc, s_strC, s_strV, s_alenC, s_baldC, s_gst, s_i2c, s_cret, s_athrow, List.map_cons, List.map_nil]
  refine ⟨⟨fun e => ?_, fun e => ?_, fun e => ?_, fun e => ?_, fun e => ?_, fun e => ?_, fun e => ?_⟩, fun e => ?_⟩
  · have e' : what = 0 := by omega
    subst e'
    rw [CAN_0] at can
    exact ac_44 (h := ((h.1.1, 0, 0), h.2)) hw cr ok ng can.2.1 (fun v cv fv => hq v cv fv)
  · have e' : what = 1 := by omega
    subst e'
    rw [CAN_1] at can
    exact ac_63 (h := ((h.1.1, 0, 0), h.2)) cr ok can.2.2.2.1 (fun v cv fv => hq v cv fv)
  · have e' : what = 2 := by omega
    subst e'
    rw [CAN_2] at can
    exact ac_72 (h := ((h.1.1, 0, 0), h.2)) cr ok can (fun v cv fv => hq v cv fv)
  · have e' : what = 3 := by omega
    subst e'
    rw [CAN_3] at can
    exact ac_80 (h := ((h.1.1, 0, 0), h.2)) cr ok can (fun v cv fv => hq v cv fv)
  · have e' : what = 4 := by omega
    subst e'
    rw [CAN_4] at can
    exact ac_88 (h := ((h.1.1, 0, 0), h.2)) cr ok can.1 (fun v cv fv => hq v cv fv)
  · have e' : what = 5 := by omega
    subst e'
    rw [CAN_5] at can
    exact ac_99 (h := ((h.1.1, 0, 0), h.2)) cr ok can.1 (fun v cv fv => hq v cv fv)
  · have e' : what = 6 := by omega
    subst e'
    rw [CAN_6] at can
    exact ac_110 (h := ((h.1.1, 0, 0), h.2)) cr ok can.1 (fun v cv fv => hq v cv fv)
  · have e' : what = 7 := by
      rcases can with q | q | q | q | q | q | q | q <;> (have := q.1; omega)
    subst e'
    rw [CAN_7] at can
    exact ac_121 (h := ((h.1.1, 0, 0), h.2)) cr ok can.1 can.2 (fun v cv fv => hq v cv fv)
