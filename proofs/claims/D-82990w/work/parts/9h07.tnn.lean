/-! ===== change: the twin takes a node more ===== -/
def nEq (R : Int → Int) (i : Int) : Prop := R (195 + i) = nml (R 0) ∧ ∀ k : Int, 0 ≤ k → k < nml (R 0) → R (3 + 8 * i + k) = nmc (R 0) k
theorem noN_iff {R : Int → Int} : noN R ↔ ∀ i : Int, 0 ≤ i → i < R 0 → ¬ nEq R i := Iff.rfl
theorem nEq_1 {R : Int → Int} {i : Int} (n9 : R 0 ≤ 9) : nEq R i ↔ R (195 + i) = 2 ∧ R (3 + 8 * i) = 110 ∧ R (3 + 8 * i + 1) = 48 + R 0 % 10 := by
  unfold nEq nml nmc
  rw [if_pos n9]
  refine ⟨fun q => ⟨q.1, ?_, ?_⟩, fun q => ⟨q.1, fun k k0 k1 => ?_⟩⟩
  · have := q.2 0 (by decide) (by decide)
    rw [if_pos rfl, show 3 + 8 * i + 0 = 3 + 8 * i by omega] at this
    exact this
  · have := q.2 1 (by decide) (by decide)
    rw [if_neg (by decide), if_pos n9, if_pos rfl] at this
    exact this
  · have : k = 0 ∨ k = 1 := by omega
    rcases this with e | e
    · rw [e, if_pos rfl, show 3 + 8 * i + 0 = 3 + 8 * i by omega]; exact q.2.1
    · rw [e, if_neg (by decide), if_pos n9, if_pos rfl]; exact q.2.2
theorem nEq_2 {R : Int → Int} {i : Int} (n9 : ¬ R 0 ≤ 9) : nEq R i ↔ R (195 + i) = 3 ∧ R (3 + 8 * i) = 110 ∧ R (3 + 8 * i + 2) = 48 + R 0 % 10 ∧ R (3 + 8 * i + 1) = 48 + R 0 / 10 := by
  unfold nEq nml nmc
  rw [if_neg n9]
  refine ⟨fun q => ⟨q.1, ?_, ?_, ?_⟩, fun q => ⟨q.1, fun k k0 k1 => ?_⟩⟩
  · have := q.2 0 (by decide) (by decide)
    rw [if_pos rfl, show 3 + 8 * i + 0 = 3 + 8 * i by omega] at this
    exact this
  · have := q.2 2 (by decide) (by decide)
    rw [if_neg (by decide), if_neg n9, if_neg (by decide), if_pos rfl] at this
    exact this
  · have := q.2 1 (by decide) (by decide)
    rw [if_neg (by decide), if_neg n9, if_pos rfl] at this
    exact this
  · have : k = 0 ∨ k = 1 ∨ k = 2 := by omega
    rcases this with e | e | e
    · rw [e, if_pos rfl, show 3 + 8 * i + 0 = 3 + 8 * i by omega]; exact q.2.1
    · rw [e, if_neg (by decide), if_neg n9, if_pos rfl]; exact q.2.2.2
    · rw [e, if_neg (by decide), if_neg n9, if_neg (by decide), if_pos rfl]; exact q.2.2.1
def rZk (R : Int → Int) (k : Int) : Int → Int := fun j => if 3 + 8 * R 0 ≤ j ∧ j < 3 + 8 * R 0 + k then 0 else if j = 0 then R 0 + 1 else R j
theorem rZk_0 {R : Int → Int} {j : Int} : rZk R 0 j = upr R 0 (R 0 + 1) j := by unfold rZk upr; rw [if_neg (by omega)]
theorem rZk_s {R : Int → Int} {k j : Int} (k0 : 0 ≤ k) : rZk R (k + 1) j = upr (rZk R k) (3 + 8 * R 0 + k) 0 j := by
  unfold upr rZk
  by_cases a : j = 3 + 8 * R 0 + k
  · rw [if_pos a, if_pos (by omega)]
  · rw [if_neg a]
    by_cases z : 3 + 8 * R 0 ≤ j ∧ j < 3 + 8 * R 0 + k
    · rw [if_pos z, if_pos (by omega)]
    · rw [if_neg z, if_neg (by omega)]
theorem rNn_e1 {R : Int → Int} {q j : Int} (n0 : 0 ≤ R 0) (n9 : R 0 ≤ 9) : rNn R q j = upr (upr (upr (upr (upr (rZk R 8) (3 + 8 * R 0) 110) (3 + 8 * R 0 + 1) (48 + R 0 % 10)) (195 + R 0) (1 + 1)) (219 + R 0) 1) (243 + R 0) q j := by
  unfold rNn upr rZk nmc nml
  repeat' (first | omega | split)
theorem rNn_e2 {R : Int → Int} {q j : Int} (n0 : 0 ≤ R 0) (n24 : R 0 < 24) (n9 : ¬ R 0 ≤ 9) : rNn R q j = upr (upr (upr (upr (upr (upr (rZk R 8) (3 + 8 * R 0) 110) (3 + 8 * R 0 + 1) (48 + R 0 / 10)) (3 + 8 * R 0 + 2) (48 + R 0 % 10)) (195 + R 0) (2 + 1)) (219 + R 0) 1) (243 + R 0) q j := by
  unfold rNn upr rZk nmc nml
  repeat' (first | omega | split)
set_option maxRecDepth 100000 in
theorem Mo_nn_187 {l : Launch} {D : qD} {d : Nat} {gi q r dg : Int} {o : Option qv} {R : Int → Int} {s : Int → Int → Int} {h : qh} {Q : qQ} (z2 : s 280 2 = 282) (z5 : s 280 5 = r) (rb : 0 ≤ r ∧ r ≤ 66297) (n0 : 0 ≤ R 0) (n24 : R 0 < 24) (hd : (dg = 1 ∧ R 0 ≤ 9) ∨ (dg = 2 ∧ ¬ R 0 ≤ 9))
    (hq : ∀ v, TRw v r (rNn R q) → FV (tmS r) s v → Q (some (.inl (R 0))) (h.1, v)) : ∀ k, k ≤ 8 → 0 ≤ k → ∀ w, TRw w r (rZk R k) → FV (tmS r) s w → qR l D (d + 4, 0, 0) m_Mo_newNode 187 (fun r h' => Q r ((h'.1.1, h.1.2.1, h.1.2.2), h'.2)) [some (.inr (.inr (280))), some (.inl (gi)), some (.inl (q)), some (.inl (R 0)), some (.inl (dg)), some (.inl (r + 3 + 8 * R 0)), some (.inl (k)), o] [] ((h.1.1, 0, 0), w) := by
  have e1 : Int.tmod (R 0) 10 = R 0 % 10 := Int.tmod_eq_emod_of_nonneg n0
  have e2 : Int.tdiv (R 0) 10 = R 0 / 10 := Int.tdiv_eq_ediv_of_nonneg n0
  refine up_loop _ ?_ ?_
  · intro _ w tw fw
    have y2 : w 280 2 = 282 := by rw [fw.t280]; exact z2
    have y5 : w 280 5 = r := by rw [fw.t280]; exact z5
    rcases hd with ⟨h1, n9⟩ | ⟨h2, n9⟩
    · subst h1
      have st := hq _ ((((((tw.sU (o := 3 + 8 * R 0) (x := r + 3 + 8 * R 0) (z := 110) (by omega) (by omega)).sU (o := 3 + 8 * R 0 + 1) (x := r + 3 + 8 * R 0 + 1) (z := 48 + R 0 % 10) (by omega) (by omega)).sU (o := 195 + R 0) (x := r + 195 + R 0) (z := 1 + 1) (by omega) (by omega)).sU (o := 219 + R 0) (x := r + 219 + R 0) (z := 1) (by omega) (by omega)).sU (o := 243 + R 0) (x := r + 243 + R 0) (z := q) (by omega) (by omega)).eq (fun j _ _ => rNn_e1 n0 n9)) (((((fw.tm (o := 3 + 8 * R 0) (by omega) (by omega)).tm (o := 3 + 8 * R 0 + 1) (by omega) (by omega)).tm (o := 195 + R 0) (by omega) (by omega)).tm (o := 219 + R 0) (by omega) (by omega)).tm (o := 243 + R 0) (by omega) (by omega))
      clear hq tw fw z2 z5
      refine Mo_newNode_187 _ _ _ ?_
      simp only [w_Mo_newNode_0, w_Mo_newNode_25, w_Mo_newNode_27, w_Mo_newNode_37, w_Mo_newNode_38, w_Mo_newNode_43, w_Mo_newNode_133, w_Mo_newNode_137, w_Mo_newNode_138, w_Mo_newNode_147, w_Mo_newNode_153, w_Mo_newNode_187, w_Mo_newNode_211, w_Mo_newNode_242, s_ic, s_lc, s_null, s_iload, s_lload, s_aload, s_istore, s_lstore, s_astore, s_iinc, s_iadd, s_isub, s_imul, s_iand, s_ior, s_ixor, s_ishl, s_ishr, s_idiv, s_irem, s_ineg, s_ladd, s_lsub, s_lmul, s_lneg, s_ldiv, s_lrem, s_lshl, s_lshr, s_lor, s_land, s_lcmp, s_i2l, s_l2i, s_i2b, s_dup, s_pop, s_dup2, s_dupx1, s_alen, s_ifnull, s_ifnon, s_icmp_eq, s_icmp_ne, s_icmp_lt, s_icmp_ge, s_icmp_gt, s_icmp_le, s_if_eq, s_if_ne, s_if_lt, s_if_ge, s_if_gt, s_if_le, s_getI, s_getL, s_getR, s_putI, s_putZ, s_putL, s_putR, s_iald, s_bald, s_lald, s_aald, s_iast, s_bast, s_last, s_iret, s_zret, s_lret, s_aret, s_vret, s_invS, s_invV, s_tbl, q_tab, s_acopy, s_new, s_newa, s_oinit, s_invI, s_aast, q_nth, qst1, qst2, q_cl1, q_nx, q_ent, qcat, q_cs, q_up_mk, q_cpy_mk, List.cons_append, List.nil_append, List.append_nil, List.replicate, List.take_succ_cons, List.take_zero, List.drop_succ_cons, List.drop_zero, List.reverse_cons, List.reverse_nil, List.length_cons, List.length_nil, List.map_cons, List.map_nil, List.sum_cons, List.sum_nil, Option.toList_some, Option.toList_none, true_and, and_true, true_or, or_true, Nat.sub_zero, Nat.reduceAdd, Nat.reduceSub, Nat.reduceLeDiff, Int.reduceAdd, Int.reduceLE, s_Mo_groups, e_Mo_groups, p_Mo_groups, f_Mo_groups, s_Mo_in, s_Mo_longOf, e_Mo_longOf, p_Mo_longOf, f_Mo_longOf, s_Mo_nodes, e_Mo_nodes, p_Mo_nodes, f_Mo_nodes, sh_280, sh_282, y5, y2, e1, e2, tm_280]
      repeat' (first | with_reducible apply And.intro | with_reducible intro _)
      all_goals first | contradiction | omega | (unfold r32; omega) | (exact st) | (exfalso; omega)
    · subst h2
      have st := hq _ (((((((tw.sU (o := 3 + 8 * R 0) (x := r + 3 + 8 * R 0) (z := 110) (by omega) (by omega)).sU (o := 3 + 8 * R 0 + 1) (x := r + 3 + 8 * R 0 + 1) (z := 48 + R 0 / 10) (by omega) (by omega)).sU (o := 3 + 8 * R 0 + 2) (x := r + 3 + 8 * R 0 + 2) (z := 48 + R 0 % 10) (by omega) (by omega)).sU (o := 195 + R 0) (x := r + 195 + R 0) (z := 2 + 1) (by omega) (by omega)).sU (o := 219 + R 0) (x := r + 219 + R 0) (z := 1) (by omega) (by omega)).sU (o := 243 + R 0) (x := r + 243 + R 0) (z := q) (by omega) (by omega)).eq (fun j _ _ => rNn_e2 n0 n24 n9)) ((((((fw.tm (o := 3 + 8 * R 0) (by omega) (by omega)).tm (o := 3 + 8 * R 0 + 1) (by omega) (by omega)).tm (o := 3 + 8 * R 0 + 2) (by omega) (by omega)).tm (o := 195 + R 0) (by omega) (by omega)).tm (o := 219 + R 0) (by omega) (by omega)).tm (o := 243 + R 0) (by omega) (by omega))
      clear hq tw fw z2 z5
      refine Mo_newNode_187 _ _ _ ?_
      simp only [w_Mo_newNode_0, w_Mo_newNode_25, w_Mo_newNode_27, w_Mo_newNode_37, w_Mo_newNode_38, w_Mo_newNode_43, w_Mo_newNode_133, w_Mo_newNode_137, w_Mo_newNode_138, w_Mo_newNode_147, w_Mo_newNode_153, w_Mo_newNode_187, w_Mo_newNode_211, w_Mo_newNode_242, s_ic, s_lc, s_null, s_iload, s_lload, s_aload, s_istore, s_lstore, s_astore, s_iinc, s_iadd, s_isub, s_imul, s_iand, s_ior, s_ixor, s_ishl, s_ishr, s_idiv, s_irem, s_ineg, s_ladd, s_lsub, s_lmul, s_lneg, s_ldiv, s_lrem, s_lshl, s_lshr, s_lor, s_land, s_lcmp, s_i2l, s_l2i, s_i2b, s_dup, s_pop, s_dup2, s_dupx1, s_alen, s_ifnull, s_ifnon, s_icmp_eq, s_icmp_ne, s_icmp_lt, s_icmp_ge, s_icmp_gt, s_icmp_le, s_if_eq, s_if_ne, s_if_lt, s_if_ge, s_if_gt, s_if_le, s_getI, s_getL, s_getR, s_putI, s_putZ, s_putL, s_putR, s_iald, s_bald, s_lald, s_aald, s_iast, s_bast, s_last, s_iret, s_zret, s_lret, s_aret, s_vret, s_invS, s_invV, s_tbl, q_tab, s_acopy, s_new, s_newa, s_oinit, s_invI, s_aast, q_nth, qst1, qst2, q_cl1, q_nx, q_ent, qcat, q_cs, q_up_mk, q_cpy_mk, List.cons_append, List.nil_append, List.append_nil, List.replicate, List.take_succ_cons, List.take_zero, List.drop_succ_cons, List.drop_zero, List.reverse_cons, List.reverse_nil, List.length_cons, List.length_nil, List.map_cons, List.map_nil, List.sum_cons, List.sum_nil, Option.toList_some, Option.toList_none, true_and, and_true, true_or, or_true, Nat.sub_zero, Nat.reduceAdd, Nat.reduceSub, Nat.reduceLeDiff, Int.reduceAdd, Int.reduceLE, s_Mo_groups, e_Mo_groups, p_Mo_groups, f_Mo_groups, s_Mo_in, s_Mo_longOf, e_Mo_longOf, p_Mo_longOf, f_Mo_longOf, s_Mo_nodes, e_Mo_nodes, p_Mo_nodes, f_Mo_nodes, sh_280, sh_282, y5, y2, e1, e2, tm_280]
      repeat' (first | with_reducible apply And.intro | with_reducible intro _)
      all_goals first | contradiction | omega | (unfold r32; omega) | (exact st) | (exfalso; omega)
  · intro k k8 ih k0 w tw fw
    have y2 : w 280 2 = 282 := by rw [fw.t280]; exact z2
    have y5 : w 280 5 = r := by rw [fw.t280]; exact z5
    have st := ih (by omega) _ ((tw.sU (o := 3 + 8 * R 0 + k) (x := r + 3 + 8 * R 0 + k) (z := 0) (by omega) (by omega)).eq (fun j _ _ => rZk_s k0)) (fw.tm (o := 3 + 8 * R 0 + k) (by omega) (by omega))
    clear hq tw fw z2 z5 ih
    refine Mo_newNode_187 _ _ _ ?_
    simp only [w_Mo_newNode_0, w_Mo_newNode_25, w_Mo_newNode_27, w_Mo_newNode_37, w_Mo_newNode_38, w_Mo_newNode_43, w_Mo_newNode_133, w_Mo_newNode_137, w_Mo_newNode_138, w_Mo_newNode_147, w_Mo_newNode_153, w_Mo_newNode_187, w_Mo_newNode_211, w_Mo_newNode_242, s_ic, s_lc, s_null, s_iload, s_lload, s_aload, s_istore, s_lstore, s_astore, s_iinc, s_iadd, s_isub, s_imul, s_iand, s_ior, s_ixor, s_ishl, s_ishr, s_idiv, s_irem, s_ineg, s_ladd, s_lsub, s_lmul, s_lneg, s_ldiv, s_lrem, s_lshl, s_lshr, s_lor, s_land, s_lcmp, s_i2l, s_l2i, s_i2b, s_dup, s_pop, s_dup2, s_dupx1, s_alen, s_ifnull, s_ifnon, s_icmp_eq, s_icmp_ne, s_icmp_lt, s_icmp_ge, s_icmp_gt, s_icmp_le, s_if_eq, s_if_ne, s_if_lt, s_if_ge, s_if_gt, s_if_le, s_getI, s_getL, s_getR, s_putI, s_putZ, s_putL, s_putR, s_iald, s_bald, s_lald, s_aald, s_iast, s_bast, s_last, s_iret, s_zret, s_lret, s_aret, s_vret, s_invS, s_invV, s_tbl, q_tab, s_acopy, s_new, s_newa, s_oinit, s_invI, s_aast, q_nth, qst1, qst2, q_cl1, q_nx, q_ent, qcat, q_cs, q_up_mk, q_cpy_mk, List.cons_append, List.nil_append, List.append_nil, List.replicate, List.take_succ_cons, List.take_zero, List.drop_succ_cons, List.drop_zero, List.reverse_cons, List.reverse_nil, List.length_cons, List.length_nil, List.map_cons, List.map_nil, List.sum_cons, List.sum_nil, Option.toList_some, Option.toList_none, true_and, and_true, true_or, or_true, Nat.sub_zero, Nat.reduceAdd, Nat.reduceSub, Nat.reduceLeDiff, Int.reduceAdd, Int.reduceLE, s_Mo_groups, e_Mo_groups, p_Mo_groups, f_Mo_groups, s_Mo_in, s_Mo_longOf, e_Mo_longOf, p_Mo_longOf, f_Mo_longOf, s_Mo_nodes, e_Mo_nodes, p_Mo_nodes, f_Mo_nodes, sh_280, sh_282, y5, y2, tm_280]
    repeat' (first | with_reducible apply And.intro | with_reducible intro _)
    all_goals first | contradiction | omega | (unfold r32; omega) | (with_reducible exact st) | (exfalso; omega)
/-- the row that a change goes to -/
abbrev tR (v : Int → Int → Int) (gi : Int) : Int := 539 * (31 * gi + (moN (v 283 gi) + 1))
theorem moN_b {k : Int} (h : 0 ≤ k ∧ k ≤ 30) : 0 ≤ moN k ∧ moN k ≤ 29 := by
  unfold moN
  by_cases z : k = 30
  · rw [if_pos z]; decide
  · rw [if_neg z]; omega
theorem STQ.tr {gi : Int} {v s : Int → Int → Int} {R : Int → Int} (q : STQ gi v s) (hg : 0 ≤ gi ∧ gi < 4) (hn : 0 ≤ v 283 gi ∧ v 283 gi ≤ 30) (tr : TRw v (539 * (31 * gi + v 283 gi)) R) : TRw s (tR v gi) R := by
  have b := moN_b hn
  exact ⟨by show 0 ≤ 539 * (31 * gi + (moN (v 283 gi) + 1)) ∧ 539 * (31 * gi + (moN (v 283 gi) + 1)) ≤ 66297; omega, fun j j0 j1 => by rw [q.2.2.2.2.2.2.1 j j0 j1]; exact tr.2 j j0 j1⟩
set_option maxRecDepth 100000 in
theorem sp_Mo_newNode {l : Launch} {D : qD} {d : Nat} {gi q b r : Int} {R : Int → Int} {h : qh} {Q : qQ} (hT : TW h.2) (hg : 0 ≤ gi ∧ gi < 4) (hn : 0 ≤ h.2 283 gi ∧ h.2 283 gi ≤ 30) (er : h.2 280 5 = r) (hr : r = 539 * (31 * gi + h.2 283 gi)) (tr : TRw h.2 r R) (ok : GOK R)
    (hq0 : ¬ CAN R 0 q b → Q (some (.inl (-1))) h) (hq1 : CAN R 0 q b → ∀ v, TRw v (tR h.2 gi) (rNn R q) → FV (tmS (tR h.2 gi)) (stp1 (stp0 h.2 gi) gi) v → Q (some (.inl (R 0))) (h.1, v)) : qM l D (d + 4, 0, 0) m_Mo_newNode [.inr (.inr 280), .inl gi, .inl q] h Q := by
  have rb := tr.1
  have z2 := hT.f2
  have n0 := ok.1.1
  have g0 := ok.1.2.2
  have t0 : h.2 282 r = R 0 := by have := tr.2 0 (by decide) (by decide); rw [show r + 0 = r by omega] at this; exact this
  have t2 : h.2 282 (r + 2) = R 2 := tr.2 2 (by decide) (by decide)
  rw [CAN_0] at hq0 hq1
  refine qM.o0 8 rfl (by decide) (Nat.le_of_ble_eq_true rfl) ?_
  by_cases nq : (0 ≤ q ∧ q < R 2) ∧ R 0 < 24
  · obtain ⟨na, n24⟩ := nq
    have sq := stp_q hg hn
    have mb := moN_b hn
    have hTs : TW (stp1 (stp0 h.2 gi) gi) := TW_stp1 (TW_stp0 hT)
    have ts : TRw (stp1 (stp0 h.2 gi) gi) (tR h.2 gi) R := sq.tr hg hn (by rw [← hr]; exact tr)
    have s5 : stp1 (stp0 h.2 gi) gi 280 5 = tR h.2 gi := sq.2.2.1
    have e1 : Int.tmod (R 0) 10 = R 0 % 10 := Int.tmod_eq_emod_of_nonneg n0.1
    have e2 : Int.tdiv (R 0) 10 = R 0 / 10 := Int.tdiv_eq_ediv_of_nonneg n0.1
    have l43 : ∀ dg : Int, ((dg = 1 ∧ R 0 ≤ 9) ∨ (dg = 2 ∧ ¬ R 0 ≤ 9)) → ∀ i, i ≤ R 0 → 0 ≤ i → (∀ j, 0 ≤ j → j < i → ¬ nEq R j) → ∀ o6 o7, qR l D (d + 4, 0, 0) m_Mo_newNode 43 (fun r h' => Q r ((h'.1.1, h.1.2.1, h.1.2.2), h'.2)) [some (.inr (.inr (280))), some (.inl (gi)), some (.inl (q)), some (.inl (R 0)), some (.inl (dg)), some (.inl (i)), o6, o7] [] ((h.1.1, 0, 0), h.2) := by
      intro dg hd
      refine up_loop _ ?_ ?_
      · intro _ no o6 o7
        have c := hq1 ⟨na, n24, no⟩
        obtain ⟨s, hs⟩ : ∃ s, s = stp1 (stp0 h.2 gi) gi := ⟨_, rfl⟩
        obtain ⟨r', hr'⟩ : ∃ r', r' = tR h.2 gi := ⟨_, rfl⟩
        rw [← hs] at c hTs ts s5
        rw [← hr'] at c ts s5
        have s2 := hTs.f2
        have rb' := ts.1
        have u0 : s 282 r' = R 0 := by have := ts.2 0 (by decide) (by decide); rw [show r' + 0 = r' by omega] at this; exact this
        have nx := Mo_nn_187 (l := l) (D := D) (d := d) (gi := gi) (q := q) (dg := dg) (o := o7) (h := h) (Q := Q) s2 s5 rb' n0.1 n24 hd c 0 (by decide) (Int.le_refl 0) _ ((ts.sU (o := 0) (x := r') (z := R 0 + 1) (by decide) (by omega)).eq (fun j _ _ => rZk_0)) (FV.rf.tm (o := 0) (x := r') (z := R 0 + 1) (by decide) (by omega))
        have call : ∀ Q' : qQ, Q' none ((h.1.1, 0, 0), s) → qM l D (d + 3, 0, 0) m_Mo_step [.inr (.inr 280), .inl gi] ((h.1.1, 0, 0), h.2) Q' := fun Q' c => sp_Mo_step (d := d) (h := ((h.1.1, 0, 0), h.2)) hT hg hn (by rw [← hs]; exact c)
        clear hq0 hq1 c sq tr ts ok hTs hT no hs hr' hr
        refine Mo_newNode_43 _ _ _ ?_
        simp only [w_Mo_newNode_43, w_Mo_newNode_153, s_ic, s_lc, s_null, s_iload, s_lload, s_aload, s_istore, s_lstore, s_astore, s_iinc, s_iadd, s_isub, s_imul, s_iand, s_ior, s_ixor, s_ishl, s_ishr, s_idiv, s_irem, s_ineg, s_ladd, s_lsub, s_lmul, s_lneg, s_ldiv, s_lrem, s_lshl, s_lshr, s_lor, s_land, s_lcmp, s_i2l, s_l2i, s_i2b, s_dup, s_pop, s_dup2, s_dupx1, s_alen, s_ifnull, s_ifnon, s_icmp_eq, s_icmp_ne, s_icmp_lt, s_icmp_ge, s_icmp_gt, s_icmp_le, s_if_eq, s_if_ne, s_if_lt, s_if_ge, s_if_gt, s_if_le, s_getI, s_getL, s_getR, s_putI, s_putZ, s_putL, s_putR, s_iald, s_bald, s_lald, s_aald, s_iast, s_bast, s_last, s_iret, s_zret, s_lret, s_aret, s_vret, s_tbl, q_tab, s_acopy, s_new, s_newa, s_oinit, s_aast, q_nth, qst1, qst2, q_cl1, q_nx, q_ent, qcat, q_cs, q_up_mk, q_cpy_mk, List.cons_append, List.nil_append, List.append_nil, List.replicate, List.take_succ_cons, List.take_zero, List.drop_succ_cons, List.drop_zero, List.reverse_cons, List.reverse_nil, List.length_cons, List.length_nil, List.map_cons, List.map_nil, List.sum_cons, List.sum_nil, Option.toList_some, Option.toList_none, true_and, and_true, true_or, or_true, Nat.sub_zero, Nat.reduceAdd, Nat.reduceSub, Nat.reduceLeDiff, Int.reduceAdd, Int.reduceLE, s_sc, s_strC, s_strV, s_alenC, s_baldC, s_gst, s_i2c, s_cret, s_athrow]
        repeat' (first | with_reducible apply And.intro | with_reducible intro _)
        all_goals first | contradiction | (exfalso; omega) | skip
        all_goals (refine ⟨by simp only [List.length_cons, List.length_nil]; omega, Nat.le_of_ble_eq_true rfl, ⟨by decide, by rw [sh_280]⟩, ?_⟩)
        all_goals (refine call _ ?_)
        all_goals (simp only [s_ic, s_lc, s_null, s_iload, s_lload, s_aload, s_istore, s_lstore, s_astore, s_iinc, s_iadd, s_isub, s_imul, s_iand, s_ior, s_ixor, s_ishl, s_ishr, s_idiv, s_irem, s_ineg, s_ladd, s_lsub, s_lmul, s_lneg, s_ldiv, s_lrem, s_lshl, s_lshr, s_lor, s_land, s_lcmp, s_i2l, s_l2i, s_i2b, s_dup, s_pop, s_dup2, s_dupx1, s_alen, s_ifnull, s_ifnon, s_icmp_eq, s_icmp_ne, s_icmp_lt, s_icmp_ge, s_icmp_gt, s_icmp_le, s_if_eq, s_if_ne, s_if_lt, s_if_ge, s_if_gt, s_if_le, s_getI, s_getL, s_getR, s_putI, s_putZ, s_putL, s_putR, s_iald, s_bald, s_lald, s_aald, s_iast, s_bast, s_last, s_iret, s_zret, s_lret, s_aret, s_vret, s_tbl, q_tab, s_acopy, s_new, s_newa, s_oinit, s_aast, q_nth, qst1, qst2, q_cl1, q_nx, q_ent, qcat, q_cs, q_up_mk, q_cpy_mk, List.cons_append, List.nil_append, List.append_nil, List.replicate, List.take_succ_cons, List.take_zero, List.drop_succ_cons, List.drop_zero, List.reverse_cons, List.reverse_nil, List.length_cons, List.length_nil, List.map_cons, List.map_nil, List.sum_cons, List.sum_nil, Option.toList_some, Option.toList_none, true_and, and_true, true_or, or_true, Nat.sub_zero, Nat.reduceAdd, Nat.reduceSub, Nat.reduceLeDiff, Int.reduceAdd, Int.reduceLE, s_sc, s_strC, s_strV, s_alenC, s_baldC, s_gst, s_i2c, s_cret, s_athrow, sh_280, sh_282, s2, s5, u0, tm_280])
        repeat' (first | with_reducible apply And.intro | with_reducible intro _)
        all_goals first | contradiction | omega | (unfold r32; omega) | (with_reducible exact nx) | (exfalso; omega)
      · intro i hi ih i0 no o6 o7
        have nx := fun (z : ¬ nEq R i) (o6 o7 : Option qv) => ih (by omega) (fun j j0 j1 => by
          by_cases e : j = i
          · rw [e]; exact z
          · exact no j j0 (by omega)) o6 o7
        have ex := fun (z : nEq R i) => hq0 (fun y => y.2.2 i i0 hi z)
        have t3 : h.2 282 (r + 195 + i) = R (195 + i) := by rw [show r + 195 + i = r + (195 + i) by omega]; exact tr.2 _ (by omega) (by omega)
        have t4 : h.2 282 (r + 3 + 8 * i) = R (3 + 8 * i) := by rw [show r + 3 + 8 * i = r + (3 + 8 * i) by omega]; exact tr.2 _ (by omega) (by omega)
        have t5 : h.2 282 (r + 3 + 8 * i + 1) = R (3 + 8 * i + 1) := by rw [show r + 3 + 8 * i + 1 = r + (3 + 8 * i + 1) by omega]; exact tr.2 _ (by omega) (by omega)
        have t6 : h.2 282 (r + 3 + 8 * i + 2) = R (3 + 8 * i + 2) := by rw [show r + 3 + 8 * i + 2 = r + (3 + 8 * i + 2) by omega]; exact tr.2 _ (by omega) (by omega)
        clear hq0 hq1 sq tr ts ok hTs hT ih no s5 hr
        rcases hd with ⟨h1, n9⟩ | ⟨h2, n9⟩
        · subst h1
          rw [nEq_1 n9] at nx ex
          refine Mo_newNode_43 _ _ _ ?_
          simp only [w_Mo_newNode_0, w_Mo_newNode_25, w_Mo_newNode_27, w_Mo_newNode_37, w_Mo_newNode_38, w_Mo_newNode_43, w_Mo_newNode_133, w_Mo_newNode_137, w_Mo_newNode_138, w_Mo_newNode_147, w_Mo_newNode_187, w_Mo_newNode_211, w_Mo_newNode_242, s_ic, s_lc, s_null, s_iload, s_lload, s_aload, s_istore, s_lstore, s_astore, s_iinc, s_iadd, s_isub, s_imul, s_iand, s_ior, s_ixor, s_ishl, s_ishr, s_idiv, s_irem, s_ineg, s_ladd, s_lsub, s_lmul, s_lneg, s_ldiv, s_lrem, s_lshl, s_lshr, s_lor, s_land, s_lcmp, s_i2l, s_l2i, s_i2b, s_dup, s_pop, s_dup2, s_dupx1, s_alen, s_ifnull, s_ifnon, s_icmp_eq, s_icmp_ne, s_icmp_lt, s_icmp_ge, s_icmp_gt, s_icmp_le, s_if_eq, s_if_ne, s_if_lt, s_if_ge, s_if_gt, s_if_le, s_getI, s_getL, s_getR, s_putI, s_putZ, s_putL, s_putR, s_iald, s_bald, s_lald, s_aald, s_iast, s_bast, s_last, s_iret, s_zret, s_lret, s_aret, s_vret, s_invS, s_invV, s_tbl, q_tab, s_acopy, s_new, s_newa, s_oinit, s_invI, s_aast, q_nth, qst1, qst2, q_cl1, q_nx, q_ent, qcat, q_cs, q_up_mk, q_cpy_mk, List.cons_append, List.nil_append, List.append_nil, List.replicate, List.take_succ_cons, List.take_zero, List.drop_succ_cons, List.drop_zero, List.reverse_cons, List.reverse_nil, List.length_cons, List.length_nil, List.map_cons, List.map_nil, List.sum_cons, List.sum_nil, Option.toList_some, Option.toList_none, true_and, and_true, true_or, or_true, Nat.sub_zero, Nat.reduceAdd, Nat.reduceSub, Nat.reduceLeDiff, Int.reduceAdd, Int.reduceLE, s_Mo_groups, e_Mo_groups, p_Mo_groups, f_Mo_groups, s_Mo_in, s_Mo_longOf, e_Mo_longOf, p_Mo_longOf, f_Mo_longOf, s_Mo_nodes, e_Mo_nodes, p_Mo_nodes, f_Mo_nodes, sh_280, sh_282, er, z2, t3, t4, t5, e1, e2]
          repeat' (first | with_reducible apply And.intro | with_reducible intro _)
          all_goals first | contradiction | omega | (unfold r32; omega) | (with_reducible refine nx ?_ _ _ <;> omega) | (with_reducible refine ex ?_ <;> omega) | (exfalso; omega)
        · subst h2
          rw [nEq_2 n9] at nx ex
          refine Mo_newNode_43 _ _ _ ?_
          simp only [w_Mo_newNode_0, w_Mo_newNode_25, w_Mo_newNode_27, w_Mo_newNode_37, w_Mo_newNode_38, w_Mo_newNode_43, w_Mo_newNode_133, w_Mo_newNode_137, w_Mo_newNode_138, w_Mo_newNode_147, w_Mo_newNode_187, w_Mo_newNode_211, w_Mo_newNode_242, s_ic, s_lc, s_null, s_iload, s_lload, s_aload, s_istore, s_lstore, s_astore, s_iinc, s_iadd, s_isub, s_imul, s_iand, s_ior, s_ixor, s_ishl, s_ishr, s_idiv, s_irem, s_ineg, s_ladd, s_lsub, s_lmul, s_lneg, s_ldiv, s_lrem, s_lshl, s_lshr, s_lor, s_land, s_lcmp, s_i2l, s_l2i, s_i2b, s_dup, s_pop, s_dup2, s_dupx1, s_alen, s_ifnull, s_ifnon, s_icmp_eq, s_icmp_ne, s_icmp_lt, s_icmp_ge, s_icmp_gt, s_icmp_le, s_if_eq, s_if_ne, s_if_lt, s_if_ge, s_if_gt, s_if_le, s_getI, s_getL, s_getR, s_putI, s_putZ, s_putL, s_putR, s_iald, s_bald, s_lald, s_aald, s_iast, s_bast, s_last, s_iret, s_zret, s_lret, s_aret, s_vret, s_invS, s_invV, s_tbl, q_tab, s_acopy, s_new, s_newa, s_oinit, s_invI, s_aast, q_nth, qst1, qst2, q_cl1, q_nx, q_ent, qcat, q_cs, q_up_mk, q_cpy_mk, List.cons_append, List.nil_append, List.append_nil, List.replicate, List.take_succ_cons, List.take_zero, List.drop_succ_cons, List.drop_zero, List.reverse_cons, List.reverse_nil, List.length_cons, List.length_nil, List.map_cons, List.map_nil, List.sum_cons, List.sum_nil, Option.toList_some, Option.toList_none, true_and, and_true, true_or, or_true, Nat.sub_zero, Nat.reduceAdd, Nat.reduceSub, Nat.reduceLeDiff, Int.reduceAdd, Int.reduceLE, s_Mo_groups, e_Mo_groups, p_Mo_groups, f_Mo_groups, s_Mo_in, s_Mo_longOf, e_Mo_longOf, p_Mo_longOf, f_Mo_longOf, s_Mo_nodes, e_Mo_nodes, p_Mo_nodes, f_Mo_nodes, sh_280, sh_282, er, z2, t3, t4, t5, t6, e1, e2]
          repeat' (first | with_reducible apply And.intro | with_reducible intro _)
          all_goals first | contradiction | omega | (unfold r32; omega) | (with_reducible refine nx ?_ _ _ <;> omega) | (with_reducible refine ex ?_ <;> omega) | (exfalso; omega)
    have fi := inT_1 (v := h.2) (c := q) (lo := 0) (hi := R 2 - 1) (by omega)
    have st := fun (dg : Int) hd => l43 dg hd 0 n0.1 (Int.le_refl 0) (fun j _ _ => by omega) none none
    clear hq0 hq1 l43 sq tr ts hTs s5
    by_cases n9 : R 0 ≤ 9
    · have st1 := st 1 (Or.inl ⟨rfl, n9⟩)
      clear st ok hT
      refine Mo_newNode_0 _ _ _ ?_
      simp only [w_Mo_newNode_0, w_Mo_newNode_25, w_Mo_newNode_27, w_Mo_newNode_37, w_Mo_newNode_38, s_ic, s_lc, s_null, s_iload, s_lload, s_aload, s_istore, s_lstore, s_astore, s_iinc, s_iadd, s_isub, s_imul, s_iand, s_ior, s_ixor, s_ishl, s_ishr, s_idiv, s_irem, s_ineg, s_ladd, s_lsub, s_lmul, s_lneg, s_ldiv, s_lrem, s_lshl, s_lshr, s_lor, s_land, s_lcmp, s_i2l, s_l2i, s_i2b, s_dup, s_pop, s_dup2, s_dupx1, s_alen, s_ifnull, s_ifnon, s_icmp_eq, s_icmp_ne, s_icmp_lt, s_icmp_ge, s_icmp_gt, s_icmp_le, s_if_eq, s_if_ne, s_if_lt, s_if_ge, s_if_gt, s_if_le, s_getI, s_getL, s_getR, s_putI, s_putZ, s_putL, s_putR, s_iald, s_bald, s_lald, s_aald, s_iast, s_bast, s_last, s_iret, s_zret, s_lret, s_aret, s_vret, s_tbl, q_tab, s_acopy, s_new, s_newa, s_oinit, s_aast, q_nth, qst1, qst2, q_cl1, q_nx, q_ent, qcat, q_cs, q_up_mk, q_cpy_mk, List.cons_append, List.nil_append, List.append_nil, List.replicate, List.take_succ_cons, List.take_zero, List.drop_succ_cons, List.drop_zero, List.reverse_cons, List.reverse_nil, List.length_cons, List.length_nil, List.map_cons, List.map_nil, List.sum_cons, List.sum_nil, Option.toList_some, Option.toList_none, true_and, and_true, true_or, or_true, Nat.sub_zero, Nat.reduceAdd, Nat.reduceSub, Nat.reduceLeDiff, Int.reduceAdd, Int.reduceLE, s_sc, s_strC, s_strV, s_alenC, s_baldC, s_gst, s_i2c, s_cret, s_athrow, s_Mo_nodes, e_Mo_nodes, p_Mo_nodes, f_Mo_nodes, s_Mo_groups, e_Mo_groups, p_Mo_groups, f_Mo_groups, s_Mo_in, er, z2, t0, t2, fi, sh_280]
      repeat' (first | with_reducible apply And.intro | with_reducible intro _)
      all_goals first | contradiction | omega | (unfold r32; omega) | (with_reducible exact st1) | (exfalso; omega)
    · have st1 := st 2 (Or.inr ⟨rfl, n9⟩)
      clear st ok hT
      refine Mo_newNode_0 _ _ _ ?_
      simp only [w_Mo_newNode_0, w_Mo_newNode_25, w_Mo_newNode_27, w_Mo_newNode_37, w_Mo_newNode_38, s_ic, s_lc, s_null, s_iload, s_lload, s_aload, s_istore, s_lstore, s_astore, s_iinc, s_iadd, s_isub, s_imul, s_iand, s_ior, s_ixor, s_ishl, s_ishr, s_idiv, s_irem, s_ineg, s_ladd, s_lsub, s_lmul, s_lneg, s_ldiv, s_lrem, s_lshl, s_lshr, s_lor, s_land, s_lcmp, s_i2l, s_l2i, s_i2b, s_dup, s_pop, s_dup2, s_dupx1, s_alen, s_ifnull, s_ifnon, s_icmp_eq, s_icmp_ne, s_icmp_lt, s_icmp_ge, s_icmp_gt, s_icmp_le, s_if_eq, s_if_ne, s_if_lt, s_if_ge, s_if_gt, s_if_le, s_getI, s_getL, s_getR, s_putI, s_putZ, s_putL, s_putR, s_iald, s_bald, s_lald, s_aald, s_iast, s_bast, s_last, s_iret, s_zret, s_lret, s_aret, s_vret, s_tbl, q_tab, s_acopy, s_new, s_newa, s_oinit, s_aast, q_nth, qst1, qst2, q_cl1, q_nx, q_ent, qcat, q_cs, q_up_mk, q_cpy_mk, List.cons_append, List.nil_append, List.append_nil, List.replicate, List.take_succ_cons, List.take_zero, List.drop_succ_cons, List.drop_zero, List.reverse_cons, List.reverse_nil, List.length_cons, List.length_nil, List.map_cons, List.map_nil, List.sum_cons, List.sum_nil, Option.toList_some, Option.toList_none, true_and, and_true, true_or, or_true, Nat.sub_zero, Nat.reduceAdd, Nat.reduceSub, Nat.reduceLeDiff, Int.reduceAdd, Int.reduceLE, s_sc, s_strC, s_strV, s_alenC, s_baldC, s_gst, s_i2c, s_cret, s_athrow, s_Mo_nodes, e_Mo_nodes, p_Mo_nodes, f_Mo_nodes, s_Mo_groups, e_Mo_groups, p_Mo_groups, f_Mo_groups, s_Mo_in, er, z2, t0, t2, fi, sh_280]
      repeat' (first | with_reducible apply And.intro | with_reducible intro _)
      all_goals first | contradiction | omega | (unfold r32; omega) | (with_reducible exact st1) | (exfalso; omega)
  · have st := hq0 (fun y => nq ⟨y.1, y.2.1⟩)
    by_cases na : 0 ≤ q ∧ q < R 2
    · have n24 : R 0 = 24 := by omega
      rw [n24] at t0
      clear hq0 hq1 ok tr hT
      refine Mo_newNode_0 _ _ _ ?_
      simp only [w_Mo_newNode_0, w_Mo_newNode_25, s_ic, s_lc, s_null, s_iload, s_lload, s_aload, s_istore, s_lstore, s_astore, s_iinc, s_iadd, s_isub, s_imul, s_iand, s_ior, s_ixor, s_ishl, s_ishr, s_idiv, s_irem, s_ineg, s_ladd, s_lsub, s_lmul, s_lneg, s_ldiv, s_lrem, s_lshl, s_lshr, s_lor, s_land, s_lcmp, s_i2l, s_l2i, s_i2b, s_dup, s_pop, s_dup2, s_dupx1, s_alen, s_ifnull, s_ifnon, s_icmp_eq, s_icmp_ne, s_icmp_lt, s_icmp_ge, s_icmp_gt, s_icmp_le, s_if_eq, s_if_ne, s_if_lt, s_if_ge, s_if_gt, s_if_le, s_getI, s_getL, s_getR, s_putI, s_putZ, s_putL, s_putR, s_iald, s_bald, s_lald, s_aald, s_iast, s_bast, s_last, s_iret, s_zret, s_lret, s_aret, s_vret, s_tbl, q_tab, s_acopy, s_new, s_newa, s_oinit, s_aast, q_nth, qst1, qst2, q_cl1, q_nx, q_ent, qcat, q_cs, q_up_mk, q_cpy_mk, List.cons_append, List.nil_append, List.append_nil, List.replicate, List.take_succ_cons, List.take_zero, List.drop_succ_cons, List.drop_zero, List.reverse_cons, List.reverse_nil, List.length_cons, List.length_nil, List.map_cons, List.map_nil, List.sum_cons, List.sum_nil, Option.toList_some, Option.toList_none, true_and, and_true, true_or, or_true, Nat.sub_zero, Nat.reduceAdd, Nat.reduceSub, Nat.reduceLeDiff, Int.reduceAdd, Int.reduceLE, s_sc, s_strC, s_strV, s_alenC, s_baldC, s_gst, s_i2c, s_cret, s_athrow, s_Mo_nodes, e_Mo_nodes, p_Mo_nodes, f_Mo_nodes, s_Mo_groups, e_Mo_groups, p_Mo_groups, f_Mo_groups, s_Mo_in, er, z2, t0, t2, sh_280]
      repeat' (first | with_reducible apply And.intro | with_reducible intro _)
      all_goals first | contradiction | omega | (unfold r32; omega) | (exact st) | (exfalso; omega)
    · have fi := inT_0 (v := h.2) (c := q) (lo := 0) (hi := R 2 - 1) (by omega)
      clear hq0 hq1 ok tr hT
      refine Mo_newNode_0 _ _ _ ?_
      simp only [w_Mo_newNode_0, w_Mo_newNode_25, s_ic, s_lc, s_null, s_iload, s_lload, s_aload, s_istore, s_lstore, s_astore, s_iinc, s_iadd, s_isub, s_imul, s_iand, s_ior, s_ixor, s_ishl, s_ishr, s_idiv, s_irem, s_ineg, s_ladd, s_lsub, s_lmul, s_lneg, s_ldiv, s_lrem, s_lshl, s_lshr, s_lor, s_land, s_lcmp, s_i2l, s_l2i, s_i2b, s_dup, s_pop, s_dup2, s_dupx1, s_alen, s_ifnull, s_ifnon, s_icmp_eq, s_icmp_ne, s_icmp_lt, s_icmp_ge, s_icmp_gt, s_icmp_le, s_if_eq, s_if_ne, s_if_lt, s_if_ge, s_if_gt, s_if_le, s_getI, s_getL, s_getR, s_putI, s_putZ, s_putL, s_putR, s_iald, s_bald, s_lald, s_aald, s_iast, s_bast, s_last, s_iret, s_zret, s_lret, s_aret, s_vret, s_tbl, q_tab, s_acopy, s_new, s_newa, s_oinit, s_aast, q_nth, qst1, qst2, q_cl1, q_nx, q_ent, qcat, q_cs, q_up_mk, q_cpy_mk, List.cons_append, List.nil_append, List.append_nil, List.replicate, List.take_succ_cons, List.take_zero, List.drop_succ_cons, List.drop_zero, List.reverse_cons, List.reverse_nil, List.length_cons, List.length_nil, List.map_cons, List.map_nil, List.sum_cons, List.sum_nil, Option.toList_some, Option.toList_none, true_and, and_true, true_or, or_true, Nat.sub_zero, Nat.reduceAdd, Nat.reduceSub, Nat.reduceLeDiff, Int.reduceAdd, Int.reduceLE, s_sc, s_strC, s_strV, s_alenC, s_baldC, s_gst, s_i2c, s_cret, s_athrow, s_Mo_nodes, e_Mo_nodes, p_Mo_nodes, f_Mo_nodes, s_Mo_groups, e_Mo_groups, p_Mo_groups, f_Mo_groups, s_Mo_in, er, z2, t0, t2, fi, sh_280]
      repeat' (first | with_reducible apply And.intro | with_reducible intro _)
      all_goals first | contradiction | omega | (unfold r32; omega) | (exact st) | (exfalso; omega)
