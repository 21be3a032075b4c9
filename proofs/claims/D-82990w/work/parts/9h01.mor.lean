/-! ===== change: a state more ===== -/
theorem nw2_ap {v : Int → Int → Int} {a : Int} {f : Int → Int} {b j : Int} : nw2 v a f b j = if b = a then f j else v b j := rfl
/-- a Graph as its constructor leaves it -/
def mk_Gr (g : Int) (v : Int → Int → Int) : Int → Int → Int := up2 (nw2 (up2 (nw2 (up2 (nw2 (up2 (nw2 (up2 (nw2 (up2 (nw2 (up2 (nw2 (up2 (nw2 (up2 (nw2 (up2 (nw2 (up2 (nw2 (up2 v g 2 1) (g + 1) (fun _ => 0)) g 3 (g + 1)) (g + 2) (fun _ => 0)) g 4 (g + 2)) (g + 3) (fun _ => 0)) g 5 (g + 3)) (g + 4) (fun _ => 0)) g 6 (g + 4)) (g + 5) (fun _ => 0)) g 7 (g + 5)) (g + 6) (fun _ => 0)) g 8 (g + 6)) (g + 7) (fun _ => 0)) g 9 (g + 7)) (g + 8) (fun _ => 0)) g 10 (g + 8)) (g + 9) (fun _ => 0)) g 11 (g + 9)) (g + 10) (fun _ => 0)) g 12 (g + 10)) (g + 11) (fun _ => 0)) g 13 (g + 11)
set_option maxRecDepth 100000 in
theorem ci_Gr {l : Launch} {D : qD} {d rc rs n : Nat} {g : Int} {v : Int → Int → Int} {Q : qQ} (hn : (n : Int) = g) (hg : isG g) (h1 : 11 ≤ rc) (h2 : 536 ≤ rs) (k : Q none ((n + 12, rc - 11, rs - 536), mk_Gr g v)) : qM l D (d + 1, 11, 536) m_Gr_init [.inr (.inr g)] ((n + 1, rc, rs), v) Q := by
  obtain ⟨-, gs, s1, s2, s3, s4, s5, s6, s7, s8, s9, s10, s11⟩ := id hg
  have gs3 : (q_shp g).1 = 3 := by rw [gs]
  refine qM.of (by decide) (Nat.le_of_ble_eq_true rfl) h1 h2 ?_
  refine Gr_init_0 [some (.inr (.inr g))] [] _ ?_
  unfold w_Gr_init_0
  refine ci_obj hg.1 ?_
  refine ci_int hg.1 gs3 ?_
  refine ci_arr (n := n + 1) (rc := 11) (rs := 536) (z := g + 1) (w := 0) hg.1 gs3 (by omega) s1 (by decide) rfl (by decide) (by decide) ?_
  refine ci_arr (n := n + 1 + 1) (rc := 10) (rs := 344) (z := g + 2) (w := 0) hg.1 gs3 (by omega) s2 (by decide) rfl (by decide) (by decide) ?_
  refine ci_arr (n := n + 1 + 1 + 1) (rc := 9) (rs := 280) (z := g + 3) (w := 0) hg.1 gs3 (by omega) s3 (by decide) rfl (by decide) (by decide) ?_
  refine ci_arr (n := n + 1 + 1 + 1 + 1) (rc := 8) (rs := 256) (z := g + 4) (w := 0) hg.1 gs3 (by omega) s4 (by decide) rfl (by decide) (by decide) ?_
  refine ci_arr (n := n + 1 + 1 + 1 + 1 + 1) (rc := 7) (rs := 232) (z := g + 5) (w := 0) hg.1 gs3 (by omega) s5 (by decide) rfl (by decide) (by decide) ?_
  refine ci_arr (n := n + 1 + 1 + 1 + 1 + 1 + 1) (rc := 6) (rs := 208) (z := g + 6) (w := 0) hg.1 gs3 (by omega) s6 (by decide) rfl (by decide) (by decide) ?_
  refine ci_arr (n := n + 1 + 1 + 1 + 1 + 1 + 1 + 1) (rc := 5) (rs := 160) (z := g + 7) (w := 0) hg.1 gs3 (by omega) s7 (by decide) rfl (by decide) (by decide) ?_
  refine ci_arr (n := n + 1 + 1 + 1 + 1 + 1 + 1 + 1 + 1) (rc := 4) (rs := 112) (z := g + 8) (w := 0) hg.1 gs3 (by omega) s8 (by decide) rfl (by decide) (by decide) ?_
  refine ci_arr (n := n + 1 + 1 + 1 + 1 + 1 + 1 + 1 + 1 + 1) (rc := 3) (rs := 64) (z := g + 9) (w := 0) hg.1 gs3 (by omega) s9 (by decide) rfl (by decide) (by decide) ?_
  refine ci_arr (n := n + 1 + 1 + 1 + 1 + 1 + 1 + 1 + 1 + 1 + 1) (rc := 2) (rs := 16) (z := g + 10) (w := 0) hg.1 gs3 (by omega) s10 (by decide) rfl (by decide) (by decide) ?_
  refine ci_arr (n := n + 1 + 1 + 1 + 1 + 1 + 1 + 1 + 1 + 1 + 1 + 1) (rc := 1) (rs := 8) (z := g + 11) (w := 0) hg.1 gs3 (by omega) s11 (by decide) rfl (by decide) (by decide) ?_
  exact k
theorem mkG_c {g c : Int} {v : Int → Int → Int} (h : c < g ∨ g + 11 < c) : mk_Gr g v c = v c := by
  funext j
  simp only [mk_Gr, up2_ap, nw2_ap]
  repeat rw [if_neg (by omega)]
theorem mkG_A {g : Int} {v : Int → Int → Int} : GA (mk_Gr g v) g := by
  unfold GA
  simp only [mk_Gr, up2_ap, nw2_ap, Int.reduceEq, and_false, false_and, if_false, if_true, ite_true, ite_false, reduceIte, ne_ad, ad_ne, ad_ad, and_self]
theorem mkG_10 {g x : Int} {v : Int → Int → Int} : mk_Gr g v (g + 10) x = 0 := by
  simp only [mk_Gr, up2_ap, nw2_ap, Int.reduceEq, and_false, false_and, if_false, if_true, ite_true, ite_false, reduceIte, ne_ad, ad_ne, ad_ad]
set_option maxRecDepth 100000 in
theorem Pl_mo_94 {l : Launch} {D : qD} {d : Nat} {B : Nat × Nat} {P ps g o k : Int} {x y : Option qv} {w : Int → Int → Int} {n : Nat × Nat × Nat} {Q : qQ} (sP : q_shp P = (1, 0)) (P0 : 0 ≤ P) (sps : q_shp ps = (105, 31)) (ps0 : 0 ≤ ps) (e0 : w P 0 = ps) (e1 : w P 1 = k) (kb : 0 ≤ k ∧ k ≤ 29) (eg : w ps (k + 1) = g) (eo : w ps k = o) (isg : isG g) (iso : isG o) (A : GA w g) (A' : GA w o) (ap : o + 11 < g ∨ g + 11 < o)
    (np : (P < g ∨ g + 11 < P) ∧ (ps < g ∨ g + 11 < ps)) (hq : Q (some (.inr (.inr g))) (n, cpN w g o)) : w_Pl_more_94 l D (d + 1) B Q [some (.inr (.inr P)), x, y] [] (n, w) := by
  have gs3 : (q_shp g).1 = 3 := by rw [isg.2.1]
  have g0 := isg.1
  have call : ∀ Q' : qQ, Q' none (n, cpN w g o) → qM l D (d + 1, 0, 0) m_Gr_copy [.inr (.inr g), .inr (.inr o)] (n, w) Q' := fun Q' hq' => sp_Gr_copy (d := d) (h := (n, w)) isg iso A A' ap hq'
  have c0 : cpN w g o P 0 = ps := by rw [cpN_fr np.1]; exact e0
  have c1 : cpN w g o P 1 = k := by rw [cpN_fr np.1]; exact e1
  have c2 : cpN w g o ps (k + 1) = g := by rw [cpN_fr np.2]; exact eg
  clear A A' ap isg iso np
  simp only [w_Pl_more_94, s_ic, s_lc, s_null, s_iload, s_lload, s_aload, s_istore, s_lstore, s_astore, s_iinc, s_iadd, s_isub, s_imul, s_iand, s_ior, s_ixor, s_ishl, s_ishr, s_idiv, s_irem, s_ineg, s_ladd, s_lsub, s_lmul, s_lneg, s_ldiv, s_lrem, s_lshl, s_lshr, s_lor, s_land, s_lcmp, s_i2l, s_l2i, s_i2b, s_dup, s_pop, s_dup2, s_dupx1, s_alen, s_ifnull, s_ifnon, s_icmp_eq, s_icmp_ne, s_icmp_lt, s_icmp_ge, s_icmp_gt, s_icmp_le, s_if_eq, s_if_ne, s_if_lt, s_if_ge, s_if_gt, s_if_le, s_getI, s_getL, s_getR, s_putI, s_putZ, s_putL, s_putR, s_iald, s_bald, s_lald, s_aald, s_iast, s_bast, s_last, s_iret, s_zret, s_lret, s_aret, s_vret, s_tbl, q_tab, s_acopy, s_new, s_newa, s_oinit, s_aast, q_nth, qst1, qst2, q_cl1, q_nx, q_ent, qcat, q_cs, q_up_mk, q_cpy_mk, List.cons_append, List.nil_append, List.append_nil, List.replicate, List.take_succ_cons, List.take_zero, List.drop_succ_cons, List.drop_zero, List.reverse_cons, List.reverse_nil, List.length_cons, List.length_nil, List.map_cons, List.map_nil, List.sum_cons, List.sum_nil, Option.toList_some, Option.toList_none, true_and, and_true, true_or, or_true, Nat.sub_zero, Nat.reduceAdd, Nat.reduceSub, Nat.reduceLeDiff, Int.reduceAdd, Int.reduceLE, s_sc, s_strC, s_strV, s_alenC, s_baldC, s_gst, s_i2c, s_cret, s_athrow, sP, sps, e0, e1, eg, eo]
  repeat' (first | with_reducible apply And.intro | with_reducible intro _)
  all_goals first | contradiction | omega | (unfold r32; omega) | skip
  all_goals (refine ⟨by simp only [List.length_cons, List.length_nil]; omega, Nat.le_of_ble_eq_true rfl, ⟨g0, gs3⟩, ?_⟩)
  all_goals (refine call _ ?_)
  all_goals (simp only [s_ic, s_lc, s_null, s_iload, s_lload, s_aload, s_istore, s_lstore, s_astore, s_iinc, s_iadd, s_isub, s_imul, s_iand, s_ior, s_ixor, s_ishl, s_ishr, s_idiv, s_irem, s_ineg, s_ladd, s_lsub, s_lmul, s_lneg, s_ldiv, s_lrem, s_lshl, s_lshr, s_lor, s_land, s_lcmp, s_i2l, s_l2i, s_i2b, s_dup, s_pop, s_dup2, s_dupx1, s_alen, s_ifnull, s_ifnon, s_icmp_eq, s_icmp_ne, s_icmp_lt, s_icmp_ge, s_icmp_gt, s_icmp_le, s_if_eq, s_if_ne, s_if_lt, s_if_ge, s_if_gt, s_if_le, s_getI, s_getL, s_getR, s_putI, s_putZ, s_putL, s_putR, s_iald, s_bald, s_lald, s_aald, s_iast, s_bast, s_last, s_iret, s_zret, s_lret, s_aret, s_vret, s_tbl, q_tab, s_acopy, s_new, s_newa, s_oinit, s_aast, q_nth, qst1, qst2, q_cl1, q_nx, q_ent, qcat, q_cs, q_up_mk, q_cpy_mk, List.cons_append, List.nil_append, List.append_nil, List.replicate, List.take_succ_cons, List.take_zero, List.drop_succ_cons, List.drop_zero, List.reverse_cons, List.reverse_nil, List.length_cons, List.length_nil, List.map_cons, List.map_nil, List.sum_cons, List.sum_nil, Option.toList_some, Option.toList_none, true_and, and_true, true_or, or_true, Nat.sub_zero, Nat.reduceAdd, Nat.reduceSub, Nat.reduceLeDiff, Int.reduceAdd, Int.reduceLE, s_sc, s_strC, s_strV, s_alenC, s_baldC, s_gst, s_i2c, s_cret, s_athrow, sP, sps, c0, c1, c2])
  repeat' (first | with_reducible apply And.intro | with_reducible intro _)
  all_goals first | contradiction | omega | (unfold r32; omega) | exact hq
