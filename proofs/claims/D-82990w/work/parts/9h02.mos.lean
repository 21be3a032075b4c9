/-! ===== change: Place.more ===== -/
theorem Pl_mo_62a {l : Launch} {D : qD} {d : Nat} {B : Nat × Nat} {P ps g o k : Int} {x y : Option qv} {w : Int → Int → Int} {n : Nat × Nat × Nat} {Q : qQ} (sP : q_shp P = (1, 0)) (P0 : 0 ≤ P) (sps : q_shp ps = (105, 31)) (ps0 : 0 ≤ ps) (e0 : w P 0 = ps) (e1 : w P 1 = k) (kb : 0 ≤ k ∧ k ≤ 29) (eg : w ps (k + 1) = g) (eo : w ps k = o) (isg : isG g) (iso : isG o) (A : GA w g) (A' : GA w o) (ap : o + 11 < g ∨ g + 11 < o)
    (np : (P < g ∨ g + 11 < P) ∧ (ps < g ∨ g + 11 < ps)) (hq : Q (some (.inr (.inr g))) (n, cpN w g o)) : w_Pl_more_62 l D (d + 1) B Q [some (.inr (.inr P)), x, y] [] (n, w) := by
  have nx := Pl_mo_94 (l := l) (D := D) (d := d) (B := B) (x := x) (y := y) sP P0 sps ps0 e0 e1 kb eg eo isg iso A A' ap np hq
  have g0 := isg.1
  clear A A' ap isg iso np hq
  simp only [w_Pl_more_62, s_ic, s_lc, s_null, s_iload, s_lload, s_aload, s_istore, s_lstore, s_astore, s_iinc, s_iadd, s_isub, s_imul, s_iand, s_ior, s_ixor, s_ishl, s_ishr, s_idiv, s_irem, s_ineg, s_ladd, s_lsub, s_lmul, s_lneg, s_ldiv, s_lrem, s_lshl, s_lshr, s_lor, s_land, s_lcmp, s_i2l, s_l2i, s_i2b, s_dup, s_pop, s_dup2, s_dupx1, s_alen, s_ifnull, s_ifnon, s_icmp_eq, s_icmp_ne, s_icmp_lt, s_icmp_ge, s_icmp_gt, s_icmp_le, s_if_eq, s_if_ne, s_if_lt, s_if_ge, s_if_gt, s_if_le, s_getI, s_getL, s_getR, s_putI, s_putZ, s_putL, s_putR, s_iald, s_bald, s_lald, s_aald, s_iast, s_bast, s_last, s_iret, s_zret, s_lret, s_aret, s_vret, s_tbl, q_tab, s_acopy, s_new, s_newa, s_oinit, s_aast, q_nth, qst1, qst2, q_cl1, q_nx, q_ent, qcat, q_cs, q_up_mk, q_cpy_mk, List.cons_append, List.nil_append, List.append_nil, List.replicate, List.take_succ_cons, List.take_zero, List.drop_succ_cons, List.drop_zero, List.reverse_cons, List.reverse_nil, List.length_cons, List.length_nil, List.map_cons, List.map_nil, List.sum_cons, List.sum_nil, Option.toList_some, Option.toList_none, true_and, and_true, true_or, or_true, Nat.sub_zero, Nat.reduceAdd, Nat.reduceSub, Nat.reduceLeDiff, Int.reduceAdd, Int.reduceLE, s_sc, s_strC, s_strV, s_alenC, s_baldC, s_gst, s_i2c, s_cret, s_athrow, sP, sps, e0, e1, eg]
  repeat' (first | with_reducible apply And.intro | with_reducible intro _)
  all_goals first | contradiction | omega | (unfold r32; omega) | with_reducible exact nx | (exfalso; omega)
set_option maxRecDepth 100000 in
theorem Pl_mo_62b {l : Launch} {D : qD} {d : Nat} {B : Nat × Nat} {P ps g o k : Int} {x y : Option qv} {w : Int → Int → Int} {n rc rs : Nat} {Q : qQ} (hn : (n : Int) = g) (h1 : 12 ≤ rc) (h2 : 550 ≤ rs) (sP : q_shp P = (1, 0)) (P0 : 0 ≤ P) (sps : q_shp ps = (105, 31)) (ps0 : 0 ≤ ps) (e0 : w P 0 = ps) (e1 : w P 1 = k) (kb : 0 ≤ k ∧ k ≤ 29) (eg : w ps (k + 1) = -1) (eo : w ps k = o) (isg : isG g) (iso : isG o) (A' : GA w o) (ap : o + 11 < g)
    (np : P < g ∧ ps < g ∧ (ps < o ∨ o + 11 < ps) ∧ P ≠ ps) (hq : Q (some (.inr (.inr g))) ((n + 12, rc - 1 - 11, rs - 14 - 536), cpN (up2 (mk_Gr g (nw2 w g (fun j => qdf (q_ft 3 j.toNat)))) ps (k + 1) g) g o)) : w_Pl_more_62 l D (d + 1) B Q [some (.inr (.inr P)), x, y] [] ((n, rc, rs), w) := by
  obtain ⟨w2, hw2⟩ : ∃ w2, w2 = up2 (mk_Gr g (nw2 w g (fun j => qdf (q_ft 3 j.toNat)))) ps (k + 1) g := ⟨_, rfl⟩
  rw [← hw2] at hq
  have c : ∀ a : Int, a < g → a ≠ ps → w2 a = w a := fun a a1 a2 => by
    rw [hw2, up2_a a2, mkG_c (Or.inl a1)]
    funext j
    rw [nw2_ap, if_neg (by omega)]
  have d0 : w2 P 0 = ps := by rw [c P np.1 np.2.2.2]; exact e0
  have d1 : w2 P 1 = k := by rw [c P np.1 np.2.2.2]; exact e1
  have dg : w2 ps (k + 1) = g := by rw [hw2, up2_at]
  have dk : w2 ps k = o := by
    rw [hw2, up2_k (by omega), mkG_c (Or.inl np.2.1), nw2_ap, if_neg (by omega)]
    exact eo
  have Ag : GA w2 g := by
    have e : w2 g = mk_Gr g (nw2 w g (fun j => qdf (q_ft 3 j.toNat))) g := by rw [hw2, up2_a (by omega)]
    have a := mkG_A (g := g) (v := nw2 w g (fun j => qdf (q_ft 3 j.toNat)))
    unfold GA at a ⊢
    rw [e]
    exact a
  have Ao : GA w2 o := by
    unfold GA at A' ⊢
    rw [c o (by omega) (by omega)]
    exact A'
  have nx := Pl_mo_94 (l := l) (D := D) (d := d) (B := B) (x := x) (y := y) sP P0 sps ps0 d0 d1 kb dg dk isg iso Ag Ao (Or.inl ap) ⟨Or.inl np.1, Or.inl np.2.1⟩ hq
  have call : ∀ Q' : qQ, Q' none ((n + 12, rc - 1 - 11, rs - 14 - 536), mk_Gr g (nw2 w g (fun j => qdf (q_ft 3 j.toNat)))) → qM l D (d + 1, 11, 536) m_Gr_init [.inr (.inr g)] ((n + 1, rc - 1, rs - 14), nw2 w g (fun j => qdf (q_ft 3 j.toNat))) Q' := fun Q' hq' => ci_Gr (d := d) hn isg (by omega) (by omega) hq'
  have gs := isg.2.1
  have g0 := isg.1
  rw [hw2] at nx
  clear A' ap isg iso np hq Ag Ao c d0 d1 dg dk hw2 eo
  simp only [w_Pl_more_62, s_ic, s_lc, s_null, s_iload, s_lload, s_aload, s_istore, s_lstore, s_astore, s_iinc, s_iadd, s_isub, s_imul, s_iand, s_ior, s_ixor, s_ishl, s_ishr, s_idiv, s_irem, s_ineg, s_ladd, s_lsub, s_lmul, s_lneg, s_ldiv, s_lrem, s_lshl, s_lshr, s_lor, s_land, s_lcmp, s_i2l, s_l2i, s_i2b, s_dup, s_pop, s_dup2, s_dupx1, s_alen, s_ifnull, s_ifnon, s_icmp_eq, s_icmp_ne, s_icmp_lt, s_icmp_ge, s_icmp_gt, s_icmp_le, s_if_eq, s_if_ne, s_if_lt, s_if_ge, s_if_gt, s_if_le, s_getI, s_getL, s_getR, s_putI, s_putZ, s_putL, s_putR, s_iald, s_bald, s_lald, s_aald, s_iast, s_bast, s_last, s_iret, s_zret, s_lret, s_aret, s_vret, s_tbl, q_tab, s_acopy, s_new, s_newa, s_oinit, s_aast, q_nth, qst1, qst2, q_cl1, q_nx, q_ent, qcat, q_cs, q_up_mk, q_cpy_mk, List.cons_append, List.nil_append, List.append_nil, List.replicate, List.take_succ_cons, List.take_zero, List.drop_succ_cons, List.drop_zero, List.reverse_cons, List.reverse_nil, List.length_cons, List.length_nil, List.map_cons, List.map_nil, List.sum_cons, List.sum_nil, Option.toList_some, Option.toList_none, true_and, and_true, true_or, or_true, Nat.sub_zero, Nat.reduceAdd, Nat.reduceSub, Nat.reduceLeDiff, Int.reduceAdd, Int.reduceLE, s_sc, s_strC, s_strV, s_alenC, s_baldC, s_gst, s_i2c, s_cret, s_athrow, sP, sps, e0, e1, eg, hn, gs]
  repeat' (first | with_reducible apply And.intro | with_reducible intro _)
  all_goals first | contradiction | omega | (unfold r32; omega) | (exfalso; omega) | skip
  all_goals (refine ⟨by simp only [List.length_cons, List.length_nil]; omega, Nat.le_of_ble_eq_true rfl, g0, ?_⟩)
  all_goals (refine call _ ?_)
  all_goals (simp only [s_ic, s_lc, s_null, s_iload, s_lload, s_aload, s_istore, s_lstore, s_astore, s_iinc, s_iadd, s_isub, s_imul, s_iand, s_ior, s_ixor, s_ishl, s_ishr, s_idiv, s_irem, s_ineg, s_ladd, s_lsub, s_lmul, s_lneg, s_ldiv, s_lrem, s_lshl, s_lshr, s_lor, s_land, s_lcmp, s_i2l, s_l2i, s_i2b, s_dup, s_pop, s_dup2, s_dupx1, s_alen, s_ifnull, s_ifnon, s_icmp_eq, s_icmp_ne, s_icmp_lt, s_icmp_ge, s_icmp_gt, s_icmp_le, s_if_eq, s_if_ne, s_if_lt, s_if_ge, s_if_gt, s_if_le, s_getI, s_getL, s_getR, s_putI, s_putZ, s_putL, s_putR, s_iald, s_bald, s_lald, s_aald, s_iast, s_bast, s_last, s_iret, s_zret, s_lret, s_aret, s_vret, s_tbl, q_tab, s_acopy, s_new, s_newa, s_oinit, s_aast, q_nth, qst1, qst2, q_cl1, q_nx, q_ent, qcat, q_cs, q_up_mk, q_cpy_mk, List.cons_append, List.nil_append, List.append_nil, List.replicate, List.take_succ_cons, List.take_zero, List.drop_succ_cons, List.drop_zero, List.reverse_cons, List.reverse_nil, List.length_cons, List.length_nil, List.map_cons, List.map_nil, List.sum_cons, List.sum_nil, Option.toList_some, Option.toList_none, true_and, and_true, true_or, or_true, Nat.sub_zero, Nat.reduceAdd, Nat.reduceSub, Nat.reduceLeDiff, Int.reduceAdd, Int.reduceLE, s_sc, s_strC, s_strV, s_alenC, s_baldC, s_gst, s_i2c, s_cret, s_athrow, sP, sps, gs])
  repeat' (first | with_reducible apply And.intro | with_reducible intro _)
  all_goals first | contradiction | omega | (unfold r32; omega) | with_reducible exact nx | (exfalso; omega)
def moN (k : Int) : Int := if k = 30 then 29 else k
def moP (v : Int → Int → Int) (gi g k : Int) : Int := if v (pcO gi) 1 = 30 then (if k = 30 then g else v (psO gi) (k + 1)) else if k = v (pcO gi) 1 + 1 then g else v (psO gi) k
def moS (gi g a j : Int) : Prop := (a = 3 + 27 * gi ∧ j = 1) ∨ a = 4 + 27 * gi ∨ (g ≤ a ∧ a ≤ g + 11 ∧ (a = g → 399 ≤ g ∨ (0 ≤ j ∧ j ≤ 2)))
/-- what is so behind a state more: its graph is g, a copy of the one at hand -/
def MOR (gi : Int) (nc nc' : Nat) (v : Int → Int → Int) (g : Int) (v' : Int → Int → Int) : Prop :=
  ((nc ≤ nc' ∧ ((nc' : Int) - 399) % 12 = 0) ∧ gcl nc' g ∧ ((nc : Int) ≤ g ∨ ∃ k, (0 ≤ k ∧ k ≤ 30) ∧ v (psO gi) k = g)) ∧ FV (moS gi g) v v' ∧
  (v' (pcO gi) 1 = moN (v (pcO gi) 1) ∧ ∀ k : Int, 0 ≤ k → k ≤ 30 → v' (psO gi) k = moP v gi g k) ∧ ∀ R, CR v (gNow v gi) R → GOK R → CR v' g R
/-- cells of a place lie apart from graphs -/
theorem pl_ap {gi g : Int} (hg : 0 ≤ gi ∧ gi < 4) (gl : (g = 18 ∨ g = 45 ∨ g = 72 ∨ g = 99) ∨ 399 ≤ g) : ((3 + 27 * gi < g ∨ g + 11 < 3 + 27 * gi) ∧ (4 + 27 * gi < g ∨ g + 11 < 4 + 27 * gi)) := by
  rcases gl with (e | e | e | e) | e
  · subst e; omega
  · subst e; omega
  · subst e; omega
  · subst e; omega
  · omega
/-- the next state has a graph already -/
theorem MOR_a {gi : Int} {nc : Nat} {v : Int → Int → Int} {g o : Int} (hg : 0 ≤ gi ∧ gi < 4) (nm : ((nc : Int) - 399) % 12 = 0) (k30 : 0 ≤ v (pcO gi) 1 ∧ v (pcO gi) 1 ≤ 29) (eo : gNow v gi = o) (eg : v (psO gi) (v (pcO gi) 1 + 1) = g) (gc : gcl nc g) (A : GA v g) (ap : o + 11 < g ∨ g + 11 < o) : MOR gi nc nc v g (cpN v g o) := by
  have np := pl_ap hg (gcl_l gc)
  refine ⟨⟨⟨Nat.le_refl _, nm⟩, gc, Or.inr ⟨_, ⟨by omega, by omega⟩, eg⟩⟩, cpN_fv FV.rf (fun a j h1 h2 h3 => Or.inr (Or.inr ⟨h1, h2, fun e => Or.inr (h3 e)⟩)), ⟨?_, fun k k0 k1 => ?_⟩, fun R cr ok => ?_⟩
  · show cpN v g o (3 + 27 * gi) 1 = moN (v (3 + 27 * gi) 1)
    have z : v (3 + 27 * gi) 1 ≤ 29 := k30.2
    rw [cpN_fr np.1]
    unfold moN
    rw [if_neg (by omega)]
  · show cpN v g o (4 + 27 * gi) k = moP v gi g k
    rw [cpN_fr np.2]
    unfold moP
    rw [if_neg (by omega)]
    by_cases e : k = v (pcO gi) 1 + 1
    · rw [if_pos e, e]; exact eg
    · rw [if_neg e]
  · rw [eo] at cr
    exact cr.cp ok gc.g A ap
/-- the next state's graph is made -/
theorem MOR_b {gi : Int} {nc : Nat} {v : Int → Int → Int} {g o : Int} (hg : 0 ≤ gi ∧ gi < 4) (n399 : (399 : Int) ≤ nc) (nm : ((nc : Int) - 399) % 12 = 0) (k30 : 0 ≤ v (pcO gi) 1 ∧ v (pcO gi) 1 ≤ 29) (eo : gNow v gi = o) (hn : (nc : Int) = g) (gco : gcl nc o) : MOR gi nc (nc + 12) v g (cpN (up2 (mk_Gr g (nw2 v g (fun j => qdf (q_ft 3 j.toNat)))) (psO gi) (v (pcO gi) 1 + 1) g) g o) := by
  have gc : gcl ((nc + 12 : Nat) : Int) g := Or.inr ⟨by omega, by omega, by omega⟩
  have np := pl_ap hg (gcl_l gc)
  have ap : o + 11 < g := by rcases gco with e | e <;> omega
  obtain ⟨w2, hw2⟩ : ∃ w2, w2 = up2 (mk_Gr g (nw2 v g (fun j => qdf (q_ft 3 j.toNat)))) (psO gi) (v (pcO gi) 1 + 1) g := ⟨_, rfl⟩
  have c : ∀ a : Int, (a < g ∨ g + 11 < a) → a ≠ 4 + 27 * gi → w2 a = v a := fun a a1 a2 => by
    rw [hw2, up2_a a2, mkG_c a1]
    funext j
    rw [nw2_ap, if_neg (by omega)]
  have e4 : ∀ j : Int, j ≠ v (pcO gi) 1 + 1 → w2 (4 + 27 * gi) j = v (4 + 27 * gi) j := fun j hj => by
    rw [hw2]
    show up2 _ (4 + 27 * gi) (v (pcO gi) 1 + 1) g (4 + 27 * gi) j = _
    rw [up2_k hj, mkG_c np.2, nw2_ap, if_neg (by omega)]
  have f2 : FV (moS gi g) v w2 := fun a j q => by
    have a4 : a ≠ 4 + 27 * gi := fun e => q (Or.inr (Or.inl e))
    by_cases z : a < g ∨ g + 11 < a
    · rw [c a z a4]
    · exact absurd (Or.inr (Or.inr ⟨by omega, by omega, fun _ => Or.inl (by omega)⟩)) q
  have A : GA w2 g := by
    have a := mkG_A (g := g) (v := nw2 v g (fun j => qdf (q_ft 3 j.toNat)))
    have e : w2 g = mk_Gr g (nw2 v g (fun j => qdf (q_ft 3 j.toNat))) g := by rw [hw2]; exact up2_a (by simp only [psO]; omega)
    unfold GA at a ⊢
    rw [e]
    exact a
  have eg : w2 (4 + 27 * gi) (v (pcO gi) 1 + 1) = g := by rw [hw2]; exact up2_at _ _ _ _
  rw [← hw2]
  refine ⟨⟨⟨by omega, by omega⟩, gc, Or.inl (by omega)⟩, cpN_fv f2 (fun a j h1 h2 h3 => Or.inr (Or.inr ⟨h1, h2, fun e => Or.inr (h3 e)⟩)), ⟨?_, fun k k0 k1 => ?_⟩, fun R cr ok => ?_⟩
  · show cpN w2 g o (3 + 27 * gi) 1 = moN (v (3 + 27 * gi) 1)
    have z : v (3 + 27 * gi) 1 ≤ 29 := k30.2
    rw [cpN_fr np.1, c _ np.1 (by omega)]
    unfold moN
    rw [if_neg (by omega)]
  · show cpN w2 g o (4 + 27 * gi) k = moP v gi g k
    rw [cpN_fr np.2]
    unfold moP
    rw [if_neg (by omega)]
    by_cases e : k = v (pcO gi) 1 + 1
    · rw [if_pos e, e]; exact eg
    · rw [if_neg e, e4 k e]
  · rw [eo] at cr
    refine CR.cp (cr.cg (fun j j0 j1 => c _ (by omega) ?_)) ok gc.g A (Or.inl ap)
    have := pl_ap hg (gcl_l gco)
    omega
/-- the states turn round -/
theorem MOR_c {gi : Int} {nc : Nat} {v : Int → Int → Int} {g o : Int} (hg : 0 ≤ gi ∧ gi < 4) (nm : ((nc : Int) - 399) % 12 = 0) (k30 : v (pcO gi) 1 = 30) (eo : gNow v gi = o) (eg : v (psO gi) 0 = g) (gc : gcl nc g) (gco : gcl nc o) (A : GA v g) (ap : o + 11 < g ∨ g + 11 < o) : MOR gi nc nc v g (cpN (up2 (up2 (mv2 v (psO gi) 1 0 30) (psO gi) 30 g) (pcO gi) 1 29) g o) := by
  have np := pl_ap hg (gcl_l gc)
  obtain ⟨w2, hw2⟩ : ∃ w2, w2 = up2 (up2 (mv2 v (psO gi) 1 0 30) (psO gi) 30 g) (pcO gi) 1 29 := ⟨_, rfl⟩
  have c : ∀ a : Int, a ≠ 3 + 27 * gi → a ≠ 4 + 27 * gi → w2 a = v a := fun a a1 a2 => by
    rw [hw2, up2_a a1, up2_a a2, mv2_a a2]
  have f2 : FV (moS gi g) v w2 := fun a j q => by
    have a4 : a ≠ 4 + 27 * gi := fun e => q (Or.inr (Or.inl e))
    by_cases z : a = 3 + 27 * gi
    · have j1 : j ≠ 1 := fun e => q (Or.inl ⟨z, e⟩)
      rw [hw2, z]
      show up2 _ (3 + 27 * gi) 1 29 (3 + 27 * gi) j = _
      rw [up2_k j1, up2_a (by simp only [psO]; omega), mv2_a (by simp only [psO]; omega)]
    · rw [c a z a4]
  have e4 : ∀ k : Int, 0 ≤ k → k ≤ 30 → w2 (4 + 27 * gi) k = if k = 30 then g else v (4 + 27 * gi) (k + 1) := fun k k0 k1 => by
    rw [hw2]
    show up2 (up2 (mv2 v (4 + 27 * gi) 1 0 30) (4 + 27 * gi) 30 g) (3 + 27 * gi) 1 29 (4 + 27 * gi) k = _
    rw [up2_a (by omega)]
    by_cases e : k = 30
    · rw [if_pos e, e, up2_at]
    · rw [if_neg e, up2_k e]
      unfold mv2
      rw [if_pos ⟨rfl, by omega, by omega⟩, show k - 0 + 1 = k + 1 by omega]
  have A2 : GA w2 g := by
    unfold GA at A ⊢
    rw [c g (by omega) (by omega)]
    exact A
  rw [← hw2]
  refine ⟨⟨⟨Nat.le_refl _, nm⟩, gc, Or.inr ⟨0, ⟨by omega, by omega⟩, eg⟩⟩, cpN_fv f2 (fun a j h1 h2 h3 => Or.inr (Or.inr ⟨h1, h2, fun e => Or.inr (h3 e)⟩)), ⟨?_, fun k k0 k1 => ?_⟩, fun R cr ok => ?_⟩
  · show cpN w2 g o (3 + 27 * gi) 1 = moN (v (pcO gi) 1)
    rw [cpN_fr np.1, hw2, k30]
    show up2 _ (3 + 27 * gi) 1 29 (3 + 27 * gi) 1 = _
    rw [up2_at]
    rfl
  · show cpN w2 g o (4 + 27 * gi) k = moP v gi g k
    rw [cpN_fr np.2, e4 k k0 k1]
    unfold moP
    rw [if_pos k30]
  · rw [eo] at cr
    have := pl_ap hg (gcl_l gco)
    exact CR.cp (cr.cg (fun j j0 j1 => c _ (by omega) (by omega))) ok gc.g A2 ap
theorem GA_eq {v u : Int → Int → Int} {g : Int} (e : u g = v g) (a : GA v g) : GA u g := by
  unfold GA at a ⊢
  rw [e]
  exact a
theorem pl_ne {gi g : Int} (h : (3 + 27 * gi < g ∨ g + 11 < 3 + 27 * gi) ∧ (4 + 27 * gi < g ∨ g + 11 < 4 + 27 * gi)) : g ≠ 3 + 27 * gi ∧ g ≠ 4 + 27 * gi := by omega
theorem rot_c {gi g : Int} {v u : Int → Int → Int} (hu : u = up2 (up2 (mv2 v (psO gi) 1 0 30) (psO gi) 30 g) (pcO gi) 1 29) : (∀ a : Int, a ≠ 3 + 27 * gi → a ≠ 4 + 27 * gi → u a = v a) ∧ u (3 + 27 * gi) 0 = v (3 + 27 * gi) 0 ∧ u (3 + 27 * gi) 1 = 29 ∧ u (4 + 27 * gi) 30 = g ∧ u (4 + 27 * gi) 29 = v (4 + 27 * gi) 30 := by
  have hu' : u = up2 (up2 (mv2 v (4 + 27 * gi) 1 0 30) (4 + 27 * gi) 30 g) (3 + 27 * gi) 1 29 := hu
  rw [hu']
  have ne : (3 + 27 * gi : Int) ≠ 4 + 27 * gi := by omega
  refine ⟨fun a a1 a2 => by rw [up2_a a1, up2_a a2, mv2_a a2], ?_, ?_, ?_, ?_⟩
  · rw [up2_k (by decide), up2_a ne, mv2_a ne]
  · rw [up2_at]
  · rw [up2_a (Ne.symm ne), up2_at]
  · rw [up2_a (Ne.symm ne), up2_k (by decide)]
    unfold mv2
    rw [if_pos ⟨rfl, by decide, by decide⟩]
    rfl
set_option maxRecDepth 100000 in
theorem sp_Pl_more {l : Launch} {D : qD} {d : Nat} {gi : Int} {h : qh} {Q : qQ} (R : REL h.1.1 h.2) (hg : 0 ≤ gi ∧ gi < 4) (hc : 12 ≤ h.1.2.1) (hs : 550 ≤ h.1.2.2)
    (hq : ∀ nc' g v, MOR gi h.1.1 nc' h.2 g v → Q (some (.inr (.inr g))) ((nc', h.1.2.1 - 12, h.1.2.2 - 550), v)) : qM l D (d + 2, 12, 550) m_Pl_more [.inr (.inr (3 + 27 * gi))] h Q := by
  have hw := R.1.1.1
  have n399 := R.1.2.1
  have nm := R.1.2.2
  obtain ⟨⟨-, k0, kl, l30⟩, p2, p3⟩ := R.2.1.1 gi hg
  have ds := R.2.1.2
  obtain ⟨⟨-, e0, -⟩, ⟨sP, sps, -⟩, -, ⟨P0, ps0, -⟩, -⟩ := isPs_f hw (isPs_O hg)
  have sP' : q_shp (3 + 27 * gi) = (1, 0) := sP
  have sps' : q_shp (4 + 27 * gi) = (105, 31) := sps
  have e0' : h.2 (3 + 27 * gi) 0 = 4 + 27 * gi := e0
  obtain ⟨k, hk⟩ : ∃ k, k = h.2 (3 + 27 * gi) 1 := ⟨_, rfl⟩
  have hk' : h.2 (pcO gi) 1 = k := hk.symm
  rw [hk'] at k0 kl
  obtain ⟨gco, Ro, cro, -, -⟩ := p3 k k0 kl
  obtain ⟨o, ho⟩ : ∃ o, o = h.2 (4 + 27 * gi) k := ⟨_, rfl⟩
  have eo : gNow h.2 gi = o := by unfold gNow; rw [hk']; exact ho.symm
  have ho' : h.2 (psO gi) k = o := ho.symm
  rw [ho'] at gco cro
  have o0 := gco.g.1
  have apo := pl_ap hg (gcl_l gco)
  refine qM.of (by decide) (Nat.le_of_ble_eq_true rfl) hc hs ?_
  by_cases z : k = 30
  · -- the states turn round
    obtain ⟨gc, Rg, crg, -, -⟩ := p3 0 (by omega) (by omega)
    obtain ⟨g, hgg⟩ : ∃ g, g = h.2 (4 + 27 * gi) 0 := ⟨_, rfl⟩
    have hg' : h.2 (psO gi) 0 = g := hgg.symm
    rw [hg'] at gc crg
    have ne : g ≠ o := fun e => by
      have := (ds gi 0 gi k hg (by omega) hg (by omega) (by rw [hg']; have := gc.g.1; omega) (by rw [hg', ho']; exact e)).2
      omega
    have ap : o + 11 < g ∨ g + 11 < o := gcl_ap gc gco ne
    have apg := pl_ap hg (gcl_l gc)
    have fin := hq _ _ _ (MOR_c hg nm (by rw [hk']; exact z) eo hg' gc gco crg.1.2 ap)
    have nx : ∀ (x y : Option qv) (u : Int → Int → Int), u = up2 (up2 (mv2 h.2 (psO gi) 1 0 30) (psO gi) 30 g) (pcO gi) 1 29 → w_Pl_more_62 l D (d + 1) (12, 550) (fun r h' => Q r ((h'.1.1, h.1.2.1 - 12, h.1.2.2 - 550), h'.2)) [some (.inr (.inr (3 + 27 * gi))), x, y] [] ((h.1.1, 12, 550), u) := fun x y u hu => by
      obtain ⟨c, f0, f1, f30, f29⟩ := rot_c hu
      have pg := pl_ne apg
      have po := pl_ne apo
      exact Pl_mo_62a (d := d) (k := 29) (o := o) (g := g) sP' P0 sps' ps0 (f0.trans e0') f1 (by decide) f30 (f29.trans (by rw [← z]; exact ho.symm)) gc.g gco.g (GA_eq (c g pg.1 pg.2) crg.1.2) (GA_eq (c o po.1 po.2) cro.1.2) ap apg (by rw [hu]; exact fin)
    have loop : ∀ j, j ≤ 31 → 1 ≤ j → ∀ w, w = mv2 h.2 (4 + 27 * gi) 1 0 (j - 1) → qR l D (d + 2, 12, 550) m_Pl_more 18 (fun r h' => Q r ((h'.1.1, h.1.2.1 - 12, h.1.2.2 - 550), h'.2)) [some (.inr (.inr (3 + 27 * gi))), some (.inr (.inr g)), some (.inl j)] [] ((h.1.1, 12, 550), w) := by
      have g0 := gc.g.1
      have gs := gc.g.2.1
      refine up_loop _ ?_ ?_
      · intro _ w hw'
        have c0 : w (3 + 27 * gi) 0 = 4 + 27 * gi := by rw [hw', mv2_a (by omega)]; exact e0'
        have c1 : w (3 + 27 * gi) 1 = 30 := by rw [hw', mv2_a (by omega), ← hk, z]
        have st : ∀ (x y : Option qv) (u : Int), u = 29 → w_Pl_more_62 l D (d + 1) (12, 550) (fun r h' => Q r ((h'.1.1, h.1.2.1 - 12, h.1.2.2 - 550), h'.2)) [some (.inr (.inr (3 + 27 * gi))), x, y] [] ((h.1.1, 12, 550), up2 (up2 w (4 + 27 * gi) 30 g) (3 + 27 * gi) 1 u) := fun x y u hu => nx x y _ (by rw [hu, hw']; rfl)
        have c1' : ∀ y, up2 w (4 + 27 * gi) 30 y (3 + 27 * gi) 1 = 30 := fun y => by rw [up2_a (by omega)]; exact c1
        clear nx fin hq R hw p2 p3 ds cro crg
        refine Pl_more_18 _ _ _ ?_
        simp only [w_Pl_more_18, w_Pl_more_44, s_ic, s_lc, s_null, s_iload, s_lload, s_aload, s_istore, s_lstore, s_astore, s_iinc, s_iadd, s_isub, s_imul, s_iand, s_ior, s_ixor, s_ishl, s_ishr, s_idiv, s_irem, s_ineg, s_ladd, s_lsub, s_lmul, s_lneg, s_ldiv, s_lrem, s_lshl, s_lshr, s_lor, s_land, s_lcmp, s_i2l, s_l2i, s_i2b, s_dup, s_pop, s_dup2, s_dupx1, s_alen, s_ifnull, s_ifnon, s_icmp_eq, s_icmp_ne, s_icmp_lt, s_icmp_ge, s_icmp_gt, s_icmp_le, s_if_eq, s_if_ne, s_if_lt, s_if_ge, s_if_gt, s_if_le, s_getI, s_getL, s_getR, s_putI, s_putZ, s_putL, s_putR, s_iald, s_bald, s_lald, s_aald, s_iast, s_bast, s_last, s_iret, s_zret, s_lret, s_aret, s_vret, s_tbl, q_tab, s_acopy, s_new, s_newa, s_oinit, s_aast, q_nth, qst1, qst2, q_cl1, q_nx, q_ent, qcat, q_cs, q_up_mk, q_cpy_mk, List.cons_append, List.nil_append, List.append_nil, List.replicate, List.take_succ_cons, List.take_zero, List.drop_succ_cons, List.drop_zero, List.reverse_cons, List.reverse_nil, List.length_cons, List.length_nil, List.map_cons, List.map_nil, List.sum_cons, List.sum_nil, Option.toList_some, Option.toList_none, true_and, and_true, true_or, or_true, Nat.sub_zero, Nat.reduceAdd, Nat.reduceSub, Nat.reduceLeDiff, Int.reduceAdd, Int.reduceLE, s_sc, s_strC, s_strV, s_alenC, s_baldC, s_gst, s_i2c, s_cret, s_athrow, sP', sps', c0, c1, c1', gs]
        repeat' (first | with_reducible apply And.intro | with_reducible intro _)
        all_goals first | contradiction | omega | (unfold r32; omega) | (exact st _ _ _ (by omega)) | (exfalso; omega)
      · intro j hj ih j1 w hw'
        have c0 : w (3 + 27 * gi) 0 = 4 + 27 * gi := by rw [hw', mv2_a (by omega)]; exact e0'
        obtain ⟨gcj, -⟩ := p3 j (by omega) (by omega)
        have cj : w (4 + 27 * gi) j = h.2 (4 + 27 * gi) j := by rw [hw']; unfold mv2; rw [if_neg (by omega)]
        have gj0 : 0 ≤ h.2 (4 + 27 * gi) j := gcj.g.1
        have gjs : q_shp (h.2 (4 + 27 * gi) j) = (3, 0) := gcj.g.2.1
        have st := ih (by omega) (up2 w (4 + 27 * gi) (j - 1) (h.2 (4 + 27 * gi) j)) (by
          rw [hw']
          funext a x
          rw [up2_ap]
          unfold mv2
          by_cases e : a = 4 + 27 * gi ∧ x = j - 1
          · rw [if_pos e, if_pos ⟨e.1, by omega, by omega⟩, e.2, show j - 1 - 0 + 1 = j by omega]
          · rw [if_neg e]
            by_cases y : a = 4 + 27 * gi ∧ 0 ≤ x ∧ x < 0 + (j - 1)
            · rw [if_pos y, if_pos ⟨y.1, by omega, by omega⟩]
            · rw [if_neg y, if_neg (by omega)])
        clear nx fin hq R hw p2 p3 ds cro crg ih gcj
        refine Pl_more_18 _ _ _ ?_
        simp only [w_Pl_more_18, s_ic, s_lc, s_null, s_iload, s_lload, s_aload, s_istore, s_lstore, s_astore, s_iinc, s_iadd, s_isub, s_imul, s_iand, s_ior, s_ixor, s_ishl, s_ishr, s_idiv, s_irem, s_ineg, s_ladd, s_lsub, s_lmul, s_lneg, s_ldiv, s_lrem, s_lshl, s_lshr, s_lor, s_land, s_lcmp, s_i2l, s_l2i, s_i2b, s_dup, s_pop, s_dup2, s_dupx1, s_alen, s_ifnull, s_ifnon, s_icmp_eq, s_icmp_ne, s_icmp_lt, s_icmp_ge, s_icmp_gt, s_icmp_le, s_if_eq, s_if_ne, s_if_lt, s_if_ge, s_if_gt, s_if_le, s_getI, s_getL, s_getR, s_putI, s_putZ, s_putL, s_putR, s_iald, s_bald, s_lald, s_aald, s_iast, s_bast, s_last, s_iret, s_zret, s_lret, s_aret, s_vret, s_tbl, q_tab, s_acopy, s_new, s_newa, s_oinit, s_aast, q_nth, qst1, qst2, q_cl1, q_nx, q_ent, qcat, q_cs, q_up_mk, q_cpy_mk, List.cons_append, List.nil_append, List.append_nil, List.replicate, List.take_succ_cons, List.take_zero, List.drop_succ_cons, List.drop_zero, List.reverse_cons, List.reverse_nil, List.length_cons, List.length_nil, List.map_cons, List.map_nil, List.sum_cons, List.sum_nil, Option.toList_some, Option.toList_none, true_and, and_true, true_or, or_true, Nat.sub_zero, Nat.reduceAdd, Nat.reduceSub, Nat.reduceLeDiff, Int.reduceAdd, Int.reduceLE, s_sc, s_strC, s_strV, s_alenC, s_baldC, s_gst, s_i2c, s_cret, s_athrow, sP', sps', c0, cj, gjs]
        repeat' (first | with_reducible apply And.intro | with_reducible intro _)
        all_goals first | contradiction | omega | (unfold r32; omega) | (with_reducible exact st) | (exfalso; omega)
    have st := loop 1 (by decide) (by decide) h.2 (by
      funext a x
      unfold mv2
      rw [if_neg (by omega)])
    have g0 := gc.g.1
    have gs := gc.g.2.1
    have k30 : h.2 (3 + 27 * gi) 1 = 30 := by rw [← hk]; exact z
    clear nx fin hq R hw p2 p3 ds cro crg loop
    refine Pl_more_0 [some (.inr (.inr (3 + 27 * gi))), none, none] [] _ ?_
    simp only [w_Pl_more_0, s_ic, s_lc, s_null, s_iload, s_lload, s_aload, s_istore, s_lstore, s_astore, s_iinc, s_iadd, s_isub, s_imul, s_iand, s_ior, s_ixor, s_ishl, s_ishr, s_idiv, s_irem, s_ineg, s_ladd, s_lsub, s_lmul, s_lneg, s_ldiv, s_lrem, s_lshl, s_lshr, s_lor, s_land, s_lcmp, s_i2l, s_l2i, s_i2b, s_dup, s_pop, s_dup2, s_dupx1, s_alen, s_ifnull, s_ifnon, s_icmp_eq, s_icmp_ne, s_icmp_lt, s_icmp_ge, s_icmp_gt, s_icmp_le, s_if_eq, s_if_ne, s_if_lt, s_if_ge, s_if_gt, s_if_le, s_getI, s_getL, s_getR, s_putI, s_putZ, s_putL, s_putR, s_iald, s_bald, s_lald, s_aald, s_iast, s_bast, s_last, s_iret, s_zret, s_lret, s_aret, s_vret, s_tbl, q_tab, s_acopy, s_new, s_newa, s_oinit, s_aast, q_nth, qst1, qst2, q_cl1, q_nx, q_ent, qcat, q_cs, q_up_mk, q_cpy_mk, List.cons_append, List.nil_append, List.append_nil, List.replicate, List.take_succ_cons, List.take_zero, List.drop_succ_cons, List.drop_zero, List.reverse_cons, List.reverse_nil, List.length_cons, List.length_nil, List.map_cons, List.map_nil, List.sum_cons, List.sum_nil, Option.toList_some, Option.toList_none, true_and, and_true, true_or, or_true, Nat.sub_zero, Nat.reduceAdd, Nat.reduceSub, Nat.reduceLeDiff, Int.reduceAdd, Int.reduceLE, s_sc, s_strC, s_strV, s_alenC, s_baldC, s_gst, s_i2c, s_cret, s_athrow, sP', sps', e0', k30, ← hgg]
    repeat' (first | with_reducible apply And.intro | with_reducible intro _)
    all_goals first | contradiction | omega | (unfold r32; omega) | (with_reducible exact st) | skip
  · -- there is room
    have st : ∀ (x y : Option qv), w_Pl_more_62 l D (d + 1) (12, 550) (fun r h' => Q r ((h'.1.1, h.1.2.1 - 12, h.1.2.2 - 550), h'.2)) [some (.inr (.inr (3 + 27 * gi))), x, y] [] ((h.1.1, 12, 550), h.2) := fun x y => by
      rcases p2 (k + 1) (by omega) (by omega) with e | ⟨gc, A, -⟩
      · obtain ⟨g, hgn⟩ : ∃ g : Int, (h.1.1 : Int) = g := ⟨_, rfl⟩
        have gc : gcl ((h.1.1 + 12 : Nat) : Int) g := Or.inr ⟨by omega, by omega, by omega⟩
        have fin := hq _ _ _ (MOR_b hg n399 nm (by rw [hk']; omega) eo hgn gco)
        rw [hk'] at fin
        have ap : o + 11 < g := by rcases gco with e | e <;> omega
        exact Pl_mo_62b (d := d) hgn (by decide) (by decide) sP' P0 sps' ps0 e0' hk.symm (by omega) e ho.symm gc.g gco.g cro.1.2 ap ⟨by omega, by omega, by have := apo.2; omega, by omega⟩ fin
      · obtain ⟨g, hgg⟩ : ∃ g, g = h.2 (4 + 27 * gi) (k + 1) := ⟨_, rfl⟩
        have hg' : h.2 (psO gi) (k + 1) = g := hgg.symm
        rw [hg'] at gc A
        have ne : g ≠ o := fun e => by
          have := (ds gi (k + 1) gi k hg (by omega) hg (by omega) (by rw [hg']; have := gc.g.1; omega) (by rw [hg', ho']; exact e)).2
          omega
        have ap : o + 11 < g ∨ g + 11 < o := gcl_ap gc gco ne
        exact Pl_mo_62a (d := d) sP' P0 sps' ps0 e0' hk.symm (by omega) hgg.symm ho.symm gc.g gco.g A cro.1.2 ap (pl_ap hg (gcl_l gc)) (hq _ _ _ (MOR_a hg nm (by rw [hk']; omega) eo (by rw [hk']; exact hg') gc A ap))
    clear hq R hw p2 p3 ds cro
    refine Pl_more_0 [some (.inr (.inr (3 + 27 * gi))), none, none] [] _ ?_
    simp only [w_Pl_more_0, s_ic, s_lc, s_null, s_iload, s_lload, s_aload, s_istore, s_lstore, s_astore, s_iinc, s_iadd, s_isub, s_imul, s_iand, s_ior, s_ixor, s_ishl, s_ishr, s_idiv, s_irem, s_ineg, s_ladd, s_lsub, s_lmul, s_lneg, s_ldiv, s_lrem, s_lshl, s_lshr, s_lor, s_land, s_lcmp, s_i2l, s_l2i, s_i2b, s_dup, s_pop, s_dup2, s_dupx1, s_alen, s_ifnull, s_ifnon, s_icmp_eq, s_icmp_ne, s_icmp_lt, s_icmp_ge, s_icmp_gt, s_icmp_le, s_if_eq, s_if_ne, s_if_lt, s_if_ge, s_if_gt, s_if_le, s_getI, s_getL, s_getR, s_putI, s_putZ, s_putL, s_putR, s_iald, s_bald, s_lald, s_aald, s_iast, s_bast, s_last, s_iret, s_zret, s_lret, s_aret, s_vret, s_tbl, q_tab, s_acopy, s_new, s_newa, s_oinit, s_aast, q_nth, qst1, qst2, q_cl1, q_nx, q_ent, qcat, q_cs, q_up_mk, q_cpy_mk, List.cons_append, List.nil_append, List.append_nil, List.replicate, List.take_succ_cons, List.take_zero, List.drop_succ_cons, List.drop_zero, List.reverse_cons, List.reverse_nil, List.length_cons, List.length_nil, List.map_cons, List.map_nil, List.sum_cons, List.sum_nil, Option.toList_some, Option.toList_none, true_and, and_true, true_or, or_true, Nat.sub_zero, Nat.reduceAdd, Nat.reduceSub, Nat.reduceLeDiff, Int.reduceAdd, Int.reduceLE, s_sc, s_strC, s_strV, s_alenC, s_baldC, s_gst, s_i2c, s_cret, s_athrow, sP', sps', e0', ← hk]
    repeat' (first | with_reducible apply And.intro | with_reducible intro _)
    all_goals first | contradiction | omega | (unfold r32; omega) | (with_reducible exact st _ _) | skip
