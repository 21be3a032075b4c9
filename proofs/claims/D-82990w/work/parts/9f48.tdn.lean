/-! ===== change: the twin takes a node away ===== -/
/-- what a change of a row may touch -/
def tmS (r a j : Int) : Prop := a = 282 ∧ r ≤ j ∧ j < r + 539
theorem TRw.sU {w : Int → Int → Int} {r x o z : Int} {S : Int → Int} (h : TRw w r S) (ho : 0 ≤ o ∧ o < 539) (ex : x = r + o) : TRw (up2 w 282 x z) r (upr S o z) := by
  refine ⟨h.1, fun j j0 j1 => ?_⟩
  rw [up2_ap]
  unfold upr
  by_cases e : j = o
  · rw [if_pos ⟨rfl, by omega⟩, if_pos e]
  · rw [if_neg (by omega), if_neg e]; exact h.2 j j0 j1
theorem TRw.nu {w : Int → Int → Int} {r o z : Int} {S : Int → Int} (h : TRw w r S) (e : S o = z) : TRw w r (upr S o z) := ⟨h.1, fun j j0 j1 => by
  unfold upr
  by_cases q : j = o
  · rw [if_pos q, h.2 j j0 j1, q, e]
  · rw [if_neg q]; exact h.2 j j0 j1⟩
theorem TRw.eq {w : Int → Int → Int} {r : Int} {S S' : Int → Int} (h : TRw w r S) (e : ∀ j : Int, 0 ≤ j → j < 539 → S' j = S j) : TRw w r S' := ⟨h.1, fun j j0 j1 => by rw [e j j0 j1]; exact h.2 j j0 j1⟩
theorem FV.tm {v w : Int → Int → Int} {r x o z : Int} (f : FV (tmS r) v w) (ho : 0 ≤ o ∧ o < 539) (ex : x = r + o) : FV (tmS r) v (up2 w 282 x z) := f.up ⟨rfl, by omega, by omega⟩
theorem tm_280 {u : Int → Int → Int} {x z j : Int} : up2 u 282 x z 280 j = u 280 j := by rw [up2_a (by decide)]
theorem FV.t280 {v w : Int → Int → Int} {r : Int} (f : FV (tmS r) v w) : w 280 = v 280 := f.c (fun j s => absurd s.1 (by decide))
theorem TRw_De {v : Int → Int → Int} {r e : Int} {R : Int → Int} (h : TRw v r R) (er : v 280 5 = r) (m : 0 ≤ e ∧ e < R 1 ∧ R 1 ≤ 48) : TRw (up2 (tE v e (v 282 (v 280 5 + 1) - 1)) 282 (v 280 5 + 1) (v 282 (v 280 5 + 1) - 1)) r (rDe R e) := by
  have e1 := h.2 1 (by decide) (by decide)
  rw [er, e1]
  refine ⟨h.1, fun j j0 j1 => ?_⟩
  rw [up2_ap]
  unfold rDe
  by_cases q : j = 1
  · rw [if_pos ⟨rfl, by omega⟩, if_pos q]
  · rw [if_neg (by omega), if_neg q]
    unfold tE
    rw [er]
    by_cases z : (267 + e ≤ j ∧ j < 267 + (R 1 - 1)) ∨ (315 + e ≤ j ∧ j < 315 + (R 1 - 1)) ∨ (363 + e ≤ j ∧ j < 363 + (R 1 - 1)) ∨ (411 + e ≤ j ∧ j < 411 + (R 1 - 1))
    · rw [if_pos ⟨rfl, by omega⟩, if_pos z, show r + j + 1 = r + (j + 1) by omega]
      exact h.2 (j + 1) (by omega) (by omega)
    · rw [if_neg (fun q => z (by omega)), if_neg z]
      exact h.2 j j0 j1
theorem tE_fv {v w : Int → Int → Int} {r e k z : Int} (f : FV (tmS r) v w) (er : w 280 5 = r) (e0 : 0 ≤ e) (k48 : k ≤ 48) : FV (tmS r) v (up2 (tE w e k) 282 (w 280 5 + 1) z) := by
  rw [er]
  refine FV.tm (o := 1) (fun a j n => ?_) (by decide) rfl
  simp only [tE]
  rw [er, if_neg (fun q => n ⟨q.1, by omega, by omega⟩)]
  exact f a j n
def rDcp (S : Int → Int) (i e : Int) : Int → Int := fun j => if ((267 ≤ j ∧ j < 267 + e) ∨ (315 ≤ j ∧ j < 315 + e)) ∧ i < S j then S j - 1 else S j
theorem rDcp_0 {S : Int → Int} {i j : Int} : rDcp S i 0 j = S j := by unfold rDcp; rw [if_neg (by omega)]
theorem rDcp_v {S : Int → Int} {i e j : Int} (h : ¬ ((267 ≤ j ∧ j < 267 + e) ∨ (315 ≤ j ∧ j < 315 + e))) : rDcp S i e j = S j := by unfold rDcp; rw [if_neg (fun q => h q.1)]
def dcv (S : Int → Int) (i j : Int) : Int := if i < S j then S j - 1 else S j
theorem rDcp_s {S : Int → Int} {i e j : Int} (e0 : 0 ≤ e ∧ e < 48) : rDcp S i (e + 1) j = upr (upr (rDcp S i e) (267 + e) (dcv S i (267 + e))) (315 + e) (dcv S i (315 + e)) j := by
  unfold upr
  by_cases a : j = 315 + e
  · rw [if_pos a, a]
    unfold rDcp dcv
    by_cases z : i < S (315 + e)
    · rw [if_pos z, if_pos ⟨Or.inr ⟨by omega, by omega⟩, z⟩]
    · rw [if_neg z, if_neg (fun q => z q.2)]
  · rw [if_neg a]
    by_cases b : j = 267 + e
    · rw [if_pos b, b]
      unfold rDcp dcv
      by_cases z : i < S (267 + e)
      · rw [if_pos z, if_pos ⟨Or.inl ⟨by omega, by omega⟩, z⟩]
      · rw [if_neg z, if_neg (fun q => z q.2)]
    · rw [if_neg b]
      unfold rDcp
      by_cases z : ((267 ≤ j ∧ j < 267 + e) ∨ (315 ≤ j ∧ j < 315 + e)) ∧ i < S j
      · rw [if_pos z, if_pos ⟨by omega, z.2⟩]
      · rw [if_neg z, if_neg (fun q => z ⟨by omega, q.2⟩)]
def rShp (S : Int → Int) (i k : Int) : Int → Int := fun j => if 3 + 8 * i ≤ j ∧ j < 3 + 8 * k then S (j + 8) else if (195 + i ≤ j ∧ j < 195 + k) ∨ (219 + i ≤ j ∧ j < 219 + k) ∨ (243 + i ≤ j ∧ j < 243 + k) then S (j + 1) else S j
def rShx (S : Int → Int) (i k x : Int) : Int → Int := fun j => if 3 + 8 * k ≤ j ∧ j < 3 + 8 * k + x then S (j + 8) else rShp S i k j
theorem rShp_i {S : Int → Int} {i j : Int} : rShp S i i j = S j := by unfold rShp; rw [if_neg (by omega), if_neg (by omega)]
theorem rShx_0 {S : Int → Int} {i k j : Int} : rShx S i k 0 j = rShp S i k j := by unfold rShx; rw [if_neg (by omega)]
theorem rShp_e {S : Int → Int} {i : Int} : rSh S i = upr (rShp S i (S 0 - 1)) 0 (S 0 - 1) := rfl
theorem rShx_s {S : Int → Int} {i k x j : Int} (x0 : 0 ≤ x) : rShx S i k (x + 1) j = upr (rShx S i k x) (3 + 8 * k + x) (S (3 + 8 * k + 8 + x)) j := by
  unfold upr
  by_cases a : j = 3 + 8 * k + x
  · rw [if_pos a, a]
    unfold rShx
    rw [if_pos (by omega)]
    congr 1
    omega
  · rw [if_neg a]
    unfold rShx
    by_cases z : 3 + 8 * k ≤ j ∧ j < 3 + 8 * k + x
    · rw [if_pos z, if_pos (by omega)]
    · rw [if_neg z, if_neg (by omega)]
/-- a name's byte or a value above is where it was -/
theorem rShx_h {S : Int → Int} {i k x j : Int} (h : (3 + 8 * k + x ≤ j ∧ j < 195) ∨ (195 + k ≤ j ∧ j < 195 + i) ∨ (195 + k ≤ j ∧ j < 219) ∨ (219 + k ≤ j ∧ j < 243) ∨ 243 + k ≤ j) (i0 : 0 ≤ i ∧ i ≤ k) (k24 : k < 24) (x0 : 0 ≤ x ∧ x ≤ 8) : rShx S i k x j = S j := by
  unfold rShx rShp
  by_cases z : 3 + 8 * k ≤ j ∧ j < 3 + 8 * k + x
  · omega
  · rw [if_neg z, if_neg (by omega), if_neg (by omega)]
theorem rShx_l {S : Int → Int} {i k x j : Int} (h : j < 3) (i0 : 0 ≤ i ∧ i ≤ k) : rShx S i k x j = S j := by
  unfold rShx rShp
  rw [if_neg (by omega), if_neg (by omega), if_neg (by omega)]
theorem rShx_8 {S : Int → Int} {i k j : Int} (i0 : 0 ≤ i ∧ i ≤ k) (k24 : k < 23) : rShp S i (k + 1) j = upr (upr (upr (rShx S i k 8) (195 + k) (S (195 + k + 1))) (219 + k) (S (219 + k + 1))) (243 + k) (S (243 + k + 1)) j := by
  unfold upr
  by_cases a : j = 243 + k
  · rw [if_pos a, a]
    unfold rShp
    rw [if_neg (by omega), if_pos (by omega)]
  · rw [if_neg a]
    by_cases b : j = 219 + k
    · rw [if_pos b, b]
      unfold rShp
      rw [if_neg (by omega), if_pos (by omega)]
    · rw [if_neg b]
      by_cases c : j = 195 + k
      · rw [if_pos c, c]
        unfold rShp
        rw [if_neg (by omega), if_pos (by omega)]
      · rw [if_neg c]
        unfold rShx rShp
        by_cases z : 3 + 8 * k ≤ j ∧ j < 3 + 8 * k + 8
        · rw [if_pos z, if_pos (by omega)]
        · rw [if_neg z]
          by_cases y : 3 + 8 * i ≤ j ∧ j < 3 + 8 * k
          · rw [if_pos y, if_pos (by omega)]
          · rw [if_neg y, if_neg (by omega)]
            by_cases u : (195 + i ≤ j ∧ j < 195 + k) ∨ (219 + i ≤ j ∧ j < 219 + k) ∨ (243 + i ≤ j ∧ j < 243 + k)
            · rw [if_pos u, if_pos (by omega)]
            · rw [if_neg u, if_neg (by omega)]
set_option maxRecDepth 100000 in
theorem sp_Mo_dropNode {l : Launch} {D : qD} {d : Nat} {r i : Int} {R : Int → Int} {h : qh} {Q : qQ} (hT : TW h.2) (er : h.2 280 5 = r) (tr : TRw h.2 r R) (ok : GOK R) (hi : 0 ≤ i ∧ i < R 0)
    (hq : ∀ v, TRw v r (rDn R i) → FV (tmS r) h.2 v → Q none (h.1, v)) : qM l D (d + 3, 0, 0) m_Mo_dropNode [.inr (.inr 280), .inl i] h Q := by
  have rb := tr.1
  have z2 := hT.f2
  have m0 := ok.1.2.1
  have n0 := ok.1.1
  obtain ⟨okS, ⟨S0, S2⟩, ⟨-, S1⟩, -⟩ := rDL_ok (i := i) ok (R 1).toNat (by omega)
  have hQ : ∀ v, TRw v r (rSh (rDc (rDL R i (R 1).toNat) i) i) → FV (tmS r) h.2 v → Q none (h.1, v) := hq
  obtain ⟨S, hS⟩ : ∃ S, S = rDL R i (R 1).toNat := ⟨_, rfl⟩
  rw [← hS] at okS S0 S2 S1 hQ
  clear hq
  have Sb := okS.1
  obtain ⟨U, hU⟩ : ∃ U, U = rDc S i := ⟨_, rfl⟩
  have U0 : U 0 = S 0 := by rw [hU]; exact rDc_o okS.1.2.1.2 (by decide)
  rw [← hU] at hQ
  have F : ∀ {w : Int → Int → Int}, FV (tmS r) h.2 w → w 280 5 = r ∧ w 280 2 = 282 := fun f => by rw [f.t280]; exact ⟨er, z2⟩
  have l105 : ∀ k, k ≤ S 0 - 1 → i ≤ k → ∀ w, TRw w r (rShp U i k) → FV (tmS r) h.2 w → ∀ o, qR l D (d + 3, 0, 0) m_Mo_dropNode 105 (fun r h' => Q r ((h'.1.1, h.1.2.1, h.1.2.2), h'.2)) [some (.inr (.inr (280))), some (.inl (i)), some (.inl (k)), o] [] ((h.1.1, 0, 0), w) := by
    refine up_loop _ ?_ ?_
    · intro hk w tw fw o
      obtain ⟨y5, y2⟩ := F fw
      have t0 : w 282 r = S 0 := by have := tw.2 0 (by decide) (by decide); rw [show r + 0 = r by omega] at this; rw [this, ← U0]; unfold rShp; rw [if_neg (by omega), if_neg (by omega)]
      have ex : Q none (h.1, up2 w 282 r (S 0 - 1)) := hQ _ (by rw [rShp_e, U0]; exact tw.sU (by decide) (by omega)) (fw.tm (o := 0) (by decide) (by omega))
      clear hQ okS tw fw
      refine Mo_dropNode_105 _ _ _ ?_
      simp only [w_Mo_dropNode_0, w_Mo_dropNode_7, w_Mo_dropNode_25, w_Mo_dropNode_31, w_Mo_dropNode_33, w_Mo_dropNode_69, w_Mo_dropNode_97, w_Mo_dropNode_103, w_Mo_dropNode_105, w_Mo_dropNode_117, w_Mo_dropNode_168, w_Mo_dropNode_270, s_ic, s_lc, s_null, s_iload, s_lload, s_aload, s_istore, s_lstore, s_astore, s_iinc, s_iadd, s_isub, s_imul, s_iand, s_ior, s_ixor, s_ishl, s_ishr, s_idiv, s_irem, s_ineg, s_ladd, s_lsub, s_lmul, s_lneg, s_ldiv, s_lrem, s_lshl, s_lshr, s_lor, s_land, s_lcmp, s_i2l, s_l2i, s_i2b, s_dup, s_pop, s_dup2, s_dupx1, s_alen, s_ifnull, s_ifnon, s_icmp_eq, s_icmp_ne, s_icmp_lt, s_icmp_ge, s_icmp_gt, s_icmp_le, s_if_eq, s_if_ne, s_if_lt, s_if_ge, s_if_gt, s_if_le, s_getI, s_getL, s_getR, s_putI, s_putZ, s_putL, s_putR, s_iald, s_bald, s_lald, s_aald, s_iast, s_bast, s_last, s_iret, s_zret, s_lret, s_aret, s_vret, s_invS, s_invV, s_tbl, q_tab, s_acopy, s_new, s_newa, s_oinit, s_invI, s_aast, q_nth, qst1, qst2, q_cl1, q_nx, q_ent, qcat, q_cs, q_up_mk, q_cpy_mk, List.cons_append, List.nil_append, List.append_nil, List.replicate, List.take_succ_cons, List.take_zero, List.drop_succ_cons, List.drop_zero, List.reverse_cons, List.reverse_nil, List.length_cons, List.length_nil, List.map_cons, List.map_nil, List.sum_cons, List.sum_nil, Option.toList_some, Option.toList_none, true_and, and_true, true_or, or_true, Nat.sub_zero, Nat.reduceAdd, Nat.reduceSub, Nat.reduceLeDiff, Int.reduceAdd, Int.reduceLE, s_Mo_edges, e_Mo_edges, p_Mo_edges, f_Mo_edges, s_Mo_has, e_Mo_tail, p_Mo_tail, f_Mo_tail, e_Mo_head, p_Mo_head, f_Mo_head, e_Mo_has, p_Mo_has, s_Mo_head, s_Mo_nodes, e_Mo_nodes, p_Mo_nodes, f_Mo_nodes, s_Mo_tail, sh_280, sh_282, y5, y2, t0]
      repeat' (first | with_reducible apply And.intro | with_reducible intro _)
      all_goals first | omega | exact ex
    · intro k hk ih hik w tw fw o
      have l117 : ∀ x, x ≤ 8 → 0 ≤ x → ∀ w, TRw w r (rShx U i k x) → FV (tmS r) h.2 w → qR l D (d + 3, 0, 0) m_Mo_dropNode 117 (fun r h' => Q r ((h'.1.1, h.1.2.1, h.1.2.2), h'.2)) [some (.inr (.inr (280))), some (.inl (i)), some (.inl (k)), some (.inl (x))] [] ((h.1.1, 0, 0), w) := by
        refine up_loop _ ?_ ?_
        · intro x0 w tw fw
          obtain ⟨y5, y2⟩ := F fw
          have t1 : w 282 (r + 195 + k + 1) = U (195 + k + 1) := by rw [show r + 195 + k + 1 = r + (195 + k + 1) by omega, tw.2 _ (by omega) (by omega)]; exact rShx_h (by omega) (by omega) (by omega) (by omega)
          have t2 : ∀ z, up2 w 282 (r + 195 + k) z 282 (r + 219 + k + 1) = U (219 + k + 1) := fun z => by rw [up2_k (by omega), show r + 219 + k + 1 = r + (219 + k + 1) by omega, tw.2 _ (by omega) (by omega)]; exact rShx_h (by omega) (by omega) (by omega) (by omega)
          have t3 : ∀ z y, up2 (up2 w 282 (r + 195 + k) z) 282 (r + 219 + k) y 282 (r + 243 + k + 1) = U (243 + k + 1) := fun z y => by rw [up2_k (by omega), up2_k (by omega), show r + 243 + k + 1 = r + (243 + k + 1) by omega, tw.2 _ (by omega) (by omega)]; exact rShx_h (by omega) (by omega) (by omega) (by omega)
          have nx := ih (by omega) _ ((((tw.sU (o := 195 + k) (x := r + 195 + k) (z := U (195 + k + 1)) (by omega) (by omega)).sU (o := 219 + k) (x := r + 219 + k) (z := U (219 + k + 1)) (by omega) (by omega)).sU (o := 243 + k) (x := r + 243 + k) (z := U (243 + k + 1)) (by omega) (by omega)).eq (fun j _ _ => rShx_8 (by omega) (by omega))) (((fw.tm (o := 195 + k) (by omega) (by omega)).tm (o := 219 + k) (by omega) (by omega)).tm (o := 243 + k) (by omega) (by omega)) (some (.inl 8))
          clear hQ okS tw fw ih F
          refine Mo_dropNode_117 _ _ _ ?_
          simp only [w_Mo_dropNode_0, w_Mo_dropNode_7, w_Mo_dropNode_25, w_Mo_dropNode_31, w_Mo_dropNode_33, w_Mo_dropNode_69, w_Mo_dropNode_97, w_Mo_dropNode_103, w_Mo_dropNode_105, w_Mo_dropNode_117, w_Mo_dropNode_168, w_Mo_dropNode_270, s_ic, s_lc, s_null, s_iload, s_lload, s_aload, s_istore, s_lstore, s_astore, s_iinc, s_iadd, s_isub, s_imul, s_iand, s_ior, s_ixor, s_ishl, s_ishr, s_idiv, s_irem, s_ineg, s_ladd, s_lsub, s_lmul, s_lneg, s_ldiv, s_lrem, s_lshl, s_lshr, s_lor, s_land, s_lcmp, s_i2l, s_l2i, s_i2b, s_dup, s_pop, s_dup2, s_dupx1, s_alen, s_ifnull, s_ifnon, s_icmp_eq, s_icmp_ne, s_icmp_lt, s_icmp_ge, s_icmp_gt, s_icmp_le, s_if_eq, s_if_ne, s_if_lt, s_if_ge, s_if_gt, s_if_le, s_getI, s_getL, s_getR, s_putI, s_putZ, s_putL, s_putR, s_iald, s_bald, s_lald, s_aald, s_iast, s_bast, s_last, s_iret, s_zret, s_lret, s_aret, s_vret, s_invS, s_invV, s_tbl, q_tab, s_acopy, s_new, s_newa, s_oinit, s_invI, s_aast, q_nth, qst1, qst2, q_cl1, q_nx, q_ent, qcat, q_cs, q_up_mk, q_cpy_mk, List.cons_append, List.nil_append, List.append_nil, List.replicate, List.take_succ_cons, List.take_zero, List.drop_succ_cons, List.drop_zero, List.reverse_cons, List.reverse_nil, List.length_cons, List.length_nil, List.map_cons, List.map_nil, List.sum_cons, List.sum_nil, Option.toList_some, Option.toList_none, true_and, and_true, true_or, or_true, Nat.sub_zero, Nat.reduceAdd, Nat.reduceSub, Nat.reduceLeDiff, Int.reduceAdd, Int.reduceLE, s_Mo_edges, e_Mo_edges, p_Mo_edges, f_Mo_edges, s_Mo_has, e_Mo_tail, p_Mo_tail, f_Mo_tail, e_Mo_head, p_Mo_head, f_Mo_head, e_Mo_has, p_Mo_has, s_Mo_head, s_Mo_nodes, e_Mo_nodes, p_Mo_nodes, f_Mo_nodes, s_Mo_tail, sh_280, sh_282, y5, y2, t1, t2, t3, tm_280]
          repeat' (first | with_reducible apply And.intro | with_reducible intro _)
          all_goals first | omega | with_reducible exact nx
        · intro x x8 ihx x0 w tw fw
          obtain ⟨y5, y2⟩ := F fw
          have t1 : w 282 (r + 3 + 8 * k + 8 + x) = U (3 + 8 * k + 8 + x) := by rw [show r + 3 + 8 * k + 8 + x = r + (3 + 8 * k + 8 + x) by omega, tw.2 _ (by omega) (by omega)]; exact rShx_h (by omega) (by omega) (by omega) (by omega)
          have nx := ihx (by omega) _ ((tw.sU (o := 3 + 8 * k + x) (x := r + 3 + 8 * k + x) (z := U (3 + 8 * k + 8 + x)) (by omega) (by omega)).eq (fun j _ _ => rShx_s x0)) (fw.tm (o := 3 + 8 * k + x) (by omega) (by omega))
          clear hQ okS tw fw ih ihx F
          refine Mo_dropNode_117 _ _ _ ?_
          simp only [w_Mo_dropNode_0, w_Mo_dropNode_7, w_Mo_dropNode_25, w_Mo_dropNode_31, w_Mo_dropNode_33, w_Mo_dropNode_69, w_Mo_dropNode_97, w_Mo_dropNode_103, w_Mo_dropNode_105, w_Mo_dropNode_117, w_Mo_dropNode_168, w_Mo_dropNode_270, s_ic, s_lc, s_null, s_iload, s_lload, s_aload, s_istore, s_lstore, s_astore, s_iinc, s_iadd, s_isub, s_imul, s_iand, s_ior, s_ixor, s_ishl, s_ishr, s_idiv, s_irem, s_ineg, s_ladd, s_lsub, s_lmul, s_lneg, s_ldiv, s_lrem, s_lshl, s_lshr, s_lor, s_land, s_lcmp, s_i2l, s_l2i, s_i2b, s_dup, s_pop, s_dup2, s_dupx1, s_alen, s_ifnull, s_ifnon, s_icmp_eq, s_icmp_ne, s_icmp_lt, s_icmp_ge, s_icmp_gt, s_icmp_le, s_if_eq, s_if_ne, s_if_lt, s_if_ge, s_if_gt, s_if_le, s_getI, s_getL, s_getR, s_putI, s_putZ, s_putL, s_putR, s_iald, s_bald, s_lald, s_aald, s_iast, s_bast, s_last, s_iret, s_zret, s_lret, s_aret, s_vret, s_invS, s_invV, s_tbl, q_tab, s_acopy, s_new, s_newa, s_oinit, s_invI, s_aast, q_nth, qst1, qst2, q_cl1, q_nx, q_ent, qcat, q_cs, q_up_mk, q_cpy_mk, List.cons_append, List.nil_append, List.append_nil, List.replicate, List.take_succ_cons, List.take_zero, List.drop_succ_cons, List.drop_zero, List.reverse_cons, List.reverse_nil, List.length_cons, List.length_nil, List.map_cons, List.map_nil, List.sum_cons, List.sum_nil, Option.toList_some, Option.toList_none, true_and, and_true, true_or, or_true, Nat.sub_zero, Nat.reduceAdd, Nat.reduceSub, Nat.reduceLeDiff, Int.reduceAdd, Int.reduceLE, s_Mo_edges, e_Mo_edges, p_Mo_edges, f_Mo_edges, s_Mo_has, e_Mo_tail, p_Mo_tail, f_Mo_tail, e_Mo_head, p_Mo_head, f_Mo_head, e_Mo_has, p_Mo_has, s_Mo_head, s_Mo_nodes, e_Mo_nodes, p_Mo_nodes, f_Mo_nodes, s_Mo_tail, sh_280, sh_282, y5, y2, t1, tm_280]
          repeat' (first | with_reducible apply And.intro | with_reducible intro _)
          all_goals first | omega | with_reducible exact nx
      obtain ⟨y5, y2⟩ := F fw
      have t0 : w 282 r = S 0 := by have := tw.2 0 (by decide) (by decide); rw [show r + 0 = r by omega] at this; rw [this, ← U0]; unfold rShp; rw [if_neg (by omega), if_neg (by omega)]
      have nx := l117 0 (by decide) (Int.le_refl 0) w (tw.eq (fun j _ _ => rShx_0)) fw
      clear hQ okS tw fw ih l117 F
      refine Mo_dropNode_105 _ _ _ ?_
      simp only [w_Mo_dropNode_0, w_Mo_dropNode_7, w_Mo_dropNode_25, w_Mo_dropNode_31, w_Mo_dropNode_33, w_Mo_dropNode_69, w_Mo_dropNode_97, w_Mo_dropNode_103, w_Mo_dropNode_105, w_Mo_dropNode_117, w_Mo_dropNode_168, w_Mo_dropNode_270, s_ic, s_lc, s_null, s_iload, s_lload, s_aload, s_istore, s_lstore, s_astore, s_iinc, s_iadd, s_isub, s_imul, s_iand, s_ior, s_ixor, s_ishl, s_ishr, s_idiv, s_irem, s_ineg, s_ladd, s_lsub, s_lmul, s_lneg, s_ldiv, s_lrem, s_lshl, s_lshr, s_lor, s_land, s_lcmp, s_i2l, s_l2i, s_i2b, s_dup, s_pop, s_dup2, s_dupx1, s_alen, s_ifnull, s_ifnon, s_icmp_eq, s_icmp_ne, s_icmp_lt, s_icmp_ge, s_icmp_gt, s_icmp_le, s_if_eq, s_if_ne, s_if_lt, s_if_ge, s_if_gt, s_if_le, s_getI, s_getL, s_getR, s_putI, s_putZ, s_putL, s_putR, s_iald, s_bald, s_lald, s_aald, s_iast, s_bast, s_last, s_iret, s_zret, s_lret, s_aret, s_vret, s_invS, s_invV, s_tbl, q_tab, s_acopy, s_new, s_newa, s_oinit, s_invI, s_aast, q_nth, qst1, qst2, q_cl1, q_nx, q_ent, qcat, q_cs, q_up_mk, q_cpy_mk, List.cons_append, List.nil_append, List.append_nil, List.replicate, List.take_succ_cons, List.take_zero, List.drop_succ_cons, List.drop_zero, List.reverse_cons, List.reverse_nil, List.length_cons, List.length_nil, List.map_cons, List.map_nil, List.sum_cons, List.sum_nil, Option.toList_some, Option.toList_none, true_and, and_true, true_or, or_true, Nat.sub_zero, Nat.reduceAdd, Nat.reduceSub, Nat.reduceLeDiff, Int.reduceAdd, Int.reduceLE, s_Mo_edges, e_Mo_edges, p_Mo_edges, f_Mo_edges, s_Mo_has, e_Mo_tail, p_Mo_tail, f_Mo_tail, e_Mo_head, p_Mo_head, f_Mo_head, e_Mo_has, p_Mo_has, s_Mo_head, s_Mo_nodes, e_Mo_nodes, p_Mo_nodes, f_Mo_nodes, s_Mo_tail, sh_280, sh_282, y5, y2, t0]
      repeat' (first | with_reducible apply And.intro | with_reducible intro _)
      all_goals first | omega | with_reducible exact nx
  have l33 : ∀ e, e ≤ S 1 → 0 ≤ e → ∀ w, TRw w r (rDcp S i e) → FV (tmS r) h.2 w → ∀ o, qR l D (d + 3, 0, 0) m_Mo_dropNode 33 (fun r h' => Q r ((h'.1.1, h.1.2.1, h.1.2.2), h'.2)) [some (.inr (.inr (280))), some (.inl (i)), some (.inl (e)), o] [] ((h.1.1, 0, 0), w) := by
    refine up_loop _ ?_ ?_
    · intro he w tw fw o
      obtain ⟨y5, y2⟩ := F fw
      have t0 : w 282 (r + 1) = S 1 := by rw [tw.2 1 (by decide) (by decide)]; exact rDcp_v (by omega)
      have nx := l105 i (by omega) (Int.le_refl i) w (tw.eq (fun j _ _ => by rw [rShp_i, hU]; rfl)) fw o
      clear hQ okS tw fw F l105
      refine Mo_dropNode_33 _ _ _ ?_
      simp only [w_Mo_dropNode_0, w_Mo_dropNode_7, w_Mo_dropNode_25, w_Mo_dropNode_31, w_Mo_dropNode_33, w_Mo_dropNode_69, w_Mo_dropNode_97, w_Mo_dropNode_103, w_Mo_dropNode_105, w_Mo_dropNode_117, w_Mo_dropNode_168, w_Mo_dropNode_270, s_ic, s_lc, s_null, s_iload, s_lload, s_aload, s_istore, s_lstore, s_astore, s_iinc, s_iadd, s_isub, s_imul, s_iand, s_ior, s_ixor, s_ishl, s_ishr, s_idiv, s_irem, s_ineg, s_ladd, s_lsub, s_lmul, s_lneg, s_ldiv, s_lrem, s_lshl, s_lshr, s_lor, s_land, s_lcmp, s_i2l, s_l2i, s_i2b, s_dup, s_pop, s_dup2, s_dupx1, s_alen, s_ifnull, s_ifnon, s_icmp_eq, s_icmp_ne, s_icmp_lt, s_icmp_ge, s_icmp_gt, s_icmp_le, s_if_eq, s_if_ne, s_if_lt, s_if_ge, s_if_gt, s_if_le, s_getI, s_getL, s_getR, s_putI, s_putZ, s_putL, s_putR, s_iald, s_bald, s_lald, s_aald, s_iast, s_bast, s_last, s_iret, s_zret, s_lret, s_aret, s_vret, s_invS, s_invV, s_tbl, q_tab, s_acopy, s_new, s_newa, s_oinit, s_invI, s_aast, q_nth, qst1, qst2, q_cl1, q_nx, q_ent, qcat, q_cs, q_up_mk, q_cpy_mk, List.cons_append, List.nil_append, List.append_nil, List.replicate, List.take_succ_cons, List.take_zero, List.drop_succ_cons, List.drop_zero, List.reverse_cons, List.reverse_nil, List.length_cons, List.length_nil, List.map_cons, List.map_nil, List.sum_cons, List.sum_nil, Option.toList_some, Option.toList_none, true_and, and_true, true_or, or_true, Nat.sub_zero, Nat.reduceAdd, Nat.reduceSub, Nat.reduceLeDiff, Int.reduceAdd, Int.reduceLE, s_Mo_edges, e_Mo_edges, p_Mo_edges, f_Mo_edges, s_Mo_has, e_Mo_tail, p_Mo_tail, f_Mo_tail, e_Mo_head, p_Mo_head, f_Mo_head, e_Mo_has, p_Mo_has, s_Mo_head, s_Mo_nodes, e_Mo_nodes, p_Mo_nodes, f_Mo_nodes, s_Mo_tail, sh_280, sh_282, y5, y2, t0]
      repeat' (first | with_reducible apply And.intro | with_reducible intro _)
      all_goals first | omega | with_reducible exact nx
    · intro e he ih e0 w tw fw o
      obtain ⟨y5, y2⟩ := F fw
      have t0 : w 282 (r + 1) = S 1 := by rw [tw.2 1 (by decide) (by decide)]; exact rDcp_v (by omega)
      have v1 : rDcp S i e (267 + e) = S (267 + e) := rDcp_v (by omega)
      have v2 : rDcp S i e (315 + e) = S (315 + e) := rDcp_v (by omega)
      have t1 : w 282 (r + 267 + e) = S (267 + e) := by rw [show r + 267 + e = r + (267 + e) by omega, tw.2 _ (by omega) (by omega)]; exact v1
      have t2 : w 282 (r + 315 + e) = S (315 + e) := by rw [show r + 315 + e = r + (315 + e) by omega, tw.2 _ (by omega) (by omega)]; exact v2
      have t3 : ∀ z, up2 w 282 (r + 267 + e) z 282 (r + 315 + e) = S (315 + e) := fun z => by rw [up2_k (by omega)]; exact t2
      have rg := (okS.2.2.1 e e0 (by omega)).1
      have nx := fun w' (a : TRw w' r (upr (upr (rDcp S i e) (267 + e) (dcv S i (267 + e))) (315 + e) (dcv S i (315 + e)))) b => ih (by omega) w' (a.eq (fun j _ _ => rDcp_s (by omega))) b o
      have u2 : ∀ y, upr (rDcp S i e) (267 + e) y (315 + e) = S (315 + e) := fun y => by rw [upr_ne (by omega)]; exact v2
      have A : i < S (267 + e) → i < S (315 + e) → qR l D (d + 3, 0, 0) m_Mo_dropNode 33 (fun r h' => Q r ((h'.1.1, h.1.2.1, h.1.2.2), h'.2)) [some (.inr (.inr (280))), some (.inl (i)), some (.inl (e + 1)), o] [] ((h.1.1, 0, 0), up2 (up2 w 282 (r + 267 + e) (S (267 + e) - 1)) 282 (r + 315 + e) (S (315 + e) - 1)) := fun a b => by
        refine nx _ ?_ ((fw.tm (o := 267 + e) (by omega) (by omega)).tm (o := 315 + e) (by omega) (by omega))
        rw [dcv, dcv, if_pos a, if_pos b]
        exact (tw.sU (by omega) (by omega)).sU (by omega) (by omega)
      have B : i < S (267 + e) → ¬ i < S (315 + e) → qR l D (d + 3, 0, 0) m_Mo_dropNode 33 (fun r h' => Q r ((h'.1.1, h.1.2.1, h.1.2.2), h'.2)) [some (.inr (.inr (280))), some (.inl (i)), some (.inl (e + 1)), o] [] ((h.1.1, 0, 0), up2 w 282 (r + 267 + e) (S (267 + e) - 1)) := fun a b => by
        refine nx _ ?_ (fw.tm (o := 267 + e) (by omega) (by omega))
        rw [dcv, dcv, if_pos a, if_neg b]
        exact (tw.sU (by omega) (by omega)).nu (u2 _)
      have C : ¬ i < S (267 + e) → i < S (315 + e) → qR l D (d + 3, 0, 0) m_Mo_dropNode 33 (fun r h' => Q r ((h'.1.1, h.1.2.1, h.1.2.2), h'.2)) [some (.inr (.inr (280))), some (.inl (i)), some (.inl (e + 1)), o] [] ((h.1.1, 0, 0), up2 w 282 (r + 315 + e) (S (315 + e) - 1)) := fun a b => by
        refine nx _ ?_ (fw.tm (o := 315 + e) (by omega) (by omega))
        rw [dcv, dcv, if_neg a, if_pos b]
        exact (tw.nu v1).sU (by omega) (by omega)
      have E : ¬ i < S (267 + e) → ¬ i < S (315 + e) → qR l D (d + 3, 0, 0) m_Mo_dropNode 33 (fun r h' => Q r ((h'.1.1, h.1.2.1, h.1.2.2), h'.2)) [some (.inr (.inr (280))), some (.inl (i)), some (.inl (e + 1)), o] [] ((h.1.1, 0, 0), w) := fun a b => by
        refine nx _ ?_ fw
        rw [dcv, dcv, if_neg a, if_neg b]
        exact (tw.nu v1).nu (u2 _)
      clear hQ okS tw fw F l105 ih nx u2 v1 v2
      refine Mo_dropNode_33 _ _ _ ?_
      simp only [w_Mo_dropNode_0, w_Mo_dropNode_7, w_Mo_dropNode_25, w_Mo_dropNode_31, w_Mo_dropNode_33, w_Mo_dropNode_69, w_Mo_dropNode_97, w_Mo_dropNode_103, w_Mo_dropNode_105, w_Mo_dropNode_117, w_Mo_dropNode_168, w_Mo_dropNode_270, s_ic, s_lc, s_null, s_iload, s_lload, s_aload, s_istore, s_lstore, s_astore, s_iinc, s_iadd, s_isub, s_imul, s_iand, s_ior, s_ixor, s_ishl, s_ishr, s_idiv, s_irem, s_ineg, s_ladd, s_lsub, s_lmul, s_lneg, s_ldiv, s_lrem, s_lshl, s_lshr, s_lor, s_land, s_lcmp, s_i2l, s_l2i, s_i2b, s_dup, s_pop, s_dup2, s_dupx1, s_alen, s_ifnull, s_ifnon, s_icmp_eq, s_icmp_ne, s_icmp_lt, s_icmp_ge, s_icmp_gt, s_icmp_le, s_if_eq, s_if_ne, s_if_lt, s_if_ge, s_if_gt, s_if_le, s_getI, s_getL, s_getR, s_putI, s_putZ, s_putL, s_putR, s_iald, s_bald, s_lald, s_aald, s_iast, s_bast, s_last, s_iret, s_zret, s_lret, s_aret, s_vret, s_invS, s_invV, s_tbl, q_tab, s_acopy, s_new, s_newa, s_oinit, s_invI, s_aast, q_nth, qst1, qst2, q_cl1, q_nx, q_ent, qcat, q_cs, q_up_mk, q_cpy_mk, List.cons_append, List.nil_append, List.append_nil, List.replicate, List.take_succ_cons, List.take_zero, List.drop_succ_cons, List.drop_zero, List.reverse_cons, List.reverse_nil, List.length_cons, List.length_nil, List.map_cons, List.map_nil, List.sum_cons, List.sum_nil, Option.toList_some, Option.toList_none, true_and, and_true, true_or, or_true, Nat.sub_zero, Nat.reduceAdd, Nat.reduceSub, Nat.reduceLeDiff, Int.reduceAdd, Int.reduceLE, s_Mo_edges, e_Mo_edges, p_Mo_edges, f_Mo_edges, s_Mo_has, e_Mo_tail, p_Mo_tail, f_Mo_tail, e_Mo_head, p_Mo_head, f_Mo_head, e_Mo_has, p_Mo_has, s_Mo_head, s_Mo_nodes, e_Mo_nodes, p_Mo_nodes, f_Mo_nodes, s_Mo_tail, sh_280, sh_282, y5, y2, t0, t1, t2, t3, tm_280]
      repeat' (first | with_reducible apply And.intro | with_reducible intro _)
      all_goals first | omega | (with_reducible refine A ?_ ?_ <;> omega) | (with_reducible refine B ?_ ?_ <;> omega) | (with_reducible refine C ?_ ?_ <;> omega) | (with_reducible refine E ?_ ?_ <;> omega)
  have l7 : ∀ k, k ≤ R 1 → 0 ≤ k → ∀ w, TRw w r (rDL R i k.toNat) → FV (tmS r) h.2 w → ∀ e, e = R 1 - 1 - k → qR l D (d + 3, 0, 0) m_Mo_dropNode 7 (fun r h' => Q r ((h'.1.1, h.1.2.1, h.1.2.2), h'.2)) [some (.inr (.inr (280))), some (.inl (i)), some (.inl (e)), none] [] ((h.1.1, 0, 0), w) := by
    refine up_loop _ ?_ ?_
    · intro hk w tw fw e he
      obtain ⟨y5, y2⟩ := F fw
      have nx := l33 0 (by omega) (Int.le_refl 0) w (by rw [← hS] at tw; exact tw.eq (fun j _ _ => rDcp_0)) fw none
      clear hQ l33 l105 okS F
      refine Mo_dropNode_7 _ _ _ ?_
      simp only [w_Mo_dropNode_7, w_Mo_dropNode_31, s_ic, s_lc, s_null, s_iload, s_lload, s_aload, s_istore, s_lstore, s_astore, s_iinc, s_iadd, s_isub, s_imul, s_iand, s_ior, s_ixor, s_ishl, s_ishr, s_idiv, s_irem, s_ineg, s_ladd, s_lsub, s_lmul, s_lneg, s_ldiv, s_lrem, s_lshl, s_lshr, s_lor, s_land, s_lcmp, s_i2l, s_l2i, s_i2b, s_dup, s_pop, s_dup2, s_dupx1, s_alen, s_ifnull, s_ifnon, s_icmp_eq, s_icmp_ne, s_icmp_lt, s_icmp_ge, s_icmp_gt, s_icmp_le, s_if_eq, s_if_ne, s_if_lt, s_if_ge, s_if_gt, s_if_le, s_getI, s_getL, s_getR, s_putI, s_putZ, s_putL, s_putR, s_iald, s_bald, s_lald, s_aald, s_iast, s_bast, s_last, s_iret, s_zret, s_lret, s_aret, s_vret, s_tbl, q_tab, s_acopy, s_new, s_newa, s_oinit, s_aast, q_nth, qst1, qst2, q_cl1, q_nx, q_ent, qcat, q_cs, q_up_mk, q_cpy_mk, List.cons_append, List.nil_append, List.append_nil, List.replicate, List.take_succ_cons, List.take_zero, List.drop_succ_cons, List.drop_zero, List.reverse_cons, List.reverse_nil, List.length_cons, List.length_nil, List.map_cons, List.map_nil, List.sum_cons, List.sum_nil, Option.toList_some, Option.toList_none, true_and, and_true, true_or, or_true, Nat.sub_zero, Nat.reduceAdd, Nat.reduceSub, Nat.reduceLeDiff, Int.reduceAdd, Int.reduceLE, s_sc, s_strC, s_strV, s_alenC, s_baldC, s_gst, s_i2c, s_cret, s_athrow]
      repeat' (first | with_reducible apply And.intro | with_reducible intro _)
      all_goals first | (with_reducible exact nx) | (exfalso; omega)
    · intro k hk ih k0 w tw fw e he
      obtain ⟨y5, y2⟩ := F fw
      obtain ⟨okk, -, ⟨c1, c2⟩, -⟩ := rDL_ok (i := i) ok k.toNat (by omega)
      have up : rDL R i (k + 1).toNat = if rDL R i k.toNat (267 + e) = i ∨ rDL R i k.toNat (315 + e) = i then rDe (rDL R i k.toNat) e else rDL R i k.toNat := by
        rw [show (k + 1).toNat = k.toNat + 1 by omega, he]
        simp only [rDL]
        rw [show ((k.toNat : Nat) : Int) = k by omega]
      obtain ⟨T, hT'⟩ : ∃ T, T = rDL R i k.toNat := ⟨_, rfl⟩
      rw [← hT'] at tw okk c1 c2 up
      have nx := fun w' cw' fw' (x : Int) (hx : x = R 1 - 1 - (k + 1)) => ih (by omega) w' cw' fw' x hx
      have t1 : w 282 (r + 267 + e) = T (267 + e) := by rw [show r + 267 + e = r + (267 + e) by omega, tw.2 _ (by omega) (by omega)]
      have t2 : w 282 (r + 315 + e) = T (315 + e) := by rw [show r + 315 + e = r + (315 + e) by omega, tw.2 _ (by omega) (by omega)]
      have t0 : w 282 (r + 1) = T 1 := tw.2 1 (by decide) (by decide)
      have hTw : TW w := by show TW0 (w 280); rw [fw.t280]; exact hT
      have T48 := okk.1.2.1
      have call : (T (267 + e) = i ∨ T (315 + e) = i) → ∀ Q' : qQ, (∀ w', TRw w' r (rDL R i (k + 1).toNat) → FV (tmS r) h.2 w' → Q' none ((h.1.1, 0, 0), w')) → qM l D (d + 2, 0, 0) m_Mo_dropEdge [.inr (.inr 280), .inl e] ((h.1.1, 0, 0), w) Q' := fun z Q' hq' => by
        refine sp_Mo_dropEdge (d := d) (h := ((h.1.1, 0, 0), w)) hTw ⟨by show 0 ≤ w 280 5; omega, by show w 280 5 ≤ 66297; omega⟩ ⟨by omega, by show e < w 282 (w 280 5 + 1); rw [y5, t0]; omega, by show w 282 (w 280 5 + 1) ≤ 48; rw [y5, t0]; omega⟩ ?_
        refine hq' _ ?_ (tE_fv fw y5 (by omega) (by show w 282 (w 280 5 + 1) - 1 ≤ 48; rw [y5, t0]; omega))
        rw [up, if_pos z]
        exact TRw_De tw y5 ⟨by omega, by omega, by omega⟩
      have stay : ¬ (T (267 + e) = i ∨ T (315 + e) = i) → TRw w r (rDL R i (k + 1).toNat) := fun z => by
        rw [up, if_neg z]; exact tw
      clear hQ l33 l105 okS ih up ok tw okk F hTw hT tr
      by_cases z : T (267 + e) = i ∨ T (315 + e) = i
      · have fh : f_Mo_has e i w ≠ 0 := fun q => (f_has.1 q) (by rw [y5, t1, t2]; exact z)
        refine Mo_dropNode_7 _ _ _ ?_
        simp only [w_Mo_dropNode_7, w_Mo_dropNode_25, s_ic, s_lc, s_null, s_iload, s_lload, s_aload, s_istore, s_lstore, s_astore, s_iinc, s_iadd, s_isub, s_imul, s_iand, s_ior, s_ixor, s_ishl, s_ishr, s_idiv, s_irem, s_ineg, s_ladd, s_lsub, s_lmul, s_lneg, s_ldiv, s_lrem, s_lshl, s_lshr, s_lor, s_land, s_lcmp, s_i2l, s_l2i, s_i2b, s_dup, s_pop, s_dup2, s_dupx1, s_alen, s_ifnull, s_ifnon, s_icmp_eq, s_icmp_ne, s_icmp_lt, s_icmp_ge, s_icmp_gt, s_icmp_le, s_if_eq, s_if_ne, s_if_lt, s_if_ge, s_if_gt, s_if_le, s_getI, s_getL, s_getR, s_putI, s_putZ, s_putL, s_putR, s_iald, s_bald, s_lald, s_aald, s_iast, s_bast, s_last, s_iret, s_zret, s_lret, s_aret, s_vret, s_tbl, q_tab, s_acopy, s_new, s_newa, s_oinit, s_aast, q_nth, qst1, qst2, q_cl1, q_nx, q_ent, qcat, q_cs, q_up_mk, q_cpy_mk, List.cons_append, List.nil_append, List.append_nil, List.replicate, List.take_succ_cons, List.take_zero, List.drop_succ_cons, List.drop_zero, List.reverse_cons, List.reverse_nil, List.length_cons, List.length_nil, List.map_cons, List.map_nil, List.sum_cons, List.sum_nil, Option.toList_some, Option.toList_none, true_and, and_true, true_or, or_true, Nat.sub_zero, Nat.reduceAdd, Nat.reduceSub, Nat.reduceLeDiff, Int.reduceAdd, Int.reduceLE, s_sc, s_strC, s_strV, s_alenC, s_baldC, s_gst, s_i2c, s_cret, s_athrow, sh_280, sh_282, s_Mo_has, e_Mo_has, p_Mo_has, e_Mo_tail, e_Mo_head, p_Mo_tail, p_Mo_head, f_Mo_tail, f_Mo_head, y5, y2, t1, t2]
        repeat' (first | with_reducible apply And.intro | with_reducible intro _)
        all_goals first | contradiction | omega | (exfalso; omega) | skip
        all_goals (refine ⟨by simp only [List.length_cons, List.length_nil]; omega, Nat.le_of_ble_eq_true rfl, ⟨by decide, by rw [sh_280]⟩, ?_⟩)
        all_goals (refine call z _ (fun w' cw' fw' => ?_))
        all_goals (simp only [s_ic, s_lc, s_null, s_iload, s_lload, s_aload, s_istore, s_lstore, s_astore, s_iinc, s_iadd, s_isub, s_imul, s_iand, s_ior, s_ixor, s_ishl, s_ishr, s_idiv, s_irem, s_ineg, s_ladd, s_lsub, s_lmul, s_lneg, s_ldiv, s_lrem, s_lshl, s_lshr, s_lor, s_land, s_lcmp, s_i2l, s_l2i, s_i2b, s_dup, s_pop, s_dup2, s_dupx1, s_alen, s_ifnull, s_ifnon, s_icmp_eq, s_icmp_ne, s_icmp_lt, s_icmp_ge, s_icmp_gt, s_icmp_le, s_if_eq, s_if_ne, s_if_lt, s_if_ge, s_if_gt, s_if_le, s_getI, s_getL, s_getR, s_putI, s_putZ, s_putL, s_putR, s_iald, s_bald, s_lald, s_aald, s_iast, s_bast, s_last, s_iret, s_zret, s_lret, s_aret, s_vret, s_tbl, q_tab, s_acopy, s_new, s_newa, s_oinit, s_aast, q_nth, qst1, qst2, q_cl1, q_nx, q_ent, qcat, q_cs, q_up_mk, q_cpy_mk, List.cons_append, List.nil_append, List.append_nil, List.replicate, List.take_succ_cons, List.take_zero, List.drop_succ_cons, List.drop_zero, List.reverse_cons, List.reverse_nil, List.length_cons, List.length_nil, List.map_cons, List.map_nil, List.sum_cons, List.sum_nil, Option.toList_some, Option.toList_none, true_and, and_true, true_or, or_true, Nat.sub_zero, Nat.reduceAdd, Nat.reduceSub, Nat.reduceLeDiff, Int.reduceAdd, Int.reduceLE, s_sc, s_strC, s_strV, s_alenC, s_baldC, s_gst, s_i2c, s_cret, s_athrow])
        repeat' (first | with_reducible apply And.intro | with_reducible intro _)
        all_goals first | omega | (with_reducible refine nx _ cw' fw' _ ?_ <;> omega) | (exfalso; omega)
      · have fh : f_Mo_has e i w = 0 := f_has.2 (by rw [y5, t1, t2]; exact z)
        have st := nx w (stay z) fw
        clear call nx stay
        refine Mo_dropNode_7 _ _ _ ?_
        simp only [w_Mo_dropNode_7, w_Mo_dropNode_25, s_ic, s_lc, s_null, s_iload, s_lload, s_aload, s_istore, s_lstore, s_astore, s_iinc, s_iadd, s_isub, s_imul, s_iand, s_ior, s_ixor, s_ishl, s_ishr, s_idiv, s_irem, s_ineg, s_ladd, s_lsub, s_lmul, s_lneg, s_ldiv, s_lrem, s_lshl, s_lshr, s_lor, s_land, s_lcmp, s_i2l, s_l2i, s_i2b, s_dup, s_pop, s_dup2, s_dupx1, s_alen, s_ifnull, s_ifnon, s_icmp_eq, s_icmp_ne, s_icmp_lt, s_icmp_ge, s_icmp_gt, s_icmp_le, s_if_eq, s_if_ne, s_if_lt, s_if_ge, s_if_gt, s_if_le, s_getI, s_getL, s_getR, s_putI, s_putZ, s_putL, s_putR, s_iald, s_bald, s_lald, s_aald, s_iast, s_bast, s_last, s_iret, s_zret, s_lret, s_aret, s_vret, s_tbl, q_tab, s_acopy, s_new, s_newa, s_oinit, s_aast, q_nth, qst1, qst2, q_cl1, q_nx, q_ent, qcat, q_cs, q_up_mk, q_cpy_mk, List.cons_append, List.nil_append, List.append_nil, List.replicate, List.take_succ_cons, List.take_zero, List.drop_succ_cons, List.drop_zero, List.reverse_cons, List.reverse_nil, List.length_cons, List.length_nil, List.map_cons, List.map_nil, List.sum_cons, List.sum_nil, Option.toList_some, Option.toList_none, true_and, and_true, true_or, or_true, Nat.sub_zero, Nat.reduceAdd, Nat.reduceSub, Nat.reduceLeDiff, Int.reduceAdd, Int.reduceLE, s_sc, s_strC, s_strV, s_alenC, s_baldC, s_gst, s_i2c, s_cret, s_athrow, sh_280, sh_282, s_Mo_has, e_Mo_has, p_Mo_has, e_Mo_tail, e_Mo_head, p_Mo_tail, p_Mo_head, f_Mo_tail, f_Mo_head, y5, y2, t1, t2]
        repeat' (first | with_reducible apply And.intro | with_reducible intro _)
        all_goals first | contradiction | omega | (exact st _ (by omega)) | (exfalso; omega)
  refine qM.o0 4 rfl (by decide) (Nat.le_of_ble_eq_true rfl) ?_
  have st := l7 0 m0.1 (Int.le_refl 0) h.2 tr FV.rf
  have t0 := tr.2 1 (by decide) (by decide)
  clear hQ l33 l105 l7 okS ok tr F
  refine Mo_dropNode_0 _ _ _ ?_
  simp only [w_Mo_dropNode_0, w_Mo_dropNode_7, w_Mo_dropNode_25, w_Mo_dropNode_31, w_Mo_dropNode_33, w_Mo_dropNode_69, w_Mo_dropNode_97, w_Mo_dropNode_103, w_Mo_dropNode_105, w_Mo_dropNode_117, w_Mo_dropNode_168, w_Mo_dropNode_270, s_ic, s_lc, s_null, s_iload, s_lload, s_aload, s_istore, s_lstore, s_astore, s_iinc, s_iadd, s_isub, s_imul, s_iand, s_ior, s_ixor, s_ishl, s_ishr, s_idiv, s_irem, s_ineg, s_ladd, s_lsub, s_lmul, s_lneg, s_ldiv, s_lrem, s_lshl, s_lshr, s_lor, s_land, s_lcmp, s_i2l, s_l2i, s_i2b, s_dup, s_pop, s_dup2, s_dupx1, s_alen, s_ifnull, s_ifnon, s_icmp_eq, s_icmp_ne, s_icmp_lt, s_icmp_ge, s_icmp_gt, s_icmp_le, s_if_eq, s_if_ne, s_if_lt, s_if_ge, s_if_gt, s_if_le, s_getI, s_getL, s_getR, s_putI, s_putZ, s_putL, s_putR, s_iald, s_bald, s_lald, s_aald, s_iast, s_bast, s_last, s_iret, s_zret, s_lret, s_aret, s_vret, s_invS, s_invV, s_tbl, q_tab, s_acopy, s_new, s_newa, s_oinit, s_invI, s_aast, q_nth, qst1, qst2, q_cl1, q_nx, q_ent, qcat, q_cs, q_up_mk, q_cpy_mk, List.cons_append, List.nil_append, List.append_nil, List.replicate, List.take_succ_cons, List.take_zero, List.drop_succ_cons, List.drop_zero, List.reverse_cons, List.reverse_nil, List.length_cons, List.length_nil, List.map_cons, List.map_nil, List.sum_cons, List.sum_nil, Option.toList_some, Option.toList_none, true_and, and_true, true_or, or_true, Nat.sub_zero, Nat.reduceAdd, Nat.reduceSub, Nat.reduceLeDiff, Int.reduceAdd, Int.reduceLE, s_Mo_edges, e_Mo_edges, p_Mo_edges, f_Mo_edges, s_Mo_has, e_Mo_tail, p_Mo_tail, f_Mo_tail, e_Mo_head, p_Mo_head, f_Mo_head, e_Mo_has, p_Mo_has, s_Mo_head, s_Mo_nodes, e_Mo_nodes, p_Mo_nodes, f_Mo_nodes, s_Mo_tail, sh_280, sh_282, er, z2, t0]
  repeat' (first | with_reducible apply And.intro | with_reducible intro _)
  all_goals first | contradiction | omega | (exact st _ (by omega)) | (unfold r32; omega)
