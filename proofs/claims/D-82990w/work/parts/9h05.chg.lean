/-! ===== change: the component (printed by gen/p_chg.py) ===== -/
theorem oc_Vb {l : Launch} {D : qD} {M : qm} {pc : Nat} {Q : qQ} {K : qK} {d0 : Nat} {B b : Nat × Nat} {M' : qm} {idx n ci : Nat} (g : q_gV M.1.cls idx ci n M') (hd : decode M.2.1 pc = .ok (.invokevirtual idx, 3))
    (k : qI (K) (qR l D (d0 + 1, B) M (pc + 3) Q)) : qI (s_invV l D (d0, b) ci M' n K) (qR l D (d0 + 1, B) M pc Q) :=
  ok_invV (Nat.le_refl d0) (cr_ok ci g.1) g.2.1 (by have := g.1; omega) g.2.2.1 g.2.2.2.1 g.2.2.2.2.1 g.2.2.2.2.2.1 g.2.2.2.2.2.2 hd k
def w_DH_change_25m (l : Launch) (D : qD) (d0 : Nat) (B : Nat × Nat) (Q : qQ) : qK := (s_aload 0 (s_getR 0 2 (s_iload 1 (s_aald (s_astore 5 (s_aload 5 (s_invV l D (d0, 12, 550) 1 m_Pl_more 0 (s_astore 6 (s_aload 0 (s_aload 6 (s_iload 2 (s_iload 3 (s_iload 4 (s_invV l D (d0, 0, 0) 0 m_DH_act 4 (s_istore 7 (s_aload 5 (s_dup (s_getI 1 1 (s_ic (1) (s_iadd (s_putI 1 1 (s_aload 5 (s_aload 5 (s_getI 1 1 (s_putI 1 2 (s_aload 0 (s_iload 1 (s_invV l D (d0, 0, 0) 0 m_DH_changed 1 (s_iload 7 (s_iret Q))))))))))))))))))))))))))))))
set_option maxRecDepth 100000 in
theorem DH_change_25m {l : Launch} {D : qD} {d0 : Nat} {B : Nat × Nat} {Q : qQ} : qI (w_DH_change_25m l D d0 B Q) (qR l D (d0 + 1, B) m_DH_change 25 Q) :=
  ok_aload_n 0 rfl (by decide +kernel) <| og_R rfl lf_DH_16 (by decide +kernel) <| ok_iload_n 1 rfl (by decide +kernel) <| ok_aald (by decide +kernel) <| ok_astore (by decide +kernel) (by decide) <| ok_aload (by decide +kernel) <| oc_Vb lm_DH_315 (by decide +kernel) <| ok_astore (by decide +kernel) (by decide) <| ok_aload_n 0 rfl (by decide +kernel) <| ok_aload (by decide +kernel) <| ok_iload_n 2 rfl (by decide +kernel) <| ok_iload_n 3 rfl (by decide +kernel) <| ok_iload (by decide +kernel) <| oc_V lm_DH_318 (by decide +kernel) <| ok_istore (by decide +kernel) (by decide) <| ok_aload (by decide +kernel) <| ok_dup (by decide +kernel) <| og_I rfl lf_DH_194 (by decide +kernel) <| ok_iconst (by decide +kernel) ⟨by decide, by decide⟩ <| ok_iadd (by decide +kernel) <| op_I rfl lp_DH_194 (fun h => by cases h) (by decide +kernel) <| ok_aload (by decide +kernel) <| ok_aload (by decide +kernel) <| og_I rfl lf_DH_194 (by decide +kernel) <| op_I rfl lp_DH_197 (fun h => by cases h) (by decide +kernel) <| ok_aload_n 0 rfl (by decide +kernel) <| ok_iload_n 1 rfl (by decide +kernel) <| oc_V lm_DH_209 (by decide +kernel) <| ok_iload (by decide +kernel) <| ok_iret rfl (by decide +kernel)
def w_DH_change_0m (l : Launch) (D : qD) (d0 : Nat) (B : Nat × Nat) (Q : qQ) : qK := (s_iload 1 (s_DH_isPlace d0 (s_if_eq (w_DH_change_23 l D d0 B Q) (s_aload 0 (s_aload 0 (s_iload 1 (s_invV l D (d0, 0, 0) 0 m_DH_graph 1 (s_iload 2 (s_iload 3 (s_iload 4 (s_invV l D (d0, 0, 0) 0 m_DH_canChange 4 (s_if_ne (w_DH_change_25m l D d0 B Q) (w_DH_change_23 l D d0 B Q)))))))))))))
set_option maxRecDepth 100000 in
theorem DH_change_0m {l : Launch} {D : qD} {d0 : Nat} {B : Nat × Nat} {Q : qQ} : qI (w_DH_change_0m l D d0 B Q) (qR l D (d0 + 1, B) m_DH_change 0 Q) :=
  ok_iload_n 1 rfl (by decide +kernel) <| ok_fn to_DH_isPlace <| oc_S lm_DH_175 (by decide +kernel) <| ok_if_eq (t := 23) (off := 19) (by decide +kernel) (by decide) DH_change_23 <| ok_aload_n 0 rfl (by decide +kernel) <| ok_aload_n 0 rfl (by decide +kernel) <| ok_iload_n 1 rfl (by decide +kernel) <| oc_V lm_DH_168 (by decide +kernel) <| ok_iload_n 2 rfl (by decide +kernel) <| ok_iload_n 3 rfl (by decide +kernel) <| ok_iload (by decide +kernel) <| oc_V lm_DH_311 (by decide +kernel) <| ok_if_ne (t := 25) (off := 5) (by decide +kernel) (by decide) DH_change_25m <| DH_change_23
theorem moS_zc {gi g a j : Int} (s : moS gi g a j) : zcS gi g a j := by
  unfold moS at s
  unfold zcS
  rcases s with s | s | s
  · exact Or.inr (Or.inr (Or.inr (Or.inr (Or.inr (Or.inr (Or.inl ⟨s.1, Or.inl s.2⟩))))))
  · exact Or.inr (Or.inr (Or.inr (Or.inr (Or.inr (Or.inr (Or.inr (Or.inl s)))))))
  · exact Or.inr (Or.inr (Or.inr (Or.inr (Or.inr (Or.inr (Or.inr (Or.inr (Or.inr (Or.inr (Or.inr (Or.inl s)))))))))))
theorem acS_zc {gi g a j : Int} (s : acS g a j) : zcS gi g a j := by
  unfold acS grS at s
  unfold zcS
  rcases s with s | s
  · exact Or.inr (Or.inr (Or.inr (Or.inr (Or.inr (Or.inr (Or.inr (Or.inr (Or.inr (Or.inr (Or.inr (Or.inl ⟨s.1, s.2.1, fun e => Or.inr (s.2.2 e)⟩)))))))))))
  · exact Or.inr (Or.inr (Or.inr (Or.inr (Or.inr (Or.inl s)))))
theorem dfS_zc {gi g a j : Int} (s : dfS a j) : zcS gi g a j := Or.inr (Or.inr (Or.inr (Or.inr (Or.inr (Or.inl s)))))
theorem dfS_fw {v v' : Int → Int → Int} (f : FV dfS v v') : FW [275] [] v v' := fun a j ha _ => f a j (fun s => ha (by rw [show a = 275 from s]; decide))
theorem REL.df {nc : Int} {v v' : Int → Int → Int} (R : REL nc v) (f : FV dfS v v') : REL nc v' := R.tw (dfS_fw f) (by decide +kernel)
/-- what is so behind a change of the component -/
def CHQ (gi : Int) (nc nc' : Nat) (v0 : Int → Int → Int) (g : Int) (Rn : Int → Int) (v' : Int → Int → Int) : Prop := ∃ v1 v2 v3 : Int → Int → Int, FV dfS v0 v1 ∧ MOR gi nc nc' v1 g v2 ∧ (CR v3 g Rn ∧ FV (acS g) v2 v3) ∧ cgQ gi (up2 (up2 v3 (3 + 27 * gi) 1 (moN (v0 (pcO gi) 1) + 1)) (3 + 27 * gi) 2 (moN (v0 (pcO gi) 1) + 1)) v'
set_option maxRecDepth 100000 in
theorem DH_ch_25 {l : Launch} {D : qD} {d : Nat} {gi what a b : Int} {Rr : Int → Int} {h : qh} {v1 : Int → Int → Int} {Q : qQ} (R1 : REL h.1.1 v1) (f1 : FV dfS h.2 v1) (hg : 0 ≤ gi ∧ gi < 4) (cr : CR v1 (gNow v1 gi) Rr) (ok : GOK Rr) (can : CAN Rr what a b)
    (hq : ∀ nc' g v, CHQ gi h.1.1 nc' h.2 g (ACT Rr what a b) v → Q (some (.inl (ANS Rr what))) ((nc', h.1.2.1 - 12, h.1.2.2 - 550), v)) : w_DH_change_25m l D (d + 3) (12, 550) (fun r h' => Q r ((h'.1.1, h.1.2.1 - 12, h.1.2.2 - 550), h'.2)) [some (.inr (.inr 0)), some (.inl gi), some (.inl what), some (.inl a), some (.inl b), none, none, none] [] ((h.1.1, 12, 550), v1) := by
  have hw1 := R1.1.1.1
  obtain ⟨⟨p2, -, -⟩, ⟨q1, -, -⟩, -, ⟨b1, -, -⟩, -⟩ := isPs_f hw1 (isPs_O hg)
  have q1' : q_shp (3 + 27 * gi) = (1, 0) := q1
  have q1c : (q_shp (3 + 27 * gi)).1 = 1 := by rw [q1']
  have p2' : v1 2 gi = 3 + 27 * gi := p2
  have z2 := hw1.f0_2
  have pn : v1 (3 + 27 * gi) 1 = h.2 (3 + 27 * gi) 1 := f1 _ _ (fun s => by have s' : 3 + 27 * gi = 275 := s; omega)
  have nb := (R1.2.1.1 gi hg).1
  have nb' : 0 ≤ v1 (3 + 27 * gi) 1 ∧ v1 (3 + 27 * gi) 1 ≤ 30 := ⟨nb.2.1, by have := nb.2.2; exact Int.le_trans this.1 this.2⟩
  obtain ⟨k, hk⟩ : ∃ k, k = moN (h.2 (pcO gi) 1) := ⟨_, rfl⟩
  have kb : 0 ≤ k ∧ k ≤ 29 := by
    have e : h.2 (pcO gi) 1 = v1 (3 + 27 * gi) 1 := pn.symm
    rw [hk, e]
    unfold moN
    by_cases z : v1 (3 + 27 * gi) 1 = 30
    · rw [if_pos z]; decide
    · rw [if_neg z]; omega
  have callM : ∀ Q' : qQ, (∀ nc' g v2, MOR gi h.1.1 nc' v1 g v2 → Q' (some (.inr (.inr g))) ((nc', 0, 0), v2)) → qM l D (d + 3, 12, 550) m_Pl_more [.inr (.inr (3 + 27 * gi))] ((h.1.1, 12, 550), v1) Q' := fun Q' c => sp_Pl_more (d := d + 1) (h := ((h.1.1, 12, 550), v1)) R1 hg (Nat.le_refl _) (Nat.le_refl _) (fun nc' g v2 m => c nc' g v2 m)
  simp only [w_DH_change_25m, s_ic, s_lc, s_null, s_iload, s_lload, s_aload, s_istore, s_lstore, s_astore, s_iinc, s_iadd, s_isub, s_imul, s_iand, s_ior, s_ixor, s_ishl, s_ishr, s_idiv, s_irem, s_ineg, s_ladd, s_lsub, s_lmul, s_lneg, s_ldiv, s_lrem, s_lshl, s_lshr, s_lor, s_land, s_lcmp, s_i2l, s_l2i, s_i2b, s_dup, s_pop, s_dup2, s_dupx1, s_alen, s_ifnull, s_ifnon, s_icmp_eq, s_icmp_ne, s_icmp_lt, s_icmp_ge, s_icmp_gt, s_icmp_le, s_if_eq, s_if_ne, s_if_lt, s_if_ge, s_if_gt, s_if_le, s_getI, s_getL, s_getR, s_putI, s_putZ, s_putL, s_putR, s_iald, s_bald, s_lald, s_aald, s_iast, s_bast, s_last, s_iret, s_zret, s_lret, s_aret, s_vret, s_tbl, q_tab, s_acopy, s_new, s_newa, s_oinit, s_aast, q_nth, qst1, qst2, q_cl1, q_nx, q_ent, qcat, q_cs, q_up_mk, q_cpy_mk, List.cons_append, List.nil_append, List.append_nil, List.replicate, List.take_succ_cons, List.take_zero, List.drop_succ_cons, List.drop_zero, List.reverse_cons, List.reverse_nil, List.length_cons, List.length_nil, List.map_cons, List.map_nil, List.sum_cons, List.sum_nil, Option.toList_some, Option.toList_none, true_and, and_true, true_or, or_true, Nat.sub_zero, Nat.reduceAdd, Nat.reduceSub, Nat.reduceLeDiff, Int.reduceAdd, Int.reduceLE, s_sc, s_strC, s_strV, s_alenC, s_baldC, s_gst, s_i2c, s_cret, s_athrow, z2, p2', sh_0, sh_2, q1']
  repeat' (first | with_reducible apply And.intro | with_reducible intro _)
  all_goals first | contradiction | omega | (exfalso; omega) | skip
  refine ⟨by simp only [List.length_cons, List.length_nil]; omega, Nat.le_of_ble_eq_true rfl, ⟨b1, q1c⟩, ?_⟩
  refine callM _ (fun nc' g v2 m => ?_)
  clear callM
  obtain ⟨⟨⟨le, nm⟩, gc, own⟩, f2, ⟨m1, m2⟩, mc⟩ := id m
  have cr2 := mc Rr cr ok
  have hw2 : HW v2 := hw1.fv hg gc (f2.wk (fun a j s => moS_zc s))
  have ap := pl_ap hg (gcl_l gc)
  have ng : 275 < g ∨ g + 11 < 275 := by have := gcl_l gc; omega
  have m1' : v2 (3 + 27 * gi) 1 = k := by
    have : v2 (3 + 27 * gi) 1 = moN (v1 (3 + 27 * gi) 1) := m1
    rw [this, pn, hk]
  have callA : ∀ Q' : qQ, (∀ v3, CR v3 g (ACT Rr what a b) → FV (acS g) v2 v3 → Q' (some (.inl (ANS Rr what))) ((nc', 0, 0), v3)) → qM l D (d + 3, 0, 0) m_DH_act [.inr (.inr 0), .inr (.inr g), .inl what, .inl a, .inl b] ((nc', 0, 0), v2) Q' := fun Q' c => sp_DH_act (d := d) (h := ((nc', 0, 0), v2)) hw2 cr2 ok ng can c
  simp only [s_ic, s_lc, s_null, s_iload, s_lload, s_aload, s_istore, s_lstore, s_astore, s_iinc, s_iadd, s_isub, s_imul, s_iand, s_ior, s_ixor, s_ishl, s_ishr, s_idiv, s_irem, s_ineg, s_ladd, s_lsub, s_lmul, s_lneg, s_ldiv, s_lrem, s_lshl, s_lshr, s_lor, s_land, s_lcmp, s_i2l, s_l2i, s_i2b, s_dup, s_pop, s_dup2, s_dupx1, s_alen, s_ifnull, s_ifnon, s_icmp_eq, s_icmp_ne, s_icmp_lt, s_icmp_ge, s_icmp_gt, s_icmp_le, s_if_eq, s_if_ne, s_if_lt, s_if_ge, s_if_gt, s_if_le, s_getI, s_getL, s_getR, s_putI, s_putZ, s_putL, s_putR, s_iald, s_bald, s_lald, s_aald, s_iast, s_bast, s_last, s_iret, s_zret, s_lret, s_aret, s_vret, s_tbl, q_tab, s_acopy, s_new, s_newa, s_oinit, s_aast, q_nth, qst1, qst2, q_cl1, q_nx, q_ent, qcat, q_cs, q_up_mk, q_cpy_mk, List.cons_append, List.nil_append, List.append_nil, List.replicate, List.take_succ_cons, List.take_zero, List.drop_succ_cons, List.drop_zero, List.reverse_cons, List.reverse_nil, List.length_cons, List.length_nil, List.map_cons, List.map_nil, List.sum_cons, List.sum_nil, Option.toList_some, Option.toList_none, true_and, and_true, true_or, or_true, Nat.sub_zero, Nat.reduceAdd, Nat.reduceSub, Nat.reduceLeDiff, Int.reduceAdd, Int.reduceLE, s_sc, s_strC, s_strV, s_alenC, s_baldC, s_gst, s_i2c, s_cret, s_athrow]
  refine ⟨by simp only [List.length_cons, List.length_nil]; omega, Nat.le_of_ble_eq_true rfl, ⟨by decide, by rw [sh_0]⟩, ?_⟩
  refine callA _ (fun v3 cr3 f3 => ?_)
  have hw3 : HW v3 := hw2.fv hg gc (f3.wk (fun a j s => acS_zc s))
  have p3 : ∀ j, v3 (3 + 27 * gi) j = v2 (3 + 27 * gi) j := fun j => f3 _ j (fun s => by unfold acS grS at s; omega)
  have e31 : v3 (3 + 27 * gi) 1 = k := by rw [p3]; exact m1'
  have e4 : ∀ z, up2 v3 (3 + 27 * gi) 1 z (3 + 27 * gi) 1 = z := fun z => up2_at _ _ _ _
  have hw4 : HW (up2 (up2 v3 (3 + 27 * gi) 1 (k + 1)) (3 + 27 * gi) 2 (k + 1)) := hw3.fv hg gc ((FV.rf.up (rdS_zc (rdS_pc (Or.inl rfl)))).up (rdS_zc (rdS_pc (Or.inr rfl))))
  have fin : ∀ v, cgQ gi (up2 (up2 v3 (3 + 27 * gi) 1 (k + 1)) (3 + 27 * gi) 2 (k + 1)) v → Q (some (.inl (ANS Rr what))) ((nc', h.1.2.1 - 12, h.1.2.2 - 550), v) := fun v c => hq nc' g v ⟨v1, v2, v3, f1, m, ⟨cr3, f3⟩, by rw [← hk]; exact c⟩
  clear callA hq m mc cr2 cr3 cr own f2 f3 m1 m2 hw1 hw2 hw3 p3 R1 f1 nm le nb can ok
  simp only [s_ic, s_lc, s_null, s_iload, s_lload, s_aload, s_istore, s_lstore, s_astore, s_iinc, s_iadd, s_isub, s_imul, s_iand, s_ior, s_ixor, s_ishl, s_ishr, s_idiv, s_irem, s_ineg, s_ladd, s_lsub, s_lmul, s_lneg, s_ldiv, s_lrem, s_lshl, s_lshr, s_lor, s_land, s_lcmp, s_i2l, s_l2i, s_i2b, s_dup, s_pop, s_dup2, s_dupx1, s_alen, s_ifnull, s_ifnon, s_icmp_eq, s_icmp_ne, s_icmp_lt, s_icmp_ge, s_icmp_gt, s_icmp_le, s_if_eq, s_if_ne, s_if_lt, s_if_ge, s_if_gt, s_if_le, s_getI, s_getL, s_getR, s_putI, s_putZ, s_putL, s_putR, s_iald, s_bald, s_lald, s_aald, s_iast, s_bast, s_last, s_iret, s_zret, s_lret, s_aret, s_vret, s_tbl, q_tab, s_acopy, s_new, s_newa, s_oinit, s_aast, q_nth, qst1, qst2, q_cl1, q_nx, q_ent, qcat, q_cs, q_up_mk, q_cpy_mk, List.cons_append, List.nil_append, List.append_nil, List.replicate, List.take_succ_cons, List.take_zero, List.drop_succ_cons, List.drop_zero, List.reverse_cons, List.reverse_nil, List.length_cons, List.length_nil, List.map_cons, List.map_nil, List.sum_cons, List.sum_nil, Option.toList_some, Option.toList_none, true_and, and_true, true_or, or_true, Nat.sub_zero, Nat.reduceAdd, Nat.reduceSub, Nat.reduceLeDiff, Int.reduceAdd, Int.reduceLE, s_sc, s_strC, s_strV, s_alenC, s_baldC, s_gst, s_i2c, s_cret, s_athrow, q1', e31, e4]
  repeat' (first | with_reducible apply And.intro | with_reducible intro _)
  all_goals first | contradiction | omega | (unfold r32; omega) | (exfalso; omega) | skip
  refine iv_chd (d := d + 1) hw4 hg (Nat.le_of_ble_eq_true rfl) (fun v c => ?_)
  have s := fin v c
  clear fin
  simp only [s_ic, s_lc, s_null, s_iload, s_lload, s_aload, s_istore, s_lstore, s_astore, s_iinc, s_iadd, s_isub, s_imul, s_iand, s_ior, s_ixor, s_ishl, s_ishr, s_idiv, s_irem, s_ineg, s_ladd, s_lsub, s_lmul, s_lneg, s_ldiv, s_lrem, s_lshl, s_lshr, s_lor, s_land, s_lcmp, s_i2l, s_l2i, s_i2b, s_dup, s_pop, s_dup2, s_dupx1, s_alen, s_ifnull, s_ifnon, s_icmp_eq, s_icmp_ne, s_icmp_lt, s_icmp_ge, s_icmp_gt, s_icmp_le, s_if_eq, s_if_ne, s_if_lt, s_if_ge, s_if_gt, s_if_le, s_getI, s_getL, s_getR, s_putI, s_putZ, s_putL, s_putR, s_iald, s_bald, s_lald, s_aald, s_iast, s_bast, s_last, s_iret, s_zret, s_lret, s_aret, s_vret, s_tbl, q_tab, s_acopy, s_new, s_newa, s_oinit, s_aast, q_nth, qst1, qst2, q_cl1, q_nx, q_ent, qcat, q_cs, q_up_mk, q_cpy_mk, List.cons_append, List.nil_append, List.append_nil, List.replicate, List.take_succ_cons, List.take_zero, List.drop_succ_cons, List.drop_zero, List.reverse_cons, List.reverse_nil, List.length_cons, List.length_nil, List.map_cons, List.map_nil, List.sum_cons, List.sum_nil, Option.toList_some, Option.toList_none, true_and, and_true, true_or, or_true, Nat.sub_zero, Nat.reduceAdd, Nat.reduceSub, Nat.reduceLeDiff, Int.reduceAdd, Int.reduceLE, s_sc, s_strC, s_strV, s_alenC, s_baldC, s_gst, s_i2c, s_cret, s_athrow]
  repeat' (first | with_reducible apply And.intro | with_reducible intro _)
  all_goals first | contradiction | omega | exact s | (exfalso; omega)
set_option maxRecDepth 100000 in
theorem sp_DH_change {l : Launch} {D : qD} {d : Nat} {gi what a b : Int} {Rr : Int → Int} {h : qh} {Q : qQ} (R : REL h.1.1 h.2) (hc : 12 ≤ h.1.2.1) (hs : 550 ≤ h.1.2.2) (rr : (0 ≤ gi ∧ gi < 4) → CR h.2 (gNow h.2 gi) Rr ∧ GOK Rr)
    (hq0 : ¬ ((0 ≤ gi ∧ gi < 4) ∧ CAN Rr what a b) → ∀ v, FV dfS h.2 v → Q (some (.inl (-1))) ((h.1.1, h.1.2.1 - 12, h.1.2.2 - 550), v))
    (hq1 : (0 ≤ gi ∧ gi < 4) → CAN Rr what a b → ∀ nc' g v, CHQ gi h.1.1 nc' h.2 g (ACT Rr what a b) v → Q (some (.inl (ANS Rr what))) ((nc', h.1.2.1 - 12, h.1.2.2 - 550), v)) : qM l D (d + 4, 12, 550) m_DH_change [.inr (.inr 0), .inl gi, .inl what, .inl a, .inl b] h Q := by
  have hw := R.1.1.1
  refine qM.of (by decide) (Nat.le_of_ble_eq_true rfl) hc hs ?_
  refine DH_change_0m [some (.inr (.inr 0)), some (.inl gi), some (.inl what), some (.inl a), some (.inl b), none, none, none] [] _ ?_
  by_cases hg : 0 ≤ gi ∧ gi < 4
  · have pi := isPl_1 (v := h.2) hg
    obtain ⟨cr, ok⟩ := rr hg
    obtain ⟨gc, -⟩ := gNow_g (R.2.1.1 gi hg)
    have kb := (R.2.1.1 gi hg).1
    have kb' : 0 ≤ h.2 (pcO gi) 1 ∧ h.2 (pcO gi) 1 < 31 := ⟨kb.2.1, by have := kb.2.2; exact Int.lt_of_le_of_lt (Int.le_trans this.1 this.2) (by decide)⟩
    have callG : ∀ Q' : qQ, Q' (some (.inr (.inr (gNow h.2 gi)))) ((h.1.1, 12, 550), h.2) → qM l D (d + 3, 0, 0) m_DH_graph [.inr (.inr 0), .inl gi] ((h.1.1, 12, 550), h.2) Q' := fun Q' c => sp_DH_graph (h := ((h.1.1, 12, 550), h.2)) hw (isPs_O hg) rfl kb' rfl c
    have ng : 275 < gNow h.2 gi ∨ gNow h.2 gi + 11 < 275 := by have := gcl_l gc; omega
    have callC : ∀ Q' : qQ, (CAN Rr what a b → ∀ v, FV dfS h.2 v → Q' (some (.inl 1)) ((h.1.1, 12, 550), v)) → (¬ CAN Rr what a b → ∀ v, FV dfS h.2 v → Q' (some (.inl 0)) ((h.1.1, 12, 550), v)) → qM l D (d + 3, 0, 0) m_DH_canChange [.inr (.inr 0), .inr (.inr (gNow h.2 gi)), .inl what, .inl a, .inl b] ((h.1.1, 12, 550), h.2) Q' := fun Q' c1 c0 => sp_DH_canChange (d := d + 1) (h := ((h.1.1, 12, 550), h.2)) hw cr ok ng c1 c0
    simp only [w_DH_change_0m, w_DH_change_23, s_ic, s_lc, s_null, s_iload, s_lload, s_aload, s_istore, s_lstore, s_astore, s_iinc, s_iadd, s_isub, s_imul, s_iand, s_ior, s_ixor, s_ishl, s_ishr, s_idiv, s_irem, s_ineg, s_ladd, s_lsub, s_lmul, s_lneg, s_ldiv, s_lrem, s_lshl, s_lshr, s_lor, s_land, s_lcmp, s_i2l, s_l2i, s_i2b, s_dup, s_pop, s_dup2, s_dupx1, s_alen, s_ifnull, s_ifnon, s_icmp_eq, s_icmp_ne, s_icmp_lt, s_icmp_ge, s_icmp_gt, s_icmp_le, s_if_eq, s_if_ne, s_if_lt, s_if_ge, s_if_gt, s_if_le, s_getI, s_getL, s_getR, s_putI, s_putZ, s_putL, s_putR, s_iald, s_bald, s_lald, s_aald, s_iast, s_bast, s_last, s_iret, s_zret, s_lret, s_aret, s_vret, s_tbl, q_tab, s_acopy, s_new, s_newa, s_oinit, s_aast, q_nth, qst1, qst2, q_cl1, q_nx, q_ent, qcat, q_cs, q_up_mk, q_cpy_mk, List.cons_append, List.nil_append, List.append_nil, List.replicate, List.take_succ_cons, List.take_zero, List.drop_succ_cons, List.drop_zero, List.reverse_cons, List.reverse_nil, List.length_cons, List.length_nil, List.map_cons, List.map_nil, List.sum_cons, List.sum_nil, Option.toList_some, Option.toList_none, true_and, and_true, true_or, or_true, Nat.sub_zero, Nat.reduceAdd, Nat.reduceSub, Nat.reduceLeDiff, Int.reduceAdd, Int.reduceLE, s_sc, s_strC, s_strV, s_alenC, s_baldC, s_gst, s_i2c, s_cret, s_athrow, s_DH_isPlace, pi]
    repeat' (first | with_reducible apply And.intro | with_reducible intro _)
    all_goals first | contradiction | omega | (exfalso; omega) | skip
    refine ⟨by simp only [List.length_cons, List.length_nil]; omega, Nat.le_of_ble_eq_true rfl, ⟨by decide, by rw [sh_0]⟩, ?_⟩
    refine callG _ ?_
    simp only [s_ic, s_lc, s_null, s_iload, s_lload, s_aload, s_istore, s_lstore, s_astore, s_iinc, s_iadd, s_isub, s_imul, s_iand, s_ior, s_ixor, s_ishl, s_ishr, s_idiv, s_irem, s_ineg, s_ladd, s_lsub, s_lmul, s_lneg, s_ldiv, s_lrem, s_lshl, s_lshr, s_lor, s_land, s_lcmp, s_i2l, s_l2i, s_i2b, s_dup, s_pop, s_dup2, s_dupx1, s_alen, s_ifnull, s_ifnon, s_icmp_eq, s_icmp_ne, s_icmp_lt, s_icmp_ge, s_icmp_gt, s_icmp_le, s_if_eq, s_if_ne, s_if_lt, s_if_ge, s_if_gt, s_if_le, s_getI, s_getL, s_getR, s_putI, s_putZ, s_putL, s_putR, s_iald, s_bald, s_lald, s_aald, s_iast, s_bast, s_last, s_iret, s_zret, s_lret, s_aret, s_vret, s_tbl, q_tab, s_acopy, s_new, s_newa, s_oinit, s_aast, q_nth, qst1, qst2, q_cl1, q_nx, q_ent, qcat, q_cs, q_up_mk, q_cpy_mk, List.cons_append, List.nil_append, List.append_nil, List.replicate, List.take_succ_cons, List.take_zero, List.drop_succ_cons, List.drop_zero, List.reverse_cons, List.reverse_nil, List.length_cons, List.length_nil, List.map_cons, List.map_nil, List.sum_cons, List.sum_nil, Option.toList_some, Option.toList_none, true_and, and_true, true_or, or_true, Nat.sub_zero, Nat.reduceAdd, Nat.reduceSub, Nat.reduceLeDiff, Int.reduceAdd, Int.reduceLE, s_sc, s_strC, s_strV, s_alenC, s_baldC, s_gst, s_i2c, s_cret, s_athrow]
    refine ⟨by simp only [List.length_cons, List.length_nil]; omega, Nat.le_of_ble_eq_true rfl, ⟨by decide, by rw [sh_0]⟩, ?_⟩
    refine callC _ (fun can v fv => ?_) (fun no v fv => ?_)
    · have R1 := R.df fv
      have eg : gNow v gi = gNow h.2 gi := gNow.cg (fv _ _ (fun s => by have s' : 3 + 27 * gi = 275 := s; omega)) (fv.c (fun j s => by have s' : 4 + 27 * gi = 275 := s; omega))
      have cr1 : CR v (gNow v gi) Rr := by
        rw [eg]
        exact cr.cg (fun j j0 j1 => fv.c (fun i s => by have s' : gNow h.2 gi + j = 275 := s; omega))
      have st := DH_ch_25 (l := l) (D := D) (d := d) (Q := Q) R1 fv hg cr1 ok can (hq1 hg can)
      clear hq0 hq1 callG callC R R1 cr cr1 rr hw
      simp only [s_ic, s_lc, s_null, s_iload, s_lload, s_aload, s_istore, s_lstore, s_astore, s_iinc, s_iadd, s_isub, s_imul, s_iand, s_ior, s_ixor, s_ishl, s_ishr, s_idiv, s_irem, s_ineg, s_ladd, s_lsub, s_lmul, s_lneg, s_ldiv, s_lrem, s_lshl, s_lshr, s_lor, s_land, s_lcmp, s_i2l, s_l2i, s_i2b, s_dup, s_pop, s_dup2, s_dupx1, s_alen, s_ifnull, s_ifnon, s_icmp_eq, s_icmp_ne, s_icmp_lt, s_icmp_ge, s_icmp_gt, s_icmp_le, s_if_eq, s_if_ne, s_if_lt, s_if_ge, s_if_gt, s_if_le, s_getI, s_getL, s_getR, s_putI, s_putZ, s_putL, s_putR, s_iald, s_bald, s_lald, s_aald, s_iast, s_bast, s_last, s_iret, s_zret, s_lret, s_aret, s_vret, s_tbl, q_tab, s_acopy, s_new, s_newa, s_oinit, s_aast, q_nth, qst1, qst2, q_cl1, q_nx, q_ent, qcat, q_cs, q_up_mk, q_cpy_mk, List.cons_append, List.nil_append, List.append_nil, List.replicate, List.take_succ_cons, List.take_zero, List.drop_succ_cons, List.drop_zero, List.reverse_cons, List.reverse_nil, List.length_cons, List.length_nil, List.map_cons, List.map_nil, List.sum_cons, List.sum_nil, Option.toList_some, Option.toList_none, true_and, and_true, true_or, or_true, Nat.sub_zero, Nat.reduceAdd, Nat.reduceSub, Nat.reduceLeDiff, Int.reduceAdd, Int.reduceLE, s_sc, s_strC, s_strV, s_alenC, s_baldC, s_gst, s_i2c, s_cret, s_athrow]
      repeat' (first | with_reducible apply And.intro | with_reducible intro _)
      all_goals first | contradiction | omega | exact st | (exfalso; omega)
    · have st := hq0 (fun q => no q.2) v fv
      clear hq0 hq1 callG callC R cr rr hw
      simp only [s_ic, s_lc, s_null, s_iload, s_lload, s_aload, s_istore, s_lstore, s_astore, s_iinc, s_iadd, s_isub, s_imul, s_iand, s_ior, s_ixor, s_ishl, s_ishr, s_idiv, s_irem, s_ineg, s_ladd, s_lsub, s_lmul, s_lneg, s_ldiv, s_lrem, s_lshl, s_lshr, s_lor, s_land, s_lcmp, s_i2l, s_l2i, s_i2b, s_dup, s_pop, s_dup2, s_dupx1, s_alen, s_ifnull, s_ifnon, s_icmp_eq, s_icmp_ne, s_icmp_lt, s_icmp_ge, s_icmp_gt, s_icmp_le, s_if_eq, s_if_ne, s_if_lt, s_if_ge, s_if_gt, s_if_le, s_getI, s_getL, s_getR, s_putI, s_putZ, s_putL, s_putR, s_iald, s_bald, s_lald, s_aald, s_iast, s_bast, s_last, s_iret, s_zret, s_lret, s_aret, s_vret, s_tbl, q_tab, s_acopy, s_new, s_newa, s_oinit, s_aast, q_nth, qst1, qst2, q_cl1, q_nx, q_ent, qcat, q_cs, q_up_mk, q_cpy_mk, List.cons_append, List.nil_append, List.append_nil, List.replicate, List.take_succ_cons, List.take_zero, List.drop_succ_cons, List.drop_zero, List.reverse_cons, List.reverse_nil, List.length_cons, List.length_nil, List.map_cons, List.map_nil, List.sum_cons, List.sum_nil, Option.toList_some, Option.toList_none, true_and, and_true, true_or, or_true, Nat.sub_zero, Nat.reduceAdd, Nat.reduceSub, Nat.reduceLeDiff, Int.reduceAdd, Int.reduceLE, s_sc, s_strC, s_strV, s_alenC, s_baldC, s_gst, s_i2c, s_cret, s_athrow]
      repeat' (first | with_reducible apply And.intro | with_reducible intro _)
      all_goals first | contradiction | omega | exact st | (exfalso; omega)
  · have pi := isPl_0 (v := h.2) hg
    have st := hq0 (fun q => hg q.1) h.2 FV.rf
    clear hq0 hq1 R rr
    simp only [w_DH_change_0m, w_DH_change_23, s_ic, s_lc, s_null, s_iload, s_lload, s_aload, s_istore, s_lstore, s_astore, s_iinc, s_iadd, s_isub, s_imul, s_iand, s_ior, s_ixor, s_ishl, s_ishr, s_idiv, s_irem, s_ineg, s_ladd, s_lsub, s_lmul, s_lneg, s_ldiv, s_lrem, s_lshl, s_lshr, s_lor, s_land, s_lcmp, s_i2l, s_l2i, s_i2b, s_dup, s_pop, s_dup2, s_dupx1, s_alen, s_ifnull, s_ifnon, s_icmp_eq, s_icmp_ne, s_icmp_lt, s_icmp_ge, s_icmp_gt, s_icmp_le, s_if_eq, s_if_ne, s_if_lt, s_if_ge, s_if_gt, s_if_le, s_getI, s_getL, s_getR, s_putI, s_putZ, s_putL, s_putR, s_iald, s_bald, s_lald, s_aald, s_iast, s_bast, s_last, s_iret, s_zret, s_lret, s_aret, s_vret, s_tbl, q_tab, s_acopy, s_new, s_newa, s_oinit, s_aast, q_nth, qst1, qst2, q_cl1, q_nx, q_ent, qcat, q_cs, q_up_mk, q_cpy_mk, List.cons_append, List.nil_append, List.append_nil, List.replicate, List.take_succ_cons, List.take_zero, List.drop_succ_cons, List.drop_zero, List.reverse_cons, List.reverse_nil, List.length_cons, List.length_nil, List.map_cons, List.map_nil, List.sum_cons, List.sum_nil, Option.toList_some, Option.toList_none, true_and, and_true, true_or, or_true, Nat.sub_zero, Nat.reduceAdd, Nat.reduceSub, Nat.reduceLeDiff, Int.reduceAdd, Int.reduceLE, s_sc, s_strC, s_strV, s_alenC, s_baldC, s_gst, s_i2c, s_cret, s_athrow, s_DH_isPlace, pi]
    repeat' (first | with_reducible apply And.intro | with_reducible intro _)
    all_goals first | contradiction | omega | exact st | (exfalso; omega)
