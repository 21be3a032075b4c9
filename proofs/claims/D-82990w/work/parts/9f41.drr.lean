/-! ===== read: the component ===== -/
theorem cpN_gn {v : Int → Int → Int} {g o j : Int} (hj : j < 0 ∨ 3 ≤ j) : cpN v g o g j = v g j := by
  simp only [cpN, cp2_ap, up2_ap]
  repeat rw [if_neg (by omega)]
theorem cpN_fv {S : Int → Int → Prop} {v v' : Int → Int → Int} {g o : Int} (k : FV S v v') (hS : ∀ a j, g ≤ a → a ≤ g + 11 → (a = g → 0 ≤ j ∧ j ≤ 2) → S a j) : FV S v (cpN v' g o) := fun a j q => by
  by_cases c : a < g ∨ g + 11 < a
  · rw [cpN_fr c]; exact k a j q
  · by_cases e : a = g ∧ (j < 0 ∨ 3 ≤ j)
    · obtain ⟨e1, e2⟩ := e
      subst e1
      rw [cpN_gn e2]
      exact k a j q
    · exact absurd (hS a j (by omega) (by omega) (fun z => by omega)) q
/-- what reading may touch of the component -/
def rdS (gi g a j : Int) : Prop := (a = 0 ∧ (j = 1 ∨ j = 5 ∨ j = 6 ∨ j = 8 ∨ j = 12)) ∨ (a = 111 ∧ 3 ≤ j ∧ j ≤ 9) ∨ a = 112 ∨ (a = 114 ∧ 0 ≤ j ∧ j ≤ 2) ∨ (115 ≤ a ∧ a ≤ 125) ∨ (a = 3 + 27 * gi ∧ (j = 1 ∨ j = 2)) ∨ (a = 5 + 27 * gi ∧ j = 0) ∨ a = 16 + 27 * gi ∨ a = 17 + 27 * gi ∨ (g ≤ a ∧ a ≤ g + 11 ∧ (a = g → 0 ≤ j ∧ j ≤ 2))
theorem rdS_zc {gi g a j : Int} (s : rdS gi g a j) : zcS gi g a j := by
  unfold rdS at s
  unfold zcS
  rcases s with s | s | s | s | s | s | s | s | s | s
  · exact Or.inl s
  · exact Or.inr (Or.inl s)
  · exact Or.inr (Or.inr (Or.inl s))
  · exact Or.inr (Or.inr (Or.inr (Or.inl s)))
  · exact Or.inr (Or.inr (Or.inr (Or.inr (Or.inl s))))
  · exact Or.inr (Or.inr (Or.inr (Or.inr (Or.inr (Or.inr (Or.inl s))))))
  · exact Or.inr (Or.inr (Or.inr (Or.inr (Or.inr (Or.inr (Or.inr (Or.inr (Or.inl s))))))))
  · exact Or.inr (Or.inr (Or.inr (Or.inr (Or.inr (Or.inr (Or.inr (Or.inr (Or.inr (Or.inl s)))))))))
  · exact Or.inr (Or.inr (Or.inr (Or.inr (Or.inr (Or.inr (Or.inr (Or.inr (Or.inr (Or.inr (Or.inl s))))))))))
  · exact Or.inr (Or.inr (Or.inr (Or.inr (Or.inr (Or.inr (Or.inr (Or.inr (Or.inr (Or.inr (Or.inr (Or.inl ⟨s.1, s.2.1, fun e => Or.inr (s.2.2 e)⟩)))))))))))
theorem rdS_gr {gi g a j : Int} (h1 : g ≤ a) (h2 : a ≤ g + 11) (h3 : a = g → 0 ≤ j ∧ j ≤ 2) : rdS gi g a j := Or.inr (Or.inr (Or.inr (Or.inr (Or.inr (Or.inr (Or.inr (Or.inr (Or.inr ⟨h1, h2, h3⟩))))))))
theorem rdS_pc {gi g j : Int} (h : j = 1 ∨ j = 2) : rdS gi g (3 + 27 * gi) j := Or.inr (Or.inr (Or.inr (Or.inr (Or.inr (Or.inl ⟨rfl, h⟩)))))
theorem rdS_cg {gi g a j : Int} (s : cgS gi a j) : rdS gi g a j := by
  unfold cgS cdS at s
  unfold rdS
  rcases s with (s | s | s) | s
  · exact Or.inr (Or.inr (Or.inr (Or.inr (Or.inr (Or.inr (Or.inl s))))))
  · exact Or.inr (Or.inr (Or.inr (Or.inr (Or.inr (Or.inr (Or.inr (Or.inl s)))))))
  · exact Or.inr (Or.inr (Or.inr (Or.inr (Or.inr (Or.inr (Or.inr (Or.inr (Or.inl s))))))))
  · exact Or.inl ⟨s.1, by omega⟩
theorem rdS_gj {gi g j : Int} (hg : 0 ≤ gi ∧ gi < 4) (gl : (g = 18 ∨ g = 45 ∨ g = 72 ∨ g = 99) ∨ 399 ≤ g) (hj : 3 ≤ j) (s : rdS gi g g j) : False := by
  unfold rdS at s
  rcases s with s | s | s | s | s | s | s | s | s | s
  · omega
  · omega
  · omega
  · omega
  · omega
  · omega
  · omega
  · omega
  · omega
  · obtain ⟨-, -, s⟩ := s
    have := s rfl
    omega
theorem rdS_ps {gi gj g j : Int} (hg : 0 ≤ gi ∧ gi < 4) (hj : 0 ≤ gj ∧ gj < 4) (gl : (g = 18 ∨ g = 45 ∨ g = 72 ∨ g = 99) ∨ 399 ≤ g) (s : rdS gi g (4 + 27 * gj) j) : False := by
  unfold rdS at s
  rcases s with s | s | s | s | s | s | s | s | s | s
  · omega
  · omega
  · omega
  · omega
  · omega
  · omega
  · omega
  · omega
  · omega
  · obtain ⟨s1, s2, -⟩ := s
    omega
theorem rdS_28 {gi g a j : Int} (hg : 0 ≤ gi ∧ gi < 4) (gl : (g = 18 ∨ g = 45 ∨ g = 72 ∨ g = 99) ∨ 399 ≤ g) (ha : 280 ≤ a ∧ a < 399) (s : rdS gi g a j) : False := by
  unfold rdS at s
  rcases s with s | s | s | s | s | s | s | s | s | s
  · omega
  · omega
  · omega
  · omega
  · omega
  · omega
  · omega
  · omega
  · omega
  · obtain ⟨s1, s2, -⟩ := s
    omega
/-- what is so behind a text that was read -/
def RDQ (gi g : Int) (Rn : Int → Int) (v v' : Int → Int → Int) : Prop := FV (rdS gi g) v v' ∧ CR v' g Rn ∧ (v' (pcO gi) 1 = 0 ∧ v' (pcO gi) 2 = 0) ∧ (v' (drO gi) 0 = 0 ∧ (∀ k : Int, 0 ≤ k → k < 72 → v' (16 + 27 * gi) k = 0) ∧ (∀ k : Int, 0 ≤ k → k < 144 → v' (17 + 27 * gi) k = 0) ∧ (v' 0 8 = if v 0 8 = gi then -1 else v 0 8) ∧ v' 0 12 = if v 0 12 = gi then -1 else v 0 12) ∧ (v' 0 1 = 0 ∧ v' 0 5 = 1 ∧ v' 0 6 = 0) ∧ (v' 111 8 = 0 ∧ v' 111 9 = -1) ∧ ∀ k : Int, 0 < k → k < 8 → v' 124 k < k
/-- the text that is taken -/
def tkV (v : Int → Int → Int) (n : Int) : Int → Int → Int := up2 (up2 (up2 (tk4 v n) 0 1 0) 0 5 1) 0 6 0
theorem tkV_fw {v : Int → Int → Int} {n : Int} : FW [112] [(0, 1), (0, 5), (0, 6), (111, 3), (111, 4), (111, 8), (111, 9)] v (tkV v n) := by
  unfold tkV tk4
  refine (((((((?_ : FW [112] [(0, 1), (0, 5), (0, 6), (111, 3), (111, 4), (111, 8), (111, 9)] v (cp2 v 1 112 0 0 n)).fl (by decide)).fl (by decide)).fl (by decide)).fl (by decide)).fl (by decide)).fl (by decide)).fl (by decide)
  intro a j ha _
  rw [cp2_ap, if_neg (fun q => ha (by rw [q.1]; decide))]
theorem tkV_v {v : Int → Int → Int} {n : Int} : (tkV v n 0 1 = 0 ∧ tkV v n 0 5 = 1 ∧ tkV v n 0 6 = 0) ∧ (tkV v n 111 3 = n ∧ tkV v n 111 4 = 0 ∧ tkV v n 111 8 = 0 ∧ tkV v n 111 9 = -1) ∧ ∀ j, 0 ≤ j → j < n → tkV v n 112 j = v 1 j := by
  unfold tkV tk4
  refine ⟨⟨?_, ?_, ?_⟩, ⟨?_, ?_, ?_, ?_⟩, fun j j0 j1 => ?_⟩
  · rw [up2_k (by decide), up2_k (by decide), up2_at]
  · rw [up2_k (by decide), up2_at]
  · rw [up2_at]
  · rw [up2_a (by decide), up2_a (by decide), up2_a (by decide), up2_k (by decide), up2_k (by decide), up2_k (by decide), up2_at]
  · rw [up2_a (by decide), up2_a (by decide), up2_a (by decide), up2_k (by decide), up2_k (by decide), up2_at]
  · rw [up2_a (by decide), up2_a (by decide), up2_a (by decide), up2_k (by decide), up2_at]
  · rw [up2_a (by decide), up2_a (by decide), up2_a (by decide), up2_at]
  · rw [up2_a (by decide), up2_a (by decide), up2_a (by decide), up2_a (by decide), up2_a (by decide), up2_a (by decide), up2_a (by decide), cp2_ap, if_pos ⟨rfl, by omega, by omega⟩, show (0 : Int) + (j - 0) = j by omega]
theorem tkV_rd {v : Int → Int → Int} {n : Int} (hw : HW v) (nb : 0 ≤ n ∧ n ≤ 2000) (rg : ∀ j : Int, 0 ≤ j → -128 ≤ v 1 j ∧ v 1 j ≤ 127) : RD4 (tkV v n) (tb (v 1) n) n := by
  obtain ⟨-, ⟨a3, -⟩, ac⟩ := tkV_v (v := v) (n := n)
  refine ⟨⟨?_, ?_⟩, a3, nb, fun j j0 j1 => ?_, fun j j0 => ?_⟩
  · rw [tkV_fw 111 1 (by decide) (by decide)]; exact hw.f111_1
  · rw [tkV_fw 111 2 (by decide) (by decide)]; exact hw.f111_2
  · rw [ac j j0 j1, iand_255 (rg j j0)]
    unfold tb
    rw [if_pos j1]
    have := rg j j0
    refine ⟨rfl, by omega, fun q => by omega⟩
  · unfold tb
    rw [if_neg (by omega)]
abbrev rdC : List Int := [112, 115, 116, 117, 118, 119, 120, 121, 122, 123, 124, 125]
abbrev rdP : List (Int × Int) := [(0, 1), (0, 5), (0, 6), (111, 3), (111, 4), (111, 5), (111, 6), (111, 7), (111, 8), (111, 9), (114, 0), (114, 1), (114, 2)]
theorem rd_fv {gi g : Int} {v v' : Int → Int → Int} (k : FW rdC rdP v v') : FV (rdS gi g) v v' := (FV.fw k).wk (fun a j s => by
  have k1 : rdC.all (fun a => decide (a = 112 ∨ (115 ≤ a ∧ a ≤ 125))) = true := by decide
  have k2 : rdP.all (fun p => decide ((p.1 = 0 ∧ (p.2 = 1 ∨ p.2 = 5 ∨ p.2 = 6 ∨ p.2 = 8 ∨ p.2 = 12)) ∨ (p.1 = 111 ∧ 3 ≤ p.2 ∧ p.2 ≤ 9) ∨ (p.1 = 114 ∧ 0 ≤ p.2 ∧ p.2 ≤ 2))) = true := by decide
  rcases s with s | s
  · rcases of_decide_eq_true (List.all_eq_true.mp k1 a s) with e | e
    · exact Or.inr (Or.inr (Or.inl e))
    · exact Or.inr (Or.inr (Or.inr (Or.inr (Or.inl e))))
  · rcases of_decide_eq_true (List.all_eq_true.mp k2 (a, j) s) with e | e | e
    · exact Or.inl e
    · exact Or.inr (Or.inl e)
    · exact Or.inr (Or.inr (Or.inr (Or.inl e))))
set_option maxRecDepth 100000 in
theorem DH_rd_61 {l : Launch} {D : qD} {d : Nat} {nc gi n g : Int} {Rn : Int → Int} {v3 : Int → Int → Int} {h : qh} {Q : xQ} (R : REL nc h.2) (hg : 0 ≤ gi ∧ gi < 4) (eg : h.2 (psO gi) 0 = g) (k3 : FW rdC rdP h.2 v3) (f3 : (v3 0 1 = 0 ∧ v3 0 5 = 1 ∧ v3 0 6 = 0) ∧ v3 111 8 = 0 ∧ v3 111 9 = -1) (cr3 : CR v3 114 Rn) (ok : GOK Rn)
    (hq : ∀ v, RDQ gi g Rn h.2 v → Q.1 (some (.inl (Rn 0))) (h.1, v)) : w_DH_read_61 l D (d + 21) (0, 0) ((fun r h' => Q.1 r ((h'.1.1, h.1.2.1, h.1.2.2), h'.2)), (fun z h' => Q.2 z ((h'.1.1, h.1.2.1, h.1.2.2), h'.2))) [some (.inr (.inr (0))), some (.inl (gi)), some (.inl (n)), none] [] ((h.1.1, 0, 0), v3) := by
  have hw := R.1.1.1
  obtain ⟨gc, Rz, crz, -, -⟩ := (R.2.1.1 gi hg).2.2 0 (by omega) (by have := (R.2.1.1 gi hg).1; omega)
  rw [eg] at gc crz
  have gl := gcl_l gc
  have isg := gc.g
  have gsh := isg.2.1
  have gs3 : (q_shp g).1 = 3 := by rw [gsh]
  have g0 := isg.1
  have F3 : FV (rdS gi g) h.2 v3 := rd_fv k3
  have W : ∀ {v : Int → Int → Int}, FV (rdS gi g) h.2 v → HW v := fun kv => hw.fv hg gc (kv.wk (fun a j s => rdS_zc s))
  -- the place's marks
  have F4 : FV (rdS gi g) h.2 (up2 (up2 v3 (3 + 27 * gi) 1 0) (3 + 27 * gi) 2 0) := (F3.up (rdS_pc (Or.inl rfl))).up (rdS_pc (Or.inr rfl))
  obtain ⟨v4, hv4⟩ : ∃ v4, v4 = up2 (up2 v3 (3 + 27 * gi) 1 0) (3 + 27 * gi) 2 0 := ⟨_, rfl⟩
  rw [← hv4] at F4
  have c4 : ∀ a : Int, a ≠ 3 + 27 * gi → v4 a = v3 a := fun a ha => by rw [hv4, up2_a ha, up2_a ha]
  have p41 : v4 (3 + 27 * gi) 1 = 0 := by rw [hv4, up2_k (by decide), up2_at]
  have p42 : v4 (3 + 27 * gi) 2 = 0 := by rw [hv4, up2_at]
  have cr4 : CR v4 114 Rn := cr3.cg (fun j j0 j1 => c4 _ (by omega))
  have A4 : GA v4 g := by
    have a := crz.1.2
    have e : ∀ j : Int, 3 ≤ j → v4 g j = h.2 g j := fun j hj => F4 g j (fun s => rdS_gj hg gl hj s)
    unfold GA at a ⊢
    rw [e 3 (by omega), e 4 (by omega), e 5 (by omega), e 6 (by omega), e 7 (by omega), e 8 (by omega), e 9 (by omega), e 10 (by omega), e 11 (by omega), e 12 (by omega), e 13 (by omega)]
    exact a
  have ap : (114 : Int) + 11 < g ∨ g + 11 < 114 := by omega
  -- the copy
  have F5 : FV (rdS gi g) h.2 (cpN v4 g 114) := cpN_fv F4 (fun a j h1 h2 h3 => rdS_gr h1 h2 h3)
  have cr5 := cr4.cp ok isg A4 ap
  obtain ⟨v5, hv5⟩ : ∃ v5, v5 = cpN v4 g 114 := ⟨_, rfl⟩
  rw [← hv5] at F5 cr5
  have c5 : ∀ a : Int, a < g ∨ g + 11 < a → v5 a = v4 a := fun a ha => by rw [hv5, cpN_fr ha]
  have e45 : v5 (3 + 27 * gi) = v4 (3 + 27 * gi) := c5 _ (by rcases gi_4 hg with e | e | e | e <;> subst e <;> omega)
  have z50 : v5 0 = v3 0 := by rw [c5 0 (by omega), c4 0 (by omega)]
  have z511 : v5 111 = v3 111 := by rw [c5 111 (by omega), c4 111 (by omega)]
  have z524 : v5 124 = v3 124 := by rw [c5 124 (by omega), c4 124 (by omega)]
  have fin : ∀ v6, cgQ gi v5 v6 → (HW v6 ∧ v6 (pcO gi) 1 = 0 ∧ v6 (psO gi) 0 = g ∧ v6 g 0 = Rn 0) ∧ Q.1 (some (.inl (Rn 0))) (h.1, v6) := fun v6 ⟨k6, w0, w1, w2, w8, w12⟩ => by
    have F6 : FV (rdS gi g) h.2 v6 := F5.tr (k6.wk (fun a j s => rdS_cg s))
    have c6 : ∀ a : Int, a ≠ 0 → a ≠ 5 + 27 * gi → a ≠ 16 + 27 * gi → a ≠ 17 + 27 * gi → v6 a = v5 a := fun a a0 a1 a2 a3 => k6.c (fun j s => by unfold cgS cdS at s; omega)
    have cr6 : CR v6 g Rn := cr5.cg (fun j j0 j1 => c6 _ (by omega) (by rcases gi_4 hg with e | e | e | e <;> subst e <;> omega) (by rcases gi_4 hg with e | e | e | e <;> subst e <;> omega) (by rcases gi_4 hg with e | e | e | e <;> subst e <;> omega))
    have pc6 : v6 (3 + 27 * gi) = v4 (3 + 27 * gi) := by rw [c6 _ (by omega) (by omega) (by omega) (by omega)]; exact e45
    have ps6 : v6 (4 + 27 * gi) 0 = g := by rw [F6 _ _ (fun s => rdS_ps hg hg gl s)]; exact eg
    have q1 : v6 (pcO gi) 1 = 0 := by show v6 (3 + 27 * gi) 1 = 0; rw [pc6]; exact p41
    have q2 : v6 (pcO gi) 2 = 0 := by show v6 (3 + 27 * gi) 2 = 0; rw [pc6]; exact p42
    have o : ∀ j : Int, j ≠ 8 → j ≠ 12 → v6 0 j = v3 0 j := fun j a b => by rw [k6 0 j (fun s => by unfold cgS cdS at s; omega), z50]
    have o8 : v5 0 8 = h.2 0 8 := by rw [z50]; exact k3 0 8 (by decide) (by decide)
    have o12 : v5 0 12 = h.2 0 12 := by rw [z50]; exact k3 0 12 (by decide) (by decide)
    have y111 : v6 111 = v3 111 := by rw [c6 111 (by omega) (by omega) (by omega) (by omega)]; exact z511
    have y124 : v6 124 = v3 124 := by rw [c6 124 (by omega) (by omega) (by omega) (by omega)]; exact z524
    refine ⟨⟨W F6, q1, ps6, cr6.2.1.1⟩, hq v6 ⟨F6, cr6, ⟨q1, q2⟩, ⟨w0, w1, w2, ?_, ?_⟩, ⟨?_, ?_, ?_⟩, ⟨?_, ?_⟩, ?_⟩⟩
    · rw [w8, o8]
    · rw [w12, o12]
    · rw [o 1 (by omega) (by omega)]; exact f3.1.1
    · rw [o 5 (by omega) (by omega)]; exact f3.1.2.1
    · rw [o 6 (by omega) (by omega)]; exact f3.1.2.2
    · rw [y111]; exact f3.2.1
    · rw [y111]; exact f3.2.2
    · rw [y124]; exact cr3.2.2.2.2.2
  have hw3 := W F3
  have hw4 := W F4
  have hw5 := W F5
  obtain ⟨⟨p2, p0, -⟩, ⟨q1, q2, -⟩, -, ⟨b1, b2, -⟩, -⟩ := isPs_f hw3 (isPs_O hg)
  have q1' : (q_shp (3 + 27 * gi)).1 = 1 := by have : q_shp (3 + 27 * gi) = (1, 0) := q1; rw [this]
  have q2' : q_shp (4 + 27 * gi) = (105, 31) := q2
  have p2' : v3 2 gi = 3 + 27 * gi := p2
  have p40 : v4 (3 + 27 * gi) 0 = 4 + 27 * gi := by rw [hv4, up2_k (by decide), up2_k (by decide)]; exact p0
  have p40s : v4 (4 + 27 * gi) 0 = g := by rw [F4 _ _ (fun s => rdS_ps hg hg gl s)]; exact eg
  have z2 := hw3.f0_2
  have z3 := hw4.f0_3
  have z11 := hw4.f111_0
  have is14 := cr3.1.1
  have s14 : (q_shp 114).1 = 3 := by rw [sh_114]
  have B4 := cr4.1.2
  clear W F3 F4 F5 cr3 cr4 cr5 hq R k3 f3 c4 c5 z50 z511 z524 hw hw3 hw4 crz e45 p41 p42 ok
  simp only [w_DH_read_61, s_ic, s_lc, s_null, s_iload, s_lload, s_aload, s_istore, s_lstore, s_astore, s_iinc, s_iadd, s_isub, s_imul, s_iand, s_ior, s_ixor, s_ishl, s_ishr, s_idiv, s_irem, s_ineg, s_ladd, s_lsub, s_lmul, s_lneg, s_ldiv, s_lrem, s_lshl, s_lshr, s_lor, s_land, s_lcmp, s_i2l, s_l2i, s_i2b, s_dup, s_pop, s_dup2, s_dupx1, s_alen, s_ifnull, s_ifnon, s_icmp_eq, s_icmp_ne, s_icmp_lt, s_icmp_ge, s_icmp_gt, s_icmp_le, s_if_eq, s_if_ne, s_if_lt, s_if_ge, s_if_gt, s_if_le, s_getI, s_getL, s_getR, s_putI, s_putZ, s_putL, s_putR, s_iald, s_bald, s_lald, s_aald, s_iast, s_bast, s_last, s_iret, s_zret, s_lret, s_aret, s_vret, s_tbl, q_tab, s_acopy, s_new, s_newa, s_oinit, s_aast, q_nth, qst1, qst2, q_cl1, q_nx, q_ent, qcat, q_cs, q_up_mk, q_cpy_mk, List.cons_append, List.nil_append, List.append_nil, List.replicate, List.take_succ_cons, List.take_zero, List.drop_succ_cons, List.drop_zero, List.reverse_cons, List.reverse_nil, List.length_cons, List.length_nil, List.map_cons, List.map_nil, List.sum_cons, List.sum_nil, Option.toList_some, Option.toList_none, true_and, and_true, true_or, or_true, Nat.sub_zero, Nat.reduceAdd, Nat.reduceSub, Nat.reduceLeDiff, Int.reduceAdd, Int.reduceLE, s_sc, s_strC, s_strV, s_alenC, s_baldC, s_gst, s_i2c, s_cret, s_athrow, z2, p2', sh_0, sh_2, q1', q2', ← hv4, p40, p40s, z3, z11, sh_111, sh_114]
  repeat' (first | with_reducible apply And.intro | with_reducible intro _)
  all_goals first | contradiction | omega | skip
  refine ⟨by simp only [List.length_cons, List.length_nil]; omega, Nat.le_of_ble_eq_true rfl, ⟨g0, gs3⟩, ?_⟩
  refine sp_Gr_copy (d := d + 20) (h := ((h.1.1, 0, 0), v4)) isg is14 A4 B4 ap ?_
  rw [← hv5]
  simp only [s_ic, s_lc, s_null, s_iload, s_lload, s_aload, s_istore, s_lstore, s_astore, s_iinc, s_iadd, s_isub, s_imul, s_iand, s_ior, s_ixor, s_ishl, s_ishr, s_idiv, s_irem, s_ineg, s_ladd, s_lsub, s_lmul, s_lneg, s_ldiv, s_lrem, s_lshl, s_lshr, s_lor, s_land, s_lcmp, s_i2l, s_l2i, s_i2b, s_dup, s_pop, s_dup2, s_dupx1, s_alen, s_ifnull, s_ifnon, s_icmp_eq, s_icmp_ne, s_icmp_lt, s_icmp_ge, s_icmp_gt, s_icmp_le, s_if_eq, s_if_ne, s_if_lt, s_if_ge, s_if_gt, s_if_le, s_getI, s_getL, s_getR, s_putI, s_putZ, s_putL, s_putR, s_iald, s_bald, s_lald, s_aald, s_iast, s_bast, s_last, s_iret, s_zret, s_lret, s_aret, s_vret, s_tbl, q_tab, s_acopy, s_new, s_newa, s_oinit, s_aast, q_nth, qst1, qst2, q_cl1, q_nx, q_ent, qcat, q_cs, q_up_mk, q_cpy_mk, List.cons_append, List.nil_append, List.append_nil, List.replicate, List.take_succ_cons, List.take_zero, List.drop_succ_cons, List.drop_zero, List.reverse_cons, List.reverse_nil, List.length_cons, List.length_nil, List.map_cons, List.map_nil, List.sum_cons, List.sum_nil, Option.toList_some, Option.toList_none, true_and, and_true, true_or, or_true, Nat.sub_zero, Nat.reduceAdd, Nat.reduceSub, Nat.reduceLeDiff, Int.reduceAdd, Int.reduceLE, s_sc, s_strC, s_strV, s_alenC, s_baldC, s_gst, s_i2c, s_cret, s_athrow]
  repeat' (first | with_reducible apply And.intro | with_reducible intro _)
  all_goals first | contradiction | omega | skip
  refine iv_chd (d := d + 19) hw5 hg (Nat.le_of_ble_eq_true rfl) (fun v6 c6 => ?_)
  obtain ⟨⟨hw6, r1, r2, r3⟩, st⟩ := fin v6 c6
  simp only [s_ic, s_lc, s_null, s_iload, s_lload, s_aload, s_istore, s_lstore, s_astore, s_iinc, s_iadd, s_isub, s_imul, s_iand, s_ior, s_ixor, s_ishl, s_ishr, s_idiv, s_irem, s_ineg, s_ladd, s_lsub, s_lmul, s_lneg, s_ldiv, s_lrem, s_lshl, s_lshr, s_lor, s_land, s_lcmp, s_i2l, s_l2i, s_i2b, s_dup, s_pop, s_dup2, s_dupx1, s_alen, s_ifnull, s_ifnon, s_icmp_eq, s_icmp_ne, s_icmp_lt, s_icmp_ge, s_icmp_gt, s_icmp_le, s_if_eq, s_if_ne, s_if_lt, s_if_ge, s_if_gt, s_if_le, s_getI, s_getL, s_getR, s_putI, s_putZ, s_putL, s_putR, s_iald, s_bald, s_lald, s_aald, s_iast, s_bast, s_last, s_iret, s_zret, s_lret, s_aret, s_vret, s_tbl, q_tab, s_acopy, s_new, s_newa, s_oinit, s_aast, q_nth, qst1, qst2, q_cl1, q_nx, q_ent, qcat, q_cs, q_up_mk, q_cpy_mk, List.cons_append, List.nil_append, List.append_nil, List.replicate, List.take_succ_cons, List.take_zero, List.drop_succ_cons, List.drop_zero, List.reverse_cons, List.reverse_nil, List.length_cons, List.length_nil, List.map_cons, List.map_nil, List.sum_cons, List.sum_nil, Option.toList_some, Option.toList_none, true_and, and_true, true_or, or_true, Nat.sub_zero, Nat.reduceAdd, Nat.reduceSub, Nat.reduceLeDiff, Int.reduceAdd, Int.reduceLE, s_sc, s_strC, s_strV, s_alenC, s_baldC, s_gst, s_i2c, s_cret, s_athrow]
  repeat' (first | with_reducible apply And.intro | with_reducible intro _)
  all_goals first | contradiction | omega | skip
  refine iv_gr (d := d + 19) hw6 hg r1 (by omega) r2 (Nat.le_of_ble_eq_true rfl) ?_
  rw [← r3] at st
  clear fin hw6 hw5 c6
  simp only [s_ic, s_lc, s_null, s_iload, s_lload, s_aload, s_istore, s_lstore, s_astore, s_iinc, s_iadd, s_isub, s_imul, s_iand, s_ior, s_ixor, s_ishl, s_ishr, s_idiv, s_irem, s_ineg, s_ladd, s_lsub, s_lmul, s_lneg, s_ldiv, s_lrem, s_lshl, s_lshr, s_lor, s_land, s_lcmp, s_i2l, s_l2i, s_i2b, s_dup, s_pop, s_dup2, s_dupx1, s_alen, s_ifnull, s_ifnon, s_icmp_eq, s_icmp_ne, s_icmp_lt, s_icmp_ge, s_icmp_gt, s_icmp_le, s_if_eq, s_if_ne, s_if_lt, s_if_ge, s_if_gt, s_if_le, s_getI, s_getL, s_getR, s_putI, s_putZ, s_putL, s_putR, s_iald, s_bald, s_lald, s_aald, s_iast, s_bast, s_last, s_iret, s_zret, s_lret, s_aret, s_vret, s_tbl, q_tab, s_acopy, s_new, s_newa, s_oinit, s_aast, q_nth, qst1, qst2, q_cl1, q_nx, q_ent, qcat, q_cs, q_up_mk, q_cpy_mk, List.cons_append, List.nil_append, List.append_nil, List.replicate, List.take_succ_cons, List.take_zero, List.drop_succ_cons, List.drop_zero, List.reverse_cons, List.reverse_nil, List.length_cons, List.length_nil, List.map_cons, List.map_nil, List.sum_cons, List.sum_nil, Option.toList_some, Option.toList_none, true_and, and_true, true_or, or_true, Nat.sub_zero, Nat.reduceAdd, Nat.reduceSub, Nat.reduceLeDiff, Int.reduceAdd, Int.reduceLE, s_sc, s_strC, s_strV, s_alenC, s_baldC, s_gst, s_i2c, s_cret, s_athrow, gsh]
  repeat' (first | with_reducible apply And.intro | with_reducible intro _)
  all_goals first | contradiction | with_reducible exact st | omega | (unfold r32; omega) | trivial
set_option maxRecDepth 100000 in
theorem sp_DH_read {l : Launch} {D : qD} {d : Nat} {gi n : Int} {h : qh} {Q : qQ} (R : REL (h.1.1 : Int) h.2)
    (hqb : ¬ ((0 ≤ gi ∧ gi < 4) ∧ 0 ≤ n ∧ n ≤ h.2 0 1) → Q (some (.inl (-2))) h)
    (hq1 : (0 ≤ gi ∧ gi < 4) → (0 ≤ n ∧ n ≤ h.2 0 1) → (∀ j : Int, 0 ≤ j → -128 ≤ h.2 1 j ∧ h.2 1 j ≤ 127) → ∀ v Rn, gtt (tb (h.2 1) n) n (cGo [] (tkn mG (tb (h.2 1) n) n 0) R0) (cD Rn) → GOK Rn → RDQ gi (h.2 (psO gi) 0) Rn h.2 v → Q (some (.inl (Rn 0))) (h.1, v))
    (hq0 : (0 ≤ gi ∧ gi < 4) → (0 ≤ n ∧ n ≤ h.2 0 1) → (∀ j : Int, 0 ≤ j → -128 ≤ h.2 1 j ∧ h.2 1 j ≤ 127) → ∀ v x p, gtt (tb (h.2 1) n) n (cGo [] (tkn mG (tb (h.2 1) n) n 0) R0) (cF x p) → FW rdC rdP h.2 v → (v 0 1 = 0 ∧ v 0 5 = 1 ∧ v 0 6 = 0) → FL v x p → Q (some (.inl (-1))) (h.1, v)) : qM l D (d + 22, 0, 0) m_DH_read [.inr (.inr 0), .inl gi, .inl n] h Q := by
  refine xM.q ?_
  have hw := R.1.1.1
  have n399 := R.1.2.1
  refine xM.o0 4 rfl (by decide) (Or.inl ⟨xt_DH_read, cd_DH_read.1⟩) (Nat.le_of_ble_eq_true rfl) ?_
  refine xR.rg (fun fit => ?_)
  have rg : ∀ j : Int, 0 ≤ j → -128 ≤ h.2 1 j ∧ h.2 1 j ≤ 127 := fun j j0 => by
    have := (fit 1 j.toNat (by show 1 < h.1.1; omega)).1 (by show (q_shp 1).1 = 101; rw [sh_1])
    have e : ((j.toNat : Nat) : Int) = j := by omega
    have t : -128 ≤ h.2 ((1 : Nat) : Int) ((j.toNat : Nat) : Int) ∧ h.2 ((1 : Nat) : Int) ((j.toNat : Nat) : Int) ≤ 127 := this
    rw [e] at t
    exact t
  clear fit
  refine DH_read_0 _ _ _ ?_
  have tp := R.2.2.2.2.1.1.2.1
  by_cases hg : 0 ≤ gi ∧ gi < 4
  · have pi := isPl_1 (v := h.2) hg
    by_cases hn : 0 ≤ n ∧ n ≤ h.2 0 1
    · have s61 := fun (v3 : Int → Int → Int) (Rn : Int → Int) => DH_rd_61 (l := l) (D := D) (d := d) (n := n) (Rn := Rn) (v3 := v3) (h := h) (Q := (Q, fun _ _ => False)) R hg rfl
      have k1 := hq1 hg hn rg
      have k0 := hq0 hg hn rg
      have z3 := hw.f0_3
      have z0 := hw.f0_0
      have e1 := hw.f111_1
      have F2 : FW rdC rdP h.2 (tkV h.2 n) := tkV_fw.wk (by decide) (fun p q => Or.inl (by revert q; revert p; decide))
      have rd := tkV_rd hw (n := n) (by omega) rg
      obtain ⟨t0, ⟨-, t4, t8, t9⟩, -⟩ := tkV_v (v := h.2) (n := n)
      have hw2 : HW (tkV h.2 n) := hw.fw F2 (by decide +kernel)
      have r24 : ∀ k : Int, 0 < k → k < 8 → tkV h.2 n 124 k < k := fun k q0 q1 => by
        rw [tkV_fw 124 k (by decide) (by simp)]
        exact R.2.2.2.2.1.2.2.2.2.2.2 k q0 q1
      have A14 : GA (tkV h.2 n) 114 := ⟨hw2.f114_3, hw2.f114_4, hw2.f114_5, hw2.f114_6, hw2.f114_7, hw2.f114_8, hw2.f114_9, hw2.f114_10, hw2.f114_11, hw2.f114_12, hw2.f114_13⟩
      have is14 : isG 114 := ⟨by decide, sh_114, sh_115, sh_116, sh_117, sh_118, sh_119, sh_120, sh_121, sh_122, sh_123, sh_124, sh_125⟩
      have z32 := hw2.f0_3
      have z3t : tk4 h.2 n 0 3 = 111 := by
        unfold tk4
        rw [up2_a (by decide), up2_a (by decide), up2_a (by decide), up2_a (by decide), cp2_a (by decide)]
        exact z3
      have gP : ∀ {v3 : Int → Int → Int}, FW gC gPl (tkV h.2 n) v3 → FW rdC rdP h.2 v3 ∧ (v3 0 1 = 0 ∧ v3 0 5 = 1 ∧ v3 0 6 = 0) := fun {v3} kg => by
        refine ⟨F2.tr (kg.wk (by decide) (fun p q => Or.inl (by revert q; revert p; decide))), ?_⟩
        rw [kg 0 1 (by decide) (by decide), kg 0 5 (by decide) (by decide), kg 0 6 (by decide) (by decide)]
        exact t0
      have rdx : ∀ Q' : qQ, (∀ v3 Rn, FW rdC rdP h.2 v3 → (v3 0 1 = 0 ∧ v3 0 5 = 1 ∧ v3 0 6 = 0) → (v3 111 8 = 0 ∧ v3 111 9 = -1) → CR v3 114 Rn → GOK Rn → gtt (tb (h.2 1) n) n (cGo [] (tkn mG (tb (h.2 1) n) n 0) R0) (cD Rn) → Q' (some (.inl 1)) ((h.1.1, 0, 0), v3)) → (∀ v3 x p, FW rdC rdP h.2 v3 → (v3 0 1 = 0 ∧ v3 0 5 = 1 ∧ v3 0 6 = 0) → FL v3 x p → gtt (tb (h.2 1) n) n (cGo [] (tkn mG (tb (h.2 1) n) n 0) R0) (cF x p) → Q' (some (.inl 0)) ((h.1.1, 0, 0), v3)) → xM l D (d + 21, 0, 0) m_GR_read [.inr (.inr 111)] ((h.1.1, 0, 0), tkV h.2 n) (Q', fun _ _ => False) := fun Q' a b =>
        sp_GR_read (d := d) (h := ((h.1.1, 0, 0), tkV h.2 n)) (Q := Q') rd hw2.f111_0 t4 ⟨t8, t9⟩ is14 A14 r24 (fun v Rn gt kg f8 cr ok => a v Rn (gP kg).1 (gP kg).2 f8 cr ok gt) (fun v x p gt kg fl => b v x p (gP kg).1 (gP kg).2 fl gt)
      have nb : 0 ≤ n ∧ n ≤ 2000 := by omega
      clear hqb hq1 hq0 rd r24 A14 is14 F2 t0 t8 t9 t4 rg tp gP
      simp only [w_DH_read_0, w_DH_read_22, s_ic, s_lc, s_null, s_iload, s_lload, s_aload, s_istore, s_lstore, s_astore, s_iinc, s_iadd, s_isub, s_imul, s_iand, s_ior, s_ixor, s_ishl, s_ishr, s_idiv, s_irem, s_ineg, s_ladd, s_lsub, s_lmul, s_lneg, s_ldiv, s_lrem, s_lshl, s_lshr, s_lor, s_land, s_lcmp, s_i2l, s_l2i, s_i2b, s_dup, s_pop, s_dup2, s_dupx1, s_alen, s_ifnull, s_ifnon, s_icmp_eq, s_icmp_ne, s_icmp_lt, s_icmp_ge, s_icmp_gt, s_icmp_le, s_if_eq, s_if_ne, s_if_lt, s_if_ge, s_if_gt, s_if_le, s_getI, s_getL, s_getR, s_putI, s_putZ, s_putL, s_putR, s_iald, s_bald, s_lald, s_aald, s_iast, s_bast, s_last, s_iret, s_zret, s_lret, s_aret, s_vret, s_tbl, q_tab, s_acopy, s_new, s_newa, s_oinit, s_aast, q_nth, qst1, qst2, q_cl1, q_nx, q_ent, qcat, q_cs, q_up_mk, q_cpy_mk, List.cons_append, List.nil_append, List.append_nil, List.replicate, List.take_succ_cons, List.take_zero, List.drop_succ_cons, List.drop_zero, List.reverse_cons, List.reverse_nil, List.length_cons, List.length_nil, List.map_cons, List.map_nil, List.sum_cons, List.sum_nil, Option.toList_some, Option.toList_none, true_and, and_true, true_or, or_true, Nat.sub_zero, Nat.reduceAdd, Nat.reduceSub, Nat.reduceLeDiff, Int.reduceAdd, Int.reduceLE, s_sc, s_strC, s_strV, s_alenC, s_baldC, s_gst, s_i2c, s_cret, s_athrow, s_DH_isPlace, pi, z3, z0, sh_0]
      repeat' (first | with_reducible apply And.intro | with_reducible intro _)
      all_goals first | contradiction | omega | (exfalso; omega) | skip
      refine ⟨by simp only [List.length_cons, List.length_nil]; omega, Nat.le_of_ble_eq_true rfl, ⟨by decide, by rw [sh_111]⟩, ?_⟩
      refine sp_Re4_take (d := d + 20) (h := ((h.1.1, 0, 0), h.2)) e1 nb ?_
      have u3 : up2 (up2 (up2 (tk4 h.2 n) 0 1 0) 0 5 1) 0 6 0 0 3 = 111 := by rw [up2_k (by decide), up2_k (by decide), up2_k (by decide)]; exact z3t
      simp only [s_ic, s_lc, s_null, s_iload, s_lload, s_aload, s_istore, s_lstore, s_astore, s_iinc, s_iadd, s_isub, s_imul, s_iand, s_ior, s_ixor, s_ishl, s_ishr, s_idiv, s_irem, s_ineg, s_ladd, s_lsub, s_lmul, s_lneg, s_ldiv, s_lrem, s_lshl, s_lshr, s_lor, s_land, s_lcmp, s_i2l, s_l2i, s_i2b, s_dup, s_pop, s_dup2, s_dupx1, s_alen, s_ifnull, s_ifnon, s_icmp_eq, s_icmp_ne, s_icmp_lt, s_icmp_ge, s_icmp_gt, s_icmp_le, s_if_eq, s_if_ne, s_if_lt, s_if_ge, s_if_gt, s_if_le, s_getI, s_getL, s_getR, s_putI, s_putZ, s_putL, s_putR, s_iald, s_bald, s_lald, s_aald, s_iast, s_bast, s_last, s_iret, s_zret, s_lret, s_aret, s_vret, s_tbl, q_tab, s_acopy, s_new, s_newa, s_oinit, s_aast, q_nth, qst1, qst2, q_cl1, q_nx, q_ent, qcat, q_cs, q_up_mk, q_cpy_mk, List.cons_append, List.nil_append, List.append_nil, List.replicate, List.take_succ_cons, List.take_zero, List.drop_succ_cons, List.drop_zero, List.reverse_cons, List.reverse_nil, List.length_cons, List.length_nil, List.map_cons, List.map_nil, List.sum_cons, List.sum_nil, Option.toList_some, Option.toList_none, true_and, and_true, true_or, or_true, Nat.sub_zero, Nat.reduceAdd, Nat.reduceSub, Nat.reduceLeDiff, Int.reduceAdd, Int.reduceLE, s_sc, s_strC, s_strV, s_alenC, s_baldC, s_gst, s_i2c, s_cret, s_athrow, u3, sh_0]
      repeat' (first | with_reducible apply And.intro | with_reducible intro _)
      all_goals first | contradiction | omega | skip
      refine ⟨by simp only [List.length_cons, List.length_nil]; omega, Nat.le_of_ble_eq_true rfl, ⟨by decide, by rw [sh_111]⟩, ?_⟩
      refine rdx _ (fun v3 Rn F f0 f8 cr ok gt => ?_) (fun v3 x p F f0 fl gt => ?_)
      · have st := s61 v3 Rn F ⟨f0, f8⟩ cr ok (fun v q => k1 v Rn gt ok q)
        clear s61 k1 k0 rdx R hw hw2
        simp only [s_ic, s_lc, s_null, s_iload, s_lload, s_aload, s_istore, s_lstore, s_astore, s_iinc, s_iadd, s_isub, s_imul, s_iand, s_ior, s_ixor, s_ishl, s_ishr, s_idiv, s_irem, s_ineg, s_ladd, s_lsub, s_lmul, s_lneg, s_ldiv, s_lrem, s_lshl, s_lshr, s_lor, s_land, s_lcmp, s_i2l, s_l2i, s_i2b, s_dup, s_pop, s_dup2, s_dupx1, s_alen, s_ifnull, s_ifnon, s_icmp_eq, s_icmp_ne, s_icmp_lt, s_icmp_ge, s_icmp_gt, s_icmp_le, s_if_eq, s_if_ne, s_if_lt, s_if_ge, s_if_gt, s_if_le, s_getI, s_getL, s_getR, s_putI, s_putZ, s_putL, s_putR, s_iald, s_bald, s_lald, s_aald, s_iast, s_bast, s_last, s_iret, s_zret, s_lret, s_aret, s_vret, s_tbl, q_tab, s_acopy, s_new, s_newa, s_oinit, s_aast, q_nth, qst1, qst2, q_cl1, q_nx, q_ent, qcat, q_cs, q_up_mk, q_cpy_mk, List.cons_append, List.nil_append, List.append_nil, List.replicate, List.take_succ_cons, List.take_zero, List.drop_succ_cons, List.drop_zero, List.reverse_cons, List.reverse_nil, List.length_cons, List.length_nil, List.map_cons, List.map_nil, List.sum_cons, List.sum_nil, Option.toList_some, Option.toList_none, true_and, and_true, true_or, or_true, Nat.sub_zero, Nat.reduceAdd, Nat.reduceSub, Nat.reduceLeDiff, Int.reduceAdd, Int.reduceLE, s_sc, s_strC, s_strV, s_alenC, s_baldC, s_gst, s_i2c, s_cret, s_athrow]
        repeat' (first | with_reducible apply And.intro | with_reducible intro _)
        all_goals first | contradiction | with_reducible exact st | omega | (unfold r32; omega) | trivial
      · have st := k0 v3 x p gt F f0 fl
        clear s61 k1 k0 rdx R hw hw2
        simp only [s_ic, s_lc, s_null, s_iload, s_lload, s_aload, s_istore, s_lstore, s_astore, s_iinc, s_iadd, s_isub, s_imul, s_iand, s_ior, s_ixor, s_ishl, s_ishr, s_idiv, s_irem, s_ineg, s_ladd, s_lsub, s_lmul, s_lneg, s_ldiv, s_lrem, s_lshl, s_lshr, s_lor, s_land, s_lcmp, s_i2l, s_l2i, s_i2b, s_dup, s_pop, s_dup2, s_dupx1, s_alen, s_ifnull, s_ifnon, s_icmp_eq, s_icmp_ne, s_icmp_lt, s_icmp_ge, s_icmp_gt, s_icmp_le, s_if_eq, s_if_ne, s_if_lt, s_if_ge, s_if_gt, s_if_le, s_getI, s_getL, s_getR, s_putI, s_putZ, s_putL, s_putR, s_iald, s_bald, s_lald, s_aald, s_iast, s_bast, s_last, s_iret, s_zret, s_lret, s_aret, s_vret, s_tbl, q_tab, s_acopy, s_new, s_newa, s_oinit, s_aast, q_nth, qst1, qst2, q_cl1, q_nx, q_ent, qcat, q_cs, q_up_mk, q_cpy_mk, List.cons_append, List.nil_append, List.append_nil, List.replicate, List.take_succ_cons, List.take_zero, List.drop_succ_cons, List.drop_zero, List.reverse_cons, List.reverse_nil, List.length_cons, List.length_nil, List.map_cons, List.map_nil, List.sum_cons, List.sum_nil, Option.toList_some, Option.toList_none, true_and, and_true, true_or, or_true, Nat.sub_zero, Nat.reduceAdd, Nat.reduceSub, Nat.reduceLeDiff, Int.reduceAdd, Int.reduceLE, s_sc, s_strC, s_strV, s_alenC, s_baldC, s_gst, s_i2c, s_cret, s_athrow]
        repeat' (first | with_reducible apply And.intro | with_reducible intro _)
        all_goals first | contradiction | with_reducible exact st | omega | (unfold r32; omega) | trivial
    · have st := hqb (fun q => hn q.2)
      clear hqb hq1 hq0 R
      simp only [w_DH_read_0, w_DH_read_19, s_ic, s_lc, s_null, s_iload, s_lload, s_aload, s_istore, s_lstore, s_astore, s_iinc, s_iadd, s_isub, s_imul, s_iand, s_ior, s_ixor, s_ishl, s_ishr, s_idiv, s_irem, s_ineg, s_ladd, s_lsub, s_lmul, s_lneg, s_ldiv, s_lrem, s_lshl, s_lshr, s_lor, s_land, s_lcmp, s_i2l, s_l2i, s_i2b, s_dup, s_pop, s_dup2, s_dupx1, s_alen, s_ifnull, s_ifnon, s_icmp_eq, s_icmp_ne, s_icmp_lt, s_icmp_ge, s_icmp_gt, s_icmp_le, s_if_eq, s_if_ne, s_if_lt, s_if_ge, s_if_gt, s_if_le, s_getI, s_getL, s_getR, s_putI, s_putZ, s_putL, s_putR, s_iald, s_bald, s_lald, s_aald, s_iast, s_bast, s_last, s_iret, s_zret, s_lret, s_aret, s_vret, s_tbl, q_tab, s_acopy, s_new, s_newa, s_oinit, s_aast, q_nth, qst1, qst2, q_cl1, q_nx, q_ent, qcat, q_cs, q_up_mk, q_cpy_mk, List.cons_append, List.nil_append, List.append_nil, List.replicate, List.take_succ_cons, List.take_zero, List.drop_succ_cons, List.drop_zero, List.reverse_cons, List.reverse_nil, List.length_cons, List.length_nil, List.map_cons, List.map_nil, List.sum_cons, List.sum_nil, Option.toList_some, Option.toList_none, true_and, and_true, true_or, or_true, Nat.sub_zero, Nat.reduceAdd, Nat.reduceSub, Nat.reduceLeDiff, Int.reduceAdd, Int.reduceLE, s_sc, s_strC, s_strV, s_alenC, s_baldC, s_gst, s_i2c, s_cret, s_athrow, s_DH_isPlace, pi, sh_0]
      repeat' (first | with_reducible apply And.intro | with_reducible intro _)
      all_goals first | contradiction | with_reducible exact st | (exfalso; omega) | omega | (unfold r32; omega) | trivial
  · have pi := isPl_0 (v := h.2) hg
    have st := hqb (fun q => hg q.1)
    clear hqb hq1 hq0 R
    simp only [w_DH_read_0, w_DH_read_19, s_ic, s_lc, s_null, s_iload, s_lload, s_aload, s_istore, s_lstore, s_astore, s_iinc, s_iadd, s_isub, s_imul, s_iand, s_ior, s_ixor, s_ishl, s_ishr, s_idiv, s_irem, s_ineg, s_ladd, s_lsub, s_lmul, s_lneg, s_ldiv, s_lrem, s_lshl, s_lshr, s_lor, s_land, s_lcmp, s_i2l, s_l2i, s_i2b, s_dup, s_pop, s_dup2, s_dupx1, s_alen, s_ifnull, s_ifnon, s_icmp_eq, s_icmp_ne, s_icmp_lt, s_icmp_ge, s_icmp_gt, s_icmp_le, s_if_eq, s_if_ne, s_if_lt, s_if_ge, s_if_gt, s_if_le, s_getI, s_getL, s_getR, s_putI, s_putZ, s_putL, s_putR, s_iald, s_bald, s_lald, s_aald, s_iast, s_bast, s_last, s_iret, s_zret, s_lret, s_aret, s_vret, s_tbl, q_tab, s_acopy, s_new, s_newa, s_oinit, s_aast, q_nth, qst1, qst2, q_cl1, q_nx, q_ent, qcat, q_cs, q_up_mk, q_cpy_mk, List.cons_append, List.nil_append, List.append_nil, List.replicate, List.take_succ_cons, List.take_zero, List.drop_succ_cons, List.drop_zero, List.reverse_cons, List.reverse_nil, List.length_cons, List.length_nil, List.map_cons, List.map_nil, List.sum_cons, List.sum_nil, Option.toList_some, Option.toList_none, true_and, and_true, true_or, or_true, Nat.sub_zero, Nat.reduceAdd, Nat.reduceSub, Nat.reduceLeDiff, Int.reduceAdd, Int.reduceLE, s_sc, s_strC, s_strV, s_alenC, s_baldC, s_gst, s_i2c, s_cret, s_athrow, s_DH_isPlace, pi]
    repeat' (first | with_reducible apply And.intro | with_reducible intro _)
    all_goals first | contradiction | with_reducible exact st | omega | (unfold r32; omega) | trivial
