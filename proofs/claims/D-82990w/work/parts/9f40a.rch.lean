/-! ===== a place's graph is another one: all holds again ===== -/
theorem REL.ch {nc nc' gi g : Int} {v v' : Int → Int → Int} (R : REL nc v) (hg : 0 ≤ gi ∧ gi < 4) (le : nc ≤ nc') (nm : (nc' - 399) % 12 = 0) (gcg : gcl nc' g) (own : nc ≤ g ∨ ∃ k, (0 ≤ k ∧ k ≤ 30) ∧ v (psO gi) k = g) (k : FV (zcS gi g) v v') (k282 : ∀ j, (j < 16709 * gi ∨ 16709 * (gi + 1) ≤ j) → v' 282 j = v 282 j) (pl : PLC nc' v' gi) (ds : GDS v') (d0 : v' (drO gi) 0 = 0 ∧ v' 316 gi = -1)
    (s0 : ∀ k : Int, 0 ≤ k → k < 72 → v' (16 + 27 * gi) k = 0) (s1 : ∀ k : Int, 0 ≤ k → k < 144 → v' (17 + 27 * gi) k = 0) (s2 : ∀ k : Int, 0 ≤ k → k < 216 → v' 328 (216 * gi + k) = 0) (e8 : v' 0 8 = if v 0 8 = gi then -1 else v 0 8) (e12 : v' 0 12 = if v 0 12 = gi then -1 else v 0 12) (tap : TAP v') (fts : FTS v') : REL nc' v' := by
  have gn : g ≠ -1 := by have := gcg.g.1; omega
  have n399 := R.1.2.1
  obtain ⟨⟨⟨h1a, h1b, h1c⟩, h1'⟩, h2, h3, h4, h5, h6⟩ := id R
  have gne := fun (gj : Int) (hj : 0 ≤ gj ∧ gj < 4) (ne : gj ≠ gi) (x : Int) (xb : 0 ≤ x ∧ x ≤ 30) (gc : gcl nc (v (psO gj) x)) => ch_ne R hg hj ne own gn xb gc
  clear own
  have gst : ∀ gj : Int, (0 ≤ gj ∧ gj < 4) → gj ≠ gi → ∀ x : Int, (0 ≤ x ∧ x ≤ 30) → gcl nc (v (psO gj) x) → ∀ j : Int, 0 ≤ j → j ≤ 11 → v' (v (psO gj) x + j) = v (v (psO gj) x + j) := fun gj hj ne x xb gc => ch_gr hg gcg (gc.wk le) (gne gj hj ne x xb gc) k
  have gl := gcl_l gcg
  have psj : ∀ gj : Int, (0 ≤ gj ∧ gj < 4) → gj ≠ gi → v' (psO gj) = v (psO gj) ∧ v' (pcO gj) 1 = v (pcO gj) 1 ∧ v' (pcO gj) 2 = v (pcO gj) 2 ∧ v' 283 gj = v 283 gj ∧ v' 284 gj = v 284 gj := fun gj hj ne =>
    ⟨ch_pl hg hj ne gcg k (4 + 27 * gj) ⟨by omega, by omega⟩, congrFun (ch_pl hg hj ne gcg k (3 + 27 * gj) ⟨by omega, by omega⟩) 1, congrFun (ch_pl hg hj ne gcg k (3 + 27 * gj) ⟨by omega, by omega⟩) 2, k _ _ (fun s => ch_pt0 hj ne gl hg 283 (Or.inl ⟨Or.inl rfl, rfl⟩) s), k _ _ (fun s => ch_pt0 hj ne gl hg 284 (Or.inl ⟨Or.inr (Or.inl rfl), rfl⟩) s)⟩
  have gnj : ∀ gj : Int, (0 ≤ gj ∧ gj < 4) → gj ≠ gi → gNow v' gj = gNow v gj := fun gj hj ne => gNow.cg (psj gj hj ne).2.1 (psj gj hj ne).1
  have gnw : ∀ gj : Int, (0 ≤ gj ∧ gj < 4) → gj ≠ gi → ∀ j : Int, 0 ≤ j → j ≤ 11 → v' (gNow v gj + j) = v (gNow v gj + j) := fun gj hj ne => gst gj hj ne _ ⟨(h2.1 gj hj).1.2.1, by have := (h2.1 gj hj).1.2.2; omega⟩ (gNow_g (h2.1 gj hj)).1
  have gn0 : ∀ gj : Int, (0 ≤ gj ∧ gj < 4) → gj ≠ gi → v' (gNow v gj) = v (gNow v gj) := fun gj hj ne => by have := gnw gj hj ne 0 (by omega) (by omega); rw [show gNow v gj + 0 = gNow v gj by omega] at this; exact this
  have N := fun (a : Int) (b : zcN a = true) => ch_n hg gcg k a b
  have P := fun (a j : Int) (b : zcB a j = true) => ch_pt hg gcg k a j b
  refine ⟨⟨⟨h1a.fv hg gcg k, h1b.fv hg gcg k, ?_⟩, by omega, nm⟩, ⟨fun gj hj => ?_, ds⟩, fun gj hj => ⟨?_, ?_⟩, ⟨?_, ?_⟩, ⟨tap, fts⟩, ?_, ?_, ?_⟩
  · unfold PRM
    rw [N 357 (by decide), N 358 (by decide), N 359 (by decide)]
    exact h1c
  · by_cases ne : gj = gi
    · rw [ne]; exact pl
    · obtain ⟨p1, p2, p3⟩ := h2.1 gj hj
      obtain ⟨q1, q2, q3, q4, q5⟩ := psj gj hj ne
      unfold PLC
      rw [q1, q2, q3, q4, q5]
      refine ⟨p1, fun x x0 x1 => ?_, fun x x0 x1 => ?_⟩
      · rcases p2 x x0 x1 with w | ⟨a, b, c⟩
        · exact Or.inl w
        · have ga := gst gj hj ne x ⟨x0, x1⟩ a
          have g0 : v' (v (psO gj) x) = v (v (psO gj) x) := by have := ga 0 (by omega) (by omega); rw [show v (psO gj) x + 0 = v (psO gj) x by omega] at this; exact this
          refine Or.inr ⟨a.wk le, ?_, ?_⟩
          · unfold GA at b ⊢; rw [g0]; exact b
          · rw [ga 10 (by omega) (by omega)]; exact c
      · obtain ⟨a, Rr, b, c, d⟩ := p3 x x0 x1
        refine ⟨a.wk le, Rr, b.cg (gst gj hj ne x ⟨x0, by have := p1.2.2.2; omega⟩ a), ⟨c.1, fun j j0 j1 => ?_⟩, d⟩
        have x30 := p1.2.2.2
        rw [k282 _ (by omega)]
        exact c.2 j j0 j1
  · by_cases ne : gj = gi
    · rw [ne]; exact Or.inl d0
    · have dr : ∀ j : Int, 0 ≤ j → j ≤ 10 → v' (5 + 27 * gj + j) = v (5 + 27 * gj + j) := fun j j0 j1 => ch_pl hg hj ne gcg k _ ⟨by omega, by omega⟩
      have dr0 : v' (5 + 27 * gj) = v (5 + 27 * gj) := ch_pl hg hj ne gcg k _ ⟨by omega, by omega⟩
      exact (h3 gj hj).1.cg2 (gn0 gj hj ne) (gnj gj hj ne) (fun j _ _ => congrFun dr0 j) (fun j j0 j1 => dr j (by omega) j1) (k _ _ (fun s => ch_pt0 hj ne gl hg 316 (Or.inl ⟨Or.inr (Or.inr rfl), rfl⟩) s)) (fun c c0 c1 => N c (zcN_of (by omega)))
  · by_cases ne : gj = gi
    · subst ne
      refine ⟨fun x x0 x1 => ?_, fun x x0 x1 => ?_⟩
      · rw [s0 x x0 x1, s2 x x0 (by omega)]; decide
      · rw [s1 x x0 x1, show 216 * gj + 72 + x = 216 * gj + (72 + x) by omega, s2 (72 + x) (by omega) (by omega)]; decide
    · have sh := (h3 gj hj).2
      have c1 : v' (16 + 27 * gj) = v (16 + 27 * gj) := ch_pl hg hj ne gcg k _ ⟨by omega, by omega⟩
      have c2 : v' (17 + 27 * gj) = v (17 + 27 * gj) := ch_pl hg hj ne gcg k _ ⟨by omega, by omega⟩
      have c3 : ∀ x : Int, 0 ≤ x → x < 216 → v' 328 (216 * gj + x) = v 328 (216 * gj + x) := fun x x0 x1 => k _ _ (fun s => ch_pt0 hj ne gl hg 328 (Or.inr ⟨rfl, by omega, by omega⟩) s)
      unfold SHD
      rw [c1, c2]
      refine ⟨fun x x0 x1 => ?_, fun x x0 x1 => ?_⟩
      · rw [c3 x x0 (by omega)]; exact sh.1 x x0 x1
      · rw [show 216 * gj + 72 + x = 216 * gj + (72 + x) by omega, c3 (72 + x) (by omega) (by omega), show 216 * gj + (72 + x) = 216 * gj + 72 + x by omega]; exact sh.2 x x0 x1
  · by_cases z : v 0 8 = gi
    · exact Or.inl (by rw [e8, if_pos z])
    · rw [if_neg z] at e8
      unfold SHK
      rw [e8]
      rcases h4.1 with w | ⟨w1, w2⟩
      · exact Or.inl w
      · refine Or.inr ⟨w1, ?_⟩
        rw [gnj _ w1 z]
        have G := gnw _ w1 z
        exact w2.cg (N 135 (by decide)) ⟨N 136 (by decide), N 137 (by decide), N 138 (by decide), N 139 (by decide), N 140 (by decide)⟩ ⟨gn0 _ w1 z, G 6 (by omega) (by omega), G 7 (by omega) (by omega), G 9 (by omega) (by omega)⟩
  · by_cases z : v 0 12 = gi
    · exact Or.inl (by rw [e12, if_pos z])
    · rw [if_neg z] at e12
      unfold WBK
      rw [e12, P 0 13 (by decide), P 0 17 (by decide), P 0 18 (by decide), N 197 (by decide)]
      rcases h4.2 with w | ⟨w1, w2⟩
      · exact Or.inl w
      · refine Or.inr ⟨w1, ?_⟩
        have G := gnw _ w1 z
        rw [gnj _ w1 z, gn0 _ w1 z, G 6 (by omega) (by omega), G 7 (by omega) (by omega)]
        rcases w2 with ⟨a, b, c⟩ | w2
        · refine Or.inl ⟨a, b, c.cg (fun x x0 x1 => N x (zcN_of (by omega)))⟩
        · exact Or.inr w2
  · have l1 := h6.1
    unfold LKS
    rw [N 145 (by decide), N 147 (by decide), N 293 (by decide), P 280 25 (by decide), P 280 26 (by decide), P 280 27 (by decide), P 280 30 (by decide)]
    exact l1
  · have l1 := h6.2.1
    unfold WRT
    rw [P 0 28 (by decide), P 280 169 (by decide), N 274 (by decide), N 396 (by decide)]
    exact l1
  · have l1 := h6.2.2
    unfold DOS
    rw [P 0 32 (by decide), P 0 33 (by decide), P 280 173 (by decide), P 280 174 (by decide), N 276 (by decide), N 398 (by decide)]
    exact l1
