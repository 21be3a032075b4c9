/-! ===== change: the component takes a node away ===== -/
/-- what a change of a graph may touch -/
def grS (g a j : Int) : Prop := g ≤ a ∧ a ≤ g + 11 ∧ (a = g → 0 ≤ j ∧ j ≤ 2)
theorem grS_fv {g : Int} {v v' : Int → Int → Int} (h : ∀ a j, v' a j ≠ v a j → grS g a j) : FV (grS g) v v' := fun a j n => Classical.byContradiction (fun q => n (h a j q))
theorem CR_De {v : Int → Int → Int} {g e : Int} {R : Int → Int} (h : CR v g R) (ok : GOK R) (he : 0 ≤ e ∧ e < R 1) : CR (dE v g e (v g 1 - 1)) g (rDe R e) := by
  obtain ⟨⟨hg, hA⟩, ⟨h0, h1, h2⟩, hn, hE, hq, hr⟩ := h
  obtain ⟨⟨k0, k1, k2⟩, kn, -⟩ := ok
  have m48 := k1.2
  have o := fun (j : Int) (a : j ≠ 1) (b : j < 267 ∨ 459 ≤ j) => rDe_o (R := R) (e := e) (j := j) m48 he.1 a b
  have ed := fun (f oo : Int) (ho : oo = 267 ∨ oo = 315 ∨ oo = 363 ∨ oo = 411) (f0 : 0 ≤ f) (f1 : f < R 1 - 1) => rDe_e (R := R) (e := e) ho m48 he.1 f0 f1
  have fo : ∀ c : Int, (c < g + 6 ∨ g + 9 < c) → c ≠ g → dE v g e (v g 1 - 1) c = v c := fun c hc ne => by
    funext j
    simp only [dE]
    rw [if_neg (by omega), if_neg (by omega)]
  have f0 : ∀ j : Int, j ≠ 1 → dE v g e (v g 1 - 1) g j = v g j := fun j hj => dE_g hj
  have f1 : dE v g e (v g 1 - 1) g 1 = v g 1 - 1 := dE_n
  have fe : ∀ x f : Int, (x = 6 ∨ x = 7 ∨ x = 8 ∨ x = 9) → 0 ≤ f → f < R 1 - 1 → dE v g e (v g 1 - 1) (g + x) f = v (g + x) (sgE e f) := fun x f hx f0 f1 => by
    simp only [dE]
    unfold sgE
    by_cases z : f < e
    · rw [if_neg (by omega), if_neg (by omega), if_pos z]
    · rw [if_pos (by omega), if_neg z]
  refine ⟨⟨hg, ?_⟩, ⟨by rw [f0 0 (by decide), o 0 (by decide) (by decide)]; exact h0, by rw [f1, rDe_1, h1], by rw [f0 2 (by decide), o 2 (by decide) (by decide)]; exact h2⟩, fun i i0 i1 => ?_, fun f x0 x1 => ?_, fun q q0 q1 => ?_, fun k z0 z1 => by rw [fo (g + 10) (by omega) (by omega)]; exact hr k z0 z1⟩
  · unfold GA at hA ⊢
    rw [f0 3 (by decide), f0 4 (by decide), f0 5 (by decide), f0 6 (by decide), f0 7 (by decide), f0 8 (by decide), f0 9 (by decide), f0 10 (by decide), f0 11 (by decide), f0 12 (by decide), f0 13 (by decide)]
    exact hA
  · rw [o 0 (by decide) (by decide)] at i1
    have := (kn i i0 i1).1
    rw [fo (g + 3) (by omega) (by omega), fo (g + 4) (by omega) (by omega), fo (g + 5) (by omega) (by omega), fo (g + 1) (by omega) (by omega), o (195 + i) (by omega) (by omega), o (219 + i) (by omega) (by omega), o (243 + i) (by omega) (by omega)]
    obtain ⟨a, b⟩ := hn i i0 i1
    exact ⟨a, fun k z0 z1 => by rw [o (3 + 8 * i + k) (by omega) (by omega)]; exact b k z0 z1⟩
  · rw [rDe_1] at x1
    have b := sgE_b (e := e) (m := R 1) x0 x1
    rw [fe 6 f (by omega) x0 x1, fe 7 f (by omega) x0 x1, fe 8 f (by omega) x0 x1, fe 9 f (by omega) x0 x1, ed f 267 (by omega) x0 x1, ed f 315 (by omega) x0 x1, ed f 363 (by omega) x0 x1, ed f 411 (by omega) x0 x1]
    exact hE _ b.1 b.2.1
  · rw [o 2 (by decide) (by decide)] at q1
    rw [fo (g + 10) (by omega) (by omega), fo (g + 11) (by omega) (by omega), fo (g + 2) (by omega) (by omega), o (531 + q) (by omega) (by omega), o (523 + q) (by omega) (by omega)]
    obtain ⟨a, b⟩ := hq q q0 q1
    exact ⟨a, fun k z0 z1 => by rw [o (459 + 8 * q + k) (by omega) (by omega)]; exact b k z0 z1⟩
theorem dE_fv {S : Int → Int → Prop} {v v' : Int → Int → Int} {g e k : Int} (f : FV S v v') (hS : ∀ a j, grS g a j → S a j) : FV S v (dE v' g e k) := fun a j n => by
  have ng : ¬ grS g a j := fun z => n (hS a j z)
  simp only [dE]
  rw [if_neg (fun z => ng ⟨by omega, by omega, fun y => by omega⟩), if_neg (fun z => ng ⟨by omega, by omega, fun y => by omega⟩)]
  exact f a j n
/-- ends above a node are one less, up to edge e -/
def dcG (v : Int → Int → Int) (g i e : Int) : Int → Int → Int := fun c j => if (c = g + 6 ∨ c = g + 7) ∧ (0 ≤ j ∧ j < e) ∧ i < v c j then v c j - 1 else v c j
theorem dcG_0 {v : Int → Int → Int} {g i : Int} : dcG v g i 0 = v := by
  funext c j
  unfold dcG
  rw [if_neg (by omega)]
theorem dcG_c {v : Int → Int → Int} {g i e c : Int} (h : c < g + 6 ∨ g + 7 < c) : dcG v g i e c = v c := by
  funext j
  unfold dcG
  rw [if_neg (by omega)]
theorem dcG_at {v : Int → Int → Int} {g i e c : Int} : dcG v g i e c e = v c e := by
  unfold dcG
  rw [if_neg (by omega)]
theorem dcG_s {v w : Int → Int → Int} {g i e x y : Int} (hw : w = dcG v g i e) (e0 : 0 ≤ e) (hx : (i < w (g + 6) e ∧ x = 1) ∨ (¬ i < w (g + 6) e ∧ x = 0)) (hy : (i < w (g + 7) e ∧ y = 1) ∨ (¬ i < w (g + 7) e ∧ y = 0)) : up2 (up2 w (g + 6) e (w (g + 6) e - x)) (g + 7) e (w (g + 7) e - y) = dcG v g i (e + 1) := by
  have a6 : w (g + 6) e = v (g + 6) e := by rw [hw]; exact dcG_at
  have a7 : w (g + 7) e = v (g + 7) e := by rw [hw]; exact dcG_at
  rw [a6] at hx
  rw [a7] at hy
  rw [a6, a7, hw]
  funext c j
  rw [up2_ap, up2_ap]
  by_cases c7 : c = g + 7 ∧ j = e
  · rw [if_pos c7, c7.1, c7.2]
    unfold dcG
    by_cases z : i < v (g + 7) e
    · rw [if_pos ⟨Or.inr rfl, ⟨e0, by omega⟩, z⟩]; omega
    · rw [if_neg (fun q => z q.2.2)]; omega
  · rw [if_neg c7]
    by_cases c6 : c = g + 6 ∧ j = e
    · rw [if_pos c6, c6.1, c6.2]
      unfold dcG
      by_cases z : i < v (g + 6) e
      · rw [if_pos ⟨Or.inl rfl, ⟨e0, by omega⟩, z⟩]; omega
      · rw [if_neg (fun q => z q.2.2)]; omega
    · rw [if_neg c6]
      unfold dcG
      by_cases z : (c = g + 6 ∨ c = g + 7) ∧ (0 ≤ j ∧ j < e) ∧ i < v c j
      · rw [if_pos z, if_pos ⟨z.1, ⟨z.2.1.1, by omega⟩, z.2.2⟩]
      · rw [if_neg z, if_neg (fun q => z ⟨q.1, ⟨q.2.1.1, by omega⟩, q.2.2⟩)]
theorem dcG_fv {S : Int → Int → Prop} {v v' : Int → Int → Int} {g i e : Int} (f : FV S v v') (hS : ∀ a j, grS g a j → S a j) : FV S v (dcG v' g i e) := fun a j n => by
  have ng : ¬ grS g a j := fun z => n (hS a j z)
  unfold dcG
  rw [if_neg (fun z => ng ⟨by omega, by omega, fun y => by omega⟩)]
  exact f a j n
theorem CR_dc {v : Int → Int → Int} {g i : Int} {R : Int → Int} (h : CR v g R) (ok : GOK R) : CR (dcG v g i (R 1)) g (rDc R i) := by
  obtain ⟨⟨hg, hA⟩, ⟨h0, h1, h2⟩, hn, hE, hq, hr⟩ := h
  obtain ⟨⟨k0, k1, k2⟩, kn, -⟩ := ok
  have o := fun (j : Int) (b : j < 267 ∨ 363 ≤ j) => rDc_o (R := R) (i := i) (j := j) k1.2 b
  have fo := fun (c : Int) (hc : c < g + 6 ∨ g + 7 < c) => dcG_c (v := v) (g := g) (i := i) (e := R 1) (c := c) hc
  refine ⟨⟨hg, ?_⟩, ⟨by rw [fo g (by omega), o 0 (by decide)]; exact h0, by rw [fo g (by omega), o 1 (by decide)]; exact h1, by rw [fo g (by omega), o 2 (by decide)]; exact h2⟩, fun i i0 i1 => ?_, fun f x0 x1 => ?_, fun q q0 q1 => ?_, fun k z0 z1 => by rw [fo (g + 10) (by omega)]; exact hr k z0 z1⟩
  · unfold GA at hA ⊢
    rw [fo g (by omega)]
    exact hA
  · rw [o 0 (by decide)] at i1
    have := (kn i i0 i1).1
    rw [fo (g + 3) (by omega), fo (g + 4) (by omega), fo (g + 5) (by omega), fo (g + 1) (by omega), o (195 + i) (by omega), o (219 + i) (by omega), o (243 + i) (by omega)]
    obtain ⟨a, b⟩ := hn i i0 i1
    exact ⟨a, fun k z0 z1 => by rw [o (3 + 8 * i + k) (by omega)]; exact b k z0 z1⟩
  · rw [o 1 (by decide)] at x1
    obtain ⟨a1, a2, a3, a4⟩ := hE f x0 x1
    rw [fo (g + 8) (by omega), fo (g + 9) (by omega), o (363 + f) (by omega), o (411 + f) (by omega)]
    refine ⟨?_, ?_, a3, a4⟩
    · unfold dcG rDc
      rw [a1]
      by_cases z : i < R (267 + f)
      · rw [if_pos ⟨Or.inl rfl, ⟨x0, x1⟩, z⟩, if_pos ⟨Or.inl ⟨by omega, by omega⟩, z⟩]
      · rw [if_neg (fun q => z q.2.2), if_neg (fun q => z q.2)]
    · unfold dcG rDc
      rw [a2]
      by_cases z : i < R (315 + f)
      · rw [if_pos ⟨Or.inr rfl, ⟨x0, x1⟩, z⟩, if_pos ⟨Or.inr ⟨by omega, by omega⟩, z⟩]
      · rw [if_neg (fun q => z q.2.2), if_neg (fun q => z q.2)]
  · rw [o 2 (by decide)] at q1
    rw [fo (g + 10) (by omega), fo (g + 11) (by omega), fo (g + 2) (by omega), o (531 + q) (by omega), o (523 + q) (by omega)]
    obtain ⟨a, b⟩ := hq q q0 q1
    exact ⟨a, fun k z0 z1 => by rw [o (459 + 8 * q + k) (by omega)]; exact b k z0 z1⟩
/-- nodes above one come down, up to node k -/
def shG (v : Int → Int → Int) (g i k : Int) : Int → Int → Int := fun c j => if c = g + 1 ∧ 8 * i ≤ j ∧ j < 8 * k then v c (j + 8) else if (c = g + 3 ∨ c = g + 4 ∨ c = g + 5) ∧ i ≤ j ∧ j < k then v c (j + 1) else if c = g ∧ j = 0 then v g 0 - 1 else v c j
theorem shG_0 {v : Int → Int → Int} {g i : Int} : shG v g i i = up2 v g 0 (v g 0 - 1) := by
  funext c j
  rw [up2_ap]
  unfold shG
  rw [if_neg (by omega), if_neg (by omega)]
theorem shG_n {v : Int → Int → Int} {g i k : Int} : shG v g i k g 0 = v g 0 - 1 := by
  unfold shG
  rw [if_neg (by omega), if_neg (by omega), if_pos ⟨rfl, rfl⟩]
theorem shG_g {v : Int → Int → Int} {g i k j : Int} (hj : j ≠ 0) : shG v g i k g j = v g j := by
  unfold shG
  rw [if_neg (by omega), if_neg (by omega), if_neg (by omega)]
theorem shG_c {v : Int → Int → Int} {g i k c : Int} (h : c ≠ g) (h1 : c ≠ g + 1) (h2 : c < g + 3 ∨ g + 5 < c) : shG v g i k c = v c := by
  funext j
  unfold shG
  rw [if_neg (by omega), if_neg (by omega), if_neg (by omega)]
theorem shG_hi {v : Int → Int → Int} {g i k x j : Int} (hx : x = 3 ∨ x = 4 ∨ x = 5) (hj : k ≤ j) : shG v g i k (g + x) j = v (g + x) j := by
  unfold shG
  rw [if_neg (by omega), if_neg (by omega), if_neg (by omega)]
theorem shG_hn {v : Int → Int → Int} {g i k j : Int} (hj : 8 * k ≤ j) : shG v g i k (g + 1) j = v (g + 1) j := by
  unfold shG
  rw [if_neg (by omega), if_neg (by omega), if_neg (by omega)]
theorem shG_s {v w : Int → Int → Int} {g i k : Int} (hw : w = shG v g i k) (ik : i ≤ k) : up2 (up2 (up2 (cp2 w (g + 1) (g + 1) (8 * (k + 1)) (8 * k) 8) (g + 3) k (w (g + 3) (k + 1))) (g + 4) k (w (g + 4) (k + 1))) (g + 5) k (w (g + 5) (k + 1)) = shG v g i (k + 1) := by
  rw [show w (g + 3) (k + 1) = v (g + 3) (k + 1) by rw [hw]; exact shG_hi (by omega) (by omega), show w (g + 4) (k + 1) = v (g + 4) (k + 1) by rw [hw]; exact shG_hi (by omega) (by omega), show w (g + 5) (k + 1) = v (g + 5) (k + 1) by rw [hw]; exact shG_hi (by omega) (by omega)]
  funext c j
  rw [up2_ap, up2_ap, up2_ap, cp2_ap]
  by_cases c5 : c = g + 5 ∧ j = k
  · rw [if_pos c5, c5.1, c5.2]
    unfold shG
    rw [if_neg (by omega), if_pos (by omega)]
  · rw [if_neg c5]
    by_cases c4 : c = g + 4 ∧ j = k
    · rw [if_pos c4, c4.1, c4.2]
      unfold shG
      rw [if_neg (by omega), if_pos (by omega)]
    · rw [if_neg c4]
      by_cases c3 : c = g + 3 ∧ j = k
      · rw [if_pos c3, c3.1, c3.2]
        unfold shG
        rw [if_neg (by omega), if_pos (by omega)]
      · rw [if_neg c3]
        by_cases c1 : c = g + 1 ∧ 8 * k ≤ j ∧ j < 8 * k + 8
        · rw [if_pos c1, hw, shG_hn (by omega), c1.1]
          unfold shG
          rw [if_pos (by omega)]
          congr 1
          omega
        · rw [if_neg c1, hw]
          unfold shG
          by_cases z : c = g + 1 ∧ 8 * i ≤ j ∧ j < 8 * k
          · rw [if_pos z, if_pos (by omega)]
          · rw [if_neg z]
            by_cases y : (c = g + 3 ∨ c = g + 4 ∨ c = g + 5) ∧ i ≤ j ∧ j < k
            · rw [if_pos y, if_neg (by omega), if_pos (by omega)]
            · rw [if_neg y]
              symm
              rw [if_neg (by omega), if_neg (by omega)]
theorem shG_fv {S : Int → Int → Prop} {v v' : Int → Int → Int} {g i k : Int} (f : FV S v v') (hS : ∀ a j, grS g a j → S a j) : FV S v (shG v' g i k) := fun a j n => by
  have ng : ¬ grS g a j := fun z => n (hS a j z)
  unfold shG
  rw [if_neg (fun z => ng ⟨by omega, by omega, fun y => by omega⟩), if_neg (fun z => ng ⟨by omega, by omega, fun y => by omega⟩), if_neg (fun z => ng ⟨by omega, by omega, fun y => by omega⟩)]
  exact f a j n
theorem CR_sh {v : Int → Int → Int} {g i : Int} {R : Int → Int} (h : CR v g R) (b0 : (0 ≤ R 0 ∧ R 0 ≤ 24) ∧ R 1 ≤ 48) (kn : ∀ i, 0 ≤ i → i < R 0 → 1 ≤ R (195 + i) ∧ R (195 + i) ≤ 8) (hi : 0 ≤ i ∧ i < R 0) : CR (shG v g i (v g 0 - 1)) g (rSh R i) := by
  obtain ⟨⟨hg, hA⟩, ⟨h0, h1, h2⟩, hn, hE, hq, hr⟩ := h
  obtain ⟨k0, k1⟩ := b0
  have o := fun (j : Int) (hj : j ≠ 0) (b : j < 3 ∨ 267 ≤ j) => rSh_o (R := R) (i := i) (j := j) k0.2 hi.1 hj b
  have r0 : rSh R i 0 = R 0 - 1 := by unfold rSh; rw [if_pos rfl]
  have fo := fun (c : Int) (a1 : c ≠ g) (a2 : c ≠ g + 1) (a3 : c < g + 3 ∨ g + 5 < c) => shG_c (v := v) (g := g) (i := i) (k := v g 0 - 1) (c := c) a1 a2 a3
  have f0 : ∀ j : Int, j ≠ 0 → shG v g i (v g 0 - 1) g j = v g j := fun j hj => shG_g hj
  have nd : ∀ x k : Int, (x = 3 ∨ x = 4 ∨ x = 5) → 0 ≤ k → k < R 0 - 1 → shG v g i (v g 0 - 1) (g + x) k = v (g + x) (sgE i k) := fun x k hx z0 z1 => by
    unfold shG sgE
    by_cases z : k < i
    · rw [if_neg (by omega), if_neg (by omega), if_neg (by omega), if_pos z]
    · rw [if_neg (by omega), if_pos (by omega), if_neg z]
  have nm : ∀ k x : Int, 0 ≤ k → k < R 0 - 1 → 0 ≤ x → x < 8 → shG v g i (v g 0 - 1) (g + 1) (8 * k + x) = v (g + 1) (8 * sgE i k + x) := fun k x z0 z1 x0 x1 => by
    unfold shG sgE
    by_cases z : k < i
    · rw [if_neg (by omega), if_neg (by omega), if_neg (by omega), if_pos z]
    · rw [if_pos (by omega), if_neg z]
      congr 1
      omega
  refine ⟨⟨hg, ?_⟩, ⟨by rw [shG_n, r0, h0], by rw [f0 1 (by decide), o 1 (by decide) (by decide)]; exact h1, by rw [f0 2 (by decide), o 2 (by decide) (by decide)]; exact h2⟩, fun k i0 i1 => ?_, fun f x0 x1 => ?_, fun q q0 q1 => ?_, fun k z0 z1 => by rw [fo (g + 10) (by omega) (by omega) (by omega)]; exact hr k z0 z1⟩
  · unfold GA at hA ⊢
    rw [f0 3 (by decide), f0 4 (by decide), f0 5 (by decide), f0 6 (by decide), f0 7 (by decide), f0 8 (by decide), f0 9 (by decide), f0 10 (by decide), f0 11 (by decide), f0 12 (by decide), f0 13 (by decide)]
    exact hA
  · rw [r0] at i1
    have b := sgE_b (e := i) (m := R 0) i0 i1
    have kb := kn _ b.1 b.2.1
    rw [nd 3 k (by omega) i0 i1, nd 4 k (by omega) i0 i1, nd 5 k (by omega) i0 i1, rSh_n k0.2 hi.1 (by omega) i0 i1, rSh_n k0.2 hi.1 (by omega) i0 i1, rSh_n k0.2 hi.1 (by omega) i0 i1]
    obtain ⟨a, c⟩ := hn _ b.1 b.2.1
    refine ⟨a, fun x z0 z1 => ?_⟩
    rw [nm k x i0 i1 z0 (by omega), rSh_m k0.2 hi.1 i0 i1 z0 (by omega)]
    exact c x z0 z1
  · rw [o 1 (by decide) (by decide)] at x1
    rw [fo (g + 6) (by omega) (by omega) (by omega), fo (g + 7) (by omega) (by omega) (by omega), fo (g + 8) (by omega) (by omega) (by omega), fo (g + 9) (by omega) (by omega) (by omega), o (267 + f) (by omega) (by omega), o (315 + f) (by omega) (by omega), o (363 + f) (by omega) (by omega), o (411 + f) (by omega) (by omega)]
    exact hE f x0 x1
  · rw [o 2 (by decide) (by decide)] at q1
    rw [fo (g + 10) (by omega) (by omega) (by omega), fo (g + 11) (by omega) (by omega) (by omega), fo (g + 2) (by omega) (by omega) (by omega), o (531 + q) (by omega) (by omega), o (523 + q) (by omega) (by omega)]
    obtain ⟨a, b⟩ := hq q q0 q1
    exact ⟨a, fun k z0 z1 => by rw [o (459 + 8 * q + k) (by omega) (by omega)]; exact b k z0 z1⟩
set_option maxRecDepth 100000 in
theorem Gr_dn_118 {l : Launch} {D : qD} {d : Nat} {g i : Int} {S : Int → Int} {u : Int → Int → Int} {h : qh} {Q : qQ} (okS : GOK S) (hi : 0 ≤ i ∧ i < S 0) (cu : CR u g (rDc S i)) (fu : FV (grS g) h.2 u)
    (hQ : ∀ v, CR v g (rSh (rDc S i) i) → FV (grS g) h.2 v → Q none (h.1, v)) : ∀ k, k ≤ S 0 - 1 → i ≤ k → ∀ w, w = shG u g i k → qR l D (d + 2, 0, 0) m_Gr_dropNode 118 (fun r h' => Q r ((h'.1.1, h.1.2.1, h.1.2.2), h'.2)) [some (.inr (.inr (g))), some (.inl (i)), some (.inl (k))] [] ((h.1.1, 0, 0), w) := by
  obtain ⟨g0, gs, s1, -, s3, s4, s5, -⟩ := id cu.1.1
  have q0 : rDc S i 0 = S 0 := rDc_o okS.1.2.1.2 (by decide)
  have q1 : rDc S i 1 = S 1 := rDc_o okS.1.2.1.2 (by decide)
  have Sb := okS.1
  obtain ⟨⟨-, a3, -, a5, a6, a7, -⟩, ⟨u0, -, -⟩, -⟩ := id cu
  rw [q0] at u0
  have fin : CR (shG u g i (S 0 - 1)) g (rSh (rDc S i) i) := by
    have := CR_sh (i := i) cu (by rw [q0, q1]; exact ⟨Sb.1, Sb.2.1.2⟩) (fun k k0 k1 => by rw [rDc_o okS.1.2.1.2 (by rw [q0] at k1; omega)]; rw [q0] at k1; exact (okS.2.1 k k0 k1).1) (by rw [q0]; omega)
    rw [u0] at this
    exact this
  have S24 := Sb.1
  clear Sb q0 q1 okS cu
  refine up_loop _ ?_ ?_
  · intro hk w hw
    have w0 : w g 0 = S 0 - 1 := by rw [hw, shG_n, u0]
    have ex : Q none (h.1, w) := hQ w (by rw [hw]; exact fin) (by rw [hw]; exact shG_fv fu (fun _ _ z => z))
    clear hQ fin fu
    refine Gr_dropNode_118 _ _ _ ?_
    simp only [w_Gr_dropNode_0, w_Gr_dropNode_7, w_Gr_dropNode_31, w_Gr_dropNode_36, w_Gr_dropNode_42, w_Gr_dropNode_44, w_Gr_dropNode_73, w_Gr_dropNode_74, w_Gr_dropNode_97, w_Gr_dropNode_98, w_Gr_dropNode_106, w_Gr_dropNode_118, w_Gr_dropNode_197, s_ic, s_lc, s_null, s_iload, s_lload, s_aload, s_istore, s_lstore, s_astore, s_iinc, s_iadd, s_isub, s_imul, s_iand, s_ior, s_ixor, s_ishl, s_ishr, s_idiv, s_irem, s_ineg, s_ladd, s_lsub, s_lmul, s_lneg, s_ldiv, s_lrem, s_lshl, s_lshr, s_lor, s_land, s_lcmp, s_i2l, s_l2i, s_i2b, s_dup, s_pop, s_dup2, s_dupx1, s_alen, s_ifnull, s_ifnon, s_icmp_eq, s_icmp_ne, s_icmp_lt, s_icmp_ge, s_icmp_gt, s_icmp_le, s_if_eq, s_if_ne, s_if_lt, s_if_ge, s_if_gt, s_if_le, s_getI, s_getL, s_getR, s_putI, s_putZ, s_putL, s_putR, s_iald, s_bald, s_lald, s_aald, s_iast, s_bast, s_last, s_iret, s_zret, s_lret, s_aret, s_vret, s_invS, s_invV, s_tbl, q_tab, s_acopy, s_new, s_newa, s_oinit, s_invI, s_aast, q_nth, qst1, qst2, q_cl1, q_nx, q_ent, qcat, q_cs, q_up_mk, q_cpy_mk, List.cons_append, List.nil_append, List.append_nil, List.replicate, List.take_succ_cons, List.take_zero, List.drop_succ_cons, List.drop_zero, List.reverse_cons, List.reverse_nil, List.length_cons, List.length_nil, List.map_cons, List.map_nil, List.sum_cons, List.sum_nil, Option.toList_some, Option.toList_none, true_and, and_true, true_or, or_true, Nat.sub_zero, Nat.reduceAdd, Nat.reduceSub, Nat.reduceLeDiff, Int.reduceAdd, Int.reduceLE, gs, w0]
    repeat' (first | with_reducible apply And.intro | with_reducible intro _)
    all_goals first | omega | exact ex
  · intro k hk ih hik w hw
    have w0 : w g 0 = S 0 - 1 := by rw [hw, shG_n, u0]
    have w3 : w g 3 = g + 1 := by rw [hw, shG_g (by decide)]; exact a3
    have w5 : w g 5 = g + 3 := by rw [hw, shG_g (by decide)]; exact a5
    have w6 : w g 6 = g + 4 := by rw [hw, shG_g (by decide)]; exact a6
    have w7 : w g 7 = g + 5 := by rw [hw, shG_g (by decide)]; exact a7
    have nx := ih (by omega) _ (shG_s hw hik)
    clear hQ fin fu ih
    refine Gr_dropNode_118 _ _ _ ?_
    simp only [w_Gr_dropNode_0, w_Gr_dropNode_7, w_Gr_dropNode_31, w_Gr_dropNode_36, w_Gr_dropNode_42, w_Gr_dropNode_44, w_Gr_dropNode_73, w_Gr_dropNode_74, w_Gr_dropNode_97, w_Gr_dropNode_98, w_Gr_dropNode_106, w_Gr_dropNode_118, w_Gr_dropNode_197, s_ic, s_lc, s_null, s_iload, s_lload, s_aload, s_istore, s_lstore, s_astore, s_iinc, s_iadd, s_isub, s_imul, s_iand, s_ior, s_ixor, s_ishl, s_ishr, s_idiv, s_irem, s_ineg, s_ladd, s_lsub, s_lmul, s_lneg, s_ldiv, s_lrem, s_lshl, s_lshr, s_lor, s_land, s_lcmp, s_i2l, s_l2i, s_i2b, s_dup, s_pop, s_dup2, s_dupx1, s_alen, s_ifnull, s_ifnon, s_icmp_eq, s_icmp_ne, s_icmp_lt, s_icmp_ge, s_icmp_gt, s_icmp_le, s_if_eq, s_if_ne, s_if_lt, s_if_ge, s_if_gt, s_if_le, s_getI, s_getL, s_getR, s_putI, s_putZ, s_putL, s_putR, s_iald, s_bald, s_lald, s_aald, s_iast, s_bast, s_last, s_iret, s_zret, s_lret, s_aret, s_vret, s_invS, s_invV, s_tbl, q_tab, s_acopy, s_new, s_newa, s_oinit, s_invI, s_aast, q_nth, qst1, qst2, q_cl1, q_nx, q_ent, qcat, q_cs, q_up_mk, q_cpy_mk, List.cons_append, List.nil_append, List.append_nil, List.replicate, List.take_succ_cons, List.take_zero, List.drop_succ_cons, List.drop_zero, List.reverse_cons, List.reverse_nil, List.length_cons, List.length_nil, List.map_cons, List.map_nil, List.sum_cons, List.sum_nil, Option.toList_some, Option.toList_none, true_and, and_true, true_or, or_true, Nat.sub_zero, Nat.reduceAdd, Nat.reduceSub, Nat.reduceLeDiff, Int.reduceAdd, Int.reduceLE, gs, w0, w3, w5, w6, w7, s1, s3, s4, s5, cp2_ap, up2_ap, Int.reduceEq, false_and, and_false, if_false, if_true, ite_true, ite_false, reduceIte, ne_ad, ad_ne, ad_ad]
    repeat' (first | with_reducible apply And.intro | with_reducible intro _)
    all_goals first | omega | with_reducible exact nx
set_option maxRecDepth 100000 in
theorem Gr_dn_44 {l : Launch} {D : qD} {d : Nat} {g i : Int} {S : Int → Int} {u : Int → Int → Int} {h : qh} {Q : qQ} (okS : GOK S) (hi : 0 ≤ i ∧ i < S 0) (cu : CR u g S) (fu : FV (grS g) h.2 u)
    (hQ : ∀ v, CR v g (rSh (rDc S i) i) → FV (grS g) h.2 v → Q none (h.1, v)) : ∀ e, e ≤ S 1 → 0 ≤ e → ∀ w, w = dcG u g i e → qR l D (d + 2, 0, 0) m_Gr_dropNode 44 (fun r h' => Q r ((h'.1.1, h.1.2.1, h.1.2.2), h'.2)) [some (.inr (.inr (g))), some (.inl (i)), some (.inl (e))] [] ((h.1.1, 0, 0), w) := by
  obtain ⟨g0, gs, -, -, -, -, -, s6, s7, -⟩ := id cu.1.1
  obtain ⟨⟨-, -, -, -, -, -, a8, a9, -⟩, ⟨u0, u1, -⟩, -⟩ := id cu
  have m48 := okS.1.2.1
  have cd := CR_dc (i := i) cu okS
  refine up_loop _ ?_ ?_
  · intro he w hw
    have w1 : w g 1 = S 1 := by rw [hw, dcG_c (by omega)]; exact u1
    have w0 : w g 0 = S 0 := by rw [hw, dcG_c (by omega)]; exact u0
    have nx := Gr_dn_118 (l := l) (D := D) (d := d) okS hi (u := w) (by rw [hw]; exact cd) (by rw [hw]; exact dcG_fv fu (fun _ _ z => z)) hQ i (by omega) (Int.le_refl i) _ shG_0.symm
    rw [w0] at nx
    have n24 := okS.1.1
    clear hQ cd cu fu okS
    refine Gr_dropNode_44 _ _ _ ?_
    simp only [w_Gr_dropNode_0, w_Gr_dropNode_7, w_Gr_dropNode_31, w_Gr_dropNode_36, w_Gr_dropNode_42, w_Gr_dropNode_44, w_Gr_dropNode_73, w_Gr_dropNode_74, w_Gr_dropNode_97, w_Gr_dropNode_98, w_Gr_dropNode_106, w_Gr_dropNode_118, w_Gr_dropNode_197, s_ic, s_lc, s_null, s_iload, s_lload, s_aload, s_istore, s_lstore, s_astore, s_iinc, s_iadd, s_isub, s_imul, s_iand, s_ior, s_ixor, s_ishl, s_ishr, s_idiv, s_irem, s_ineg, s_ladd, s_lsub, s_lmul, s_lneg, s_ldiv, s_lrem, s_lshl, s_lshr, s_lor, s_land, s_lcmp, s_i2l, s_l2i, s_i2b, s_dup, s_pop, s_dup2, s_dupx1, s_alen, s_ifnull, s_ifnon, s_icmp_eq, s_icmp_ne, s_icmp_lt, s_icmp_ge, s_icmp_gt, s_icmp_le, s_if_eq, s_if_ne, s_if_lt, s_if_ge, s_if_gt, s_if_le, s_getI, s_getL, s_getR, s_putI, s_putZ, s_putL, s_putR, s_iald, s_bald, s_lald, s_aald, s_iast, s_bast, s_last, s_iret, s_zret, s_lret, s_aret, s_vret, s_invS, s_invV, s_tbl, q_tab, s_acopy, s_new, s_newa, s_oinit, s_invI, s_aast, q_nth, qst1, qst2, q_cl1, q_nx, q_ent, qcat, q_cs, q_up_mk, q_cpy_mk, List.cons_append, List.nil_append, List.append_nil, List.replicate, List.take_succ_cons, List.take_zero, List.drop_succ_cons, List.drop_zero, List.reverse_cons, List.reverse_nil, List.length_cons, List.length_nil, List.map_cons, List.map_nil, List.sum_cons, List.sum_nil, Option.toList_some, Option.toList_none, true_and, and_true, true_or, or_true, Nat.sub_zero, Nat.reduceAdd, Nat.reduceSub, Nat.reduceLeDiff, Int.reduceAdd, Int.reduceLE, gs, w1, w0]
    repeat' (first | with_reducible apply And.intro | with_reducible intro _)
    all_goals first | omega | with_reducible exact nx
  · intro e he ih e0 w hw
    have w1 : w g 1 = S 1 := by rw [hw, dcG_c (by omega)]; exact u1
    have w8 : w g 8 = g + 6 := by rw [hw, dcG_c (by omega)]; exact a8
    have w9 : w g 9 = g + 7 := by rw [hw, dcG_c (by omega)]; exact a9
    have nx := fun (x y : Int) hx hy => ih (by omega) _ (dcG_s (x := x) (y := y) hw e0 hx hy)
    have n11 := fun (a : i < w (g + 6) e) (b : i < w (g + 7) e) => nx 1 1 (Or.inl ⟨a, rfl⟩) (Or.inl ⟨b, rfl⟩)
    have n10 := fun (a : i < w (g + 6) e) (b : ¬ i < w (g + 7) e) => nx 1 0 (Or.inl ⟨a, rfl⟩) (Or.inr ⟨b, rfl⟩)
    have n01 := fun (a : ¬ i < w (g + 6) e) (b : i < w (g + 7) e) => nx 0 1 (Or.inr ⟨a, rfl⟩) (Or.inl ⟨b, rfl⟩)
    have n00 := fun (a : ¬ i < w (g + 6) e) (b : ¬ i < w (g + 7) e) => nx 0 0 (Or.inr ⟨a, rfl⟩) (Or.inr ⟨b, rfl⟩)
    have rg : -2147483648 ≤ w (g + 6) e - 1 ∧ w (g + 6) e ≤ 2147483647 ∧ -2147483648 ≤ w (g + 7) e - 1 ∧ w (g + 7) e ≤ 2147483647 := by
      obtain ⟨y1, y2, -⟩ := cu.2.2.2.1 e e0 (by omega)
      have := (okS.2.2.1 e e0 (by omega)).1
      have n24 := okS.1.1
      rw [hw, dcG_at, dcG_at, y1, y2]
      omega
    clear hQ cd cu fu okS ih nx hw u0 u1 a8 a9 hi
    refine Gr_dropNode_44 _ _ _ ?_
    simp only [w_Gr_dropNode_0, w_Gr_dropNode_7, w_Gr_dropNode_31, w_Gr_dropNode_36, w_Gr_dropNode_42, w_Gr_dropNode_44, w_Gr_dropNode_73, w_Gr_dropNode_74, w_Gr_dropNode_97, w_Gr_dropNode_98, w_Gr_dropNode_106, w_Gr_dropNode_118, w_Gr_dropNode_197, s_ic, s_lc, s_null, s_iload, s_lload, s_aload, s_istore, s_lstore, s_astore, s_iinc, s_iadd, s_isub, s_imul, s_iand, s_ior, s_ixor, s_ishl, s_ishr, s_idiv, s_irem, s_ineg, s_ladd, s_lsub, s_lmul, s_lneg, s_ldiv, s_lrem, s_lshl, s_lshr, s_lor, s_land, s_lcmp, s_i2l, s_l2i, s_i2b, s_dup, s_pop, s_dup2, s_dupx1, s_alen, s_ifnull, s_ifnon, s_icmp_eq, s_icmp_ne, s_icmp_lt, s_icmp_ge, s_icmp_gt, s_icmp_le, s_if_eq, s_if_ne, s_if_lt, s_if_ge, s_if_gt, s_if_le, s_getI, s_getL, s_getR, s_putI, s_putZ, s_putL, s_putR, s_iald, s_bald, s_lald, s_aald, s_iast, s_bast, s_last, s_iret, s_zret, s_lret, s_aret, s_vret, s_invS, s_invV, s_tbl, q_tab, s_acopy, s_new, s_newa, s_oinit, s_invI, s_aast, q_nth, qst1, qst2, q_cl1, q_nx, q_ent, qcat, q_cs, q_up_mk, q_cpy_mk, List.cons_append, List.nil_append, List.append_nil, List.replicate, List.take_succ_cons, List.take_zero, List.drop_succ_cons, List.drop_zero, List.reverse_cons, List.reverse_nil, List.length_cons, List.length_nil, List.map_cons, List.map_nil, List.sum_cons, List.sum_nil, Option.toList_some, Option.toList_none, true_and, and_true, true_or, or_true, Nat.sub_zero, Nat.reduceAdd, Nat.reduceSub, Nat.reduceLeDiff, Int.reduceAdd, Int.reduceLE, gs, w1, w8, w9, s6, s7, up2_ap, Int.reduceEq, false_and, and_false, if_false, if_true, ite_true, ite_false, reduceIte, ne_ad, ad_ne, ad_ad]
    repeat' (first | with_reducible apply And.intro | with_reducible intro _)
    all_goals first | omega | (with_reducible refine n11 ?_ ?_ <;> omega) | (with_reducible refine n10 ?_ ?_ <;> omega) | (with_reducible refine n01 ?_ ?_ <;> omega) | (with_reducible refine n00 ?_ ?_ <;> omega)
set_option maxRecDepth 100000 in
theorem sp_Gr_dropNode {l : Launch} {D : qD} {d : Nat} {g i : Int} {R : Int → Int} {h : qh} {Q : qQ} (cr : CR h.2 g R) (ok : GOK R) (hi : 0 ≤ i ∧ i < R 0)
    (hq : ∀ v, CR v g (rDn R i) → FV (grS g) h.2 v → Q none (h.1, v)) : qM l D (d + 2, 0, 0) m_Gr_dropNode [.inr (.inr g), .inl i] h Q := by
  have hG := cr.1.1
  obtain ⟨g0, gs, -, -, -, -, -, s6, s7, -⟩ := id hG
  have gs3 : (q_shp g).1 = 3 := by rw [gs]
  have m0 := ok.1.2.1
  obtain ⟨okS, ⟨S0, S2⟩, ⟨-, S1⟩, -⟩ := rDL_ok (i := i) ok (R 1).toNat (by omega)
  have hQ : ∀ v, CR v g (rSh (rDc (rDL R i (R 1).toNat) i) i) → FV (grS g) h.2 v → Q none (h.1, v) := hq
  obtain ⟨S, hS⟩ : ∃ S, S = rDL R i (R 1).toNat := ⟨_, rfl⟩
  rw [← hS] at okS S0 S2 S1 hQ
  clear hq
  have Sb := okS.1.2.1
  have l7 : ∀ k, k ≤ R 1 → 0 ≤ k → ∀ w, CR w g (rDL R i k.toNat) → FV (grS g) h.2 w → ∀ e, e = R 1 - 1 - k → qR l D (d + 2, 0, 0) m_Gr_dropNode 7 (fun r h' => Q r ((h'.1.1, h.1.2.1, h.1.2.2), h'.2)) [some (.inr (.inr (g))), some (.inl (i)), some (.inl (e))] [] ((h.1.1, 0, 0), w) := by
    refine up_loop _ ?_ ?_
    · intro hk w cw fw e he
      have nx := Gr_dn_44 (l := l) (D := D) (d := d) okS (by omega) (by rw [hS]; exact cw) fw hQ 0 (by omega) (Int.le_refl 0) w dcG_0.symm
      clear hQ okS
      refine Gr_dropNode_7 _ _ _ ?_
      simp only [w_Gr_dropNode_7, w_Gr_dropNode_42, s_ic, s_lc, s_null, s_iload, s_lload, s_aload, s_istore, s_lstore, s_astore, s_iinc, s_iadd, s_isub, s_imul, s_iand, s_ior, s_ixor, s_ishl, s_ishr, s_idiv, s_irem, s_ineg, s_ladd, s_lsub, s_lmul, s_lneg, s_ldiv, s_lrem, s_lshl, s_lshr, s_lor, s_land, s_lcmp, s_i2l, s_l2i, s_i2b, s_dup, s_pop, s_dup2, s_dupx1, s_alen, s_ifnull, s_ifnon, s_icmp_eq, s_icmp_ne, s_icmp_lt, s_icmp_ge, s_icmp_gt, s_icmp_le, s_if_eq, s_if_ne, s_if_lt, s_if_ge, s_if_gt, s_if_le, s_getI, s_getL, s_getR, s_putI, s_putZ, s_putL, s_putR, s_iald, s_bald, s_lald, s_aald, s_iast, s_bast, s_last, s_iret, s_zret, s_lret, s_aret, s_vret, s_tbl, q_tab, s_acopy, s_new, s_newa, s_oinit, s_aast, q_nth, qst1, qst2, q_cl1, q_nx, q_ent, qcat, q_cs, q_up_mk, q_cpy_mk, List.cons_append, List.nil_append, List.append_nil, List.replicate, List.take_succ_cons, List.take_zero, List.drop_succ_cons, List.drop_zero, List.reverse_cons, List.reverse_nil, List.length_cons, List.length_nil, List.map_cons, List.map_nil, List.sum_cons, List.sum_nil, Option.toList_some, Option.toList_none, true_and, and_true, true_or, or_true, Nat.sub_zero, Nat.reduceAdd, Nat.reduceSub, Nat.reduceLeDiff, Int.reduceAdd, Int.reduceLE, s_sc, s_strC, s_strV, s_alenC, s_baldC, s_gst, s_i2c, s_cret, s_athrow]
      repeat' (first | with_reducible apply And.intro | with_reducible intro _)
      all_goals first | (with_reducible exact nx) | (exfalso; omega)
    · intro k hk ih k0 w cw fw e he
      obtain ⟨okk, -, ⟨c1, c2⟩, -⟩ := rDL_ok (i := i) ok k.toNat (by omega)
      have up : rDL R i (k + 1).toNat = if rDL R i k.toNat (267 + e) = i ∨ rDL R i k.toNat (315 + e) = i then rDe (rDL R i k.toNat) e else rDL R i k.toNat := by
        rw [show (k + 1).toNat = k.toNat + 1 by omega, he]
        simp only [rDL]
        rw [show ((k.toNat : Nat) : Int) = k by omega]
      obtain ⟨T, hT⟩ : ∃ T, T = rDL R i k.toNat := ⟨_, rfl⟩
      rw [← hT] at cw okk c1 c2 up
      have nx := fun w' cw' fw' (x : Int) (hx : x = R 1 - 1 - (k + 1)) => ih (by omega) w' cw' fw' x hx
      obtain ⟨⟨-, hA⟩, ⟨-, e1, -⟩, -, hE, -, -⟩ := id cw
      have a8 := hA.2.2.2.2.2.1
      have a9 := hA.2.2.2.2.2.2.1
      obtain ⟨y1, y2, -, y4⟩ := hE e (by omega) (by omega)
      have hb : ∀ j, 0 ≤ j → j < w g 1 → w (g + 9) j = 0 ∨ w (g + 9) j = 1 := fun j j0 j1 => by
        rw [e1] at j1
        rw [(hE j j0 j1).2.2.2]
        exact (okk.2.2.1 j j0 j1).2.2
      have call : (T (267 + e) = i ∨ T (315 + e) = i) → ∀ Q' : qQ, (∀ w', CR w' g (rDL R i (k + 1).toNat) → FV (grS g) h.2 w' → Q' none ((h.1.1, 0, 0), w')) → qM l D (d + 1, 0, 0) m_Gr_dropEdge [.inr (.inr g), .inl e] ((h.1.1, 0, 0), w) Q' := fun z Q' hq' => by
        refine sp_Gr_dropEdge (d := d) (h := ((h.1.1, 0, 0), w)) hG hA ⟨by omega, by show e < w g 1; omega, by show w g 1 ≤ 48; have := okk.1.2.1; omega⟩ hb ?_
        refine hq' _ ?_ (dE_fv fw (fun _ _ z => z))
        rw [up, if_pos z]
        exact CR_De cw okk ⟨by omega, by omega⟩
      have stay : ¬ (T (267 + e) = i ∨ T (315 + e) = i) → CR w g (rDL R i (k + 1).toNat) := fun z => by
        rw [up, if_neg z]; exact cw
      have e48 : 0 ≤ e ∧ e < 48 := by omega
      clear hQ okS ih up hE hb ok cr cw okk hA Sb S0 S2 S1 y4 e1 c1 c2
      refine Gr_dropNode_7 _ _ _ ?_
      simp only [w_Gr_dropNode_7, w_Gr_dropNode_31, w_Gr_dropNode_36, s_ic, s_lc, s_null, s_iload, s_lload, s_aload, s_istore, s_lstore, s_astore, s_iinc, s_iadd, s_isub, s_imul, s_iand, s_ior, s_ixor, s_ishl, s_ishr, s_idiv, s_irem, s_ineg, s_ladd, s_lsub, s_lmul, s_lneg, s_ldiv, s_lrem, s_lshl, s_lshr, s_lor, s_land, s_lcmp, s_i2l, s_l2i, s_i2b, s_dup, s_pop, s_dup2, s_dupx1, s_alen, s_ifnull, s_ifnon, s_icmp_eq, s_icmp_ne, s_icmp_lt, s_icmp_ge, s_icmp_gt, s_icmp_le, s_if_eq, s_if_ne, s_if_lt, s_if_ge, s_if_gt, s_if_le, s_getI, s_getL, s_getR, s_putI, s_putZ, s_putL, s_putR, s_iald, s_bald, s_lald, s_aald, s_iast, s_bast, s_last, s_iret, s_zret, s_lret, s_aret, s_vret, s_tbl, q_tab, s_acopy, s_new, s_newa, s_oinit, s_aast, q_nth, qst1, qst2, q_cl1, q_nx, q_ent, qcat, q_cs, q_up_mk, q_cpy_mk, List.cons_append, List.nil_append, List.append_nil, List.replicate, List.take_succ_cons, List.take_zero, List.drop_succ_cons, List.drop_zero, List.reverse_cons, List.reverse_nil, List.length_cons, List.length_nil, List.map_cons, List.map_nil, List.sum_cons, List.sum_nil, Option.toList_some, Option.toList_none, true_and, and_true, true_or, or_true, Nat.sub_zero, Nat.reduceAdd, Nat.reduceSub, Nat.reduceLeDiff, Int.reduceAdd, Int.reduceLE, s_sc, s_strC, s_strV, s_alenC, s_baldC, s_gst, s_i2c, s_cret, s_athrow, gs, a8, a9, s6, s7, y1, y2]
      repeat' (first | with_reducible apply And.intro | with_reducible intro _)
      all_goals first | contradiction | omega | (with_reducible refine nx w (stay (by omega)) fw _ ?_ <;> omega) | (exfalso; omega) | skip
      all_goals (refine ⟨by simp only [List.length_cons, List.length_nil]; omega, Nat.le_of_ble_eq_true rfl, ⟨g0, gs3⟩, ?_⟩)
      all_goals (refine call (by omega) _ (fun w' cw' fw' => ?_))
      all_goals (simp only [s_ic, s_lc, s_null, s_iload, s_lload, s_aload, s_istore, s_lstore, s_astore, s_iinc, s_iadd, s_isub, s_imul, s_iand, s_ior, s_ixor, s_ishl, s_ishr, s_idiv, s_irem, s_ineg, s_ladd, s_lsub, s_lmul, s_lneg, s_ldiv, s_lrem, s_lshl, s_lshr, s_lor, s_land, s_lcmp, s_i2l, s_l2i, s_i2b, s_dup, s_pop, s_dup2, s_dupx1, s_alen, s_ifnull, s_ifnon, s_icmp_eq, s_icmp_ne, s_icmp_lt, s_icmp_ge, s_icmp_gt, s_icmp_le, s_if_eq, s_if_ne, s_if_lt, s_if_ge, s_if_gt, s_if_le, s_getI, s_getL, s_getR, s_putI, s_putZ, s_putL, s_putR, s_iald, s_bald, s_lald, s_aald, s_iast, s_bast, s_last, s_iret, s_zret, s_lret, s_aret, s_vret, s_tbl, q_tab, s_acopy, s_new, s_newa, s_oinit, s_aast, q_nth, qst1, qst2, q_cl1, q_nx, q_ent, qcat, q_cs, q_up_mk, q_cpy_mk, List.cons_append, List.nil_append, List.append_nil, List.replicate, List.take_succ_cons, List.take_zero, List.drop_succ_cons, List.drop_zero, List.reverse_cons, List.reverse_nil, List.length_cons, List.length_nil, List.map_cons, List.map_nil, List.sum_cons, List.sum_nil, Option.toList_some, Option.toList_none, true_and, and_true, true_or, or_true, Nat.sub_zero, Nat.reduceAdd, Nat.reduceSub, Nat.reduceLeDiff, Int.reduceAdd, Int.reduceLE, s_sc, s_strC, s_strV, s_alenC, s_baldC, s_gst, s_i2c, s_cret, s_athrow])
      repeat' (first | with_reducible apply And.intro | with_reducible intro _)
      all_goals first | omega | (with_reducible refine nx _ cw' fw' _ ?_ <;> omega) | (exfalso; omega)
  refine qM.o0 3 rfl (by decide) (Nat.le_of_ble_eq_true rfl) ?_
  have st := l7 0 m0.1 (Int.le_refl 0) h.2 cr FV.rf
  have c1 := cr.2.1.2.1
  clear hQ l7 okS ok cr
  refine Gr_dropNode_0 _ _ _ ?_
  simp only [w_Gr_dropNode_0, s_ic, s_lc, s_null, s_iload, s_lload, s_aload, s_istore, s_lstore, s_astore, s_iinc, s_iadd, s_isub, s_imul, s_iand, s_ior, s_ixor, s_ishl, s_ishr, s_idiv, s_irem, s_ineg, s_ladd, s_lsub, s_lmul, s_lneg, s_ldiv, s_lrem, s_lshl, s_lshr, s_lor, s_land, s_lcmp, s_i2l, s_l2i, s_i2b, s_dup, s_pop, s_dup2, s_dupx1, s_alen, s_ifnull, s_ifnon, s_icmp_eq, s_icmp_ne, s_icmp_lt, s_icmp_ge, s_icmp_gt, s_icmp_le, s_if_eq, s_if_ne, s_if_lt, s_if_ge, s_if_gt, s_if_le, s_getI, s_getL, s_getR, s_putI, s_putZ, s_putL, s_putR, s_iald, s_bald, s_lald, s_aald, s_iast, s_bast, s_last, s_iret, s_zret, s_lret, s_aret, s_vret, s_tbl, q_tab, s_acopy, s_new, s_newa, s_oinit, s_aast, q_nth, qst1, qst2, q_cl1, q_nx, q_ent, qcat, q_cs, q_up_mk, q_cpy_mk, List.cons_append, List.nil_append, List.append_nil, List.replicate, List.take_succ_cons, List.take_zero, List.drop_succ_cons, List.drop_zero, List.reverse_cons, List.reverse_nil, List.length_cons, List.length_nil, List.map_cons, List.map_nil, List.sum_cons, List.sum_nil, Option.toList_some, Option.toList_none, true_and, and_true, true_or, or_true, Nat.sub_zero, Nat.reduceAdd, Nat.reduceSub, Nat.reduceLeDiff, Int.reduceAdd, Int.reduceLE, s_sc, s_strC, s_strV, s_alenC, s_baldC, s_gst, s_i2c, s_cret, s_athrow, gs, c1]
  repeat' (first | with_reducible apply And.intro | with_reducible intro _)
  all_goals first | contradiction | (exact st _ (by omega)) | omega | (unfold r32; omega)
