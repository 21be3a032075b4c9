/-! ===== a graph's row: a node comes, a value is another one ===== -/
/-- the name n and a number -/
def nmc (n x : Int) : Int := if x = 0 then 110 else if n ≤ 9 then (if x = 1 then 48 + n % 10 else 0) else (if x = 1 then 48 + n / 10 else if x = 2 then 48 + n % 10 else 0)
def nml (n : Int) : Int := if n ≤ 9 then 2 else 3
theorem nmc_b {n x : Int} (n0 : 0 ≤ n) (n1 : n < 24) : 0 ≤ nmc n x ∧ nmc n x ≤ 127 := by
  unfold nmc
  by_cases z : x = 0
  · rw [if_pos z]; decide
  · rw [if_neg z]
    by_cases y : n ≤ 9
    · rw [if_pos y]
      by_cases w : x = 1
      · rw [if_pos w]; omega
      · rw [if_neg w]; decide
    · rw [if_neg y]
      by_cases w : x = 1
      · rw [if_pos w]; omega
      · rw [if_neg w]
        by_cases u : x = 2
        · rw [if_pos u]; omega
        · rw [if_neg u]; decide
theorem nml_b {n : Int} : 2 ≤ nml n ∧ nml n ≤ 3 := by
  unfold nml
  by_cases y : n ≤ 9
  · rw [if_pos y]; decide
  · rw [if_neg y]; decide
def rNn (R : Int → Int) (g : Int) : Int → Int := fun j => if j = 0 then R 0 + 1 else if 3 + 8 * R 0 ≤ j ∧ j < 3 + 8 * R 0 + 8 then nmc (R 0) (j - (3 + 8 * R 0)) else if j = 195 + R 0 then nml (R 0) else if j = 219 + R 0 then 1 else if j = 243 + R 0 then g else R j
/-- no node has that name -/
def noN (R : Int → Int) : Prop := ∀ i : Int, 0 ≤ i → i < R 0 → ¬ (R (195 + i) = nml (R 0) ∧ ∀ k : Int, 0 ≤ k → k < nml (R 0) → R (3 + 8 * i + k) = nmc (R 0) k)
theorem rNn_o {R : Int → Int} {g j : Int} (h0 : j ≠ 0) (h1 : ¬ (3 + 8 * R 0 ≤ j ∧ j < 3 + 8 * R 0 + 8)) (h2 : j ≠ 195 + R 0) (h3 : j ≠ 219 + R 0) (h4 : j ≠ 243 + R 0) : rNn R g j = R j := by
  unfold rNn
  rw [if_neg h0, if_neg h1, if_neg h2, if_neg h3, if_neg h4]
theorem rNn_v {R : Int → Int} {g : Int} (n0 : 0 ≤ R 0) (n24 : R 0 < 24) : rNn R g 0 = R 0 + 1 ∧ rNn R g (195 + R 0) = nml (R 0) ∧ rNn R g (219 + R 0) = 1 ∧ rNn R g (243 + R 0) = g ∧ ∀ k : Int, 0 ≤ k → k < 8 → rNn R g (3 + 8 * R 0 + k) = nmc (R 0) k := by
  unfold rNn
  refine ⟨by rw [if_pos rfl], ?_, ?_, ?_, fun k k0 k1 => ?_⟩
  · rw [if_neg (by omega), if_neg (by omega), if_pos rfl]
  · rw [if_neg (by omega), if_neg (by omega), if_neg (by omega), if_pos rfl]
  · rw [if_neg (by omega), if_neg (by omega), if_neg (by omega), if_neg (by omega), if_pos rfl]
  · rw [if_neg (by omega), if_pos (by omega), show 3 + 8 * R 0 + k - (3 + 8 * R 0) = k by omega]
theorem rNn_ok {R : Int → Int} {g : Int} (h : GOK R) (n24 : R 0 < 24) (hg : 0 ≤ g ∧ g < R 2) : GOK (rNn R g) := by
  obtain ⟨⟨h0, h1, h2⟩, hn, hE, hs, hq, hr⟩ := h
  obtain ⟨v0, v1, v2, v3, v4⟩ := rNn_v (g := g) h0.1 n24
  have o := fun (j : Int) (hj : j ≠ 0) (a : j < 3 ∨ 267 ≤ j) => rNn_o (R := R) (g := g) (j := j) hj (by omega) (by omega) (by omega) (by omega)
  have nd : ∀ x i : Int, (x = 195 ∨ x = 219 ∨ x = 243) → 0 ≤ i → i < R 0 → rNn R g (x + i) = R (x + i) := fun x i hx i0 i1 => rNn_o (by omega) (by omega) (by omega) (by omega) (by omega)
  have nb := nml_b (n := R 0)
  unfold GOK
  rw [v0, o 1 (by omega) (by omega), o 2 (by omega) (by omega)]
  refine ⟨⟨by omega, h1, h2⟩, fun i i0 i1 => ?_, fun f f0 f1 => ?_, fun f f' f0 f1 f2 => ?_, fun q q0 q1 => ?_, fun k k0 k1 => ?_⟩
  · by_cases z : i = R 0
    · rw [z, v1, v2, v3]
      refine ⟨by omega, by decide, hg, fun k k0 k1 => ?_⟩
      rw [v4 k k0 (by omega)]
      exact nmc_b h0.1 n24
    · obtain ⟨a1, a2, a3, a4⟩ := hn i i0 (by omega)
      rw [nd 195 i (by omega) i0 (by omega), nd 219 i (by omega) i0 (by omega), nd 243 i (by omega) i0 (by omega)]
      refine ⟨a1, a2, a3, fun k k0 k1 => ?_⟩
      rw [rNn_o (by omega) (by omega) (by omega) (by omega) (by omega)]
      exact a4 k k0 k1
  · rw [o (267 + f) (by omega) (by omega), o (315 + f) (by omega) (by omega), o (363 + f) (by omega) (by omega), o (411 + f) (by omega) (by omega)]
    obtain ⟨⟨a1, a2, a3⟩, a4⟩ := hE f f0 f1
    exact ⟨⟨by omega, by omega, a3⟩, a4⟩
  · have t := hs f f' f0 f1 f2
    unfold jnR at t ⊢
    rw [o (267 + f) (by omega) (by omega), o (315 + f) (by omega) (by omega), o (267 + f') (by omega) (by omega), o (315 + f') (by omega) (by omega)]
    exact t
  · obtain ⟨x, y, c⟩ := hq q q0 q1
    have gg := fun (j : Int) (hj : 459 ≤ j) => o j (by omega) (by omega)
    refine ⟨fun z => ?_, fun z => ?_, fun k k0 k1 => ?_⟩
    · rw [gg 531 (by omega), gg 523 (by omega)]; exact x z
    · rw [gg (531 + q) (by omega), gg (523 + q) (by omega)]; exact y z
    · rw [gg (523 + q) (by omega)] at k1
      rw [gg (459 + 8 * q + k) (by omega)]; exact c k k0 k1
  · rw [o (531 + k) (by omega) (by omega)]; exact hr k k0 k1
theorem upr_ne {R : Int → Int} {j z i : Int} (h : i ≠ j) : upr R j z i = R i := by unfold upr; rw [if_neg h]
theorem upr_at {R : Int → Int} {j z : Int} : upr R j z j = z := by unfold upr; rw [if_pos rfl]
/-- one value of a node or an edge is another one -/
theorem upr_gk {R : Int → Int} {o a b : Int} (h : GOK R) (c : (o = 219 ∧ (0 ≤ a ∧ a < R 0) ∧ 1 ≤ b ∧ b ≤ 99) ∨ (o = 363 ∧ (0 ≤ a ∧ a < R 1) ∧ 1 ≤ b ∧ b ≤ 9) ∨ (o = 243 ∧ (0 ≤ a ∧ a < R 0) ∧ 0 ≤ b ∧ b < R 2) ∨ (o = 411 ∧ (0 ≤ a ∧ a < R 1) ∧ (b = 0 ∨ b = 1))) : GOK (upr R (o + a) b) := by
  obtain ⟨⟨h0, h1, h2⟩, hn, hE, hs, hq, hr⟩ := h
  have jb : (219 ≤ o + a ∧ o + a < 267) ∨ (363 ≤ o + a ∧ o + a < 459) := by omega
  have u := fun (i : Int) (hi : i ≠ o + a) => upr_ne (R := R) (z := b) hi
  unfold GOK
  rw [u 0 (by omega), u 1 (by omega), u 2 (by omega)]
  refine ⟨⟨h0, h1, h2⟩, fun i i0 i1 => ?_, fun f f0 f1 => ?_, fun f f' f0 f1 f2 => ?_, fun q q0 q1 => ?_, fun k k0 k1 => ?_⟩
  · obtain ⟨a1, a2, a3, a4⟩ := hn i i0 i1
    rw [u (195 + i) (by omega)]
    refine ⟨a1, ?_, ?_, fun k k0 k1 => by rw [u _ (by omega)]; exact a4 k k0 k1⟩
    · by_cases z : 219 + i = o + a
      · rw [z, upr_at]; omega
      · rw [u _ z]; exact a2
    · by_cases z : 243 + i = o + a
      · rw [z, upr_at]; omega
      · rw [u _ z]; exact a3
  · obtain ⟨a1, a2, a3⟩ := hE f f0 f1
    rw [u (267 + f) (by omega), u (315 + f) (by omega)]
    refine ⟨a1, ?_, ?_⟩
    · by_cases z : 363 + f = o + a
      · rw [z, upr_at]; omega
      · rw [u _ z]; exact a2
    · by_cases z : 411 + f = o + a
      · rw [z, upr_at]; omega
      · rw [u _ z]; exact a3
  · have t := hs f f' f0 f1 f2
    unfold jnR at t ⊢
    rw [u (267 + f) (by omega), u (315 + f) (by omega), u (267 + f') (by omega), u (315 + f') (by omega)]
    exact t
  · obtain ⟨x, y, c⟩ := hq q q0 q1
    have gg := fun (j : Int) (hj : 459 ≤ j) => u j (by omega)
    refine ⟨fun z => ?_, fun z => ?_, fun k k0 k1 => ?_⟩
    · rw [gg 531 (by omega), gg 523 (by omega)]; exact x z
    · rw [gg (531 + q) (by omega), gg (523 + q) (by omega)]; exact y z
    · rw [gg (523 + q) (by omega)] at k1
      rw [gg (459 + 8 * q + k) (by omega)]; exact c k k0 k1
  · rw [u (531 + k) (by omega)]; exact hr k k0 k1
/-- what may be asked for -/
def CAN (R : Int → Int) (what a b : Int) : Prop := (what = 0 ∧ (0 ≤ a ∧ a < R 2) ∧ R 0 < 24 ∧ noN R) ∨ (what = 1 ∧ (0 ≤ a ∧ a < R 0) ∧ (0 ≤ b ∧ b < R 0) ∧ a ≠ b ∧ R 1 < 48 ∧ ∀ e : Int, 0 ≤ e → e < R 1 → ¬ jnR R e a b) ∨ (what = 2 ∧ 0 ≤ a ∧ a < R 1) ∨ (what = 3 ∧ 0 ≤ a ∧ a < R 0) ∨ (what = 4 ∧ (0 ≤ a ∧ a < R 0) ∧ 1 ≤ b ∧ b ≤ 99) ∨ (what = 5 ∧ (0 ≤ a ∧ a < R 1) ∧ 1 ≤ b ∧ b ≤ 9) ∨ (what = 6 ∧ (0 ≤ a ∧ a < R 0) ∧ 0 ≤ b ∧ b < R 2) ∨ (what = 7 ∧ (0 ≤ a ∧ a < R 1) ∧ (b = 0 ∨ b = 1))
/-- the row behind it -/
def ACT (R : Int → Int) (what a b : Int) : Int → Int := if what = 0 then rNn R a else if what = 1 then rNe R a b else if what = 2 then rDe R a else if what = 3 then rDn R a else if what = 4 then upr R (219 + a) b else if what = 5 then upr R (363 + a) b else if what = 6 then upr R (243 + a) b else upr R (411 + a) b
/-- what is answered -/
def ANS (R : Int → Int) (what : Int) : Int := if what = 0 then R 0 else if what = 1 then R 1 else 0
theorem ACT_ok {R : Int → Int} {what a b : Int} (h : GOK R) (c : CAN R what a b) : GOK (ACT R what a b) := by
  unfold ACT
  rcases c with ⟨w, x1, x2, -⟩ | ⟨w, x1, x2, x3, x4, x5⟩ | ⟨w, x⟩ | ⟨w, x⟩ | ⟨w, x⟩ | ⟨w, x⟩ | ⟨w, x⟩ | ⟨w, x⟩
  · rw [if_pos w]; exact rNn_ok h x2 x1
  · rw [if_neg (by omega), if_pos w]; exact rNe_ok h x4 x1 x2 x3 x5
  · rw [if_neg (by omega), if_neg (by omega), if_pos w]; exact rDe_ok h x
  · rw [if_neg (by omega), if_neg (by omega), if_neg (by omega), if_pos w]; exact rDn_ok h x
  · rw [if_neg (by omega), if_neg (by omega), if_neg (by omega), if_neg (by omega), if_pos w]; exact upr_gk h (Or.inl ⟨rfl, x⟩)
  · rw [if_neg (by omega), if_neg (by omega), if_neg (by omega), if_neg (by omega), if_neg (by omega), if_pos w]; exact upr_gk h (Or.inr (Or.inl ⟨rfl, x⟩))
  · rw [if_neg (by omega), if_neg (by omega), if_neg (by omega), if_neg (by omega), if_neg (by omega), if_neg (by omega), if_pos w]; exact upr_gk h (Or.inr (Or.inr (Or.inl ⟨rfl, x⟩)))
  · rw [if_neg (by omega), if_neg (by omega), if_neg (by omega), if_neg (by omega), if_neg (by omega), if_neg (by omega), if_neg (by omega)]; exact upr_gk h (Or.inr (Or.inr (Or.inr ⟨rfl, x⟩)))
