/-! ===== a graph's row and its changes ===== -/
/-- an edge goes -/
def rDe (R : Int → Int) (e : Int) : Int → Int := fun j => if j = 1 then R 1 - 1 else if (267 + e ≤ j ∧ j < 267 + (R 1 - 1)) ∨ (315 + e ≤ j ∧ j < 315 + (R 1 - 1)) ∨ (363 + e ≤ j ∧ j < 363 + (R 1 - 1)) ∨ (411 + e ≤ j ∧ j < 411 + (R 1 - 1)) then R (j + 1) else R j
/-- where an edge was -/
def sgE (e f : Int) : Int := if f < e then f else f + 1
theorem sgE_b {e f m : Int} (h0 : 0 ≤ f) (h1 : f < m - 1) : 0 ≤ sgE e f ∧ sgE e f < m ∧ sgE e f ≠ e := by
  unfold sgE
  by_cases z : f < e
  · rw [if_pos z]; omega
  · rw [if_neg z]; omega
theorem sgE_lt {e f f' : Int} (h : f < f') : sgE e f < sgE e f' := by
  unfold sgE
  by_cases z : f < e <;> by_cases w : f' < e
  · rw [if_pos z, if_pos w]; exact h
  · rw [if_pos z, if_neg w]; omega
  · omega
  · rw [if_neg z, if_neg w]; omega
theorem rDe_e {R : Int → Int} {e f o : Int} (ho : o = 267 ∨ o = 315 ∨ o = 363 ∨ o = 411) (m48 : R 1 ≤ 48) (e0 : 0 ≤ e) (h0 : 0 ≤ f) (h1 : f < R 1 - 1) : rDe R e (o + f) = R (o + sgE e f) := by
  unfold rDe sgE
  by_cases z : f < e
  · rw [if_neg (by omega), if_neg (by omega), if_pos z]
  · rw [if_neg (by omega), if_pos (by omega), if_neg z, show o + f + 1 = o + (f + 1) by omega]
theorem rDe_o {R : Int → Int} {e j : Int} (m48 : R 1 ≤ 48) (e0 : 0 ≤ e) (hj : j ≠ 1) (h : j < 267 ∨ 459 ≤ j) : rDe R e j = R j := by
  unfold rDe
  rw [if_neg hj, if_neg (by omega)]
theorem rDe_1 {R : Int → Int} {e : Int} : rDe R e 1 = R 1 - 1 := by unfold rDe; rw [if_pos rfl]
theorem rDe_ok {R : Int → Int} {e : Int} (h : GOK R) (he : 0 ≤ e ∧ e < R 1) : GOK (rDe R e) := by
  obtain ⟨⟨h0, h1, h2⟩, hn, hE, hs, hq, hr⟩ := h
  have m48 := h1.2
  have o := fun (j : Int) (a : j ≠ 1) (b : j < 267 ∨ 459 ≤ j) => rDe_o (R := R) (e := e) (j := j) m48 he.1 a b
  have ed := fun (f oo : Int) (ho : oo = 267 ∨ oo = 315 ∨ oo = 363 ∨ oo = 411) (f0 : 0 ≤ f) (f1 : f < R 1 - 1) => rDe_e (R := R) (e := e) ho m48 he.1 f0 f1
  have e0 := o 0 (by omega) (by omega)
  have e2 := o 2 (by omega) (by omega)
  unfold GOK
  rw [e0, e2, rDe_1]
  refine ⟨⟨h0, by omega, h2⟩, fun i i0 i1 => ?_, fun f f0 f1 => ?_, fun f f' f0 f1 f2 => ?_, fun q q0 q1 => ?_, fun k k0 k1 => ?_⟩
  · rw [o (195 + i) (by omega) (by omega), o (219 + i) (by omega) (by omega), o (243 + i) (by omega) (by omega)]
    obtain ⟨a, b, c, d⟩ := hn i i0 i1
    exact ⟨a, b, c, fun k k0 k1 => by rw [o (3 + 8 * i + k) (by omega) (by omega)]; exact d k k0 k1⟩
  · rw [ed f 267 (by omega) f0 f1, ed f 315 (by omega) f0 f1, ed f 363 (by omega) f0 f1, ed f 411 (by omega) f0 f1]
    have b := sgE_b (e := e) (m := R 1) f0 f1
    exact hE _ b.1 b.2.1
  · have b := sgE_b (e := e) (m := R 1) f0 (by omega)
    have b' := sgE_b (e := e) (m := R 1) (f := f') (by omega) f2
    have lt := sgE_lt (e := e) f1
    have := hs _ _ b.1 lt b'.2.1
    unfold jnR at this ⊢
    rw [ed f 267 (by omega) f0 (by omega), ed f 315 (by omega) f0 (by omega), ed f' 267 (by omega) (by omega) f2, ed f' 315 (by omega) (by omega) f2]
    exact this
  · obtain ⟨a, b, c⟩ := hq q q0 q1
    refine ⟨fun z => ?_, fun z => ?_, fun k k0 k1 => ?_⟩
    · rw [o 531 (by omega) (by omega), o 523 (by omega) (by omega)]; exact a z
    · rw [o (531 + q) (by omega) (by omega), o (523 + q) (by omega) (by omega)]; exact b z
    · rw [o (523 + q) (by omega) (by omega)] at k1
      rw [o (459 + 8 * q + k) (by omega) (by omega)]; exact c k k0 k1
  · rw [o (531 + k) (by omega) (by omega)]; exact hr k k0 k1
/-- the edges at a node go, the last one first -/
def rDL (R : Int → Int) (i : Int) : Nat → Int → Int
  | 0 => R
  | k + 1 => if rDL R i k (267 + (R 1 - 1 - k)) = i ∨ rDL R i k (315 + (R 1 - 1 - k)) = i then rDe (rDL R i k) (R 1 - 1 - k) else rDL R i k
theorem rDL_ok {R : Int → Int} {i : Int} (h : GOK R) : ∀ k : Nat, (k : Int) ≤ R 1 → GOK (rDL R i k) ∧ (rDL R i k 0 = R 0 ∧ rDL R i k 2 = R 2) ∧ (R 1 - k ≤ rDL R i k 1 ∧ rDL R i k 1 ≤ R 1) ∧ ∀ f : Int, R 1 - k ≤ f → f < rDL R i k 1 → rDL R i k (267 + f) ≠ i ∧ rDL R i k (315 + f) ≠ i := by
  intro k
  induction k with
  | zero =>
    intro _
    refine ⟨h, ⟨rfl, rfl⟩, ⟨?_, Int.le_refl _⟩, fun f f0 f1 => ?_⟩
    · show R 1 - ((0 : Nat) : Int) ≤ R 1; omega
    · have f1' : f < R 1 := f1
      omega
  | succ k ih =>
    intro hk
    obtain ⟨a, ⟨b0, b2⟩, ⟨c1, c2⟩, d⟩ := ih (by omega)
    have m48 := a.1.2.1.2
    obtain ⟨S, hS⟩ : ∃ S, S = rDL R i k := ⟨_, rfl⟩
    rw [← hS] at a b0 b2 c1 c2 d m48
    show GOK (if rDL R i k (267 + (R 1 - 1 - k)) = i ∨ rDL R i k (315 + (R 1 - 1 - k)) = i then rDe (rDL R i k) (R 1 - 1 - k) else rDL R i k) ∧ ((if rDL R i k (267 + (R 1 - 1 - k)) = i ∨ rDL R i k (315 + (R 1 - 1 - k)) = i then rDe (rDL R i k) (R 1 - 1 - k) else rDL R i k) 0 = R 0 ∧ (if rDL R i k (267 + (R 1 - 1 - k)) = i ∨ rDL R i k (315 + (R 1 - 1 - k)) = i then rDe (rDL R i k) (R 1 - 1 - k) else rDL R i k) 2 = R 2) ∧ (R 1 - ((k + 1 : Nat) : Int) ≤ (if rDL R i k (267 + (R 1 - 1 - k)) = i ∨ rDL R i k (315 + (R 1 - 1 - k)) = i then rDe (rDL R i k) (R 1 - 1 - k) else rDL R i k) 1 ∧ (if rDL R i k (267 + (R 1 - 1 - k)) = i ∨ rDL R i k (315 + (R 1 - 1 - k)) = i then rDe (rDL R i k) (R 1 - 1 - k) else rDL R i k) 1 ≤ R 1) ∧ ∀ f : Int, R 1 - ((k + 1 : Nat) : Int) ≤ f → f < (if rDL R i k (267 + (R 1 - 1 - k)) = i ∨ rDL R i k (315 + (R 1 - 1 - k)) = i then rDe (rDL R i k) (R 1 - 1 - k) else rDL R i k) 1 → (if rDL R i k (267 + (R 1 - 1 - k)) = i ∨ rDL R i k (315 + (R 1 - 1 - k)) = i then rDe (rDL R i k) (R 1 - 1 - k) else rDL R i k) (267 + f) ≠ i ∧ (if rDL R i k (267 + (R 1 - 1 - k)) = i ∨ rDL R i k (315 + (R 1 - 1 - k)) = i then rDe (rDL R i k) (R 1 - 1 - k) else rDL R i k) (315 + f) ≠ i
    rw [← hS]
    by_cases z : S (267 + (R 1 - 1 - k)) = i ∨ S (315 + (R 1 - 1 - k)) = i
    · rw [if_pos z]
      have e0 : 0 ≤ R 1 - 1 - (k : Int) := by omega
      refine ⟨rDe_ok a ⟨e0, by omega⟩, ⟨by rw [rDe_o m48 e0 (by omega) (by omega)]; exact b0, by rw [rDe_o m48 e0 (by omega) (by omega)]; exact b2⟩, ⟨by rw [rDe_1]; omega, by rw [rDe_1]; omega⟩, fun f f0 f1 => ?_⟩
      rw [rDe_1] at f1
      rw [rDe_e (by omega) m48 e0 (by omega) f1, rDe_e (by omega) m48 e0 (by omega) f1]
      have sg : sgE (R 1 - 1 - k) f = f + 1 := by unfold sgE; rw [if_neg (by omega)]
      rw [sg]
      exact d (f + 1) (by omega) (by omega)
    · rw [if_neg z]
      refine ⟨a, ⟨b0, b2⟩, ⟨by omega, c2⟩, fun f f0 f1 => ?_⟩
      by_cases w : f = R 1 - 1 - k
      · rw [w]
        exact ⟨fun q => z (Or.inl q), fun q => z (Or.inr q)⟩
      · exact d f (by omega) f1
/-- the ends behind a node move up -/
def rDc (R : Int → Int) (i : Int) : Int → Int := fun j => if ((267 ≤ j ∧ j < 267 + R 1) ∨ (315 ≤ j ∧ j < 315 + R 1)) ∧ i < R j then R j - 1 else R j
/-- the nodes behind it move up -/
def rSh (R : Int → Int) (i : Int) : Int → Int := fun j => if j = 0 then R 0 - 1 else if 3 + 8 * i ≤ j ∧ j < 3 + 8 * (R 0 - 1) then R (j + 8) else if (195 + i ≤ j ∧ j < 195 + (R 0 - 1)) ∨ (219 + i ≤ j ∧ j < 219 + (R 0 - 1)) ∨ (243 + i ≤ j ∧ j < 243 + (R 0 - 1)) then R (j + 1) else R j
/-- a node goes -/
def rDn (R : Int → Int) (i : Int) : Int → Int := rSh (rDc (rDL R i (R 1).toNat) i) i
theorem rDc_o {R : Int → Int} {i j : Int} (m48 : R 1 ≤ 48) (h : j < 267 ∨ 363 ≤ j) : rDc R i j = R j := by
  unfold rDc
  rw [if_neg (by omega)]
theorem rSh_o {R : Int → Int} {i j : Int} (n24 : R 0 ≤ 24) (i0 : 0 ≤ i) (hj : j ≠ 0) (h : j < 3 ∨ 267 ≤ j) : rSh R i j = R j := by
  unfold rSh
  rw [if_neg hj, if_neg (by omega), if_neg (by omega)]
theorem rSh_n {R : Int → Int} {i k o : Int} (n24 : R 0 ≤ 24) (i0 : 0 ≤ i) (ho : o = 195 ∨ o = 219 ∨ o = 243) (k0 : 0 ≤ k) (k1 : k < R 0 - 1) : rSh R i (o + k) = R (o + sgE i k) := by
  unfold rSh sgE
  by_cases z : k < i
  · rw [if_neg (by omega), if_neg (by omega), if_neg (by omega), if_pos z]
  · rw [if_neg (by omega), if_neg (by omega), if_pos (by omega), if_neg z, show o + k + 1 = o + (k + 1) by omega]
theorem rSh_m {R : Int → Int} {i k x : Int} (n24 : R 0 ≤ 24) (i0 : 0 ≤ i) (k0 : 0 ≤ k) (k1 : k < R 0 - 1) (x0 : 0 ≤ x) (x1 : x < 8) : rSh R i (3 + 8 * k + x) = R (3 + 8 * sgE i k + x) := by
  unfold rSh sgE
  by_cases z : k < i
  · rw [if_neg (by omega), if_neg (by omega), if_neg (by omega), if_pos z]
  · rw [if_neg (by omega), if_pos (by omega), if_neg z, show 3 + 8 * k + x + 8 = 3 + 8 * (k + 1) + x by omega]
/-- a node without edges goes -/
theorem rShDc_ok {R : Int → Int} {i : Int} (h : GOK R) (hi : 0 ≤ i ∧ i < R 0) (no : ∀ f : Int, 0 ≤ f → f < R 1 → R (267 + f) ≠ i ∧ R (315 + f) ≠ i) : GOK (rSh (rDc R i) i) := by
  obtain ⟨⟨h0, h1, h2⟩, hn, hE, hs, hq, hr⟩ := h
  have m48 := h1.2
  have co := fun (j : Int) (b : j < 267 ∨ 363 ≤ j) => rDc_o (R := R) (i := i) (j := j) m48 b
  have c0 := co 0 (by omega)
  have c1 := co 1 (by omega)
  have c2 := co 2 (by omega)
  have n24 : rDc R i 0 ≤ 24 := by rw [c0]; exact h0.2
  have so := fun (j : Int) (a : j ≠ 0) (b : j < 3 ∨ 267 ≤ j) => rSh_o (R := rDc R i) (i := i) (j := j) n24 hi.1 a b
  have s0 : rSh (rDc R i) i 0 = R 0 - 1 := by unfold rSh; rw [if_pos rfl, c0]
  have s1 : rSh (rDc R i) i 1 = R 1 := by rw [so 1 (by omega) (by omega), c1]
  have s2 : rSh (rDc R i) i 2 = R 2 := by rw [so 2 (by omega) (by omega), c2]
  have nd := fun (k o : Int) (ho : o = 195 ∨ o = 219 ∨ o = 243) (k0 : 0 ≤ k) (k1 : k < R 0 - 1) => rSh_n (R := rDc R i) (i := i) (k := k) (o := o) n24 hi.1 ho k0 (by rw [c0]; exact k1)
  have dec : ∀ o f : Int, (o = 267 ∨ o = 315) → 0 ≤ f → f < R 1 → rSh (rDc R i) i (o + f) = if i < R (o + f) then R (o + f) - 1 else R (o + f) := fun o f ho f0 f1 => by
    rw [so (o + f) (by omega) (by omega)]
    unfold rDc
    by_cases z : i < R (o + f)
    · rw [if_pos ⟨by omega, z⟩, if_pos z]
    · rw [if_neg (fun q => z q.2), if_neg z]
  unfold GOK
  rw [s0, s1, s2]
  refine ⟨⟨by omega, h1, h2⟩, fun k k0 k1 => ?_, fun f f0 f1 => ?_, fun f f' f0 f1 f2 => ?_, fun q q0 q1 => ?_, fun k k0 k1 => ?_⟩
  · have b := sgE_b (e := i) (m := R 0) k0 k1
    obtain ⟨a1, a2, a3, a4⟩ := hn _ b.1 b.2.1
    rw [nd k 195 (by omega) k0 k1, nd k 219 (by omega) k0 k1, nd k 243 (by omega) k0 k1, co (195 + sgE i k) (by omega), co (219 + sgE i k) (by omega), co (243 + sgE i k) (by omega)]
    refine ⟨a1, a2, a3, fun x x0 x1 => ?_⟩
    rw [rSh_m n24 hi.1 k0 (by rw [c0]; exact k1) x0 (by omega), co _ (by omega)]
    exact a4 x x0 x1
  · obtain ⟨⟨a1, a2, a3⟩, a4, a5⟩ := hE f f0 f1
    obtain ⟨x1, x2⟩ := no f f0 f1
    rw [dec 267 f (by omega) f0 f1, dec 315 f (by omega) f0 f1, so (363 + f) (by omega) (by omega), so (411 + f) (by omega) (by omega), co (363 + f) (by omega), co (411 + f) (by omega)]
    refine ⟨?_, a4, a5⟩
    by_cases z : i < R (267 + f) <;> by_cases w : i < R (315 + f)
    · rw [if_pos z, if_pos w]; omega
    · rw [if_pos z, if_neg w]; omega
    · rw [if_neg z, if_pos w]; omega
    · rw [if_neg z, if_neg w]; omega
  · have t := hs f f' f0 f1 f2
    obtain ⟨x1, x2⟩ := no f f0 (by omega)
    obtain ⟨y1, y2⟩ := no f' (by omega) f2
    unfold jnR at t ⊢
    rw [dec 267 f (by omega) f0 (by omega), dec 315 f (by omega) f0 (by omega), dec 267 f' (by omega) (by omega) f2, dec 315 f' (by omega) (by omega) f2]
    have key : ∀ x y : Int, x ≠ i → y ≠ i → ((if i < x then x - 1 else x) = (if i < y then y - 1 else y) ↔ x = y) := fun x y hx hy => by
      by_cases z : i < x <;> by_cases w : i < y
      · rw [if_pos z, if_pos w]; omega
      · rw [if_pos z, if_neg w]; omega
      · rw [if_neg z, if_pos w]; omega
      · rw [if_neg z, if_neg w]
    rw [key _ _ y1 x1, key _ _ y2 x2, key _ _ y1 x2, key _ _ y2 x1]
    exact t
  · obtain ⟨a, b, c⟩ := hq q q0 q1
    have g := fun (j : Int) (hj : 363 ≤ j) => (so j (by omega) (by omega)).trans (co j (by omega))
    refine ⟨fun z => ?_, fun z => ?_, fun k k0 k1 => ?_⟩
    · rw [g 531 (by omega), g 523 (by omega)]; exact a z
    · rw [g (531 + q) (by omega), g (523 + q) (by omega)]; exact b z
    · rw [g (523 + q) (by omega)] at k1
      rw [g (459 + 8 * q + k) (by omega)]; exact c k k0 k1
  · rw [so (531 + k) (by omega) (by omega), co (531 + k) (by omega)]; exact hr k k0 k1
theorem rDn_ok {R : Int → Int} {i : Int} (h : GOK R) (hi : 0 ≤ i ∧ i < R 0) : GOK (rDn R i) := by
  have m0 := h.1.2.1.1
  obtain ⟨a, ⟨b0, b2⟩, ⟨c1, c2⟩, d⟩ := rDL_ok (i := i) h (R 1).toNat (by omega)
  exact rShDc_ok a (by rw [b0]; exact hi) (fun f f0 f1 => d f (by omega) f1)
/-- an edge comes -/
def rNe (R : Int → Int) (a b : Int) : Int → Int := fun j => if j = 1 then R 1 + 1 else if j = 267 + R 1 then a else if j = 315 + R 1 then b else if j = 363 + R 1 then 1 else if j = 411 + R 1 then 0 else R j
theorem rNe_ok {R : Int → Int} {a b : Int} (h : GOK R) (m : R 1 < 48) (ha : 0 ≤ a ∧ a < R 0) (hb : 0 ≤ b ∧ b < R 0) (ne : a ≠ b) (nj : ∀ e : Int, 0 ≤ e → e < R 1 → ¬ jnR R e a b) : GOK (rNe R a b) := by
  obtain ⟨⟨h0, h1, h2⟩, hn, hE, hs, hq, hr⟩ := h
  have o : ∀ j : Int, j ≠ 1 → j ≠ 267 + R 1 → j ≠ 315 + R 1 → j ≠ 363 + R 1 → j ≠ 411 + R 1 → rNe R a b j = R j := fun j a1 a2 a3 a4 a5 => by unfold rNe; rw [if_neg a1, if_neg a2, if_neg a3, if_neg a4, if_neg a5]
  have e0 := o 0 (by omega) (by omega) (by omega) (by omega) (by omega)
  have e2 := o 2 (by omega) (by omega) (by omega) (by omega) (by omega)
  have e1 : rNe R a b 1 = R 1 + 1 := by unfold rNe; rw [if_pos rfl]
  have t1 : rNe R a b (267 + R 1) = a := by unfold rNe; rw [if_neg (by omega), if_pos rfl]
  have t2 : rNe R a b (315 + R 1) = b := by unfold rNe; rw [if_neg (by omega), if_neg (by omega), if_pos rfl]
  have t3 : rNe R a b (363 + R 1) = 1 := by unfold rNe; rw [if_neg (by omega), if_neg (by omega), if_neg (by omega), if_pos rfl]
  have t4 : rNe R a b (411 + R 1) = 0 := by unfold rNe; rw [if_neg (by omega), if_neg (by omega), if_neg (by omega), if_neg (by omega), if_pos rfl]
  have ed : ∀ x f : Int, (x = 267 ∨ x = 315 ∨ x = 363 ∨ x = 411) → 0 ≤ f → f < R 1 → rNe R a b (x + f) = R (x + f) := fun x f hx f0 f1 => o _ (by omega) (by omega) (by omega) (by omega) (by omega)
  unfold GOK
  rw [e0, e1, e2]
  refine ⟨⟨h0, by omega, h2⟩, fun i i0 i1 => ?_, fun f f0 f1 => ?_, fun f f' f0 f1 f2 => ?_, fun q q0 q1 => ?_, fun k k0 k1 => ?_⟩
  · obtain ⟨a1, a2, a3, a4⟩ := hn i i0 i1
    rw [o (195 + i) (by omega) (by omega) (by omega) (by omega) (by omega), o (219 + i) (by omega) (by omega) (by omega) (by omega) (by omega), o (243 + i) (by omega) (by omega) (by omega) (by omega) (by omega)]
    exact ⟨a1, a2, a3, fun k k0 k1 => by rw [o (3 + 8 * i + k) (by omega) (by omega) (by omega) (by omega) (by omega)]; exact a4 k k0 k1⟩
  · by_cases z : f = R 1
    · rw [z, t1, t2, t3, t4]
      exact ⟨⟨ha, hb, ne⟩, by decide, by decide⟩
    · rw [ed 267 f (by omega) f0 (by omega), ed 315 f (by omega) f0 (by omega), ed 363 f (by omega) f0 (by omega), ed 411 f (by omega) f0 (by omega)]
      exact hE f f0 (by omega)
  · rw [ed 267 f (by omega) f0 (by omega), ed 315 f (by omega) f0 (by omega)]
    by_cases z : f' = R 1
    · have t := nj f f0 (by omega)
      unfold jnR at t ⊢
      rw [z, t1, t2]
      omega
    · have t := hs f f' f0 f1 (by omega)
      unfold jnR at t ⊢
      rw [ed 267 f' (by omega) (by omega) (by omega), ed 315 f' (by omega) (by omega) (by omega)]
      exact t
  · obtain ⟨x, y, c⟩ := hq q q0 q1
    have g := fun (j : Int) (hj : 459 ≤ j) => o j (by omega) (by omega) (by omega) (by omega) (by omega)
    refine ⟨fun z => ?_, fun z => ?_, fun k k0 k1 => ?_⟩
    · rw [g 531 (by omega), g 523 (by omega)]; exact x z
    · rw [g (531 + q) (by omega), g (523 + q) (by omega)]; exact y z
    · rw [g (523 + q) (by omega)] at k1
      rw [g (459 + 8 * q + k) (by omega)]; exact c k k0 k1
  · rw [o (531 + k) (by omega) (by omega) (by omega) (by omega) (by omega)]; exact hr k k0 k1
