/-! ===== change: the twin's step ===== -/
def shK (n x : Int) : Int := if n = 30 then x + 1 else x
/-- the rows turned round, if there are too many -/
theorem stp0_q {v : Int → Int → Int} {gi : Int} (hg : 0 ≤ gi ∧ gi < 4) (hn : 0 ≤ v 283 gi ∧ v 283 gi ≤ 30) : stp0 v gi 283 gi = moN (v 283 gi) ∧ (∀ a : Int, a ≠ 282 → a ≠ 283 → stp0 v gi a = v a) ∧ (∀ j : Int, j ≠ gi → stp0 v gi 283 j = v 283 j) ∧ (∀ j : Int, (j < 16709 * gi ∨ 16709 * (gi + 1) ≤ j) → stp0 v gi 282 j = v 282 j) ∧ ∀ x j : Int, 0 ≤ x → x ≤ moN (v 283 gi) → 0 ≤ j → j < 539 → stp0 v gi 282 (539 * (31 * gi + x) + j) = v 282 (539 * (31 * gi + shK (v 283 gi) x) + j) := by
  unfold stp0 moN shK
  by_cases z : v 283 gi = 30
  · rw [if_pos z, if_pos z]
    refine ⟨up2_at _ _ _ _, fun a a1 a2 => by rw [up2_a a2, mv2_a a1], fun j hj => by rw [up2_k hj, mv2_a (by decide)], fun j hj => ?_, fun x j x0 x1 j0 j1 => ?_⟩
    · rw [up2_a (by decide)]
      unfold mv2
      rw [if_neg (by omega)]
    · rw [up2_a (by decide), if_pos z]
      unfold mv2
      rw [if_pos ⟨rfl, by omega, by omega⟩]
      congr 1
      omega
  · rw [if_neg z, if_neg z]
    exact ⟨rfl, fun _ _ _ => rfl, fun _ _ => rfl, fun _ _ => rfl, fun x j _ _ _ _ => by rw [if_neg z]⟩
def STQ (gi : Int) (v s : Int → Int → Int) : Prop :=
  FV (ztS gi) v s ∧ (∀ j : Int, (j < 16709 * gi ∨ 16709 * (gi + 1) ≤ j) → s 282 j = v 282 j) ∧ s 280 5 = 539 * (31 * gi + (moN (v 283 gi) + 1)) ∧ (s 283 gi = moN (v 283 gi) + 1 ∧ s 284 gi = moN (v 283 gi) + 1) ∧ (s 316 gi = -1 ∧ ∀ x : Int, 0 ≤ x → x < 216 → s 328 (216 * gi + x) = 0) ∧
  (∀ x j : Int, 0 ≤ x → x ≤ moN (v 283 gi) → 0 ≤ j → j < 539 → s 282 (539 * (31 * gi + x) + j) = v 282 (539 * (31 * gi + shK (v 283 gi) x) + j)) ∧ (∀ j : Int, 0 ≤ j → j < 539 → s 282 (539 * (31 * gi + (moN (v 283 gi) + 1)) + j) = v 282 (539 * (31 * gi + v 283 gi) + j)) ∧ ∀ j : Int, j ≠ 5 → s 280 j = v 280 j
theorem stp_q {v : Int → Int → Int} {gi : Int} (hg : 0 ≤ gi ∧ gi < 4) (hn : 0 ≤ v 283 gi ∧ v 283 gi ≤ 30) : STQ gi v (stp1 (stp0 v gi) gi) := by
  obtain ⟨w3, wa, w3o, w2o, w2r⟩ := stp0_q hg hn
  have kb : 0 ≤ moN (v 283 gi) ∧ moN (v 283 gi) ≤ 29 := by
    unfold moN
    by_cases z : v 283 gi = 30
    · rw [if_pos z]; decide
    · rw [if_neg z]; omega
  have ks : shK (v 283 gi) (moN (v 283 gi)) = v 283 gi := by
    unfold moN shK
    by_cases z : v 283 gi = 30
    · rw [if_pos z, if_pos z, z]; rfl
    · rw [if_neg z, if_neg z]
  have r5 := stp1_r (v := stp0 v gi) (p := gi)
  obtain ⟨w, hw⟩ : ∃ w, w = stp0 v gi := ⟨_, rfl⟩
  obtain ⟨k, hk⟩ : ∃ k, k = moN (v 283 gi) := ⟨_, rfl⟩
  rw [← hk] at w3 w2r kb ks
  rw [← hw] at w3 wa w3o w2o w2r r5 ⊢
  rw [w3] at r5
  have S : ∀ a j : Int, stp1 w gi a j = if a = 328 ∧ 216 * gi ≤ j ∧ j < 216 * gi + 216 then 0 else if a = 316 ∧ j = gi then -1 else if a = 280 ∧ j = 5 then stp1 w gi 280 5 else if a = 284 ∧ j = gi then k + 1 else if a = 283 ∧ j = gi then k + 1 else if a = 282 ∧ 539 * (31 * gi + k) + 539 ≤ j ∧ j < 539 * (31 * gi + k) + 539 + 539 then w 282 (j - (539 * (31 * gi + k) + 539) + 539 * (31 * gi + k)) else w a j := fun a j => by
    by_cases c5 : a = 280 ∧ j = 5
    · rw [if_neg (by omega), if_neg (by omega), if_pos c5, c5.1, c5.2]
    · rw [if_neg c5]
      unfold stp1 fl2 g_Mo_take mv2
      rw [w3]
      simp only [up2_ap, if_neg c5]
  obtain ⟨s, hs⟩ : ∃ s, s = stp1 w gi := ⟨_, rfl⟩
  rw [← hs] at S r5 ⊢
  rw [r5] at S
  unfold STQ
  rw [← hk]
  refine ⟨fun a j q => ?_, fun j hj => ?_, r5, ⟨?_, ?_⟩, ⟨?_, fun x x0 x1 => ?_⟩, fun x j x0 x1 j0 j1 => ?_, fun j j0 j1 => ?_, fun j j5 => ?_⟩
  · have q' : ¬ ((a = 280 ∧ (j = 0 ∨ j = 5 ∨ (7 ≤ j ∧ j ≤ 15))) ∨ a = 282 ∨ a = 285 ∨ (a = 283 ∧ j = gi) ∨ (a = 284 ∧ j = gi) ∨ (a = 316 ∧ j = gi) ∨ (a = 328 ∧ 216 * gi ≤ j ∧ j < 216 * gi + 216)) := q
    rw [S, if_neg (by omega), if_neg (by omega), if_neg (by omega), if_neg (by omega), if_neg (by omega), if_neg (by omega)]
    by_cases a3 : a = 283
    · rw [a3]; exact w3o j (by omega)
    · rw [wa a (by omega) a3]
  · rw [S, if_neg (by omega), if_neg (by omega), if_neg (by omega), if_neg (by omega), if_neg (by omega), if_neg (by omega)]
    exact w2o j hj
  · rw [S, if_neg (by omega), if_neg (by omega), if_neg (by omega), if_neg (by omega), if_pos ⟨rfl, rfl⟩]
  · rw [S, if_neg (by omega), if_neg (by omega), if_neg (by omega), if_pos ⟨rfl, rfl⟩]
  · rw [S, if_neg (by omega), if_pos ⟨rfl, rfl⟩]
  · rw [S, if_pos ⟨rfl, by omega, by omega⟩]
  · rw [S, if_neg (by omega), if_neg (by omega), if_neg (by omega), if_neg (by omega), if_neg (by omega), if_neg (by omega)]
    exact w2r x j x0 x1 j0 j1
  · rw [S, if_neg (by omega), if_neg (by omega), if_neg (by omega), if_neg (by omega), if_neg (by omega), if_pos (by omega), show 539 * (31 * gi + (k + 1)) + j - (539 * (31 * gi + k) + 539) + 539 * (31 * gi + k) = 539 * (31 * gi + k) + j by omega, w2r k j kb.1 (Int.le_refl k) j0 j1, ks]
  · rw [S, if_neg (by omega), if_neg (by omega), if_neg (by omega), if_neg (by omega), if_neg (by omega), if_neg (by omega), wa 280 (by decide) (by decide)]
