/-! ===== read: both sides ===== -/
theorem tr_ch {gi g : Int} : ∀ a j, ztS gi a j → zcS gi g a j := fun a j s => Or.inr (Or.inr (Or.inr (Or.inr (Or.inr (Or.inr (Or.inr (Or.inr (Or.inr (Or.inr (Or.inr (Or.inr s)))))))))))
theorem rd_281 {gi g : Int} {v v' : Int → Int → Int} (hg : 0 ≤ gi ∧ gi < 4) (gl : (g = 18 ∨ g = 45 ∨ g = 72 ∨ g = 99) ∨ 399 ≤ g) (k : FV (rdS gi g) v v') (a : Int) (ha : 280 ≤ a ∧ a < 399) : v' a = v a := k.c (fun j s => rdS_28 hg gl ha s)
theorem tr_c {gi : Int} {v v' : Int → Int → Int} (k : FV (ztS gi) v v') (a : Int) (ha : a ≠ 280 ∧ a ≠ 282 ∧ a ≠ 285 ∧ a ≠ 283 ∧ a ≠ 284 ∧ a ≠ 316 ∧ a ≠ 328) : v' a = v a := k.c (fun j s => by unfold ztS at s; omega)
/-- the text is read on both sides -/
theorem REL.rd1 {nc gi : Int} {Rn : Int → Int} {v0 v v2 : Int → Int → Int} (R : REL nc v0) (hg : 0 ≤ gi ∧ gi < 4) (ok : GOK Rn) (a : RDQ gi (v0 (psO gi) 0) Rn v0 v) (b : TRQ gi (539 * (31 * gi + 0)) Rn v v2) : REL nc v2 := by
  obtain ⟨ka, crv, ⟨pa1, pa2⟩, ⟨d0, s0, s1, e8, e12⟩, ⟨t1, t5, t6⟩, ⟨f8, f9⟩, r24⟩ := a
  obtain ⟨kb, kr, trw, ⟨n3, n4⟩, ⟨n16, n28⟩, u0, u7, u8⟩ := b
  obtain ⟨p1, p2, p3⟩ := R.2.1.1 gi hg
  obtain ⟨gc, -, -, -, -⟩ := p3 0 (by omega) (by omega)
  obtain ⟨g, hgg⟩ : ∃ g, g = v0 (psO gi) 0 := ⟨_, rfl⟩
  rw [← hgg] at gc ka crv
  have gl := gcl_l gc
  have k : FV (zcS gi g) v0 v2 := (ka.wk (fun a j s => rdS_zc s)).tr (kb.wk tr_ch)
  have C := fun (a : Int) (ha : a ≠ 280 ∧ a ≠ 282 ∧ a ≠ 285 ∧ a ≠ 283 ∧ a ≠ 284 ∧ a ≠ 316 ∧ a ≠ 328) => tr_c kb a ha
  have psv : ∀ gj : Int, (0 ≤ gj ∧ gj < 4) → v2 (psO gj) = v0 (psO gj) := fun gj hj => by
    rw [C (psO gj) (by simp only [psO]; omega)]
    exact ka.c (fun j s => rdS_ps hg hj gl s)
  have cr2 : CR v2 g Rn := crv.cg (fun j j0 j1 => C _ (by omega))
  have pc2 : v2 (pcO gi) = v (pcO gi) := C _ (by simp only [pcO]; omega)
  have n399 := R.1.2.1
  refine R.ch hg (Int.le_refl _) R.1.2.2 gc (Or.inr ⟨0, ⟨by omega, by omega⟩, hgg.symm⟩) k (fun j q => ?_) ⟨?_, fun x x0 x1 => ?_, fun x x0 x1 => ?_⟩ (R.2.1.2.cg psv) ⟨?_, n16⟩ (fun x x0 x1 => ?_) (fun x x0 x1 => ?_) n28 ?_ ?_ ?_ ?_
  · rw [kr j (by omega), rd_281 hg gl ka 282 (by omega)]
  · rw [pc2, pa1, pa2, n3, n4]
    exact ⟨⟨rfl, rfl⟩, by decide, by decide, by decide⟩
  · rw [psv gi hg]
    rcases p2 x x0 x1 with w | ⟨w1, w2, w3⟩
    · exact Or.inl w
    · refine Or.inr ⟨w1, ?_⟩
      by_cases e : g = v0 (psO gi) x
      · rw [← e]
        exact ⟨cr2.1.2, cr2.2.2.2.2.2⟩
      · have G := ch_gr hg gc w1 e k
        have G0 : v2 (v0 (psO gi) x) = v0 (v0 (psO gi) x) := by have := G 0 (by omega) (by omega); rw [show v0 (psO gi) x + 0 = v0 (psO gi) x by omega] at this; exact this
        refine ⟨?_, ?_⟩
        · unfold GA at w2 ⊢; rw [G0]; exact w2
        · rw [G 10 (by omega) (by omega)]; exact w3
  · have ez : x = 0 := by rw [pc2, pa2] at x1; omega
    subst ez
    rw [psv gi hg, ← hgg]
    exact ⟨gc, Rn, cr2, trw, ok⟩
  · rw [C (drO gi) (by simp only [drO]; omega)]; exact d0
  · rw [C (16 + 27 * gi) (by omega)]; exact s0 x x0 x1
  · rw [C (17 + 27 * gi) (by omega)]; exact s1 x x0 x1
  · rw [C 0 (by decide)]; exact e8
  · rw [C 0 (by decide)]; exact e12
  · unfold TAP
    rw [C 0 (by decide), u0, t1]
    exact ⟨rfl, by decide, fun j j0 j1 => by omega⟩
  · unfold FTS
    rw [C 0 (by decide), C 111 (by decide), C 124 (by decide), u7, u8, t5, t6, f8, f9]
    exact ⟨rfl, Or.inr rfl, Or.inl rfl, fun _ _ => ⟨rfl, by rw [if_pos rfl]⟩, fun _ q => absurd q (by decide), r24⟩
abbrev rfC : List Int := [112, 115, 116, 117, 118, 119, 120, 121, 122, 123, 124, 125, 285]
abbrev rfP : List (Int × Int) := [(0, 1), (0, 5), (0, 6), (111, 3), (111, 4), (111, 5), (111, 6), (111, 7), (111, 8), (111, 9), (114, 0), (114, 1), (114, 2), (280, 0), (280, 5), (280, 7), (280, 8), (280, 9), (280, 10), (280, 11), (280, 12), (280, 13), (280, 14), (280, 15)]
/-- the text has a fault on both sides -/
theorem REL.rd0 {nc x p : Int} {v0 v v2 : Int → Int → Int} (R : REL nc v0) (x0 : 0 < x) (ka : FW rdC rdP v0 v) (ta : v 0 1 = 0 ∧ v 0 5 = 1 ∧ v 0 6 = 0) (fl : FL v x p) (kb : FV tfS v v2) (e282 : v2 282 = v 282) (tb : v2 280 0 = 0 ∧ v2 280 7 = 1) (ft : v2 280 8 = x ∧ v2 280 9 = p) : REL nc v2 := by
  have k : FW rfC rfP v0 v2 := by
    refine (ka.wk (by decide) (fun p q => Or.inl (by revert q; revert p; decide))).tr (fun a j ha hp => ?_)
    by_cases e : a = 282
    · rw [e, e282]
    · refine kb a j (fun s => ?_)
      rcases s with ⟨sa, sj⟩ | s | s
      · have q : j = 0 ∨ j = 5 ∨ j = 7 ∨ j = 8 ∨ j = 9 ∨ j = 10 ∨ j = 11 ∨ j = 12 ∨ j = 13 ∨ j = 14 ∨ j = 15 := by clear ha hp; omega
        subst sa
        rcases q with q | q | q | q | q | q | q | q | q | q | q <;> subst q <;> exact hp (by decide)
      · exact e s
      · exact ha (by rw [s]; decide)
  have C : ∀ a : Int, a ≠ 280 → a ≠ 282 → a ≠ 285 → v2 a = v a := fun a a1 a2 a3 => kb.c (fun j s => by unfold tfS at s; omega)
  obtain ⟨⟨h1, h1'⟩, h2, h3, h4, h5, h6⟩ := R
  refine ⟨⟨BAS_fw h1 k (by decide +kernel), h1'⟩, PLC_fw h2 k (by decide +kernel), fun gi hg => ⟨DRW_fw (h2.1 gi hg) (h3 gi hg).1 hg k (by decide +kernel), SHD_fw (h3 gi hg).2 hg k (by decide +kernel)⟩, ⟨SHK_fw h2.1 h4.1 k (by decide +kernel), WBK_fw h2.1 h4.2 k (by decide +kernel)⟩, ⟨?_, ?_⟩, LKS_fw h6.1 k (by decide +kernel), WRT_fw h6.2.1 k (by decide +kernel), DOS_fw h6.2.2 k (by decide +kernel)⟩
  · unfold TAP
    rw [C 0 (by decide) (by decide) (by decide), tb.1, ta.1]
    exact ⟨rfl, by decide, fun j j0 j1 => by omega⟩
  · unfold FTS
    rw [C 0 (by decide) (by decide) (by decide), C 111 (by decide) (by decide) (by decide), C 124 (by decide) (by decide) (by decide), tb.2, ft.1, ft.2, ta.2.1, ta.2.2, fl.1, fl.2.1]
    exact ⟨rfl, Or.inr rfl, Or.inl rfl, fun _ _ => ⟨rfl, by rw [if_neg (by omega)]⟩, fun _ q => absurd q (by decide), fl.2.2⟩
theorem op_read {l : Launch} {D : qD} {d : Nat} {gi n : Int} : OP0 l D (d + 22) m_DH_read m_Mo_read [.inl gi, .inl n] := by
  intro h R
  have tap := R.2.2.2.2.1.1
  have nb := tap.2.1
  have hT := R.1.1.2.1
  refine sp_DH_read (d := d) R (fun no => ⟨rfl, ⟨_, rfl⟩, ?_⟩) (fun hg hn rg v Rn gt ok rq => ⟨rfl, ⟨_, rfl⟩, ?_⟩) (fun hg hn rg v x p gt kv ta fl => ⟨rfl, ⟨_, rfl⟩, ?_⟩)
  · refine sp_Mo_read (d := d + 1) (b := fun _ => -1) (r := 539 * (31 * gi + 0)) hT rfl (fun a b => ?_) (fun _ => ⟨rfl, rfl, R⟩) (fun a b => ?_) (fun a b => ?_)
    · exact absurd ⟨a, b.1, by rw [← tap.1]; exact b.2⟩ no
    · exact absurd ⟨a, b.1, by rw [← tap.1]; exact b.2⟩ no
    · exact absurd ⟨a, b.1, by rw [← tap.1]; exact b.2⟩ no
  · have gc := ((R.2.1.1 gi hg).2.2 0 (by omega) (by have := (R.2.1.1 gi hg).1; omega)).1
    have c0 : v 280 = h.2 280 := rd_281 hg (gcl_l gc) rq.1 280 (by decide)
    have c1 : v 281 = h.2 281 := rd_281 hg (gcl_l gc) rq.1 281 (by decide)
    have hTv : TW v := by show TW0 (v 280); rw [c0]; exact hT
    refine sp_Mo_read (d := d + 1) (h := (h.1, v)) (b := tb (h.2 1) n) (r := 539 * (31 * gi + 0)) hTv rfl (fun _ _ => ⟨by omega, fun j j0 j1 => ?_, fun j j0 => by unfold tb; rw [if_neg (by omega)]⟩) (fun no => ?_) (fun _ _ v2 Rn' gt' ok' tq => ?_) (fun _ _ v2 x p gt' => ?_)
    · show z_iand (v 281 j) 255 = _ ∧ _
      have r := rg j j0
      rw [c1, tap.2.2 j j0 (by omega), iand_255 r]
      unfold tb
      rw [if_pos j1]
      exact ⟨rfl, by omega, by omega⟩
    · exfalso
      refine no ⟨hg, hn.1, ?_⟩
      show n ≤ v 280 0
      rw [c0, tap.1]
      exact hn.2
    · have e := gt_un gt gt' (Or.inr ⟨_, rfl⟩) (Or.inr ⟨_, rfl⟩)
      have e' : Rn = Rn' := Sum.inl.inj (Sum.inr.inj e)
      subst e'
      exact ⟨rfl, rfl, R.rd1 hg ok rq tq⟩
    · have e := gt_un gt gt' (Or.inr ⟨_, rfl⟩) (Or.inl ⟨_, rfl⟩)
      cases e
  · have c0 : v 280 = h.2 280 := kv.c 280 (by decide) (by decide)
    have c1 : v 281 = h.2 281 := kv.c 281 (by decide) (by decide)
    have hTv : TW v := by show TW0 (v 280); rw [c0]; exact hT
    refine sp_Mo_read (d := d + 1) (h := (h.1, v)) (b := tb (h.2 1) n) (r := 539 * (31 * gi + 0)) hTv rfl (fun _ _ => ⟨by omega, fun j j0 j1 => ?_, fun j j0 => by unfold tb; rw [if_neg (by omega)]⟩) (fun no => ?_) (fun _ _ v2 Rn' gt' ok' tq => ?_) (fun _ _ v2 x' p' gt' x0 kb e2 tb' ft => ?_)
    · show z_iand (v 281 j) 255 = _ ∧ _
      have r := rg j j0
      rw [c1, tap.2.2 j j0 (by omega), iand_255 r]
      unfold tb
      rw [if_pos j1]
      exact ⟨rfl, by omega, by omega⟩
    · exfalso
      refine no ⟨hg, hn.1, ?_⟩
      show n ≤ v 280 0
      rw [c0, tap.1]
      exact hn.2
    · have e := gt_un gt gt' (Or.inl ⟨_, rfl⟩) (Or.inr ⟨_, rfl⟩)
      cases e
    · have e := gt_un gt gt' (Or.inl ⟨_, rfl⟩) (Or.inl ⟨_, rfl⟩)
      have e' : (x, p) = (x', p') := Sum.inl.inj e
      have e1 : x = x' := congrArg Prod.fst e'
      have e2' : p = p' := congrArg Prod.snd e'
      subst e1
      subst e2'
      exact ⟨rfl, rfl, R.rd0 x0 kv ta fl kb e2 tb' ft⟩
