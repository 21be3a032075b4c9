section
/-! printed by gen/sym.py: methods without loops and writes -/
theorem ib01 {c : Prop} [Decidable c] {x y : Int} (hx : x = 0 ∨ x = 1) (hy : y = 0 ∨ y = 1) : (if c then x else y) = 0 ∨ (if c then x else y) = 1 := sorry
theorem lm_Mo_387 : q_gS "DrawingHouseModel" 387 3 m_Mo_in := sorry
theorem lf_Mo_16 : q_gF "DrawingHouseModel" 16 18 2 2 := sorry
theorem lf_Mo_391 : q_gF "DrawingHouseModel" 391 18 5 0 := sorry
theorem lm_Mo_394 : q_gV "DrawingHouseModel" 394 18 1 m_Mo_tail := sorry
theorem lm_Mo_398 : q_gV "DrawingHouseModel" 398 18 1 m_Mo_head := sorry
theorem lf_Mo_419 : q_gF "DrawingHouseModel" 419 18 10 0 := sorry
theorem lf_Mo_9 : q_gF "DrawingHouseModel" 9 18 1 2 := sorry
theorem lf_Mo_413 : q_gF "DrawingHouseModel" 413 18 8 0 := sorry
theorem lf_Mo_434 : q_gF "DrawingHouseModel" 434 18 12 0 := sorry
theorem lf_Mo_437 : q_gF "DrawingHouseModel" 437 18 14 0 := sorry
theorem lf_Mo_57 : q_gF "DrawingHouseModel" 57 18 33 2 := sorry
theorem lf_Mo_60 : q_gF "DrawingHouseModel" 60 18 34 2 := sorry
theorem lf_Mo_63 : q_gF "DrawingHouseModel" 63 18 35 2 := sorry
theorem lf_Mo_84 : q_gF "DrawingHouseModel" 84 18 43 2 := sorry
theorem lf_Mo_649 : q_gF "DrawingHouseModel" 649 18 49 0 := sorry
theorem lf_Mo_87 : q_gF "DrawingHouseModel" 87 18 44 2 := sorry
theorem lf_Mo_81 : q_gF "DrawingHouseModel" 81 18 42 2 := sorry
theorem lf_Mo_96 : q_gF "DrawingHouseModel" 96 18 50 2 := sorry
theorem lf_Mo_99 : q_gF "DrawingHouseModel" 99 18 51 2 := sorry
theorem lf_Mo_210 : q_gF "DrawingHouseModel" 210 18 95 2 := sorry
theorem lm_Mo_475 : q_gV "DrawingHouseModel" 475 18 0 m_Mo_nodes := sorry
theorem lm_Mo_478 : q_gV "DrawingHouseModel" 478 18 1 m_Mo_longOf := sorry
theorem lf_Mo_284 : q_gF "DrawingHouseModel" 284 18 124 2 := sorry
theorem lm_Mo_919 : q_gV "DrawingHouseModel" 919 18 1 m_Mo_low := sorry
theorem lf_Mo_41 : q_gF "DrawingHouseModel" 41 18 20 2 := sorry
theorem lf_Mo_105 : q_gF "DrawingHouseModel" 105 18 54 2 := sorry
theorem lm_Mo_922 : q_gV "DrawingHouseModel" 922 18 1 m_Mo_dart := sorry
theorem lf_Mo_123 : q_gF "DrawingHouseModel" 123 18 62 2 := sorry
theorem lf_Mo_1020 : q_gF "DrawingHouseModel" 1020 18 139 0 := sorry
theorem lf_Mo_126 : q_gF "DrawingHouseModel" 126 18 63 2 := sorry
theorem lm_Mo_1023 : q_gV "DrawingHouseModel" 1023 18 1 m_Mo_px := sorry
theorem lm_Mo_1029 : q_gV "DrawingHouseModel" 1029 18 1 m_Mo_py := sorry
theorem lf_Mo_1043 : q_gF "DrawingHouseModel" 1043 18 146 0 := sorry
theorem lf_Mo_327 : q_gF "DrawingHouseModel" 327 18 143 2 := sorry
theorem lm_Mo_1064 : q_gS "DrawingHouseModel" 1064 1 m_Mo_dx := sorry
theorem lm_Mo_1067 : q_gS "DrawingHouseModel" 1067 1 m_Mo_dy := sorry
theorem lf_Mo_1046 : q_gF "DrawingHouseModel" 1046 18 147 0 := sorry
theorem lf_Mo_129 : q_gF "DrawingHouseModel" 129 18 64 2 := sorry
theorem lf_Mo_132 : q_gF "DrawingHouseModel" 132 18 65 2 := sorry
theorem lm_Mo_1026 : q_gV "DrawingHouseModel" 1026 18 1 m_Mo_pointsOf := sorry
theorem lf_Mo_135 : q_gF "DrawingHouseModel" 135 18 66 2 := sorry
theorem lf_Mo_342 : q_gF "DrawingHouseModel" 342 18 160 2 := sorry
theorem lf_Mo_1169 : q_gF "DrawingHouseModel" 1169 18 158 0 := sorry
theorem lf_Mo_345 : q_gF "DrawingHouseModel" 345 18 161 2 := sorry
theorem lf_Mo_416 : q_gF "DrawingHouseModel" 416 18 9 0 := sorry
theorem lf_Mo_409 : q_gF "DrawingHouseModel" 409 18 7 0 := sorry
theorem lf_Mo_581 : q_gF "DrawingHouseModel" 581 18 25 0 := sorry
theorem lf_Mo_584 : q_gF "DrawingHouseModel" 584 18 26 0 := sorry
theorem lf_Mo_51 : q_gF "DrawingHouseModel" 51 18 23 2 := sorry
theorem lf_Mo_575 : q_gF "DrawingHouseModel" 575 18 30 0 := sorry
theorem lf_Mo_572 : q_gF "DrawingHouseModel" 572 18 27 0 := sorry
theorem lf_Mo_1326 : q_gF "DrawingHouseModel" 1326 18 169 0 := sorry
theorem lf_Mo_363 : q_gF "DrawingHouseModel" 363 18 171 2 := sorry
theorem lf_Mo_1329 : q_gF "DrawingHouseModel" 1329 18 173 0 := sorry
theorem lf_Mo_1332 : q_gF "DrawingHouseModel" 1332 18 174 0 := sorry
theorem lf_Mo_369 : q_gF "DrawingHouseModel" 369 18 175 2 := sorry
theorem lf_Gr_51 : q_gF "DrawingHouse$Graph" 51 3 0 0 := sorry
theorem lf_Gr_54 : q_gF "DrawingHouse$Graph" 54 3 1 0 := sorry
theorem lf_Gr_9 : q_gF "DrawingHouse$Graph" 9 3 2 0 := sorry
theorem lf_Gr_32 : q_gF "DrawingHouse$Graph" 32 3 8 2 := sorry
theorem lf_Gr_35 : q_gF "DrawingHouse$Graph" 35 3 9 2 := sorry
theorem lf_Em_9 : q_gF "DrawingHouse$Embedding" 9 9 0 2 := sorry
theorem lf_Em_15 : q_gF "DrawingHouse$Embedding" 15 9 1 2 := sorry
theorem lf_We_11 : q_gF "DrawingHouse$Web" 11 10 3 2 := sorry
theorem lf_We_15 : q_gF "DrawingHouse$Web" 15 10 4 2 := sorry
theorem lf_La_83 : q_gF "DrawingHouse$Layers" 83 11 1 2 := sorry
theorem lf_La_92 : q_gF "DrawingHouse$Layers" 92 3 8 2 := sorry
theorem lf_La_18 : q_gF "DrawingHouse$Layers" 18 11 3 2 := sorry
theorem lf_La_87 : q_gF "DrawingHouse$Layers" 87 3 9 2 := sorry
theorem lf_La_29 : q_gF "DrawingHouse$Layers" 29 11 6 2 := sorry
theorem lf_La_245 : q_gF "DrawingHouse$Layers" 245 3 5 2 := sorry
theorem lf_Ps_15 : q_gF "DrawingHouse$Places" 15 12 3 2 := sorry
theorem lf_Ps_27 : q_gF "DrawingHouse$Places" 27 12 7 2 := sorry
theorem lf_Ps_11 : q_gF "DrawingHouse$Places" 11 12 2 2 := sorry
theorem lf_Ro_25 : q_gF "DrawingHouse$Routes" 25 3 5 2 := sorry
theorem lf_Ro_67 : q_gF "DrawingHouse$Routes" 67 16 4 0 := sorry
theorem lf_Ro_38 : q_gF "DrawingHouse$Routes" 38 16 3 0 := sorry
theorem lf_Ro_34 : q_gF "DrawingHouse$Routes" 34 16 2 0 := sorry
theorem lf_Dr_21 : q_gF "DrawingHouse$Drawing" 21 2 8 2 := sorry
theorem lf_Dr_18 : q_gF "DrawingHouse$Drawing" 18 2 7 2 := sorry
theorem lf_Dr_9 : q_gF "DrawingHouse$Drawing" 9 2 5 2 := sorry
theorem lf_Dr_71 : q_gF "DrawingHouse$Drawing" 71 3 9 2 := sorry
theorem lf_Dr_66 : q_gF "DrawingHouse$Drawing" 66 3 8 2 := sorry
theorem lf_Dr_24 : q_gF "DrawingHouse$Drawing" 24 2 9 2 := sorry
theorem lf_Dr_15 : q_gF "DrawingHouse$Drawing" 15 2 6 2 := sorry
theorem lf_Ju_9 : q_gF "DrawingHouse$Judge" 9 3 5 2 := sorry
theorem lf_DH_136 : q_gF "DrawingHouse" 136 0 27 2 := sorry
theorem lf_DH_635 : q_gF "DrawingHouse" 635 0 28 0 := sorry
theorem lf_DH_142 : q_gF "DrawingHouse" 142 0 31 2 := sorry
theorem lf_DH_645 : q_gF "DrawingHouse" 645 0 32 0 := sorry
theorem lf_DH_648 : q_gF "DrawingHouse" 648 0 33 0 := sorry
theorem lf_DH_48 : q_gF "DrawingHouse" 48 0 9 2 := sorry
theorem lf_DH_356 : q_gF "DrawingHouse" 356 8 3 0 := sorry
theorem lf_DH_358 : q_gF "DrawingHouse" 358 8 1 2 := sorry
theorem lf_DH_353 : q_gF "DrawingHouse" 353 8 2 0 := sorry
def w_Mo_rowOf_0 (l : Launch) (D : qD) (d0 : Nat) (B : Nat × Nat) (Q : qQ) : qK := (s_ic (539) (s_ic (31) (s_iload 0 (s_imul (s_iload 1 (s_iadd (s_imul (s_iret Q))))))))
theorem Mo_rowOf_0 {l : Launch} {D : qD} {d0 : Nat} {B : Nat × Nat} {Q : qQ} : qI (w_Mo_rowOf_0 l D d0 B Q) (qR l D (d0 + 1, B) m_Mo_rowOf 0 Q) := sorry
def p_Mo_rowOf (a b : Int) (v : Int → Int → Int) : Prop := (r32 (31 * a) ∧ r32 ((31 * a) + b) ∧ r32 (539 * ((31 * a) + b)))
def f_Mo_rowOf (a b : Int) (v : Int → Int → Int) : Int := (539 * ((31 * a) + b))
set_option maxRecDepth 100000 in
theorem sp_Mo_rowOf {l : Launch} {D : qD} {d : Nat} {a b : Int} {h : qh} {Q : qQ} (hp : p_Mo_rowOf a b h.2) (hq : Q (some (.inl (f_Mo_rowOf a b h.2))) h) : qM l D (d + 1, 0, 0) m_Mo_rowOf [.inl a, .inl b] h Q := sorry
def s_Mo_rowOf (d0 : Nat) (K : qK) : qK := fun ls st h => match st with
  | .inl b :: .inl a :: r => 1 ≤ d0 ∧ q_cs r ≤ 8 ∧ p_Mo_rowOf a b h.2 ∧ K ls (.inl (f_Mo_rowOf a b h.2) :: r) h
  | _ => False
set_option maxRecDepth 100000 in
theorem to_Mo_rowOf {l : Launch} {D : qD} {d0 : Nat} {K : qK} : qI (s_Mo_rowOf d0 K) (s_invS l D (d0, 0, 0) m_Mo_rowOf 2 K) := sorry
def w_Mo_in_15 (l : Launch) (D : qD) (d0 : Nat) (B : Nat × Nat) (Q : qQ) : qK := (s_zret Q)
theorem Mo_in_15 {l : Launch} {D : qD} {d0 : Nat} {B : Nat × Nat} {Q : qQ} : qI (w_Mo_in_15 l D d0 B Q) (qR l D (d0 + 1, B) m_Mo_in 15 Q) := sorry
def w_Mo_in_14 (l : Launch) (D : qD) (d0 : Nat) (B : Nat × Nat) (Q : qQ) : qK := (s_ic (0) (w_Mo_in_15 l D d0 B Q))
theorem Mo_in_14 {l : Launch} {D : qD} {d0 : Nat} {B : Nat × Nat} {Q : qQ} : qI (w_Mo_in_14 l D d0 B Q) (qR l D (d0 + 1, B) m_Mo_in 14 Q) := sorry
def w_Mo_in_0 (l : Launch) (D : qD) (d0 : Nat) (B : Nat × Nat) (Q : qQ) : qK := (s_iload 0 (s_iload 1 (s_icmp_lt (w_Mo_in_14 l D d0 B Q) (s_iload 0 (s_iload 2 (s_icmp_gt (w_Mo_in_14 l D d0 B Q) (s_ic (1) (w_Mo_in_15 l D d0 B Q))))))))
theorem Mo_in_0 {l : Launch} {D : qD} {d0 : Nat} {B : Nat × Nat} {Q : qQ} : qI (w_Mo_in_0 l D d0 B Q) (qR l D (d0 + 1, B) m_Mo_in 0 Q) := sorry
def f_Mo_in (a b c : Int) (v : Int → Int → Int) : Int := (if a < b then 0 else (if c < a then 0 else 1))
theorem fb_Mo_in (a b c : Int) (v : Int → Int → Int) : f_Mo_in a b c v = 0 ∨ f_Mo_in a b c v = 1 := sorry
set_option maxRecDepth 100000 in
theorem sp_Mo_in {l : Launch} {D : qD} {d : Nat} {a b c : Int} {h : qh} {Q : qQ} (hq : Q (some (.inl (f_Mo_in a b c h.2))) h) : qM l D (d + 1, 0, 0) m_Mo_in [.inl a, .inl b, .inl c] h Q := sorry
def s_Mo_in (d0 : Nat) (K : qK) : qK := fun ls st h => match st with
  | .inl c :: .inl b :: .inl a :: r => 1 ≤ d0 ∧ q_cs r ≤ 8 ∧ K ls (.inl (f_Mo_in a b c h.2) :: r) h
  | _ => False
set_option maxRecDepth 100000 in
theorem to_Mo_in {l : Launch} {D : qD} {d0 : Nat} {K : qK} : qI (s_Mo_in d0 K) (s_invS l D (d0, 0, 0) m_Mo_in 3 K) := sorry
def w_Mo_isPlace_0 (l : Launch) (D : qD) (d0 : Nat) (B : Nat × Nat) (Q : qQ) : qK := (s_iload 0 (s_ic (0) (s_ic (3) (s_Mo_in d0 (s_zret Q)))))
theorem Mo_isPlace_0 {l : Launch} {D : qD} {d0 : Nat} {B : Nat × Nat} {Q : qQ} : qI (w_Mo_isPlace_0 l D d0 B Q) (qR l D (d0 + 1, B) m_Mo_isPlace 0 Q) := sorry
def f_Mo_isPlace (a : Int) (v : Int → Int → Int) : Int := (f_Mo_in a 0 3 v)
theorem fb_Mo_isPlace (a : Int) (v : Int → Int → Int) : f_Mo_isPlace a v = 0 ∨ f_Mo_isPlace a v = 1 := sorry
set_option maxRecDepth 100000 in
theorem sp_Mo_isPlace {l : Launch} {D : qD} {d : Nat} {a : Int} {h : qh} {Q : qQ} (hq : Q (some (.inl (f_Mo_isPlace a h.2))) h) : qM l D (d + 2, 0, 0) m_Mo_isPlace [.inl a] h Q := sorry
def s_Mo_isPlace (d0 : Nat) (K : qK) : qK := fun ls st h => match st with
  | .inl a :: r => 2 ≤ d0 ∧ q_cs r ≤ 8 ∧ K ls (.inl (f_Mo_isPlace a h.2) :: r) h
  | _ => False
set_option maxRecDepth 100000 in
theorem to_Mo_isPlace {l : Launch} {D : qD} {d0 : Nat} {K : qK} : qI (s_Mo_isPlace d0 K) (s_invS l D (d0, 0, 0) m_Mo_isPlace 1 K) := sorry
def w_Mo_max_10 (l : Launch) (D : qD) (d0 : Nat) (B : Nat × Nat) (Q : qQ) : qK := (s_iret Q)
theorem Mo_max_10 {l : Launch} {D : qD} {d0 : Nat} {B : Nat × Nat} {Q : qQ} : qI (w_Mo_max_10 l D d0 B Q) (qR l D (d0 + 1, B) m_Mo_max 10 Q) := sorry
def w_Mo_max_9 (l : Launch) (D : qD) (d0 : Nat) (B : Nat × Nat) (Q : qQ) : qK := (s_iload 1 (w_Mo_max_10 l D d0 B Q))
theorem Mo_max_9 {l : Launch} {D : qD} {d0 : Nat} {B : Nat × Nat} {Q : qQ} : qI (w_Mo_max_9 l D d0 B Q) (qR l D (d0 + 1, B) m_Mo_max 9 Q) := sorry
def w_Mo_max_0 (l : Launch) (D : qD) (d0 : Nat) (B : Nat × Nat) (Q : qQ) : qK := (s_iload 0 (s_iload 1 (s_icmp_le (w_Mo_max_9 l D d0 B Q) (s_iload 0 (w_Mo_max_10 l D d0 B Q)))))
theorem Mo_max_0 {l : Launch} {D : qD} {d0 : Nat} {B : Nat × Nat} {Q : qQ} : qI (w_Mo_max_0 l D d0 B Q) (qR l D (d0 + 1, B) m_Mo_max 0 Q) := sorry
def f_Mo_max (a b : Int) (v : Int → Int → Int) : Int := (if a ≤ b then b else a)
set_option maxRecDepth 100000 in
theorem sp_Mo_max {l : Launch} {D : qD} {d : Nat} {a b : Int} {h : qh} {Q : qQ} (hq : Q (some (.inl (f_Mo_max a b h.2))) h) : qM l D (d + 1, 0, 0) m_Mo_max [.inl a, .inl b] h Q := sorry
def s_Mo_max (d0 : Nat) (K : qK) : qK := fun ls st h => match st with
  | .inl b :: .inl a :: r => 1 ≤ d0 ∧ q_cs r ≤ 8 ∧ K ls (.inl (f_Mo_max a b h.2) :: r) h
  | _ => False
set_option maxRecDepth 100000 in
theorem to_Mo_max {l : Launch} {D : qD} {d0 : Nat} {K : qK} : qI (s_Mo_max d0 K) (s_invS l D (d0, 0, 0) m_Mo_max 2 K) := sorry
def w_Mo_min_10 (l : Launch) (D : qD) (d0 : Nat) (B : Nat × Nat) (Q : qQ) : qK := (s_iret Q)
theorem Mo_min_10 {l : Launch} {D : qD} {d0 : Nat} {B : Nat × Nat} {Q : qQ} : qI (w_Mo_min_10 l D d0 B Q) (qR l D (d0 + 1, B) m_Mo_min 10 Q) := sorry
def w_Mo_min_9 (l : Launch) (D : qD) (d0 : Nat) (B : Nat × Nat) (Q : qQ) : qK := (s_iload 1 (w_Mo_min_10 l D d0 B Q))
theorem Mo_min_9 {l : Launch} {D : qD} {d0 : Nat} {B : Nat × Nat} {Q : qQ} : qI (w_Mo_min_9 l D d0 B Q) (qR l D (d0 + 1, B) m_Mo_min 9 Q) := sorry
def w_Mo_min_0 (l : Launch) (D : qD) (d0 : Nat) (B : Nat × Nat) (Q : qQ) : qK := (s_iload 0 (s_iload 1 (s_icmp_ge (w_Mo_min_9 l D d0 B Q) (s_iload 0 (w_Mo_min_10 l D d0 B Q)))))
theorem Mo_min_0 {l : Launch} {D : qD} {d0 : Nat} {B : Nat × Nat} {Q : qQ} : qI (w_Mo_min_0 l D d0 B Q) (qR l D (d0 + 1, B) m_Mo_min 0 Q) := sorry
def f_Mo_min (a b : Int) (v : Int → Int → Int) : Int := (if b ≤ a then b else a)
set_option maxRecDepth 100000 in
theorem sp_Mo_min {l : Launch} {D : qD} {d : Nat} {a b : Int} {h : qh} {Q : qQ} (hq : Q (some (.inl (f_Mo_min a b h.2))) h) : qM l D (d + 1, 0, 0) m_Mo_min [.inl a, .inl b] h Q := sorry
def s_Mo_min (d0 : Nat) (K : qK) : qK := fun ls st h => match st with
  | .inl b :: .inl a :: r => 1 ≤ d0 ∧ q_cs r ≤ 8 ∧ K ls (.inl (f_Mo_min a b h.2) :: r) h
  | _ => False
set_option maxRecDepth 100000 in
theorem to_Mo_min {l : Launch} {D : qD} {d0 : Nat} {K : qK} : qI (s_Mo_min d0 K) (s_invS l D (d0, 0, 0) m_Mo_min 2 K) := sorry
def w_Mo_nodes_0 (l : Launch) (D : qD) (d0 : Nat) (B : Nat × Nat) (Q : qQ) : qK := (s_aload 0 (s_getR 18 2 (s_aload 0 (s_getI 18 5 (s_iald (s_iret Q))))))
theorem Mo_nodes_0 {l : Launch} {D : qD} {d0 : Nat} {B : Nat × Nat} {Q : qQ} : qI (w_Mo_nodes_0 l D d0 B Q) (qR l D (d0 + 1, B) m_Mo_nodes 0 Q) := sorry
abbrev e_Mo_nodes (v : Int → Int → Int) : Prop := v 280 2 = 282
def p_Mo_nodes (v : Int → Int → Int) : Prop := (0 ≤ (v 280 5) ∧ (v 280 5) < 66836)
def f_Mo_nodes (v : Int → Int → Int) : Int := (v 282 (v 280 5))
set_option maxRecDepth 100000 in
theorem sp_Mo_nodes {l : Launch} {D : qD} {d : Nat} {h : qh} {Q : qQ} (he : e_Mo_nodes h.2) (hp : p_Mo_nodes h.2) (hq : Q (some (.inl (f_Mo_nodes h.2))) h) : qM l D (d + 1, 0, 0) m_Mo_nodes [.inr (.inr 280)] h Q := sorry
def s_Mo_nodes (d0 : Nat) (K : qK) : qK := fun ls st h => match st with
  | .inr (.inr o) :: r => o = 280 ∧ 1 ≤ d0 ∧ q_cs r ≤ 8 ∧ e_Mo_nodes h.2 ∧ p_Mo_nodes h.2 ∧ K ls (.inl (f_Mo_nodes h.2) :: r) h
  | _ => False
set_option maxRecDepth 100000 in
theorem to_Mo_nodes {l : Launch} {D : qD} {d0 : Nat} {K : qK} : qI (s_Mo_nodes d0 K) (s_invV l D (d0, 0, 0) 18 m_Mo_nodes 0 K) := sorry
def w_Mo_edges_0 (l : Launch) (D : qD) (d0 : Nat) (B : Nat × Nat) (Q : qQ) : qK := (s_aload 0 (s_getR 18 2 (s_aload 0 (s_getI 18 5 (s_ic (1) (s_iadd (s_iald (s_iret Q))))))))
theorem Mo_edges_0 {l : Launch} {D : qD} {d0 : Nat} {B : Nat × Nat} {Q : qQ} : qI (w_Mo_edges_0 l D d0 B Q) (qR l D (d0 + 1, B) m_Mo_edges 0 Q) := sorry
abbrev e_Mo_edges (v : Int → Int → Int) : Prop := v 280 2 = 282
def p_Mo_edges (v : Int → Int → Int) : Prop := (r32 ((v 280 5) + 1) ∧ 0 ≤ ((v 280 5) + 1) ∧ ((v 280 5) + 1) < 66836)
def f_Mo_edges (v : Int → Int → Int) : Int := (v 282 ((v 280 5) + 1))
set_option maxRecDepth 100000 in
theorem sp_Mo_edges {l : Launch} {D : qD} {d : Nat} {h : qh} {Q : qQ} (he : e_Mo_edges h.2) (hp : p_Mo_edges h.2) (hq : Q (some (.inl (f_Mo_edges h.2))) h) : qM l D (d + 1, 0, 0) m_Mo_edges [.inr (.inr 280)] h Q := sorry
def s_Mo_edges (d0 : Nat) (K : qK) : qK := fun ls st h => match st with
  | .inr (.inr o) :: r => o = 280 ∧ 1 ≤ d0 ∧ q_cs r ≤ 8 ∧ e_Mo_edges h.2 ∧ p_Mo_edges h.2 ∧ K ls (.inl (f_Mo_edges h.2) :: r) h
  | _ => False
set_option maxRecDepth 100000 in
theorem to_Mo_edges {l : Launch} {D : qD} {d0 : Nat} {K : qK} : qI (s_Mo_edges d0 K) (s_invV l D (d0, 0, 0) 18 m_Mo_edges 0 K) := sorry
def w_Mo_groups_0 (l : Launch) (D : qD) (d0 : Nat) (B : Nat × Nat) (Q : qQ) : qK := (s_aload 0 (s_getR 18 2 (s_aload 0 (s_getI 18 5 (s_ic (2) (s_iadd (s_iald (s_iret Q))))))))
theorem Mo_groups_0 {l : Launch} {D : qD} {d0 : Nat} {B : Nat × Nat} {Q : qQ} : qI (w_Mo_groups_0 l D d0 B Q) (qR l D (d0 + 1, B) m_Mo_groups 0 Q) := sorry
abbrev e_Mo_groups (v : Int → Int → Int) : Prop := v 280 2 = 282
def p_Mo_groups (v : Int → Int → Int) : Prop := (r32 ((v 280 5) + 2) ∧ 0 ≤ ((v 280 5) + 2) ∧ ((v 280 5) + 2) < 66836)
def f_Mo_groups (v : Int → Int → Int) : Int := (v 282 ((v 280 5) + 2))
set_option maxRecDepth 100000 in
theorem sp_Mo_groups {l : Launch} {D : qD} {d : Nat} {h : qh} {Q : qQ} (he : e_Mo_groups h.2) (hp : p_Mo_groups h.2) (hq : Q (some (.inl (f_Mo_groups h.2))) h) : qM l D (d + 1, 0, 0) m_Mo_groups [.inr (.inr 280)] h Q := sorry
def s_Mo_groups (d0 : Nat) (K : qK) : qK := fun ls st h => match st with
  | .inr (.inr o) :: r => o = 280 ∧ 1 ≤ d0 ∧ q_cs r ≤ 8 ∧ e_Mo_groups h.2 ∧ p_Mo_groups h.2 ∧ K ls (.inl (f_Mo_groups h.2) :: r) h
  | _ => False
set_option maxRecDepth 100000 in
theorem to_Mo_groups {l : Launch} {D : qD} {d0 : Nat} {K : qK} : qI (s_Mo_groups d0 K) (s_invV l D (d0, 0, 0) 18 m_Mo_groups 0 K) := sorry
def w_Mo_tail_0 (l : Launch) (D : qD) (d0 : Nat) (B : Nat × Nat) (Q : qQ) : qK := (s_aload 0 (s_getR 18 2 (s_aload 0 (s_getI 18 5 (s_ic (267) (s_iadd (s_iload 1 (s_iadd (s_iald (s_iret Q))))))))))
theorem Mo_tail_0 {l : Launch} {D : qD} {d0 : Nat} {B : Nat × Nat} {Q : qQ} : qI (w_Mo_tail_0 l D d0 B Q) (qR l D (d0 + 1, B) m_Mo_tail 0 Q) := sorry
abbrev e_Mo_tail (a : Int) (v : Int → Int → Int) : Prop := v 280 2 = 282
def p_Mo_tail (a : Int) (v : Int → Int → Int) : Prop := (r32 ((v 280 5) + 267) ∧ r32 (((v 280 5) + 267) + a) ∧ 0 ≤ (((v 280 5) + 267) + a) ∧ (((v 280 5) + 267) + a) < 66836)
def f_Mo_tail (a : Int) (v : Int → Int → Int) : Int := (v 282 (((v 280 5) + 267) + a))
set_option maxRecDepth 100000 in
theorem sp_Mo_tail {l : Launch} {D : qD} {d : Nat} {a : Int} {h : qh} {Q : qQ} (he : e_Mo_tail a h.2) (hp : p_Mo_tail a h.2) (hq : Q (some (.inl (f_Mo_tail a h.2))) h) : qM l D (d + 1, 0, 0) m_Mo_tail [.inr (.inr 280), .inl a] h Q := sorry
def s_Mo_tail (d0 : Nat) (K : qK) : qK := fun ls st h => match st with
  | .inl a :: .inr (.inr o) :: r => o = 280 ∧ 1 ≤ d0 ∧ q_cs r ≤ 8 ∧ e_Mo_tail a h.2 ∧ p_Mo_tail a h.2 ∧ K ls (.inl (f_Mo_tail a h.2) :: r) h
  | _ => False
set_option maxRecDepth 100000 in
theorem to_Mo_tail {l : Launch} {D : qD} {d0 : Nat} {K : qK} : qI (s_Mo_tail d0 K) (s_invV l D (d0, 0, 0) 18 m_Mo_tail 1 K) := sorry
def w_Mo_head_0 (l : Launch) (D : qD) (d0 : Nat) (B : Nat × Nat) (Q : qQ) : qK := (s_aload 0 (s_getR 18 2 (s_aload 0 (s_getI 18 5 (s_ic (315) (s_iadd (s_iload 1 (s_iadd (s_iald (s_iret Q))))))))))
theorem Mo_head_0 {l : Launch} {D : qD} {d0 : Nat} {B : Nat × Nat} {Q : qQ} : qI (w_Mo_head_0 l D d0 B Q) (qR l D (d0 + 1, B) m_Mo_head 0 Q) := sorry
abbrev e_Mo_head (a : Int) (v : Int → Int → Int) : Prop := v 280 2 = 282
def p_Mo_head (a : Int) (v : Int → Int → Int) : Prop := (r32 ((v 280 5) + 315) ∧ r32 (((v 280 5) + 315) + a) ∧ 0 ≤ (((v 280 5) + 315) + a) ∧ (((v 280 5) + 315) + a) < 66836)
def f_Mo_head (a : Int) (v : Int → Int → Int) : Int := (v 282 (((v 280 5) + 315) + a))
set_option maxRecDepth 100000 in
theorem sp_Mo_head {l : Launch} {D : qD} {d : Nat} {a : Int} {h : qh} {Q : qQ} (he : e_Mo_head a h.2) (hp : p_Mo_head a h.2) (hq : Q (some (.inl (f_Mo_head a h.2))) h) : qM l D (d + 1, 0, 0) m_Mo_head [.inr (.inr 280), .inl a] h Q := sorry
def s_Mo_head (d0 : Nat) (K : qK) : qK := fun ls st h => match st with
  | .inl a :: .inr (.inr o) :: r => o = 280 ∧ 1 ≤ d0 ∧ q_cs r ≤ 8 ∧ e_Mo_head a h.2 ∧ p_Mo_head a h.2 ∧ K ls (.inl (f_Mo_head a h.2) :: r) h
  | _ => False
set_option maxRecDepth 100000 in
theorem to_Mo_head {l : Launch} {D : qD} {d0 : Nat} {K : qK} : qI (s_Mo_head d0 K) (s_invV l D (d0, 0, 0) 18 m_Mo_head 1 K) := sorry
def w_Mo_weight_0 (l : Launch) (D : qD) (d0 : Nat) (B : Nat × Nat) (Q : qQ) : qK := (s_aload 0 (s_getR 18 2 (s_aload 0 (s_getI 18 5 (s_ic (363) (s_iadd (s_iload 1 (s_iadd (s_iald (s_iret Q))))))))))
theorem Mo_weight_0 {l : Launch} {D : qD} {d0 : Nat} {B : Nat × Nat} {Q : qQ} : qI (w_Mo_weight_0 l D d0 B Q) (qR l D (d0 + 1, B) m_Mo_weight 0 Q) := sorry
abbrev e_Mo_weight (a : Int) (v : Int → Int → Int) : Prop := v 280 2 = 282
def p_Mo_weight (a : Int) (v : Int → Int → Int) : Prop := (r32 ((v 280 5) + 363) ∧ r32 (((v 280 5) + 363) + a) ∧ 0 ≤ (((v 280 5) + 363) + a) ∧ (((v 280 5) + 363) + a) < 66836)
def f_Mo_weight (a : Int) (v : Int → Int → Int) : Int := (v 282 (((v 280 5) + 363) + a))
set_option maxRecDepth 100000 in
theorem sp_Mo_weight {l : Launch} {D : qD} {d : Nat} {a : Int} {h : qh} {Q : qQ} (he : e_Mo_weight a h.2) (hp : p_Mo_weight a h.2) (hq : Q (some (.inl (f_Mo_weight a h.2))) h) : qM l D (d + 1, 0, 0) m_Mo_weight [.inr (.inr 280), .inl a] h Q := sorry
def s_Mo_weight (d0 : Nat) (K : qK) : qK := fun ls st h => match st with
  | .inl a :: .inr (.inr o) :: r => o = 280 ∧ 1 ≤ d0 ∧ q_cs r ≤ 8 ∧ e_Mo_weight a h.2 ∧ p_Mo_weight a h.2 ∧ K ls (.inl (f_Mo_weight a h.2) :: r) h
  | _ => False
set_option maxRecDepth 100000 in
theorem to_Mo_weight {l : Launch} {D : qD} {d0 : Nat} {K : qK} : qI (s_Mo_weight d0 K) (s_invV l D (d0, 0, 0) 18 m_Mo_weight 1 K) := sorry
def w_Mo_one_0 (l : Launch) (D : qD) (d0 : Nat) (B : Nat × Nat) (Q : qQ) : qK := (s_aload 0 (s_getR 18 2 (s_aload 0 (s_getI 18 5 (s_ic (411) (s_iadd (s_iload 1 (s_iadd (s_iald (s_iret Q))))))))))
theorem Mo_one_0 {l : Launch} {D : qD} {d0 : Nat} {B : Nat × Nat} {Q : qQ} : qI (w_Mo_one_0 l D d0 B Q) (qR l D (d0 + 1, B) m_Mo_one 0 Q) := sorry
abbrev e_Mo_one (a : Int) (v : Int → Int → Int) : Prop := v 280 2 = 282
def p_Mo_one (a : Int) (v : Int → Int → Int) : Prop := (r32 ((v 280 5) + 411) ∧ r32 (((v 280 5) + 411) + a) ∧ 0 ≤ (((v 280 5) + 411) + a) ∧ (((v 280 5) + 411) + a) < 66836)
def f_Mo_one (a : Int) (v : Int → Int → Int) : Int := (v 282 (((v 280 5) + 411) + a))
set_option maxRecDepth 100000 in
theorem sp_Mo_one {l : Launch} {D : qD} {d : Nat} {a : Int} {h : qh} {Q : qQ} (he : e_Mo_one a h.2) (hp : p_Mo_one a h.2) (hq : Q (some (.inl (f_Mo_one a h.2))) h) : qM l D (d + 1, 0, 0) m_Mo_one [.inr (.inr 280), .inl a] h Q := sorry
def s_Mo_one (d0 : Nat) (K : qK) : qK := fun ls st h => match st with
  | .inl a :: .inr (.inr o) :: r => o = 280 ∧ 1 ≤ d0 ∧ q_cs r ≤ 8 ∧ e_Mo_one a h.2 ∧ p_Mo_one a h.2 ∧ K ls (.inl (f_Mo_one a h.2) :: r) h
  | _ => False
set_option maxRecDepth 100000 in
theorem to_Mo_one {l : Launch} {D : qD} {d0 : Nat} {K : qK} : qI (s_Mo_one d0 K) (s_invV l D (d0, 0, 0) 18 m_Mo_one 1 K) := sorry
def w_Mo_size_0 (l : Launch) (D : qD) (d0 : Nat) (B : Nat × Nat) (Q : qQ) : qK := (s_aload 0 (s_getR 18 2 (s_aload 0 (s_getI 18 5 (s_ic (219) (s_iadd (s_iload 1 (s_iadd (s_iald (s_iret Q))))))))))
theorem Mo_size_0 {l : Launch} {D : qD} {d0 : Nat} {B : Nat × Nat} {Q : qQ} : qI (w_Mo_size_0 l D d0 B Q) (qR l D (d0 + 1, B) m_Mo_size 0 Q) := sorry
abbrev e_Mo_size (a : Int) (v : Int → Int → Int) : Prop := v 280 2 = 282
def p_Mo_size (a : Int) (v : Int → Int → Int) : Prop := (r32 ((v 280 5) + 219) ∧ r32 (((v 280 5) + 219) + a) ∧ 0 ≤ (((v 280 5) + 219) + a) ∧ (((v 280 5) + 219) + a) < 66836)
def f_Mo_size (a : Int) (v : Int → Int → Int) : Int := (v 282 (((v 280 5) + 219) + a))
set_option maxRecDepth 100000 in
theorem sp_Mo_size {l : Launch} {D : qD} {d : Nat} {a : Int} {h : qh} {Q : qQ} (he : e_Mo_size a h.2) (hp : p_Mo_size a h.2) (hq : Q (some (.inl (f_Mo_size a h.2))) h) : qM l D (d + 1, 0, 0) m_Mo_size [.inr (.inr 280), .inl a] h Q := sorry
def s_Mo_size (d0 : Nat) (K : qK) : qK := fun ls st h => match st with
  | .inl a :: .inr (.inr o) :: r => o = 280 ∧ 1 ≤ d0 ∧ q_cs r ≤ 8 ∧ e_Mo_size a h.2 ∧ p_Mo_size a h.2 ∧ K ls (.inl (f_Mo_size a h.2) :: r) h
  | _ => False
set_option maxRecDepth 100000 in
theorem to_Mo_size {l : Launch} {D : qD} {d0 : Nat} {K : qK} : qI (s_Mo_size d0 K) (s_invV l D (d0, 0, 0) 18 m_Mo_size 1 K) := sorry
def w_Mo_groupOf_0 (l : Launch) (D : qD) (d0 : Nat) (B : Nat × Nat) (Q : qQ) : qK := (s_aload 0 (s_getR 18 2 (s_aload 0 (s_getI 18 5 (s_ic (243) (s_iadd (s_iload 1 (s_iadd (s_iald (s_iret Q))))))))))
theorem Mo_groupOf_0 {l : Launch} {D : qD} {d0 : Nat} {B : Nat × Nat} {Q : qQ} : qI (w_Mo_groupOf_0 l D d0 B Q) (qR l D (d0 + 1, B) m_Mo_groupOf 0 Q) := sorry
abbrev e_Mo_groupOf (a : Int) (v : Int → Int → Int) : Prop := v 280 2 = 282
def p_Mo_groupOf (a : Int) (v : Int → Int → Int) : Prop := (r32 ((v 280 5) + 243) ∧ r32 (((v 280 5) + 243) + a) ∧ 0 ≤ (((v 280 5) + 243) + a) ∧ (((v 280 5) + 243) + a) < 66836)
def f_Mo_groupOf (a : Int) (v : Int → Int → Int) : Int := (v 282 (((v 280 5) + 243) + a))
set_option maxRecDepth 100000 in
theorem sp_Mo_groupOf {l : Launch} {D : qD} {d : Nat} {a : Int} {h : qh} {Q : qQ} (he : e_Mo_groupOf a h.2) (hp : p_Mo_groupOf a h.2) (hq : Q (some (.inl (f_Mo_groupOf a h.2))) h) : qM l D (d + 1, 0, 0) m_Mo_groupOf [.inr (.inr 280), .inl a] h Q := sorry
def s_Mo_groupOf (d0 : Nat) (K : qK) : qK := fun ls st h => match st with
  | .inl a :: .inr (.inr o) :: r => o = 280 ∧ 1 ≤ d0 ∧ q_cs r ≤ 8 ∧ e_Mo_groupOf a h.2 ∧ p_Mo_groupOf a h.2 ∧ K ls (.inl (f_Mo_groupOf a h.2) :: r) h
  | _ => False
set_option maxRecDepth 100000 in
theorem to_Mo_groupOf {l : Launch} {D : qD} {d0 : Nat} {K : qK} : qI (s_Mo_groupOf d0 K) (s_invV l D (d0, 0, 0) 18 m_Mo_groupOf 1 K) := sorry
def w_Mo_longOf_0 (l : Launch) (D : qD) (d0 : Nat) (B : Nat × Nat) (Q : qQ) : qK := (s_aload 0 (s_getR 18 2 (s_aload 0 (s_getI 18 5 (s_ic (195) (s_iadd (s_iload 1 (s_iadd (s_iald (s_iret Q))))))))))
theorem Mo_longOf_0 {l : Launch} {D : qD} {d0 : Nat} {B : Nat × Nat} {Q : qQ} : qI (w_Mo_longOf_0 l D d0 B Q) (qR l D (d0 + 1, B) m_Mo_longOf 0 Q) := sorry
abbrev e_Mo_longOf (a : Int) (v : Int → Int → Int) : Prop := v 280 2 = 282
def p_Mo_longOf (a : Int) (v : Int → Int → Int) : Prop := (r32 ((v 280 5) + 195) ∧ r32 (((v 280 5) + 195) + a) ∧ 0 ≤ (((v 280 5) + 195) + a) ∧ (((v 280 5) + 195) + a) < 66836)
def f_Mo_longOf (a : Int) (v : Int → Int → Int) : Int := (v 282 (((v 280 5) + 195) + a))
set_option maxRecDepth 100000 in
theorem sp_Mo_longOf {l : Launch} {D : qD} {d : Nat} {a : Int} {h : qh} {Q : qQ} (he : e_Mo_longOf a h.2) (hp : p_Mo_longOf a h.2) (hq : Q (some (.inl (f_Mo_longOf a h.2))) h) : qM l D (d + 1, 0, 0) m_Mo_longOf [.inr (.inr 280), .inl a] h Q := sorry
def s_Mo_longOf (d0 : Nat) (K : qK) : qK := fun ls st h => match st with
  | .inl a :: .inr (.inr o) :: r => o = 280 ∧ 1 ≤ d0 ∧ q_cs r ≤ 8 ∧ e_Mo_longOf a h.2 ∧ p_Mo_longOf a h.2 ∧ K ls (.inl (f_Mo_longOf a h.2) :: r) h
  | _ => False
set_option maxRecDepth 100000 in
theorem to_Mo_longOf {l : Launch} {D : qD} {d0 : Nat} {K : qK} : qI (s_Mo_longOf d0 K) (s_invV l D (d0, 0, 0) 18 m_Mo_longOf 1 K) := sorry
def w_Mo_other_22 (l : Launch) (D : qD) (d0 : Nat) (B : Nat × Nat) (Q : qQ) : qK := (s_iret Q)
theorem Mo_other_22 {l : Launch} {D : qD} {d0 : Nat} {B : Nat × Nat} {Q : qQ} : qI (w_Mo_other_22 l D d0 B Q) (qR l D (d0 + 1, B) m_Mo_other 22 Q) := sorry
def w_Mo_other_17 (l : Launch) (D : qD) (d0 : Nat) (B : Nat × Nat) (Q : qQ) : qK := (s_aload 0 (s_iload 1 (s_Mo_tail d0 (w_Mo_other_22 l D d0 B Q))))
theorem Mo_other_17 {l : Launch} {D : qD} {d0 : Nat} {B : Nat × Nat} {Q : qQ} : qI (w_Mo_other_17 l D d0 B Q) (qR l D (d0 + 1, B) m_Mo_other 17 Q) := sorry
def w_Mo_other_0 (l : Launch) (D : qD) (d0 : Nat) (B : Nat × Nat) (Q : qQ) : qK := (s_aload 0 (s_iload 1 (s_Mo_tail d0 (s_iload 2 (s_icmp_ne (w_Mo_other_17 l D d0 B Q) (s_aload 0 (s_iload 1 (s_Mo_head d0 (w_Mo_other_22 l D d0 B Q)))))))))
theorem Mo_other_0 {l : Launch} {D : qD} {d0 : Nat} {B : Nat × Nat} {Q : qQ} : qI (w_Mo_other_0 l D d0 B Q) (qR l D (d0 + 1, B) m_Mo_other 0 Q) := sorry
abbrev e_Mo_other (a b : Int) (v : Int → Int → Int) : Prop := e_Mo_tail a v ∧ e_Mo_head a v
def p_Mo_other (a b : Int) (v : Int → Int → Int) : Prop := (p_Mo_tail a v ∧ ((f_Mo_tail a v) ≠ b → p_Mo_tail a v) ∧ ((f_Mo_tail a v) = b → p_Mo_head a v))
def f_Mo_other (a b : Int) (v : Int → Int → Int) : Int := (if (f_Mo_tail a v) ≠ b then (f_Mo_tail a v) else (f_Mo_head a v))
set_option maxRecDepth 100000 in
theorem sp_Mo_other {l : Launch} {D : qD} {d : Nat} {a b : Int} {h : qh} {Q : qQ} (he : e_Mo_other a b h.2) (hp : p_Mo_other a b h.2) (hq : Q (some (.inl (f_Mo_other a b h.2))) h) : qM l D (d + 2, 0, 0) m_Mo_other [.inr (.inr 280), .inl a, .inl b] h Q := sorry
def s_Mo_other (d0 : Nat) (K : qK) : qK := fun ls st h => match st with
  | .inl b :: .inl a :: .inr (.inr o) :: r => o = 280 ∧ 2 ≤ d0 ∧ q_cs r ≤ 8 ∧ e_Mo_other a b h.2 ∧ p_Mo_other a b h.2 ∧ K ls (.inl (f_Mo_other a b h.2) :: r) h
  | _ => False
set_option maxRecDepth 100000 in
theorem to_Mo_other {l : Launch} {D : qD} {d0 : Nat} {K : qK} : qI (s_Mo_other d0 K) (s_invV l D (d0, 0, 0) 18 m_Mo_other 2 K) := sorry
def w_Mo_has_23 (l : Launch) (D : qD) (d0 : Nat) (B : Nat × Nat) (Q : qQ) : qK := (s_zret Q)
theorem Mo_has_23 {l : Launch} {D : qD} {d0 : Nat} {B : Nat × Nat} {Q : qQ} : qI (w_Mo_has_23 l D d0 B Q) (qR l D (d0 + 1, B) m_Mo_has 23 Q) := sorry
def w_Mo_has_22 (l : Launch) (D : qD) (d0 : Nat) (B : Nat × Nat) (Q : qQ) : qK := (s_ic (0) (w_Mo_has_23 l D d0 B Q))
theorem Mo_has_22 {l : Launch} {D : qD} {d0 : Nat} {B : Nat × Nat} {Q : qQ} : qI (w_Mo_has_22 l D d0 B Q) (qR l D (d0 + 1, B) m_Mo_has 22 Q) := sorry
def w_Mo_has_18 (l : Launch) (D : qD) (d0 : Nat) (B : Nat × Nat) (Q : qQ) : qK := (s_ic (1) (w_Mo_has_23 l D d0 B Q))
theorem Mo_has_18 {l : Launch} {D : qD} {d0 : Nat} {B : Nat × Nat} {Q : qQ} : qI (w_Mo_has_18 l D d0 B Q) (qR l D (d0 + 1, B) m_Mo_has 18 Q) := sorry
def w_Mo_has_0 (l : Launch) (D : qD) (d0 : Nat) (B : Nat × Nat) (Q : qQ) : qK := (s_aload 0 (s_iload 1 (s_Mo_tail d0 (s_iload 2 (s_icmp_eq (w_Mo_has_18 l D d0 B Q) (s_aload 0 (s_iload 1 (s_Mo_head d0 (s_iload 2 (s_icmp_ne (w_Mo_has_22 l D d0 B Q) (w_Mo_has_18 l D d0 B Q)))))))))))
theorem Mo_has_0 {l : Launch} {D : qD} {d0 : Nat} {B : Nat × Nat} {Q : qQ} : qI (w_Mo_has_0 l D d0 B Q) (qR l D (d0 + 1, B) m_Mo_has 0 Q) := sorry
abbrev e_Mo_has (a b : Int) (v : Int → Int → Int) : Prop := e_Mo_tail a v ∧ e_Mo_head a v
def p_Mo_has (a b : Int) (v : Int → Int → Int) : Prop := (p_Mo_tail a v ∧ ((f_Mo_tail a v) ≠ b → p_Mo_head a v))
def f_Mo_has (a b : Int) (v : Int → Int → Int) : Int := (if (f_Mo_tail a v) = b then 1 else (if (f_Mo_head a v) ≠ b then 0 else 1))
theorem fb_Mo_has (a b : Int) (v : Int → Int → Int) : f_Mo_has a b v = 0 ∨ f_Mo_has a b v = 1 := sorry
set_option maxRecDepth 100000 in
theorem sp_Mo_has {l : Launch} {D : qD} {d : Nat} {a b : Int} {h : qh} {Q : qQ} (he : e_Mo_has a b h.2) (hp : p_Mo_has a b h.2) (hq : Q (some (.inl (f_Mo_has a b h.2))) h) : qM l D (d + 2, 0, 0) m_Mo_has [.inr (.inr 280), .inl a, .inl b] h Q := sorry
def s_Mo_has (d0 : Nat) (K : qK) : qK := fun ls st h => match st with
  | .inl b :: .inl a :: .inr (.inr o) :: r => o = 280 ∧ 2 ≤ d0 ∧ q_cs r ≤ 8 ∧ e_Mo_has a b h.2 ∧ p_Mo_has a b h.2 ∧ K ls (.inl (f_Mo_has a b h.2) :: r) h
  | _ => False
set_option maxRecDepth 100000 in
theorem to_Mo_has {l : Launch} {D : qD} {d0 : Nat} {K : qK} : qI (s_Mo_has d0 K) (s_invV l D (d0, 0, 0) 18 m_Mo_has 2 K) := sorry
def w_Mo_byteAt_22 (l : Launch) (D : qD) (d0 : Nat) (B : Nat × Nat) (Q : qQ) : qK := (s_iret Q)
theorem Mo_byteAt_22 {l : Launch} {D : qD} {d0 : Nat} {B : Nat × Nat} {Q : qQ} : qI (w_Mo_byteAt_22 l D d0 B Q) (qR l D (d0 + 1, B) m_Mo_byteAt 22 Q) := sorry
def w_Mo_byteAt_21 (l : Launch) (D : qD) (d0 : Nat) (B : Nat × Nat) (Q : qQ) : qK := (s_ic (-1) (w_Mo_byteAt_22 l D d0 B Q))
theorem Mo_byteAt_21 {l : Launch} {D : qD} {d0 : Nat} {B : Nat × Nat} {Q : qQ} : qI (w_Mo_byteAt_21 l D d0 B Q) (qR l D (d0 + 1, B) m_Mo_byteAt 21 Q) := sorry
def w_Mo_byteAt_0 (l : Launch) (D : qD) (d0 : Nat) (B : Nat × Nat) (Q : qQ) : qK := (s_iload 1 (s_aload 0 (s_getI 18 10 (s_icmp_ge (w_Mo_byteAt_21 l D d0 B Q) (s_aload 0 (s_getR 18 1 (s_iload 1 (s_bald (s_ic (255) (s_iand (w_Mo_byteAt_22 l D d0 B Q)))))))))))
theorem Mo_byteAt_0 {l : Launch} {D : qD} {d0 : Nat} {B : Nat × Nat} {Q : qQ} : qI (w_Mo_byteAt_0 l D d0 B Q) (qR l D (d0 + 1, B) m_Mo_byteAt 0 Q) := sorry
abbrev e_Mo_byteAt (a : Int) (v : Int → Int → Int) : Prop := v 280 1 = 281
def p_Mo_byteAt (a : Int) (v : Int → Int → Int) : Prop := (a < (v 280 10) → (0 ≤ a ∧ a < 2000))
def f_Mo_byteAt (a : Int) (v : Int → Int → Int) : Int := (if (v 280 10) ≤ a then (-1) else (z_iand (v 281 a) 255))
set_option maxRecDepth 100000 in
theorem sp_Mo_byteAt {l : Launch} {D : qD} {d : Nat} {a : Int} {h : qh} {Q : qQ} (he : e_Mo_byteAt a h.2) (hp : p_Mo_byteAt a h.2) (hq : Q (some (.inl (f_Mo_byteAt a h.2))) h) : qM l D (d + 1, 0, 0) m_Mo_byteAt [.inr (.inr 280), .inl a] h Q := sorry
def s_Mo_byteAt (d0 : Nat) (K : qK) : qK := fun ls st h => match st with
  | .inl a :: .inr (.inr o) :: r => o = 280 ∧ 1 ≤ d0 ∧ q_cs r ≤ 8 ∧ e_Mo_byteAt a h.2 ∧ p_Mo_byteAt a h.2 ∧ K ls (.inl (f_Mo_byteAt a h.2) :: r) h
  | _ => False
set_option maxRecDepth 100000 in
theorem to_Mo_byteAt {l : Launch} {D : qD} {d0 : Nat} {K : qK} : qI (s_Mo_byteAt d0 K) (s_invV l D (d0, 0, 0) 18 m_Mo_byteAt 1 K) := sorry
def w_Mo_isLetter_27 (l : Launch) (D : qD) (d0 : Nat) (B : Nat × Nat) (Q : qQ) : qK := (s_zret Q)
theorem Mo_isLetter_27 {l : Launch} {D : qD} {d0 : Nat} {B : Nat × Nat} {Q : qQ} : qI (w_Mo_isLetter_27 l D d0 B Q) (qR l D (d0 + 1, B) m_Mo_isLetter 27 Q) := sorry
def w_Mo_isLetter_26 (l : Launch) (D : qD) (d0 : Nat) (B : Nat × Nat) (Q : qQ) : qK := (s_ic (0) (w_Mo_isLetter_27 l D d0 B Q))
theorem Mo_isLetter_26 {l : Launch} {D : qD} {d0 : Nat} {B : Nat × Nat} {Q : qQ} : qI (w_Mo_isLetter_26 l D d0 B Q) (qR l D (d0 + 1, B) m_Mo_isLetter 26 Q) := sorry
def w_Mo_isLetter_22 (l : Launch) (D : qD) (d0 : Nat) (B : Nat × Nat) (Q : qQ) : qK := (s_ic (1) (w_Mo_isLetter_27 l D d0 B Q))
theorem Mo_isLetter_22 {l : Launch} {D : qD} {d0 : Nat} {B : Nat × Nat} {Q : qQ} : qI (w_Mo_isLetter_22 l D d0 B Q) (qR l D (d0 + 1, B) m_Mo_isLetter 22 Q) := sorry
def w_Mo_isLetter_0 (l : Launch) (D : qD) (d0 : Nat) (B : Nat × Nat) (Q : qQ) : qK := (s_iload 0 (s_ic (97) (s_ic (122) (s_Mo_in d0 (s_if_ne (w_Mo_isLetter_22 l D d0 B Q) (s_iload 0 (s_ic (65) (s_ic (90) (s_Mo_in d0 (s_if_eq (w_Mo_isLetter_26 l D d0 B Q) (w_Mo_isLetter_22 l D d0 B Q)))))))))))
theorem Mo_isLetter_0 {l : Launch} {D : qD} {d0 : Nat} {B : Nat × Nat} {Q : qQ} : qI (w_Mo_isLetter_0 l D d0 B Q) (qR l D (d0 + 1, B) m_Mo_isLetter 0 Q) := sorry
def f_Mo_isLetter (a : Int) (v : Int → Int → Int) : Int := (if (f_Mo_in a 97 122 v) ≠ 0 then 1 else (if (f_Mo_in a 65 90 v) = 0 then 0 else 1))
theorem fb_Mo_isLetter (a : Int) (v : Int → Int → Int) : f_Mo_isLetter a v = 0 ∨ f_Mo_isLetter a v = 1 := sorry
set_option maxRecDepth 100000 in
theorem sp_Mo_isLetter {l : Launch} {D : qD} {d : Nat} {a : Int} {h : qh} {Q : qQ} (hq : Q (some (.inl (f_Mo_isLetter a h.2))) h) : qM l D (d + 2, 0, 0) m_Mo_isLetter [.inl a] h Q := sorry
def s_Mo_isLetter (d0 : Nat) (K : qK) : qK := fun ls st h => match st with
  | .inl a :: r => 2 ≤ d0 ∧ q_cs r ≤ 8 ∧ K ls (.inl (f_Mo_isLetter a h.2) :: r) h
  | _ => False
set_option maxRecDepth 100000 in
theorem to_Mo_isLetter {l : Launch} {D : qD} {d0 : Nat} {K : qK} : qI (s_Mo_isLetter d0 K) (s_invS l D (d0, 0, 0) m_Mo_isLetter 1 K) := sorry
def w_Mo_isDigit_0 (l : Launch) (D : qD) (d0 : Nat) (B : Nat × Nat) (Q : qQ) : qK := (s_iload 0 (s_ic (48) (s_ic (57) (s_Mo_in d0 (s_zret Q)))))
theorem Mo_isDigit_0 {l : Launch} {D : qD} {d0 : Nat} {B : Nat × Nat} {Q : qQ} : qI (w_Mo_isDigit_0 l D d0 B Q) (qR l D (d0 + 1, B) m_Mo_isDigit 0 Q) := sorry
def f_Mo_isDigit (a : Int) (v : Int → Int → Int) : Int := (f_Mo_in a 48 57 v)
theorem fb_Mo_isDigit (a : Int) (v : Int → Int → Int) : f_Mo_isDigit a v = 0 ∨ f_Mo_isDigit a v = 1 := sorry
set_option maxRecDepth 100000 in
theorem sp_Mo_isDigit {l : Launch} {D : qD} {d : Nat} {a : Int} {h : qh} {Q : qQ} (hq : Q (some (.inl (f_Mo_isDigit a h.2))) h) : qM l D (d + 2, 0, 0) m_Mo_isDigit [.inl a] h Q := sorry
def s_Mo_isDigit (d0 : Nat) (K : qK) : qK := fun ls st h => match st with
  | .inl a :: r => 2 ≤ d0 ∧ q_cs r ≤ 8 ∧ K ls (.inl (f_Mo_isDigit a h.2) :: r) h
  | _ => False
set_option maxRecDepth 100000 in
theorem to_Mo_isDigit {l : Launch} {D : qD} {d0 : Nat} {K : qK} : qI (s_Mo_isDigit d0 K) (s_invS l D (d0, 0, 0) m_Mo_isDigit 1 K) := sorry
def w_Mo_sign_28 (l : Launch) (D : qD) (d0 : Nat) (B : Nat × Nat) (Q : qQ) : qK := (s_zret Q)
theorem Mo_sign_28 {l : Launch} {D : qD} {d0 : Nat} {B : Nat × Nat} {Q : qQ} : qI (w_Mo_sign_28 l D d0 B Q) (qR l D (d0 + 1, B) m_Mo_sign 28 Q) := sorry
def w_Mo_sign_27 (l : Launch) (D : qD) (d0 : Nat) (B : Nat × Nat) (Q : qQ) : qK := (s_ic (0) (w_Mo_sign_28 l D d0 B Q))
theorem Mo_sign_27 {l : Launch} {D : qD} {d0 : Nat} {B : Nat × Nat} {Q : qQ} : qI (w_Mo_sign_27 l D d0 B Q) (qR l D (d0 + 1, B) m_Mo_sign 27 Q) := sorry
def w_Mo_sign_0 (l : Launch) (D : qD) (d0 : Nat) (B : Nat × Nat) (Q : qQ) : qK := (s_aload 0 (s_getI 18 8 (s_if_ne (w_Mo_sign_27 l D d0 B Q) (s_aload 0 (s_getI 18 12 (s_ic (3) (s_icmp_ne (w_Mo_sign_27 l D d0 B Q) (s_aload 0 (s_getI 18 14 (s_iload 1 (s_icmp_ne (w_Mo_sign_27 l D d0 B Q) (s_ic (1) (w_Mo_sign_28 l D d0 B Q)))))))))))))
theorem Mo_sign_0 {l : Launch} {D : qD} {d0 : Nat} {B : Nat × Nat} {Q : qQ} : qI (w_Mo_sign_0 l D d0 B Q) (qR l D (d0 + 1, B) m_Mo_sign 0 Q) := sorry
def f_Mo_sign (a : Int) (v : Int → Int → Int) : Int := (if (v 280 8) ≠ 0 then 0 else (if (v 280 12) ≠ 3 then 0 else (if (v 280 14) ≠ a then 0 else 1)))
theorem fb_Mo_sign (a : Int) (v : Int → Int → Int) : f_Mo_sign a v = 0 ∨ f_Mo_sign a v = 1 := sorry
set_option maxRecDepth 100000 in
theorem sp_Mo_sign {l : Launch} {D : qD} {d : Nat} {a : Int} {h : qh} {Q : qQ} (hq : Q (some (.inl (f_Mo_sign a h.2))) h) : qM l D (d + 1, 0, 0) m_Mo_sign [.inr (.inr 280), .inl a] h Q := sorry
def s_Mo_sign (d0 : Nat) (K : qK) : qK := fun ls st h => match st with
  | .inl a :: .inr (.inr o) :: r => o = 280 ∧ 1 ≤ d0 ∧ q_cs r ≤ 8 ∧ K ls (.inl (f_Mo_sign a h.2) :: r) h
  | _ => False
set_option maxRecDepth 100000 in
theorem to_Mo_sign {l : Launch} {D : qD} {d0 : Nat} {K : qK} : qI (s_Mo_sign d0 K) (s_invV l D (d0, 0, 0) 18 m_Mo_sign 1 K) := sorry
def w_Mo_across_0_25 (l : Launch) (D : qD) (d0 : Nat) (B : Nat × Nat) (Q : qQ) : qK := (s_iret Q)
theorem Mo_across_0_25 {l : Launch} {D : qD} {d0 : Nat} {B : Nat × Nat} {Q : qQ} : qI (w_Mo_across_0_25 l D d0 B Q) (qR l D (d0 + 1, B) m_Mo_across_0 25 Q) := sorry
def w_Mo_across_0_19 (l : Launch) (D : qD) (d0 : Nat) (B : Nat × Nat) (Q : qQ) : qK := (s_aload 0 (s_getR 18 33 (s_iload 1 (s_iald (w_Mo_across_0_25 l D d0 B Q)))))
theorem Mo_across_0_19 {l : Launch} {D : qD} {d0 : Nat} {B : Nat × Nat} {Q : qQ} : qI (w_Mo_across_0_19 l D d0 B Q) (qR l D (d0 + 1, B) m_Mo_across_0 19 Q) := sorry
def w_Mo_across_0_0 (l : Launch) (D : qD) (d0 : Nat) (B : Nat × Nat) (Q : qQ) : qK := (s_aload 0 (s_getR 18 33 (s_iload 1 (s_iald (s_iload 2 (s_icmp_ne (w_Mo_across_0_19 l D d0 B Q) (s_aload 0 (s_getR 18 34 (s_iload 1 (s_iald (w_Mo_across_0_25 l D d0 B Q)))))))))))
theorem Mo_across_0_0 {l : Launch} {D : qD} {d0 : Nat} {B : Nat × Nat} {Q : qQ} : qI (w_Mo_across_0_0 l D d0 B Q) (qR l D (d0 + 1, B) m_Mo_across_0 0 Q) := sorry
abbrev e_Mo_across_0 (a b : Int) (v : Int → Int → Int) : Prop := v 280 33 = 295 ∧ v 280 34 = 296
def p_Mo_across_0 (a b : Int) (v : Int → Int → Int) : Prop := (0 ≤ a ∧ a < 80 ∧ ((v 295 a) ≠ b → (0 ≤ a ∧ a < 80)) ∧ ((v 295 a) = b → (0 ≤ a ∧ a < 80)))
def f_Mo_across_0 (a b : Int) (v : Int → Int → Int) : Int := (if (v 295 a) ≠ b then (v 295 a) else (v 296 a))
set_option maxRecDepth 100000 in
theorem sp_Mo_across_0 {l : Launch} {D : qD} {d : Nat} {a b : Int} {h : qh} {Q : qQ} (he : e_Mo_across_0 a b h.2) (hp : p_Mo_across_0 a b h.2) (hq : Q (some (.inl (f_Mo_across_0 a b h.2))) h) : qM l D (d + 1, 0, 0) m_Mo_across_0 [.inr (.inr 280), .inl a, .inl b] h Q := sorry
def s_Mo_across_0 (d0 : Nat) (K : qK) : qK := fun ls st h => match st with
  | .inl b :: .inl a :: .inr (.inr o) :: r => o = 280 ∧ 1 ≤ d0 ∧ q_cs r ≤ 8 ∧ e_Mo_across_0 a b h.2 ∧ p_Mo_across_0 a b h.2 ∧ K ls (.inl (f_Mo_across_0 a b h.2) :: r) h
  | _ => False
set_option maxRecDepth 100000 in
theorem to_Mo_across_0 {l : Launch} {D : qD} {d0 : Nat} {K : qK} : qI (s_Mo_across_0 d0 K) (s_invV l D (d0, 0, 0) 18 m_Mo_across_0 2 K) := sorry
def w_Mo_at_0_34 (l : Launch) (D : qD) (d0 : Nat) (B : Nat × Nat) (Q : qQ) : qK := (s_zret Q)
theorem Mo_at_0_34 {l : Launch} {D : qD} {d0 : Nat} {B : Nat × Nat} {Q : qQ} : qI (w_Mo_at_0_34 l D d0 B Q) (qR l D (d0 + 1, B) m_Mo_at_0 34 Q) := sorry
def w_Mo_at_0_33 (l : Launch) (D : qD) (d0 : Nat) (B : Nat × Nat) (Q : qQ) : qK := (s_ic (0) (w_Mo_at_0_34 l D d0 B Q))
theorem Mo_at_0_33 {l : Launch} {D : qD} {d0 : Nat} {B : Nat × Nat} {Q : qQ} : qI (w_Mo_at_0_33 l D d0 B Q) (qR l D (d0 + 1, B) m_Mo_at_0 33 Q) := sorry
def w_Mo_at_0_29 (l : Launch) (D : qD) (d0 : Nat) (B : Nat × Nat) (Q : qQ) : qK := (s_ic (1) (w_Mo_at_0_34 l D d0 B Q))
theorem Mo_at_0_29 {l : Launch} {D : qD} {d0 : Nat} {B : Nat × Nat} {Q : qQ} : qI (w_Mo_at_0_29 l D d0 B Q) (qR l D (d0 + 1, B) m_Mo_at_0 29 Q) := sorry
def w_Mo_at_0_0 (l : Launch) (D : qD) (d0 : Nat) (B : Nat × Nat) (Q : qQ) : qK := (s_aload 0 (s_getR 18 35 (s_iload 1 (s_bald (s_if_eq (w_Mo_at_0_33 l D d0 B Q) (s_aload 0 (s_getR 18 33 (s_iload 1 (s_iald (s_iload 2 (s_icmp_eq (w_Mo_at_0_29 l D d0 B Q) (s_aload 0 (s_getR 18 34 (s_iload 1 (s_iald (s_iload 2 (s_icmp_ne (w_Mo_at_0_33 l D d0 B Q) (w_Mo_at_0_29 l D d0 B Q))))))))))))))))))
theorem Mo_at_0_0 {l : Launch} {D : qD} {d0 : Nat} {B : Nat × Nat} {Q : qQ} : qI (w_Mo_at_0_0 l D d0 B Q) (qR l D (d0 + 1, B) m_Mo_at_0 0 Q) := sorry
abbrev e_Mo_at_0 (a b : Int) (v : Int → Int → Int) : Prop := v 280 35 = 297 ∧ v 280 33 = 295 ∧ v 280 34 = 296
def p_Mo_at_0 (a b : Int) (v : Int → Int → Int) : Prop := (0 ≤ a ∧ a < 80 ∧ ((v 297 a) ≠ 0 → (0 ≤ a ∧ a < 80 ∧ ((v 295 a) ≠ b → (0 ≤ a ∧ a < 80)))))
def f_Mo_at_0 (a b : Int) (v : Int → Int → Int) : Int := (if (v 297 a) = 0 then 0 else (if (v 295 a) = b then 1 else (if (v 296 a) ≠ b then 0 else 1)))
theorem fb_Mo_at_0 (a b : Int) (v : Int → Int → Int) : f_Mo_at_0 a b v = 0 ∨ f_Mo_at_0 a b v = 1 := sorry
set_option maxRecDepth 100000 in
theorem sp_Mo_at_0 {l : Launch} {D : qD} {d : Nat} {a b : Int} {h : qh} {Q : qQ} (he : e_Mo_at_0 a b h.2) (hp : p_Mo_at_0 a b h.2) (hq : Q (some (.inl (f_Mo_at_0 a b h.2))) h) : qM l D (d + 1, 0, 0) m_Mo_at_0 [.inr (.inr 280), .inl a, .inl b] h Q := sorry
def s_Mo_at_0 (d0 : Nat) (K : qK) : qK := fun ls st h => match st with
  | .inl b :: .inl a :: .inr (.inr o) :: r => o = 280 ∧ 1 ≤ d0 ∧ q_cs r ≤ 8 ∧ e_Mo_at_0 a b h.2 ∧ p_Mo_at_0 a b h.2 ∧ K ls (.inl (f_Mo_at_0 a b h.2) :: r) h
  | _ => False
set_option maxRecDepth 100000 in
theorem to_Mo_at_0 {l : Launch} {D : qD} {d0 : Nat} {K : qK} : qI (s_Mo_at_0 d0 K) (s_invV l D (d0, 0, 0) 18 m_Mo_at_0 2 K) := sorry
def w_Mo_mayGo_34 (l : Launch) (D : qD) (d0 : Nat) (B : Nat × Nat) (Q : qQ) : qK := (s_zret Q)
theorem Mo_mayGo_34 {l : Launch} {D : qD} {d0 : Nat} {B : Nat × Nat} {Q : qQ} : qI (w_Mo_mayGo_34 l D d0 B Q) (qR l D (d0 + 1, B) m_Mo_mayGo 34 Q) := sorry
def w_Mo_mayGo_33 (l : Launch) (D : qD) (d0 : Nat) (B : Nat × Nat) (Q : qQ) : qK := (s_ic (0) (w_Mo_mayGo_34 l D d0 B Q))
theorem Mo_mayGo_33 {l : Launch} {D : qD} {d0 : Nat} {B : Nat × Nat} {Q : qQ} : qI (w_Mo_mayGo_33 l D d0 B Q) (qR l D (d0 + 1, B) m_Mo_mayGo 33 Q) := sorry
def w_Mo_mayGo_29 (l : Launch) (D : qD) (d0 : Nat) (B : Nat × Nat) (Q : qQ) : qK := (s_ic (1) (w_Mo_mayGo_34 l D d0 B Q))
theorem Mo_mayGo_29 {l : Launch} {D : qD} {d0 : Nat} {B : Nat × Nat} {Q : qQ} : qI (w_Mo_mayGo_29 l D d0 B Q) (qR l D (d0 + 1, B) m_Mo_mayGo 29 Q) := sorry
def w_Mo_mayGo_0 (l : Launch) (D : qD) (d0 : Nat) (B : Nat × Nat) (Q : qQ) : qK := (s_aload 0 (s_getR 18 43 (s_iload 1 (s_bald (s_if_ne (w_Mo_mayGo_33 l D d0 B Q) (s_aload 0 (s_getI 18 49 (s_if_lt (w_Mo_mayGo_29 l D d0 B Q) (s_aload 0 (s_getR 18 44 (s_iload 1 (s_iald (s_aload 0 (s_getI 18 49 (s_icmp_ne (w_Mo_mayGo_33 l D d0 B Q) (w_Mo_mayGo_29 l D d0 B Q))))))))))))))))
theorem Mo_mayGo_0 {l : Launch} {D : qD} {d0 : Nat} {B : Nat × Nat} {Q : qQ} : qI (w_Mo_mayGo_0 l D d0 B Q) (qR l D (d0 + 1, B) m_Mo_mayGo 0 Q) := sorry
abbrev e_Mo_mayGo (a : Int) (v : Int → Int → Int) : Prop := v 280 43 = 304 ∧ v 280 44 = 305
def p_Mo_mayGo (a : Int) (v : Int → Int → Int) : Prop := (0 ≤ a ∧ a < 80 ∧ ((v 304 a) = 0 → (0 ≤ (v 280 49) → (0 ≤ a ∧ a < 80))))
def f_Mo_mayGo (a : Int) (v : Int → Int → Int) : Int := (if (v 304 a) ≠ 0 then 0 else (if (v 280 49) < 0 then 1 else (if (v 305 a) ≠ (v 280 49) then 0 else 1)))
theorem fb_Mo_mayGo (a : Int) (v : Int → Int → Int) : f_Mo_mayGo a v = 0 ∨ f_Mo_mayGo a v = 1 := sorry
set_option maxRecDepth 100000 in
theorem sp_Mo_mayGo {l : Launch} {D : qD} {d : Nat} {a : Int} {h : qh} {Q : qQ} (he : e_Mo_mayGo a h.2) (hp : p_Mo_mayGo a h.2) (hq : Q (some (.inl (f_Mo_mayGo a h.2))) h) : qM l D (d + 1, 0, 0) m_Mo_mayGo [.inr (.inr 280), .inl a] h Q := sorry
def s_Mo_mayGo (d0 : Nat) (K : qK) : qK := fun ls st h => match st with
  | .inl a :: .inr (.inr o) :: r => o = 280 ∧ 1 ≤ d0 ∧ q_cs r ≤ 8 ∧ e_Mo_mayGo a h.2 ∧ p_Mo_mayGo a h.2 ∧ K ls (.inl (f_Mo_mayGo a h.2) :: r) h
  | _ => False
set_option maxRecDepth 100000 in
theorem to_Mo_mayGo {l : Launch} {D : qD} {d0 : Nat} {K : qK} : qI (s_Mo_mayGo d0 K) (s_invV l D (d0, 0, 0) 18 m_Mo_mayGo 1 K) := sorry
def w_Mo_shareNew_115 (l : Launch) (D : qD) (d0 : Nat) (B : Nat × Nat) (Q : qQ) : qK := (s_zret Q)
theorem Mo_shareNew_115 {l : Launch} {D : qD} {d0 : Nat} {B : Nat × Nat} {Q : qQ} : qI (w_Mo_shareNew_115 l D d0 B Q) (qR l D (d0 + 1, B) m_Mo_shareNew 115 Q) := sorry
def w_Mo_shareNew_114 (l : Launch) (D : qD) (d0 : Nat) (B : Nat × Nat) (Q : qQ) : qK := (s_ic (0) (w_Mo_shareNew_115 l D d0 B Q))
theorem Mo_shareNew_114 {l : Launch} {D : qD} {d0 : Nat} {B : Nat × Nat} {Q : qQ} : qI (w_Mo_shareNew_114 l D d0 B Q) (qR l D (d0 + 1, B) m_Mo_shareNew 114 Q) := sorry
def w_Mo_shareNew_110 (l : Launch) (D : qD) (d0 : Nat) (B : Nat × Nat) (Q : qQ) : qK := (s_ic (1) (w_Mo_shareNew_115 l D d0 B Q))
theorem Mo_shareNew_110 {l : Launch} {D : qD} {d0 : Nat} {B : Nat × Nat} {Q : qQ} : qI (w_Mo_shareNew_110 l D d0 B Q) (qR l D (d0 + 1, B) m_Mo_shareNew 110 Q) := sorry
def w_Mo_shareNew_99 (l : Launch) (D : qD) (d0 : Nat) (B : Nat × Nat) (Q : qQ) : qK := (s_istore 4 (s_iload 3 (s_if_ne (w_Mo_shareNew_110 l D d0 B Q) (s_iload 4 (s_if_eq (w_Mo_shareNew_114 l D d0 B Q) (w_Mo_shareNew_110 l D d0 B Q))))))
theorem Mo_shareNew_99 {l : Launch} {D : qD} {d0 : Nat} {B : Nat × Nat} {Q : qQ} : qI (w_Mo_shareNew_99 l D d0 B Q) (qR l D (d0 + 1, B) m_Mo_shareNew 99 Q) := sorry
def w_Mo_shareNew_98 (l : Launch) (D : qD) (d0 : Nat) (B : Nat × Nat) (Q : qQ) : qK := (s_ic (0) (w_Mo_shareNew_99 l D d0 B Q))
theorem Mo_shareNew_98 {l : Launch} {D : qD} {d0 : Nat} {B : Nat × Nat} {Q : qQ} : qI (w_Mo_shareNew_98 l D d0 B Q) (qR l D (d0 + 1, B) m_Mo_shareNew 98 Q) := sorry
def w_Mo_shareNew_94 (l : Launch) (D : qD) (d0 : Nat) (B : Nat × Nat) (Q : qQ) : qK := (s_ic (1) (w_Mo_shareNew_99 l D d0 B Q))
theorem Mo_shareNew_94 {l : Launch} {D : qD} {d0 : Nat} {B : Nat × Nat} {Q : qQ} : qI (w_Mo_shareNew_94 l D d0 B Q) (qR l D (d0 + 1, B) m_Mo_shareNew 94 Q) := sorry
def w_Mo_shareNew_49 (l : Launch) (D : qD) (d0 : Nat) (B : Nat × Nat) (Q : qQ) : qK := (s_istore 3 (s_aload 0 (s_getR 18 42 (s_aload 0 (s_getR 18 34 (s_iload 1 (s_iald (s_bald (s_if_ne (w_Mo_shareNew_98 l D d0 B Q) (s_aload 0 (s_getR 18 33 (s_iload 2 (s_iald (s_aload 0 (s_getR 18 34 (s_iload 1 (s_iald (s_icmp_eq (w_Mo_shareNew_94 l D d0 B Q) (s_aload 0 (s_getR 18 34 (s_iload 2 (s_iald (s_aload 0 (s_getR 18 34 (s_iload 1 (s_iald (s_icmp_ne (w_Mo_shareNew_98 l D d0 B Q) (w_Mo_shareNew_94 l D d0 B Q))))))))))))))))))))))))))))
theorem Mo_shareNew_49 {l : Launch} {D : qD} {d0 : Nat} {B : Nat × Nat} {Q : qQ} : qI (w_Mo_shareNew_49 l D d0 B Q) (qR l D (d0 + 1, B) m_Mo_shareNew 49 Q) := sorry
def w_Mo_shareNew_48 (l : Launch) (D : qD) (d0 : Nat) (B : Nat × Nat) (Q : qQ) : qK := (s_ic (0) (w_Mo_shareNew_49 l D d0 B Q))
theorem Mo_shareNew_48 {l : Launch} {D : qD} {d0 : Nat} {B : Nat × Nat} {Q : qQ} : qI (w_Mo_shareNew_48 l D d0 B Q) (qR l D (d0 + 1, B) m_Mo_shareNew 48 Q) := sorry
def w_Mo_shareNew_44 (l : Launch) (D : qD) (d0 : Nat) (B : Nat × Nat) (Q : qQ) : qK := (s_ic (1) (w_Mo_shareNew_49 l D d0 B Q))
theorem Mo_shareNew_44 {l : Launch} {D : qD} {d0 : Nat} {B : Nat × Nat} {Q : qQ} : qI (w_Mo_shareNew_44 l D d0 B Q) (qR l D (d0 + 1, B) m_Mo_shareNew 44 Q) := sorry
def w_Mo_shareNew_0 (l : Launch) (D : qD) (d0 : Nat) (B : Nat × Nat) (Q : qQ) : qK := (s_aload 0 (s_getR 18 42 (s_aload 0 (s_getR 18 33 (s_iload 1 (s_iald (s_bald (s_if_ne (w_Mo_shareNew_48 l D d0 B Q) (s_aload 0 (s_getR 18 33 (s_iload 2 (s_iald (s_aload 0 (s_getR 18 33 (s_iload 1 (s_iald (s_icmp_eq (w_Mo_shareNew_44 l D d0 B Q) (s_aload 0 (s_getR 18 34 (s_iload 2 (s_iald (s_aload 0 (s_getR 18 33 (s_iload 1 (s_iald (s_icmp_ne (w_Mo_shareNew_48 l D d0 B Q) (w_Mo_shareNew_44 l D d0 B Q)))))))))))))))))))))))))))
theorem Mo_shareNew_0 {l : Launch} {D : qD} {d0 : Nat} {B : Nat × Nat} {Q : qQ} : qI (w_Mo_shareNew_0 l D d0 B Q) (qR l D (d0 + 1, B) m_Mo_shareNew 0 Q) := sorry
abbrev e_Mo_shareNew (a b : Int) (v : Int → Int → Int) : Prop := v 280 42 = 303 ∧ v 280 33 = 295 ∧ v 280 34 = 296
def p_Mo_shareNew (a b : Int) (v : Int → Int → Int) : Prop := (0 ≤ a ∧ a < 80 ∧ 0 ≤ (v 295 a) ∧ (v 295 a) < 26 ∧ ((v 303 (v 295 a)) ≠ 0 → (0 ≤ a ∧ a < 80 ∧ 0 ≤ (v 296 a) ∧ (v 296 a) < 26 ∧ ((v 303 (v 296 a)) = 0 → (0 ≤ b ∧ b < 80 ∧ 0 ≤ a ∧ a < 80 ∧ ((v 295 b) ≠ (v 296 a) → (0 ≤ b ∧ b < 80 ∧ 0 ≤ a ∧ a < 80)))))) ∧ ((v 303 (v 295 a)) = 0 → (0 ≤ b ∧ b < 80 ∧ 0 ≤ a ∧ a < 80 ∧ ((v 295 b) = (v 295 a) → (0 ≤ a ∧ a < 80 ∧ 0 ≤ (v 296 a) ∧ (v 296 a) < 26 ∧ ((v 303 (v 296 a)) = 0 → (0 ≤ b ∧ b < 80 ∧ 0 ≤ a ∧ a < 80 ∧ ((v 295 b) ≠ (v 296 a) → (0 ≤ b ∧ b < 80 ∧ 0 ≤ a ∧ a < 80)))))) ∧ ((v 295 b) ≠ (v 295 a) → (0 ≤ b ∧ b < 80 ∧ 0 ≤ a ∧ a < 80 ∧ ((v 296 b) ≠ (v 295 a) → (0 ≤ a ∧ a < 80 ∧ 0 ≤ (v 296 a) ∧ (v 296 a) < 26 ∧ ((v 303 (v 296 a)) = 0 → (0 ≤ b ∧ b < 80 ∧ 0 ≤ a ∧ a < 80 ∧ ((v 295 b) ≠ (v 296 a) → (0 ≤ b ∧ b < 80 ∧ 0 ≤ a ∧ a < 80)))))) ∧ ((v 296 b) = (v 295 a) → (0 ≤ a ∧ a < 80 ∧ 0 ≤ (v 296 a) ∧ (v 296 a) < 26 ∧ ((v 303 (v 296 a)) = 0 → (0 ≤ b ∧ b < 80 ∧ 0 ≤ a ∧ a < 80 ∧ ((v 295 b) ≠ (v 296 a) → (0 ≤ b ∧ b < 80 ∧ 0 ≤ a ∧ a < 80)))))))))))
def f_Mo_shareNew (a b : Int) (v : Int → Int → Int) : Int := (if (v 303 (v 295 a)) ≠ 0 then (if (v 303 (v 296 a)) ≠ 0 then 0 else (if (v 295 b) = (v 296 a) then 1 else (if (v 296 b) ≠ (v 296 a) then 0 else 1))) else (if (v 295 b) = (v 295 a) then (if (v 303 (v 296 a)) ≠ 0 then 1 else (if (v 295 b) = (v 296 a) then 1 else (if (v 296 b) ≠ (v 296 a) then 1 else 1))) else (if (v 296 b) ≠ (v 295 a) then (if (v 303 (v 296 a)) ≠ 0 then 0 else (if (v 295 b) = (v 296 a) then 1 else (if (v 296 b) ≠ (v 296 a) then 0 else 1))) else (if (v 303 (v 296 a)) ≠ 0 then 1 else (if (v 295 b) = (v 296 a) then 1 else (if (v 296 b) ≠ (v 296 a) then 1 else 1))))))
theorem fb_Mo_shareNew (a b : Int) (v : Int → Int → Int) : f_Mo_shareNew a b v = 0 ∨ f_Mo_shareNew a b v = 1 := sorry
set_option maxRecDepth 100000 in
theorem sp_Mo_shareNew {l : Launch} {D : qD} {d : Nat} {a b : Int} {h : qh} {Q : qQ} (he : e_Mo_shareNew a b h.2) (hp : p_Mo_shareNew a b h.2) (hq : Q (some (.inl (f_Mo_shareNew a b h.2))) h) : qM l D (d + 1, 0, 0) m_Mo_shareNew [.inr (.inr 280), .inl a, .inl b] h Q := sorry
def s_Mo_shareNew (d0 : Nat) (K : qK) : qK := fun ls st h => match st with
  | .inl b :: .inl a :: .inr (.inr o) :: r => o = 280 ∧ 1 ≤ d0 ∧ q_cs r ≤ 8 ∧ e_Mo_shareNew a b h.2 ∧ p_Mo_shareNew a b h.2 ∧ K ls (.inl (f_Mo_shareNew a b h.2) :: r) h
  | _ => False
set_option maxRecDepth 100000 in
theorem to_Mo_shareNew {l : Launch} {D : qD} {d0 : Nat} {K : qK} : qI (s_Mo_shareNew d0 K) (s_invV l D (d0, 0, 0) 18 m_Mo_shareNew 2 K) := sorry
def w_Mo_fitsFace_23 (l : Launch) (D : qD) (d0 : Nat) (B : Nat × Nat) (Q : qQ) : qK := (s_zret Q)
theorem Mo_fitsFace_23 {l : Launch} {D : qD} {d0 : Nat} {B : Nat × Nat} {Q : qQ} : qI (w_Mo_fitsFace_23 l D d0 B Q) (qR l D (d0 + 1, B) m_Mo_fitsFace 23 Q) := sorry
def w_Mo_fitsFace_22 (l : Launch) (D : qD) (d0 : Nat) (B : Nat × Nat) (Q : qQ) : qK := (s_ic (0) (w_Mo_fitsFace_23 l D d0 B Q))
theorem Mo_fitsFace_22 {l : Launch} {D : qD} {d0 : Nat} {B : Nat × Nat} {Q : qQ} : qI (w_Mo_fitsFace_22 l D d0 B Q) (qR l D (d0 + 1, B) m_Mo_fitsFace 22 Q) := sorry
def w_Mo_fitsFace_0 (l : Launch) (D : qD) (d0 : Nat) (B : Nat × Nat) (Q : qQ) : qK := (s_aload 0 (s_getR 18 50 (s_iload 1 (s_iald (s_aload 0 (s_getR 18 51 (s_iload 2 (s_iald (s_ic (-1) (s_ixor (s_iand (s_if_ne (w_Mo_fitsFace_22 l D d0 B Q) (s_ic (1) (w_Mo_fitsFace_23 l D d0 B Q))))))))))))))
theorem Mo_fitsFace_0 {l : Launch} {D : qD} {d0 : Nat} {B : Nat × Nat} {Q : qQ} : qI (w_Mo_fitsFace_0 l D d0 B Q) (qR l D (d0 + 1, B) m_Mo_fitsFace 0 Q) := sorry
abbrev e_Mo_fitsFace (a b : Int) (v : Int → Int → Int) : Prop := v 280 50 = 308 ∧ v 280 51 = 309
def p_Mo_fitsFace (a b : Int) (v : Int → Int → Int) : Prop := (0 ≤ a ∧ a < 80 ∧ 0 ≤ b ∧ b < 120)
def f_Mo_fitsFace (a b : Int) (v : Int → Int → Int) : Int := (if (z_iand (v 308 a) (z_ixor (v 309 b) (-1))) ≠ 0 then 0 else 1)
theorem fb_Mo_fitsFace (a b : Int) (v : Int → Int → Int) : f_Mo_fitsFace a b v = 0 ∨ f_Mo_fitsFace a b v = 1 := sorry
set_option maxRecDepth 100000 in
theorem sp_Mo_fitsFace {l : Launch} {D : qD} {d : Nat} {a b : Int} {h : qh} {Q : qQ} (he : e_Mo_fitsFace a b h.2) (hp : p_Mo_fitsFace a b h.2) (hq : Q (some (.inl (f_Mo_fitsFace a b h.2))) h) : qM l D (d + 1, 0, 0) m_Mo_fitsFace [.inr (.inr 280), .inl a, .inl b] h Q := sorry
def s_Mo_fitsFace (d0 : Nat) (K : qK) : qK := fun ls st h => match st with
  | .inl b :: .inl a :: .inr (.inr o) :: r => o = 280 ∧ 1 ≤ d0 ∧ q_cs r ≤ 8 ∧ e_Mo_fitsFace a b h.2 ∧ p_Mo_fitsFace a b h.2 ∧ K ls (.inl (f_Mo_fitsFace a b h.2) :: r) h
  | _ => False
set_option maxRecDepth 100000 in
theorem to_Mo_fitsFace {l : Launch} {D : qD} {d0 : Nat} {K : qK} : qI (s_Mo_fitsFace d0 K) (s_invV l D (d0, 0, 0) 18 m_Mo_fitsFace 2 K) := sorry
def w_Mo_isEnd_19 (l : Launch) (D : qD) (d0 : Nat) (B : Nat × Nat) (Q : qQ) : qK := (s_zret Q)
theorem Mo_isEnd_19 {l : Launch} {D : qD} {d0 : Nat} {B : Nat × Nat} {Q : qQ} : qI (w_Mo_isEnd_19 l D d0 B Q) (qR l D (d0 + 1, B) m_Mo_isEnd 19 Q) := sorry
def w_Mo_isEnd_18 (l : Launch) (D : qD) (d0 : Nat) (B : Nat × Nat) (Q : qQ) : qK := (s_ic (0) (w_Mo_isEnd_19 l D d0 B Q))
theorem Mo_isEnd_18 {l : Launch} {D : qD} {d0 : Nat} {B : Nat × Nat} {Q : qQ} : qI (w_Mo_isEnd_18 l D d0 B Q) (qR l D (d0 + 1, B) m_Mo_isEnd 18 Q) := sorry
def w_Mo_isEnd_0 (l : Launch) (D : qD) (d0 : Nat) (B : Nat × Nat) (Q : qQ) : qK := (s_aload 0 (s_getR 18 50 (s_iload 1 (s_iald (s_iload 2 (s_ishr (s_ic (1) (s_iand (s_ic (1) (s_icmp_ne (w_Mo_isEnd_18 l D d0 B Q) (s_ic (1) (w_Mo_isEnd_19 l D d0 B Q))))))))))))
theorem Mo_isEnd_0 {l : Launch} {D : qD} {d0 : Nat} {B : Nat × Nat} {Q : qQ} : qI (w_Mo_isEnd_0 l D d0 B Q) (qR l D (d0 + 1, B) m_Mo_isEnd 0 Q) := sorry
abbrev e_Mo_isEnd (a b : Int) (v : Int → Int → Int) : Prop := v 280 50 = 308
def p_Mo_isEnd (a b : Int) (v : Int → Int → Int) : Prop := (0 ≤ a ∧ a < 80)
def f_Mo_isEnd (a b : Int) (v : Int → Int → Int) : Int := (if (z_iand (z_ishr (v 308 a) b) 1) ≠ 1 then 0 else 1)
theorem fb_Mo_isEnd (a b : Int) (v : Int → Int → Int) : f_Mo_isEnd a b v = 0 ∨ f_Mo_isEnd a b v = 1 := sorry
set_option maxRecDepth 100000 in
theorem sp_Mo_isEnd {l : Launch} {D : qD} {d : Nat} {a b : Int} {h : qh} {Q : qQ} (he : e_Mo_isEnd a b h.2) (hp : p_Mo_isEnd a b h.2) (hq : Q (some (.inl (f_Mo_isEnd a b h.2))) h) : qM l D (d + 1, 0, 0) m_Mo_isEnd [.inr (.inr 280), .inl a, .inl b] h Q := sorry
def s_Mo_isEnd (d0 : Nat) (K : qK) : qK := fun ls st h => match st with
  | .inl b :: .inl a :: .inr (.inr o) :: r => o = 280 ∧ 1 ≤ d0 ∧ q_cs r ≤ 8 ∧ e_Mo_isEnd a b h.2 ∧ p_Mo_isEnd a b h.2 ∧ K ls (.inl (f_Mo_isEnd a b h.2) :: r) h
  | _ => False
set_option maxRecDepth 100000 in
theorem to_Mo_isEnd {l : Launch} {D : qD} {d0 : Nat} {K : qK} : qI (s_Mo_isEnd d0 K) (s_invV l D (d0, 0, 0) 18 m_Mo_isEnd 2 K) := sorry
def w_Mo_fromOf_25 (l : Launch) (D : qD) (d0 : Nat) (B : Nat × Nat) (Q : qQ) : qK := (s_iret Q)
theorem Mo_fromOf_25 {l : Launch} {D : qD} {d0 : Nat} {B : Nat × Nat} {Q : qQ} : qI (w_Mo_fromOf_25 l D d0 B Q) (qR l D (d0 + 1, B) m_Mo_fromOf 25 Q) := sorry
def w_Mo_fromOf_17 (l : Launch) (D : qD) (d0 : Nat) (B : Nat × Nat) (Q : qQ) : qK := (s_aload 0 (s_getR 18 34 (s_iload 1 (s_ic (1) (s_ishr (s_iald (w_Mo_fromOf_25 l D d0 B Q)))))))
theorem Mo_fromOf_17 {l : Launch} {D : qD} {d0 : Nat} {B : Nat × Nat} {Q : qQ} : qI (w_Mo_fromOf_17 l D d0 B Q) (qR l D (d0 + 1, B) m_Mo_fromOf 17 Q) := sorry
def w_Mo_fromOf_0 (l : Launch) (D : qD) (d0 : Nat) (B : Nat × Nat) (Q : qQ) : qK := (s_iload 1 (s_ic (1) (s_iand (s_if_ne (w_Mo_fromOf_17 l D d0 B Q) (s_aload 0 (s_getR 18 33 (s_iload 1 (s_ic (1) (s_ishr (s_iald (w_Mo_fromOf_25 l D d0 B Q)))))))))))
theorem Mo_fromOf_0 {l : Launch} {D : qD} {d0 : Nat} {B : Nat × Nat} {Q : qQ} : qI (w_Mo_fromOf_0 l D d0 B Q) (qR l D (d0 + 1, B) m_Mo_fromOf 0 Q) := sorry
abbrev e_Mo_fromOf (a : Int) (v : Int → Int → Int) : Prop := v 280 34 = 296 ∧ v 280 33 = 295
def p_Mo_fromOf (a : Int) (v : Int → Int → Int) : Prop := (((z_iand a 1) ≠ 0 → (0 ≤ (z_ishr a 1) ∧ (z_ishr a 1) < 80)) ∧ ((z_iand a 1) = 0 → (0 ≤ (z_ishr a 1) ∧ (z_ishr a 1) < 80)))
def f_Mo_fromOf (a : Int) (v : Int → Int → Int) : Int := (if (z_iand a 1) ≠ 0 then (v 296 (z_ishr a 1)) else (v 295 (z_ishr a 1)))
set_option maxRecDepth 100000 in
theorem sp_Mo_fromOf {l : Launch} {D : qD} {d : Nat} {a : Int} {h : qh} {Q : qQ} (he : e_Mo_fromOf a h.2) (hp : p_Mo_fromOf a h.2) (hq : Q (some (.inl (f_Mo_fromOf a h.2))) h) : qM l D (d + 1, 0, 0) m_Mo_fromOf [.inr (.inr 280), .inl a] h Q := sorry
def s_Mo_fromOf (d0 : Nat) (K : qK) : qK := fun ls st h => match st with
  | .inl a :: .inr (.inr o) :: r => o = 280 ∧ 1 ≤ d0 ∧ q_cs r ≤ 8 ∧ e_Mo_fromOf a h.2 ∧ p_Mo_fromOf a h.2 ∧ K ls (.inl (f_Mo_fromOf a h.2) :: r) h
  | _ => False
set_option maxRecDepth 100000 in
theorem to_Mo_fromOf {l : Launch} {D : qD} {d0 : Nat} {K : qK} : qI (s_Mo_fromOf d0 K) (s_invV l D (d0, 0, 0) 18 m_Mo_fromOf 1 K) := sorry
def w_Mo_toOf_25 (l : Launch) (D : qD) (d0 : Nat) (B : Nat × Nat) (Q : qQ) : qK := (s_iret Q)
theorem Mo_toOf_25 {l : Launch} {D : qD} {d0 : Nat} {B : Nat × Nat} {Q : qQ} : qI (w_Mo_toOf_25 l D d0 B Q) (qR l D (d0 + 1, B) m_Mo_toOf 25 Q) := sorry
def w_Mo_toOf_17 (l : Launch) (D : qD) (d0 : Nat) (B : Nat × Nat) (Q : qQ) : qK := (s_aload 0 (s_getR 18 33 (s_iload 1 (s_ic (1) (s_ishr (s_iald (w_Mo_toOf_25 l D d0 B Q)))))))
theorem Mo_toOf_17 {l : Launch} {D : qD} {d0 : Nat} {B : Nat × Nat} {Q : qQ} : qI (w_Mo_toOf_17 l D d0 B Q) (qR l D (d0 + 1, B) m_Mo_toOf 17 Q) := sorry
def w_Mo_toOf_0 (l : Launch) (D : qD) (d0 : Nat) (B : Nat × Nat) (Q : qQ) : qK := (s_iload 1 (s_ic (1) (s_iand (s_if_ne (w_Mo_toOf_17 l D d0 B Q) (s_aload 0 (s_getR 18 34 (s_iload 1 (s_ic (1) (s_ishr (s_iald (w_Mo_toOf_25 l D d0 B Q)))))))))))
theorem Mo_toOf_0 {l : Launch} {D : qD} {d0 : Nat} {B : Nat × Nat} {Q : qQ} : qI (w_Mo_toOf_0 l D d0 B Q) (qR l D (d0 + 1, B) m_Mo_toOf 0 Q) := sorry
abbrev e_Mo_toOf (a : Int) (v : Int → Int → Int) : Prop := v 280 33 = 295 ∧ v 280 34 = 296
def p_Mo_toOf (a : Int) (v : Int → Int → Int) : Prop := (((z_iand a 1) ≠ 0 → (0 ≤ (z_ishr a 1) ∧ (z_ishr a 1) < 80)) ∧ ((z_iand a 1) = 0 → (0 ≤ (z_ishr a 1) ∧ (z_ishr a 1) < 80)))
def f_Mo_toOf (a : Int) (v : Int → Int → Int) : Int := (if (z_iand a 1) ≠ 0 then (v 295 (z_ishr a 1)) else (v 296 (z_ishr a 1)))
set_option maxRecDepth 100000 in
theorem sp_Mo_toOf {l : Launch} {D : qD} {d : Nat} {a : Int} {h : qh} {Q : qQ} (he : e_Mo_toOf a h.2) (hp : p_Mo_toOf a h.2) (hq : Q (some (.inl (f_Mo_toOf a h.2))) h) : qM l D (d + 1, 0, 0) m_Mo_toOf [.inr (.inr 280), .inl a] h Q := sorry
def s_Mo_toOf (d0 : Nat) (K : qK) : qK := fun ls st h => match st with
  | .inl a :: .inr (.inr o) :: r => o = 280 ∧ 1 ≤ d0 ∧ q_cs r ≤ 8 ∧ e_Mo_toOf a h.2 ∧ p_Mo_toOf a h.2 ∧ K ls (.inl (f_Mo_toOf a h.2) :: r) h
  | _ => False
set_option maxRecDepth 100000 in
theorem to_Mo_toOf {l : Launch} {D : qD} {d0 : Nat} {K : qK} : qI (s_Mo_toOf d0 K) (s_invV l D (d0, 0, 0) 18 m_Mo_toOf 1 K) := sorry
def w_Mo_from_22 (l : Launch) (D : qD) (d0 : Nat) (B : Nat × Nat) (Q : qQ) : qK := (s_iret Q)
theorem Mo_from_22 {l : Launch} {D : qD} {d0 : Nat} {B : Nat × Nat} {Q : qQ} : qI (w_Mo_from_22 l D d0 B Q) (qR l D (d0 + 1, B) m_Mo_from 22 Q) := sorry
def w_Mo_from_17 (l : Launch) (D : qD) (d0 : Nat) (B : Nat × Nat) (Q : qQ) : qK := (s_aload 0 (s_iload 1 (s_Mo_tail d0 (w_Mo_from_22 l D d0 B Q))))
theorem Mo_from_17 {l : Launch} {D : qD} {d0 : Nat} {B : Nat × Nat} {Q : qQ} : qI (w_Mo_from_17 l D d0 B Q) (qR l D (d0 + 1, B) m_Mo_from 17 Q) := sorry
def w_Mo_from_0 (l : Launch) (D : qD) (d0 : Nat) (B : Nat × Nat) (Q : qQ) : qK := (s_aload 0 (s_getR 18 95 (s_iload 1 (s_bald (s_if_eq (w_Mo_from_17 l D d0 B Q) (s_aload 0 (s_iload 1 (s_Mo_head d0 (w_Mo_from_22 l D d0 B Q)))))))))
theorem Mo_from_0 {l : Launch} {D : qD} {d0 : Nat} {B : Nat × Nat} {Q : qQ} : qI (w_Mo_from_0 l D d0 B Q) (qR l D (d0 + 1, B) m_Mo_from 0 Q) := sorry
abbrev e_Mo_from (a : Int) (v : Int → Int → Int) : Prop := v 280 95 = 346 ∧ e_Mo_tail a v ∧ e_Mo_head a v
def p_Mo_from (a : Int) (v : Int → Int → Int) : Prop := (0 ≤ a ∧ a < 48 ∧ ((v 346 a) = 0 → p_Mo_tail a v) ∧ ((v 346 a) ≠ 0 → p_Mo_head a v))
def f_Mo_from (a : Int) (v : Int → Int → Int) : Int := (if (v 346 a) = 0 then (f_Mo_tail a v) else (f_Mo_head a v))
set_option maxRecDepth 100000 in
theorem sp_Mo_from {l : Launch} {D : qD} {d : Nat} {a : Int} {h : qh} {Q : qQ} (he : e_Mo_from a h.2) (hp : p_Mo_from a h.2) (hq : Q (some (.inl (f_Mo_from a h.2))) h) : qM l D (d + 2, 0, 0) m_Mo_from [.inr (.inr 280), .inl a] h Q := sorry
def s_Mo_from (d0 : Nat) (K : qK) : qK := fun ls st h => match st with
  | .inl a :: .inr (.inr o) :: r => o = 280 ∧ 2 ≤ d0 ∧ q_cs r ≤ 8 ∧ e_Mo_from a h.2 ∧ p_Mo_from a h.2 ∧ K ls (.inl (f_Mo_from a h.2) :: r) h
  | _ => False
set_option maxRecDepth 100000 in
theorem to_Mo_from {l : Launch} {D : qD} {d0 : Nat} {K : qK} : qI (s_Mo_from d0 K) (s_invV l D (d0, 0, 0) 18 m_Mo_from 1 K) := sorry
def w_Mo_to_22 (l : Launch) (D : qD) (d0 : Nat) (B : Nat × Nat) (Q : qQ) : qK := (s_iret Q)
theorem Mo_to_22 {l : Launch} {D : qD} {d0 : Nat} {B : Nat × Nat} {Q : qQ} : qI (w_Mo_to_22 l D d0 B Q) (qR l D (d0 + 1, B) m_Mo_to 22 Q) := sorry
def w_Mo_to_17 (l : Launch) (D : qD) (d0 : Nat) (B : Nat × Nat) (Q : qQ) : qK := (s_aload 0 (s_iload 1 (s_Mo_head d0 (w_Mo_to_22 l D d0 B Q))))
theorem Mo_to_17 {l : Launch} {D : qD} {d0 : Nat} {B : Nat × Nat} {Q : qQ} : qI (w_Mo_to_17 l D d0 B Q) (qR l D (d0 + 1, B) m_Mo_to 17 Q) := sorry
def w_Mo_to_0 (l : Launch) (D : qD) (d0 : Nat) (B : Nat × Nat) (Q : qQ) : qK := (s_aload 0 (s_getR 18 95 (s_iload 1 (s_bald (s_if_eq (w_Mo_to_17 l D d0 B Q) (s_aload 0 (s_iload 1 (s_Mo_tail d0 (w_Mo_to_22 l D d0 B Q)))))))))
theorem Mo_to_0 {l : Launch} {D : qD} {d0 : Nat} {B : Nat × Nat} {Q : qQ} : qI (w_Mo_to_0 l D d0 B Q) (qR l D (d0 + 1, B) m_Mo_to 0 Q) := sorry
abbrev e_Mo_to (a : Int) (v : Int → Int → Int) : Prop := v 280 95 = 346 ∧ e_Mo_head a v ∧ e_Mo_tail a v
def p_Mo_to (a : Int) (v : Int → Int → Int) : Prop := (0 ≤ a ∧ a < 48 ∧ ((v 346 a) = 0 → p_Mo_head a v) ∧ ((v 346 a) ≠ 0 → p_Mo_tail a v))
def f_Mo_to (a : Int) (v : Int → Int → Int) : Int := (if (v 346 a) = 0 then (f_Mo_head a v) else (f_Mo_tail a v))
set_option maxRecDepth 100000 in
theorem sp_Mo_to {l : Launch} {D : qD} {d : Nat} {a : Int} {h : qh} {Q : qQ} (he : e_Mo_to a h.2) (hp : p_Mo_to a h.2) (hq : Q (some (.inl (f_Mo_to a h.2))) h) : qM l D (d + 2, 0, 0) m_Mo_to [.inr (.inr 280), .inl a] h Q := sorry
def s_Mo_to (d0 : Nat) (K : qK) : qK := fun ls st h => match st with
  | .inl a :: .inr (.inr o) :: r => o = 280 ∧ 2 ≤ d0 ∧ q_cs r ≤ 8 ∧ e_Mo_to a h.2 ∧ p_Mo_to a h.2 ∧ K ls (.inl (f_Mo_to a h.2) :: r) h
  | _ => False
set_option maxRecDepth 100000 in
theorem to_Mo_to {l : Launch} {D : qD} {d0 : Nat} {K : qK} : qI (s_Mo_to d0 K) (s_invV l D (d0, 0, 0) 18 m_Mo_to 1 K) := sorry
def w_Mo_halfOf_19 (l : Launch) (D : qD) (d0 : Nat) (B : Nat × Nat) (Q : qQ) : qK := (s_iret Q)
theorem Mo_halfOf_19 {l : Launch} {D : qD} {d0 : Nat} {B : Nat × Nat} {Q : qQ} : qI (w_Mo_halfOf_19 l D d0 B Q) (qR l D (d0 + 1, B) m_Mo_halfOf 19 Q) := sorry
def w_Mo_halfOf_18 (l : Launch) (D : qD) (d0 : Nat) (B : Nat × Nat) (Q : qQ) : qK := (s_ic (0) (w_Mo_halfOf_19 l D d0 B Q))
theorem Mo_halfOf_18 {l : Launch} {D : qD} {d0 : Nat} {B : Nat × Nat} {Q : qQ} : qI (w_Mo_halfOf_18 l D d0 B Q) (qR l D (d0 + 1, B) m_Mo_halfOf 18 Q) := sorry
def w_Mo_halfOf_0 (l : Launch) (D : qD) (d0 : Nat) (B : Nat × Nat) (Q : qQ) : qK := (s_iload 1 (s_aload 0 (s_Mo_nodes d0 (s_icmp_ge (w_Mo_halfOf_18 l D d0 B Q) (s_aload 0 (s_iload 1 (s_Mo_longOf d0 (s_ic (1) (s_iadd (w_Mo_halfOf_19 l D d0 B Q))))))))))
theorem Mo_halfOf_0 {l : Launch} {D : qD} {d0 : Nat} {B : Nat × Nat} {Q : qQ} : qI (w_Mo_halfOf_0 l D d0 B Q) (qR l D (d0 + 1, B) m_Mo_halfOf 0 Q) := sorry
abbrev e_Mo_halfOf (a : Int) (v : Int → Int → Int) : Prop := e_Mo_nodes v ∧ e_Mo_longOf a v
def p_Mo_halfOf (a : Int) (v : Int → Int → Int) : Prop := (p_Mo_nodes v ∧ (a < (f_Mo_nodes v) → (p_Mo_longOf a v ∧ r32 ((f_Mo_longOf a v) + 1))))
def f_Mo_halfOf (a : Int) (v : Int → Int → Int) : Int := (if (f_Mo_nodes v) ≤ a then 0 else ((f_Mo_longOf a v) + 1))
set_option maxRecDepth 100000 in
theorem sp_Mo_halfOf {l : Launch} {D : qD} {d : Nat} {a : Int} {h : qh} {Q : qQ} (he : e_Mo_halfOf a h.2) (hp : p_Mo_halfOf a h.2) (hq : Q (some (.inl (f_Mo_halfOf a h.2))) h) : qM l D (d + 2, 0, 0) m_Mo_halfOf [.inr (.inr 280), .inl a] h Q := sorry
def s_Mo_halfOf (d0 : Nat) (K : qK) : qK := fun ls st h => match st with
  | .inl a :: .inr (.inr o) :: r => o = 280 ∧ 2 ≤ d0 ∧ q_cs r ≤ 8 ∧ e_Mo_halfOf a h.2 ∧ p_Mo_halfOf a h.2 ∧ K ls (.inl (f_Mo_halfOf a h.2) :: r) h
  | _ => False
set_option maxRecDepth 100000 in
theorem to_Mo_halfOf {l : Launch} {D : qD} {d0 : Nat} {K : qK} : qI (s_Mo_halfOf d0 K) (s_invV l D (d0, 0, 0) 18 m_Mo_halfOf 1 K) := sorry
def w_Mo_low_40 (l : Launch) (D : qD) (d0 : Nat) (B : Nat × Nat) (Q : qQ) : qK := (s_iret Q)
theorem Mo_low_40 {l : Launch} {D : qD} {d0 : Nat} {B : Nat × Nat} {Q : qQ} : qI (w_Mo_low_40 l D d0 B Q) (qR l D (d0 + 1, B) m_Mo_low 40 Q) := sorry
def w_Mo_low_34 (l : Launch) (D : qD) (d0 : Nat) (B : Nat × Nat) (Q : qQ) : qK := (s_aload 0 (s_getR 18 34 (s_iload 1 (s_iald (w_Mo_low_40 l D d0 B Q)))))
theorem Mo_low_34 {l : Launch} {D : qD} {d0 : Nat} {B : Nat × Nat} {Q : qQ} : qI (w_Mo_low_34 l D d0 B Q) (qR l D (d0 + 1, B) m_Mo_low 34 Q) := sorry
def w_Mo_low_0 (l : Launch) (D : qD) (d0 : Nat) (B : Nat × Nat) (Q : qQ) : qK := (s_aload 0 (s_getR 18 124 (s_aload 0 (s_getR 18 33 (s_iload 1 (s_iald (s_iald (s_aload 0 (s_getR 18 124 (s_aload 0 (s_getR 18 34 (s_iload 1 (s_iald (s_iald (s_icmp_ge (w_Mo_low_34 l D d0 B Q) (s_aload 0 (s_getR 18 33 (s_iload 1 (s_iald (w_Mo_low_40 l D d0 B Q))))))))))))))))))))
theorem Mo_low_0 {l : Launch} {D : qD} {d0 : Nat} {B : Nat × Nat} {Q : qQ} : qI (w_Mo_low_0 l D d0 B Q) (qR l D (d0 + 1, B) m_Mo_low 0 Q) := sorry
abbrev e_Mo_low (a : Int) (v : Int → Int → Int) : Prop := v 280 124 = 370 ∧ v 280 33 = 295 ∧ v 280 34 = 296
def p_Mo_low (a : Int) (v : Int → Int → Int) : Prop := (0 ≤ a ∧ a < 80 ∧ 0 ≤ (v 295 a) ∧ (v 295 a) < 26 ∧ 0 ≤ (v 296 a) ∧ (v 296 a) < 26 ∧ ((v 370 (v 296 a)) ≤ (v 370 (v 295 a)) → (0 ≤ a ∧ a < 80)) ∧ ((v 370 (v 295 a)) < (v 370 (v 296 a)) → (0 ≤ a ∧ a < 80)))
def f_Mo_low (a : Int) (v : Int → Int → Int) : Int := (if (v 370 (v 296 a)) ≤ (v 370 (v 295 a)) then (v 296 a) else (v 295 a))
set_option maxRecDepth 100000 in
theorem sp_Mo_low {l : Launch} {D : qD} {d : Nat} {a : Int} {h : qh} {Q : qQ} (he : e_Mo_low a h.2) (hp : p_Mo_low a h.2) (hq : Q (some (.inl (f_Mo_low a h.2))) h) : qM l D (d + 1, 0, 0) m_Mo_low [.inr (.inr 280), .inl a] h Q := sorry
def s_Mo_low (d0 : Nat) (K : qK) : qK := fun ls st h => match st with
  | .inl a :: .inr (.inr o) :: r => o = 280 ∧ 1 ≤ d0 ∧ q_cs r ≤ 8 ∧ e_Mo_low a h.2 ∧ p_Mo_low a h.2 ∧ K ls (.inl (f_Mo_low a h.2) :: r) h
  | _ => False
set_option maxRecDepth 100000 in
theorem to_Mo_low {l : Launch} {D : qD} {d0 : Nat} {K : qK} : qI (s_Mo_low d0 K) (s_invV l D (d0, 0, 0) 18 m_Mo_low 1 K) := sorry
def w_Mo_dart_22 (l : Launch) (D : qD) (d0 : Nat) (B : Nat × Nat) (Q : qQ) : qK := (s_iadd (s_iret Q))
theorem Mo_dart_22 {l : Launch} {D : qD} {d0 : Nat} {B : Nat × Nat} {Q : qQ} : qI (w_Mo_dart_22 l D d0 B Q) (qR l D (d0 + 1, B) m_Mo_dart 22 Q) := sorry
def w_Mo_dart_21 (l : Launch) (D : qD) (d0 : Nat) (B : Nat × Nat) (Q : qQ) : qK := (s_ic (1) (w_Mo_dart_22 l D d0 B Q))
theorem Mo_dart_21 {l : Launch} {D : qD} {d0 : Nat} {B : Nat × Nat} {Q : qQ} : qI (w_Mo_dart_21 l D d0 B Q) (qR l D (d0 + 1, B) m_Mo_dart 21 Q) := sorry
def w_Mo_dart_0 (l : Launch) (D : qD) (d0 : Nat) (B : Nat × Nat) (Q : qQ) : qK := (s_ic (2) (s_iload 1 (s_imul (s_aload 0 (s_iload 1 (s_Mo_low d0 (s_aload 0 (s_getR 18 33 (s_iload 1 (s_iald (s_icmp_ne (w_Mo_dart_21 l D d0 B Q) (s_ic (0) (w_Mo_dart_22 l D d0 B Q)))))))))))))
theorem Mo_dart_0 {l : Launch} {D : qD} {d0 : Nat} {B : Nat × Nat} {Q : qQ} : qI (w_Mo_dart_0 l D d0 B Q) (qR l D (d0 + 1, B) m_Mo_dart 0 Q) := sorry
abbrev e_Mo_dart (a : Int) (v : Int → Int → Int) : Prop := e_Mo_low a v ∧ v 280 33 = 295
def p_Mo_dart (a : Int) (v : Int → Int → Int) : Prop := (r32 (2 * a) ∧ p_Mo_low a v ∧ 0 ≤ a ∧ a < 80 ∧ ((f_Mo_low a v) ≠ (v 295 a) → r32 ((2 * a) + 1)) ∧ ((f_Mo_low a v) = (v 295 a) → r32 ((2 * a) + 0)))
def f_Mo_dart (a : Int) (v : Int → Int → Int) : Int := (if (f_Mo_low a v) ≠ (v 295 a) then ((2 * a) + 1) else ((2 * a) + 0))
set_option maxRecDepth 100000 in
theorem sp_Mo_dart {l : Launch} {D : qD} {d : Nat} {a : Int} {h : qh} {Q : qQ} (he : e_Mo_dart a h.2) (hp : p_Mo_dart a h.2) (hq : Q (some (.inl (f_Mo_dart a h.2))) h) : qM l D (d + 2, 0, 0) m_Mo_dart [.inr (.inr 280), .inl a] h Q := sorry
def s_Mo_dart (d0 : Nat) (K : qK) : qK := fun ls st h => match st with
  | .inl a :: .inr (.inr o) :: r => o = 280 ∧ 2 ≤ d0 ∧ q_cs r ≤ 8 ∧ e_Mo_dart a h.2 ∧ p_Mo_dart a h.2 ∧ K ls (.inl (f_Mo_dart a h.2) :: r) h
  | _ => False
set_option maxRecDepth 100000 in
theorem to_Mo_dart {l : Launch} {D : qD} {d0 : Nat} {K : qK} : qI (s_Mo_dart d0 K) (s_invV l D (d0, 0, 0) 18 m_Mo_dart 1 K) := sorry
def w_Mo_barX_23 (l : Launch) (D : qD) (d0 : Nat) (B : Nat × Nat) (Q : qQ) : qK := (s_iret Q)
theorem Mo_barX_23 {l : Launch} {D : qD} {d0 : Nat} {B : Nat × Nat} {Q : qQ} : qI (w_Mo_barX_23 l D d0 B Q) (qR l D (d0 + 1, B) m_Mo_barX 23 Q) := sorry
def w_Mo_barX_8 (l : Launch) (D : qD) (d0 : Nat) (B : Nat × Nat) (Q : qQ) : qK := (s_aload 0 (s_getR 18 20 (s_aload 0 (s_getR 18 54 (s_aload 0 (s_iload 1 (s_Mo_dart d0 (s_iald (s_iald (w_Mo_barX_23 l D d0 B Q))))))))))
theorem Mo_barX_8 {l : Launch} {D : qD} {d0 : Nat} {B : Nat × Nat} {Q : qQ} : qI (w_Mo_barX_8 l D d0 B Q) (qR l D (d0 + 1, B) m_Mo_barX 8 Q) := sorry
def w_Mo_barX_0 (l : Launch) (D : qD) (d0 : Nat) (B : Nat × Nat) (Q : qQ) : qK := (s_iload 1 (s_if_ne (w_Mo_barX_8 l D d0 B Q) (s_ic (-1) (w_Mo_barX_23 l D d0 B Q))))
theorem Mo_barX_0 {l : Launch} {D : qD} {d0 : Nat} {B : Nat × Nat} {Q : qQ} : qI (w_Mo_barX_0 l D d0 B Q) (qR l D (d0 + 1, B) m_Mo_barX 0 Q) := sorry
abbrev e_Mo_barX (a : Int) (v : Int → Int → Int) : Prop := v 280 20 = 290 ∧ v 280 54 = 311 ∧ e_Mo_dart a v
def p_Mo_barX (a : Int) (v : Int → Int → Int) : Prop := (a ≠ 0 → (p_Mo_dart a v ∧ 0 ≤ (f_Mo_dart a v) ∧ (f_Mo_dart a v) < 160 ∧ 0 ≤ (v 311 (f_Mo_dart a v)) ∧ (v 311 (f_Mo_dart a v)) < 100))
def f_Mo_barX (a : Int) (v : Int → Int → Int) : Int := (if a ≠ 0 then (v 290 (v 311 (f_Mo_dart a v))) else (-1))
set_option maxRecDepth 100000 in
theorem sp_Mo_barX {l : Launch} {D : qD} {d : Nat} {a : Int} {h : qh} {Q : qQ} (he : e_Mo_barX a h.2) (hp : p_Mo_barX a h.2) (hq : Q (some (.inl (f_Mo_barX a h.2))) h) : qM l D (d + 3, 0, 0) m_Mo_barX [.inr (.inr 280), .inl a] h Q := sorry
def s_Mo_barX (d0 : Nat) (K : qK) : qK := fun ls st h => match st with
  | .inl a :: .inr (.inr o) :: r => o = 280 ∧ 3 ≤ d0 ∧ q_cs r ≤ 8 ∧ e_Mo_barX a h.2 ∧ p_Mo_barX a h.2 ∧ K ls (.inl (f_Mo_barX a h.2) :: r) h
  | _ => False
set_option maxRecDepth 100000 in
theorem to_Mo_barX {l : Launch} {D : qD} {d0 : Nat} {K : qK} : qI (s_Mo_barX d0 K) (s_invV l D (d0, 0, 0) 18 m_Mo_barX 1 K) := sorry
def w_Mo_bounded_23 (l : Launch) (D : qD) (d0 : Nat) (B : Nat × Nat) (Q : qQ) : qK := (s_lret Q)
theorem Mo_bounded_23 {l : Launch} {D : qD} {d0 : Nat} {B : Nat × Nat} {Q : qQ} : qI (w_Mo_bounded_23 l D d0 B Q) (qR l D (d0 + 1, B) m_Mo_bounded 23 Q) := sorry
def w_Mo_bounded_22 (l : Launch) (D : qD) (d0 : Nat) (B : Nat × Nat) (Q : qQ) : qK := (s_lload 0 (w_Mo_bounded_23 l D d0 B Q))
theorem Mo_bounded_22 {l : Launch} {D : qD} {d0 : Nat} {B : Nat × Nat} {Q : qQ} : qI (w_Mo_bounded_22 l D d0 B Q) (qR l D (d0 + 1, B) m_Mo_bounded 22 Q) := sorry
def w_Mo_bounded_10 (l : Launch) (D : qD) (d0 : Nat) (B : Nat × Nat) (Q : qQ) : qK := (s_lload 0 (s_lload 2 (s_lneg (s_lcmp (s_if_ge (w_Mo_bounded_22 l D d0 B Q) (s_lload 2 (s_lneg (w_Mo_bounded_23 l D d0 B Q))))))))
theorem Mo_bounded_10 {l : Launch} {D : qD} {d0 : Nat} {B : Nat × Nat} {Q : qQ} : qI (w_Mo_bounded_10 l D d0 B Q) (qR l D (d0 + 1, B) m_Mo_bounded 10 Q) := sorry
def w_Mo_bounded_0 (l : Launch) (D : qD) (d0 : Nat) (B : Nat × Nat) (Q : qQ) : qK := (s_lload 0 (s_lload 2 (s_lcmp (s_if_le (w_Mo_bounded_10 l D d0 B Q) (s_lload 2 (w_Mo_bounded_23 l D d0 B Q))))))
theorem Mo_bounded_0 {l : Launch} {D : qD} {d0 : Nat} {B : Nat × Nat} {Q : qQ} : qI (w_Mo_bounded_0 l D d0 B Q) (qR l D (d0 + 1, B) m_Mo_bounded 0 Q) := sorry
def f_Mo_bounded (a b : Int) (v : Int → Int → Int) : Int := (if (q_lc a b) ≤ 0 then (if 0 ≤ (q_lc a (w64 (-b))) then a else (w64 (-b))) else b)
set_option maxRecDepth 100000 in
theorem sp_Mo_bounded {l : Launch} {D : qD} {d : Nat} {a b : Int} {h : qh} {Q : qQ} (hq : Q (some (.inr (.inl (f_Mo_bounded a b h.2)))) h) : qM l D (d + 1, 0, 0) m_Mo_bounded [.inr (.inl a), .inr (.inl b)] h Q := sorry
def s_Mo_bounded (d0 : Nat) (K : qK) : qK := fun ls st h => match st with
  | .inr (.inl b) :: .inr (.inl a) :: r => 1 ≤ d0 ∧ q_cs r ≤ 8 ∧ K ls (.inr (.inl (f_Mo_bounded a b h.2)) :: r) h
  | _ => False
set_option maxRecDepth 100000 in
theorem to_Mo_bounded {l : Launch} {D : qD} {d0 : Nat} {K : qK} : qI (s_Mo_bounded d0 K) (s_invS l D (d0, 0, 0) m_Mo_bounded 2 K) := sorry
def w_Mo_px_0 (l : Launch) (D : qD) (d0 : Nat) (B : Nat × Nat) (Q : qQ) : qK := (s_aload 0 (s_getR 18 62 (s_ic (24) (s_aload 0 (s_getI 18 139 (s_imul (s_iload 1 (s_iadd (s_iald (s_iret Q))))))))))
theorem Mo_px_0 {l : Launch} {D : qD} {d0 : Nat} {B : Nat × Nat} {Q : qQ} : qI (w_Mo_px_0 l D d0 B Q) (qR l D (d0 + 1, B) m_Mo_px 0 Q) := sorry
abbrev e_Mo_px (a : Int) (v : Int → Int → Int) : Prop := v 280 62 = 317
def p_Mo_px (a : Int) (v : Int → Int → Int) : Prop := (r32 (24 * (v 280 139)) ∧ r32 ((24 * (v 280 139)) + a) ∧ 0 ≤ ((24 * (v 280 139)) + a) ∧ ((24 * (v 280 139)) + a) < 96)
def f_Mo_px (a : Int) (v : Int → Int → Int) : Int := (v 317 ((24 * (v 280 139)) + a))
set_option maxRecDepth 100000 in
theorem sp_Mo_px {l : Launch} {D : qD} {d : Nat} {a : Int} {h : qh} {Q : qQ} (he : e_Mo_px a h.2) (hp : p_Mo_px a h.2) (hq : Q (some (.inl (f_Mo_px a h.2))) h) : qM l D (d + 1, 0, 0) m_Mo_px [.inr (.inr 280), .inl a] h Q := sorry
def s_Mo_px (d0 : Nat) (K : qK) : qK := fun ls st h => match st with
  | .inl a :: .inr (.inr o) :: r => o = 280 ∧ 1 ≤ d0 ∧ q_cs r ≤ 8 ∧ e_Mo_px a h.2 ∧ p_Mo_px a h.2 ∧ K ls (.inl (f_Mo_px a h.2) :: r) h
  | _ => False
set_option maxRecDepth 100000 in
theorem to_Mo_px {l : Launch} {D : qD} {d0 : Nat} {K : qK} : qI (s_Mo_px d0 K) (s_invV l D (d0, 0, 0) 18 m_Mo_px 1 K) := sorry
def w_Mo_py_0 (l : Launch) (D : qD) (d0 : Nat) (B : Nat × Nat) (Q : qQ) : qK := (s_aload 0 (s_getR 18 63 (s_ic (24) (s_aload 0 (s_getI 18 139 (s_imul (s_iload 1 (s_iadd (s_iald (s_iret Q))))))))))
theorem Mo_py_0 {l : Launch} {D : qD} {d0 : Nat} {B : Nat × Nat} {Q : qQ} : qI (w_Mo_py_0 l D d0 B Q) (qR l D (d0 + 1, B) m_Mo_py 0 Q) := sorry
abbrev e_Mo_py (a : Int) (v : Int → Int → Int) : Prop := v 280 63 = 318
def p_Mo_py (a : Int) (v : Int → Int → Int) : Prop := (r32 (24 * (v 280 139)) ∧ r32 ((24 * (v 280 139)) + a) ∧ 0 ≤ ((24 * (v 280 139)) + a) ∧ ((24 * (v 280 139)) + a) < 96)
def f_Mo_py (a : Int) (v : Int → Int → Int) : Int := (v 318 ((24 * (v 280 139)) + a))
set_option maxRecDepth 100000 in
theorem sp_Mo_py {l : Launch} {D : qD} {d : Nat} {a : Int} {h : qh} {Q : qQ} (he : e_Mo_py a h.2) (hp : p_Mo_py a h.2) (hq : Q (some (.inl (f_Mo_py a h.2))) h) : qM l D (d + 1, 0, 0) m_Mo_py [.inr (.inr 280), .inl a] h Q := sorry
def s_Mo_py (d0 : Nat) (K : qK) : qK := fun ls st h => match st with
  | .inl a :: .inr (.inr o) :: r => o = 280 ∧ 1 ≤ d0 ∧ q_cs r ≤ 8 ∧ e_Mo_py a h.2 ∧ p_Mo_py a h.2 ∧ K ls (.inl (f_Mo_py a h.2) :: r) h
  | _ => False
set_option maxRecDepth 100000 in
theorem to_Mo_py {l : Launch} {D : qD} {d0 : Nat} {K : qK} : qI (s_Mo_py d0 K) (s_invV l D (d0, 0, 0) 18 m_Mo_py 1 K) := sorry
def w_Mo_isInBox_58 (l : Launch) (D : qD) (d0 : Nat) (B : Nat × Nat) (Q : qQ) : qK := (s_zret Q)
theorem Mo_isInBox_58 {l : Launch} {D : qD} {d0 : Nat} {B : Nat × Nat} {Q : qQ} : qI (w_Mo_isInBox_58 l D d0 B Q) (qR l D (d0 + 1, B) m_Mo_isInBox 58 Q) := sorry
def w_Mo_isInBox_57 (l : Launch) (D : qD) (d0 : Nat) (B : Nat × Nat) (Q : qQ) : qK := (s_ic (0) (w_Mo_isInBox_58 l D d0 B Q))
theorem Mo_isInBox_57 {l : Launch} {D : qD} {d0 : Nat} {B : Nat × Nat} {Q : qQ} : qI (w_Mo_isInBox_57 l D d0 B Q) (qR l D (d0 + 1, B) m_Mo_isInBox 57 Q) := sorry
def w_Mo_isInBox_0 (l : Launch) (D : qD) (d0 : Nat) (B : Nat × Nat) (Q : qQ) : qK := (s_aload 0 (s_iload 1 (s_Mo_longOf d0 (s_ic (1) (s_iadd (s_istore 4 (s_iload 2 (s_aload 0 (s_iload 1 (s_Mo_px d0 (s_iload 4 (s_isub (s_aload 0 (s_iload 1 (s_Mo_px d0 (s_iload 4 (s_iadd (s_Mo_in d0 (s_if_eq (w_Mo_isInBox_57 l D d0 B Q) (s_iload 3 (s_aload 0 (s_iload 1 (s_Mo_py d0 (s_ic (1) (s_isub (s_aload 0 (s_iload 1 (s_Mo_py d0 (s_ic (1) (s_iadd (s_Mo_in d0 (s_if_eq (w_Mo_isInBox_57 l D d0 B Q) (s_ic (1) (w_Mo_isInBox_58 l D d0 B Q))))))))))))))))))))))))))))))))))
theorem Mo_isInBox_0 {l : Launch} {D : qD} {d0 : Nat} {B : Nat × Nat} {Q : qQ} : qI (w_Mo_isInBox_0 l D d0 B Q) (qR l D (d0 + 1, B) m_Mo_isInBox 0 Q) := sorry
abbrev e_Mo_isInBox (a b c : Int) (v : Int → Int → Int) : Prop := e_Mo_longOf a v ∧ e_Mo_px a v ∧ e_Mo_py a v
def p_Mo_isInBox (a b c : Int) (v : Int → Int → Int) : Prop := (p_Mo_longOf a v ∧ r32 ((f_Mo_longOf a v) + 1) ∧ p_Mo_px a v ∧ r32 ((f_Mo_px a v) - ((f_Mo_longOf a v) + 1)) ∧ r32 ((f_Mo_px a v) + ((f_Mo_longOf a v) + 1)) ∧ ((f_Mo_in b ((f_Mo_px a v) - ((f_Mo_longOf a v) + 1)) ((f_Mo_px a v) + ((f_Mo_longOf a v) + 1)) v) ≠ 0 → (p_Mo_py a v ∧ r32 ((f_Mo_py a v) - 1) ∧ r32 ((f_Mo_py a v) + 1))))
def f_Mo_isInBox (a b c : Int) (v : Int → Int → Int) : Int := (if (f_Mo_in b ((f_Mo_px a v) - ((f_Mo_longOf a v) + 1)) ((f_Mo_px a v) + ((f_Mo_longOf a v) + 1)) v) = 0 then 0 else (if (f_Mo_in c ((f_Mo_py a v) - 1) ((f_Mo_py a v) + 1) v) = 0 then 0 else 1))
theorem fb_Mo_isInBox (a b c : Int) (v : Int → Int → Int) : f_Mo_isInBox a b c v = 0 ∨ f_Mo_isInBox a b c v = 1 := sorry
set_option maxRecDepth 100000 in
theorem sp_Mo_isInBox {l : Launch} {D : qD} {d : Nat} {a b c : Int} {h : qh} {Q : qQ} (he : e_Mo_isInBox a b c h.2) (hp : p_Mo_isInBox a b c h.2) (hq : Q (some (.inl (f_Mo_isInBox a b c h.2))) h) : qM l D (d + 2, 0, 0) m_Mo_isInBox [.inr (.inr 280), .inl a, .inl b, .inl c] h Q := sorry
def s_Mo_isInBox (d0 : Nat) (K : qK) : qK := fun ls st h => match st with
  | .inl c :: .inl b :: .inl a :: .inr (.inr o) :: r => o = 280 ∧ 2 ≤ d0 ∧ q_cs r ≤ 8 ∧ e_Mo_isInBox a b c h.2 ∧ p_Mo_isInBox a b c h.2 ∧ K ls (.inl (f_Mo_isInBox a b c h.2) :: r) h
  | _ => False
set_option maxRecDepth 100000 in
theorem to_Mo_isInBox {l : Launch} {D : qD} {d0 : Nat} {K : qK} : qI (s_Mo_isInBox d0 K) (s_invV l D (d0, 0, 0) 18 m_Mo_isInBox 3 K) := sorry
def w_Mo_dx_18 (l : Launch) (D : qD) (d0 : Nat) (B : Nat × Nat) (Q : qQ) : qK := (s_iret Q)
theorem Mo_dx_18 {l : Launch} {D : qD} {d0 : Nat} {B : Nat × Nat} {Q : qQ} : qI (w_Mo_dx_18 l D d0 B Q) (qR l D (d0 + 1, B) m_Mo_dx 18 Q) := sorry
def w_Mo_dx_17 (l : Launch) (D : qD) (d0 : Nat) (B : Nat × Nat) (Q : qQ) : qK := (s_ic (0) (w_Mo_dx_18 l D d0 B Q))
theorem Mo_dx_17 {l : Launch} {D : qD} {d0 : Nat} {B : Nat × Nat} {Q : qQ} : qI (w_Mo_dx_17 l D d0 B Q) (qR l D (d0 + 1, B) m_Mo_dx 17 Q) := sorry
def w_Mo_dx_8 (l : Launch) (D : qD) (d0 : Nat) (B : Nat × Nat) (Q : qQ) : qK := (s_iload 0 (s_ic (2) (s_icmp_ne (w_Mo_dx_17 l D d0 B Q) (s_ic (-1) (w_Mo_dx_18 l D d0 B Q)))))
theorem Mo_dx_8 {l : Launch} {D : qD} {d0 : Nat} {B : Nat × Nat} {Q : qQ} : qI (w_Mo_dx_8 l D d0 B Q) (qR l D (d0 + 1, B) m_Mo_dx 8 Q) := sorry
def w_Mo_dx_0 (l : Launch) (D : qD) (d0 : Nat) (B : Nat × Nat) (Q : qQ) : qK := (s_iload 0 (s_if_ne (w_Mo_dx_8 l D d0 B Q) (s_ic (1) (w_Mo_dx_18 l D d0 B Q))))
theorem Mo_dx_0 {l : Launch} {D : qD} {d0 : Nat} {B : Nat × Nat} {Q : qQ} : qI (w_Mo_dx_0 l D d0 B Q) (qR l D (d0 + 1, B) m_Mo_dx 0 Q) := sorry
def f_Mo_dx (a : Int) (v : Int → Int → Int) : Int := (if a ≠ 0 then (if a ≠ 2 then 0 else (-1)) else 1)
set_option maxRecDepth 100000 in
theorem sp_Mo_dx {l : Launch} {D : qD} {d : Nat} {a : Int} {h : qh} {Q : qQ} (hq : Q (some (.inl (f_Mo_dx a h.2))) h) : qM l D (d + 1, 0, 0) m_Mo_dx [.inl a] h Q := sorry
def s_Mo_dx (d0 : Nat) (K : qK) : qK := fun ls st h => match st with
  | .inl a :: r => 1 ≤ d0 ∧ q_cs r ≤ 8 ∧ K ls (.inl (f_Mo_dx a h.2) :: r) h
  | _ => False
set_option maxRecDepth 100000 in
theorem to_Mo_dx {l : Launch} {D : qD} {d0 : Nat} {K : qK} : qI (s_Mo_dx d0 K) (s_invS l D (d0, 0, 0) m_Mo_dx 1 K) := sorry
def w_Mo_dy_19 (l : Launch) (D : qD) (d0 : Nat) (B : Nat × Nat) (Q : qQ) : qK := (s_iret Q)
theorem Mo_dy_19 {l : Launch} {D : qD} {d0 : Nat} {B : Nat × Nat} {Q : qQ} : qI (w_Mo_dy_19 l D d0 B Q) (qR l D (d0 + 1, B) m_Mo_dy 19 Q) := sorry
def w_Mo_dy_18 (l : Launch) (D : qD) (d0 : Nat) (B : Nat × Nat) (Q : qQ) : qK := (s_ic (0) (w_Mo_dy_19 l D d0 B Q))
theorem Mo_dy_18 {l : Launch} {D : qD} {d0 : Nat} {B : Nat × Nat} {Q : qQ} : qI (w_Mo_dy_18 l D d0 B Q) (qR l D (d0 + 1, B) m_Mo_dy 18 Q) := sorry
def w_Mo_dy_9 (l : Launch) (D : qD) (d0 : Nat) (B : Nat × Nat) (Q : qQ) : qK := (s_iload 0 (s_ic (3) (s_icmp_ne (w_Mo_dy_18 l D d0 B Q) (s_ic (-1) (w_Mo_dy_19 l D d0 B Q)))))
theorem Mo_dy_9 {l : Launch} {D : qD} {d0 : Nat} {B : Nat × Nat} {Q : qQ} : qI (w_Mo_dy_9 l D d0 B Q) (qR l D (d0 + 1, B) m_Mo_dy 9 Q) := sorry
def w_Mo_dy_0 (l : Launch) (D : qD) (d0 : Nat) (B : Nat × Nat) (Q : qQ) : qK := (s_iload 0 (s_ic (1) (s_icmp_ne (w_Mo_dy_9 l D d0 B Q) (s_ic (1) (w_Mo_dy_19 l D d0 B Q)))))
theorem Mo_dy_0 {l : Launch} {D : qD} {d0 : Nat} {B : Nat × Nat} {Q : qQ} : qI (w_Mo_dy_0 l D d0 B Q) (qR l D (d0 + 1, B) m_Mo_dy 0 Q) := sorry
def f_Mo_dy (a : Int) (v : Int → Int → Int) : Int := (if a ≠ 1 then (if a ≠ 3 then 0 else (-1)) else 1)
set_option maxRecDepth 100000 in
theorem sp_Mo_dy {l : Launch} {D : qD} {d : Nat} {a : Int} {h : qh} {Q : qQ} (hq : Q (some (.inl (f_Mo_dy a h.2))) h) : qM l D (d + 1, 0, 0) m_Mo_dy [.inl a] h Q := sorry
def s_Mo_dy (d0 : Nat) (K : qK) : qK := fun ls st h => match st with
  | .inl a :: r => 1 ≤ d0 ∧ q_cs r ≤ 8 ∧ K ls (.inl (f_Mo_dy a h.2) :: r) h
  | _ => False
set_option maxRecDepth 100000 in
theorem to_Mo_dy {l : Launch} {D : qD} {d0 : Nat} {K : qK} : qI (s_Mo_dy d0 K) (s_invS l D (d0, 0, 0) m_Mo_dy 1 K) := sorry
def w_Mo_stepTo_83 (l : Launch) (D : qD) (d0 : Nat) (B : Nat × Nat) (Q : qQ) : qK := (s_iret Q)
theorem Mo_stepTo_83 {l : Launch} {D : qD} {d0 : Nat} {B : Nat × Nat} {Q : qQ} : qI (w_Mo_stepTo_83 l D d0 B Q) (qR l D (d0 + 1, B) m_Mo_stepTo 83 Q) := sorry
def w_Mo_stepTo_81 (l : Launch) (D : qD) (d0 : Nat) (B : Nat × Nat) (Q : qQ) : qK := (s_iload 5 (w_Mo_stepTo_83 l D d0 B Q))
theorem Mo_stepTo_81 {l : Launch} {D : qD} {d0 : Nat} {B : Nat × Nat} {Q : qQ} : qI (w_Mo_stepTo_81 l D d0 B Q) (qR l D (d0 + 1, B) m_Mo_stepTo 81 Q) := sorry
def w_Mo_stepTo_56 (l : Launch) (D : qD) (d0 : Nat) (B : Nat × Nat) (Q : qQ) : qK := (s_iload 4 (s_aload 0 (s_getI 18 146 (s_imul (s_iload 3 (s_iadd (s_istore 5 (s_aload 0 (s_getR 18 143 (s_iload 5 (s_bald (s_if_eq (w_Mo_stepTo_81 l D d0 B Q) (s_ic (-1) (w_Mo_stepTo_83 l D d0 B Q))))))))))))))
theorem Mo_stepTo_56 {l : Launch} {D : qD} {d0 : Nat} {B : Nat × Nat} {Q : qQ} : qI (w_Mo_stepTo_56 l D d0 B Q) (qR l D (d0 + 1, B) m_Mo_stepTo 56 Q) := sorry
def w_Mo_stepTo_54 (l : Launch) (D : qD) (d0 : Nat) (B : Nat × Nat) (Q : qQ) : qK := (s_ic (-1) (s_iret Q))
theorem Mo_stepTo_54 {l : Launch} {D : qD} {d0 : Nat} {B : Nat × Nat} {Q : qQ} : qI (w_Mo_stepTo_54 l D d0 B Q) (qR l D (d0 + 1, B) m_Mo_stepTo 54 Q) := sorry
def w_Mo_stepTo_0 (l : Launch) (D : qD) (d0 : Nat) (B : Nat × Nat) (Q : qQ) : qK := (s_iload 1 (s_aload 0 (s_getI 18 146 (s_irem (s_iload 2 (s_Mo_dx d0 (s_iadd (s_istore 3 (s_iload 1 (s_aload 0 (s_getI 18 146 (s_idiv (s_iload 2 (s_Mo_dy d0 (s_iadd (s_istore 4 (s_iload 3 (s_ic (0) (s_aload 0 (s_getI 18 146 (s_ic (1) (s_isub (s_Mo_in d0 (s_if_eq (w_Mo_stepTo_54 l D d0 B Q) (s_iload 4 (s_ic (0) (s_aload 0 (s_getI 18 147 (s_ic (1) (s_isub (s_Mo_in d0 (s_if_ne (w_Mo_stepTo_56 l D d0 B Q) (w_Mo_stepTo_54 l D d0 B Q)))))))))))))))))))))))))))))))))
theorem Mo_stepTo_0 {l : Launch} {D : qD} {d0 : Nat} {B : Nat × Nat} {Q : qQ} : qI (w_Mo_stepTo_0 l D d0 B Q) (qR l D (d0 + 1, B) m_Mo_stepTo 0 Q) := sorry
abbrev e_Mo_stepTo (a b : Int) (v : Int → Int → Int) : Prop := v 280 143 = 384
def p_Mo_stepTo (a b : Int) (v : Int → Int → Int) : Prop := ((v 280 146) ≠ 0 ∧ r32 ((Int.tmod a (v 280 146)) + (f_Mo_dx b v)) ∧ r32 (Int.tdiv a (v 280 146)) ∧ r32 ((Int.tdiv a (v 280 146)) + (f_Mo_dy b v)) ∧ r32 ((v 280 146) - 1) ∧ ((f_Mo_in ((Int.tmod a (v 280 146)) + (f_Mo_dx b v)) 0 ((v 280 146) - 1) v) ≠ 0 → (r32 ((v 280 147) - 1) ∧ ((f_Mo_in ((Int.tdiv a (v 280 146)) + (f_Mo_dy b v)) 0 ((v 280 147) - 1) v) ≠ 0 → (r32 (((Int.tdiv a (v 280 146)) + (f_Mo_dy b v)) * (v 280 146)) ∧ r32 ((((Int.tdiv a (v 280 146)) + (f_Mo_dy b v)) * (v 280 146)) + ((Int.tmod a (v 280 146)) + (f_Mo_dx b v))) ∧ 0 ≤ ((((Int.tdiv a (v 280 146)) + (f_Mo_dy b v)) * (v 280 146)) + ((Int.tmod a (v 280 146)) + (f_Mo_dx b v))) ∧ ((((Int.tdiv a (v 280 146)) + (f_Mo_dy b v)) * (v 280 146)) + ((Int.tmod a (v 280 146)) + (f_Mo_dx b v))) < 6000)))))
def f_Mo_stepTo (a b : Int) (v : Int → Int → Int) : Int := (if (f_Mo_in ((Int.tmod a (v 280 146)) + (f_Mo_dx b v)) 0 ((v 280 146) - 1) v) = 0 then (-1) else (if (f_Mo_in ((Int.tdiv a (v 280 146)) + (f_Mo_dy b v)) 0 ((v 280 147) - 1) v) ≠ 0 then (if (v 384 ((((Int.tdiv a (v 280 146)) + (f_Mo_dy b v)) * (v 280 146)) + ((Int.tmod a (v 280 146)) + (f_Mo_dx b v)))) = 0 then ((((Int.tdiv a (v 280 146)) + (f_Mo_dy b v)) * (v 280 146)) + ((Int.tmod a (v 280 146)) + (f_Mo_dx b v))) else (-1)) else (-1)))
set_option maxRecDepth 100000 in
theorem sp_Mo_stepTo {l : Launch} {D : qD} {d : Nat} {a b : Int} {h : qh} {Q : qQ} (he : e_Mo_stepTo a b h.2) (hp : p_Mo_stepTo a b h.2) (hq : Q (some (.inl (f_Mo_stepTo a b h.2))) h) : qM l D (d + 2, 0, 0) m_Mo_stepTo [.inr (.inr 280), .inl a, .inl b] h Q := sorry
def s_Mo_stepTo (d0 : Nat) (K : qK) : qK := fun ls st h => match st with
  | .inl b :: .inl a :: .inr (.inr o) :: r => o = 280 ∧ 2 ≤ d0 ∧ q_cs r ≤ 8 ∧ e_Mo_stepTo a b h.2 ∧ p_Mo_stepTo a b h.2 ∧ K ls (.inl (f_Mo_stepTo a b h.2) :: r) h
  | _ => False
set_option maxRecDepth 100000 in
theorem to_Mo_stepTo {l : Launch} {D : qD} {d0 : Nat} {K : qK} : qI (s_Mo_stepTo d0 K) (s_invV l D (d0, 0, 0) 18 m_Mo_stepTo 2 K) := sorry
def w_Mo_pointsOf_0 (l : Launch) (D : qD) (d0 : Nat) (B : Nat × Nat) (Q : qQ) : qK := (s_aload 0 (s_getR 18 64 (s_ic (48) (s_aload 0 (s_getI 18 139 (s_imul (s_iload 1 (s_iadd (s_iald (s_ic (2) (s_iadd (s_iret Q))))))))))))
theorem Mo_pointsOf_0 {l : Launch} {D : qD} {d0 : Nat} {B : Nat × Nat} {Q : qQ} : qI (w_Mo_pointsOf_0 l D d0 B Q) (qR l D (d0 + 1, B) m_Mo_pointsOf 0 Q) := sorry
abbrev e_Mo_pointsOf (a : Int) (v : Int → Int → Int) : Prop := v 280 64 = 319
def p_Mo_pointsOf (a : Int) (v : Int → Int → Int) : Prop := (r32 (48 * (v 280 139)) ∧ r32 ((48 * (v 280 139)) + a) ∧ 0 ≤ ((48 * (v 280 139)) + a) ∧ ((48 * (v 280 139)) + a) < 192 ∧ r32 ((v 319 ((48 * (v 280 139)) + a)) + 2))
def f_Mo_pointsOf (a : Int) (v : Int → Int → Int) : Int := ((v 319 ((48 * (v 280 139)) + a)) + 2)
set_option maxRecDepth 100000 in
theorem sp_Mo_pointsOf {l : Launch} {D : qD} {d : Nat} {a : Int} {h : qh} {Q : qQ} (he : e_Mo_pointsOf a h.2) (hp : p_Mo_pointsOf a h.2) (hq : Q (some (.inl (f_Mo_pointsOf a h.2))) h) : qM l D (d + 1, 0, 0) m_Mo_pointsOf [.inr (.inr 280), .inl a] h Q := sorry
def s_Mo_pointsOf (d0 : Nat) (K : qK) : qK := fun ls st h => match st with
  | .inl a :: .inr (.inr o) :: r => o = 280 ∧ 1 ≤ d0 ∧ q_cs r ≤ 8 ∧ e_Mo_pointsOf a h.2 ∧ p_Mo_pointsOf a h.2 ∧ K ls (.inl (f_Mo_pointsOf a h.2) :: r) h
  | _ => False
set_option maxRecDepth 100000 in
theorem to_Mo_pointsOf {l : Launch} {D : qD} {d0 : Nat} {K : qK} : qI (s_Mo_pointsOf d0 K) (s_invV l D (d0, 0, 0) 18 m_Mo_pointsOf 1 K) := sorry
def w_Mo_ex_60 (l : Launch) (D : qD) (d0 : Nat) (B : Nat × Nat) (Q : qQ) : qK := (s_iret Q)
theorem Mo_ex_60 {l : Launch} {D : qD} {d0 : Nat} {B : Nat × Nat} {Q : qQ} : qI (w_Mo_ex_60 l D d0 B Q) (qR l D (d0 + 1, B) m_Mo_ex 60 Q) := sorry
def w_Mo_ex_39 (l : Launch) (D : qD) (d0 : Nat) (B : Nat × Nat) (Q : qQ) : qK := (s_aload 0 (s_getR 18 65 (s_ic (24) (s_ic (48) (s_aload 0 (s_getI 18 139 (s_imul (s_iload 1 (s_iadd (s_imul (s_iload 2 (s_iadd (s_ic (1) (s_isub (s_iald (w_Mo_ex_60 l D d0 B Q))))))))))))))))
theorem Mo_ex_39 {l : Launch} {D : qD} {d0 : Nat} {B : Nat × Nat} {Q : qQ} : qI (w_Mo_ex_39 l D d0 B Q) (qR l D (d0 + 1, B) m_Mo_ex 39 Q) := sorry
def w_Mo_ex_16 (l : Launch) (D : qD) (d0 : Nat) (B : Nat × Nat) (Q : qQ) : qK := (s_iload 2 (s_aload 0 (s_iload 1 (s_Mo_pointsOf d0 (s_ic (1) (s_isub (s_icmp_ne (w_Mo_ex_39 l D d0 B Q) (s_aload 0 (s_aload 0 (s_iload 1 (s_Mo_head d0 (s_Mo_px d0 (w_Mo_ex_60 l D d0 B Q)))))))))))))
theorem Mo_ex_16 {l : Launch} {D : qD} {d0 : Nat} {B : Nat × Nat} {Q : qQ} : qI (w_Mo_ex_16 l D d0 B Q) (qR l D (d0 + 1, B) m_Mo_ex 16 Q) := sorry
def w_Mo_ex_0 (l : Launch) (D : qD) (d0 : Nat) (B : Nat × Nat) (Q : qQ) : qK := (s_iload 2 (s_if_ne (w_Mo_ex_16 l D d0 B Q) (s_aload 0 (s_aload 0 (s_iload 1 (s_Mo_tail d0 (s_Mo_px d0 (w_Mo_ex_60 l D d0 B Q))))))))
theorem Mo_ex_0 {l : Launch} {D : qD} {d0 : Nat} {B : Nat × Nat} {Q : qQ} : qI (w_Mo_ex_0 l D d0 B Q) (qR l D (d0 + 1, B) m_Mo_ex 0 Q) := sorry
abbrev e_Mo_ex (a b : Int) (v : Int → Int → Int) : Prop := e_Mo_pointsOf a v ∧ v 280 65 = 320 ∧ e_Mo_head a v ∧ e_Mo_px (f_Mo_head a v) v ∧ e_Mo_tail a v ∧ e_Mo_px (f_Mo_tail a v) v
def p_Mo_ex (a b : Int) (v : Int → Int → Int) : Prop := ((b ≠ 0 → (p_Mo_pointsOf a v ∧ r32 ((f_Mo_pointsOf a v) - 1) ∧ (b ≠ ((f_Mo_pointsOf a v) - 1) → (r32 (48 * (v 280 139)) ∧ r32 ((48 * (v 280 139)) + a) ∧ r32 (24 * ((48 * (v 280 139)) + a)) ∧ r32 ((24 * ((48 * (v 280 139)) + a)) + b) ∧ r32 (((24 * ((48 * (v 280 139)) + a)) + b) - 1) ∧ 0 ≤ (((24 * ((48 * (v 280 139)) + a)) + b) - 1) ∧ (((24 * ((48 * (v 280 139)) + a)) + b) - 1) < 4608)) ∧ (b = ((f_Mo_pointsOf a v) - 1) → (p_Mo_head a v ∧ p_Mo_px (f_Mo_head a v) v)))) ∧ (b = 0 → (p_Mo_tail a v ∧ p_Mo_px (f_Mo_tail a v) v)))
def f_Mo_ex (a b : Int) (v : Int → Int → Int) : Int := (if b ≠ 0 then (if b ≠ ((f_Mo_pointsOf a v) - 1) then (v 320 (((24 * ((48 * (v 280 139)) + a)) + b) - 1)) else (f_Mo_px (f_Mo_head a v) v)) else (f_Mo_px (f_Mo_tail a v) v))
set_option maxRecDepth 100000 in
theorem sp_Mo_ex {l : Launch} {D : qD} {d : Nat} {a b : Int} {h : qh} {Q : qQ} (he : e_Mo_ex a b h.2) (hp : p_Mo_ex a b h.2) (hq : Q (some (.inl (f_Mo_ex a b h.2))) h) : qM l D (d + 2, 0, 0) m_Mo_ex [.inr (.inr 280), .inl a, .inl b] h Q := sorry
def s_Mo_ex (d0 : Nat) (K : qK) : qK := fun ls st h => match st with
  | .inl b :: .inl a :: .inr (.inr o) :: r => o = 280 ∧ 2 ≤ d0 ∧ q_cs r ≤ 8 ∧ e_Mo_ex a b h.2 ∧ p_Mo_ex a b h.2 ∧ K ls (.inl (f_Mo_ex a b h.2) :: r) h
  | _ => False
set_option maxRecDepth 100000 in
theorem to_Mo_ex {l : Launch} {D : qD} {d0 : Nat} {K : qK} : qI (s_Mo_ex d0 K) (s_invV l D (d0, 0, 0) 18 m_Mo_ex 2 K) := sorry
def w_Mo_ey_60 (l : Launch) (D : qD) (d0 : Nat) (B : Nat × Nat) (Q : qQ) : qK := (s_iret Q)
theorem Mo_ey_60 {l : Launch} {D : qD} {d0 : Nat} {B : Nat × Nat} {Q : qQ} : qI (w_Mo_ey_60 l D d0 B Q) (qR l D (d0 + 1, B) m_Mo_ey 60 Q) := sorry
def w_Mo_ey_39 (l : Launch) (D : qD) (d0 : Nat) (B : Nat × Nat) (Q : qQ) : qK := (s_aload 0 (s_getR 18 66 (s_ic (24) (s_ic (48) (s_aload 0 (s_getI 18 139 (s_imul (s_iload 1 (s_iadd (s_imul (s_iload 2 (s_iadd (s_ic (1) (s_isub (s_iald (w_Mo_ey_60 l D d0 B Q))))))))))))))))
theorem Mo_ey_39 {l : Launch} {D : qD} {d0 : Nat} {B : Nat × Nat} {Q : qQ} : qI (w_Mo_ey_39 l D d0 B Q) (qR l D (d0 + 1, B) m_Mo_ey 39 Q) := sorry
def w_Mo_ey_16 (l : Launch) (D : qD) (d0 : Nat) (B : Nat × Nat) (Q : qQ) : qK := (s_iload 2 (s_aload 0 (s_iload 1 (s_Mo_pointsOf d0 (s_ic (1) (s_isub (s_icmp_ne (w_Mo_ey_39 l D d0 B Q) (s_aload 0 (s_aload 0 (s_iload 1 (s_Mo_head d0 (s_Mo_py d0 (w_Mo_ey_60 l D d0 B Q)))))))))))))
theorem Mo_ey_16 {l : Launch} {D : qD} {d0 : Nat} {B : Nat × Nat} {Q : qQ} : qI (w_Mo_ey_16 l D d0 B Q) (qR l D (d0 + 1, B) m_Mo_ey 16 Q) := sorry
def w_Mo_ey_0 (l : Launch) (D : qD) (d0 : Nat) (B : Nat × Nat) (Q : qQ) : qK := (s_iload 2 (s_if_ne (w_Mo_ey_16 l D d0 B Q) (s_aload 0 (s_aload 0 (s_iload 1 (s_Mo_tail d0 (s_Mo_py d0 (w_Mo_ey_60 l D d0 B Q))))))))
theorem Mo_ey_0 {l : Launch} {D : qD} {d0 : Nat} {B : Nat × Nat} {Q : qQ} : qI (w_Mo_ey_0 l D d0 B Q) (qR l D (d0 + 1, B) m_Mo_ey 0 Q) := sorry
abbrev e_Mo_ey (a b : Int) (v : Int → Int → Int) : Prop := e_Mo_pointsOf a v ∧ v 280 66 = 321 ∧ e_Mo_head a v ∧ e_Mo_py (f_Mo_head a v) v ∧ e_Mo_tail a v ∧ e_Mo_py (f_Mo_tail a v) v
def p_Mo_ey (a b : Int) (v : Int → Int → Int) : Prop := ((b ≠ 0 → (p_Mo_pointsOf a v ∧ r32 ((f_Mo_pointsOf a v) - 1) ∧ (b ≠ ((f_Mo_pointsOf a v) - 1) → (r32 (48 * (v 280 139)) ∧ r32 ((48 * (v 280 139)) + a) ∧ r32 (24 * ((48 * (v 280 139)) + a)) ∧ r32 ((24 * ((48 * (v 280 139)) + a)) + b) ∧ r32 (((24 * ((48 * (v 280 139)) + a)) + b) - 1) ∧ 0 ≤ (((24 * ((48 * (v 280 139)) + a)) + b) - 1) ∧ (((24 * ((48 * (v 280 139)) + a)) + b) - 1) < 4608)) ∧ (b = ((f_Mo_pointsOf a v) - 1) → (p_Mo_head a v ∧ p_Mo_py (f_Mo_head a v) v)))) ∧ (b = 0 → (p_Mo_tail a v ∧ p_Mo_py (f_Mo_tail a v) v)))
def f_Mo_ey (a b : Int) (v : Int → Int → Int) : Int := (if b ≠ 0 then (if b ≠ ((f_Mo_pointsOf a v) - 1) then (v 321 (((24 * ((48 * (v 280 139)) + a)) + b) - 1)) else (f_Mo_py (f_Mo_head a v) v)) else (f_Mo_py (f_Mo_tail a v) v))
set_option maxRecDepth 100000 in
theorem sp_Mo_ey {l : Launch} {D : qD} {d : Nat} {a b : Int} {h : qh} {Q : qQ} (he : e_Mo_ey a b h.2) (hp : p_Mo_ey a b h.2) (hq : Q (some (.inl (f_Mo_ey a b h.2))) h) : qM l D (d + 2, 0, 0) m_Mo_ey [.inr (.inr 280), .inl a, .inl b] h Q := sorry
def s_Mo_ey (d0 : Nat) (K : qK) : qK := fun ls st h => match st with
  | .inl b :: .inl a :: .inr (.inr o) :: r => o = 280 ∧ 2 ≤ d0 ∧ q_cs r ≤ 8 ∧ e_Mo_ey a b h.2 ∧ p_Mo_ey a b h.2 ∧ K ls (.inl (f_Mo_ey a b h.2) :: r) h
  | _ => False
set_option maxRecDepth 100000 in
theorem to_Mo_ey {l : Launch} {D : qD} {d0 : Nat} {K : qK} : qI (s_Mo_ey d0 K) (s_invV l D (d0, 0, 0) 18 m_Mo_ey 2 K) := sorry
def w_Mo_turnOf_0 (l : Launch) (D : qD) (d0 : Nat) (B : Nat × Nat) (Q : qQ) : qK := (s_lload 4 (s_lload 0 (s_lsub (s_lload 10 (s_lload 2 (s_lsub (s_lmul (s_lload 6 (s_lload 2 (s_lsub (s_lload 8 (s_lload 0 (s_lsub (s_lmul (s_lsub (s_lret Q))))))))))))))))
theorem Mo_turnOf_0 {l : Launch} {D : qD} {d0 : Nat} {B : Nat × Nat} {Q : qQ} : qI (w_Mo_turnOf_0 l D d0 B Q) (qR l D (d0 + 1, B) m_Mo_turnOf 0 Q) := sorry
def f_Mo_turnOf (a b c e i j : Int) (v : Int → Int → Int) : Int := (w64 ((w64 ((w64 (c - a)) * (w64 (j - b)))) - (w64 ((w64 (e - b)) * (w64 (i - a))))))
set_option maxRecDepth 100000 in
theorem sp_Mo_turnOf {l : Launch} {D : qD} {d : Nat} {a b c e i j : Int} {h : qh} {Q : qQ} (hq : Q (some (.inr (.inl (f_Mo_turnOf a b c e i j h.2)))) h) : qM l D (d + 1, 0, 0) m_Mo_turnOf [.inr (.inl a), .inr (.inl b), .inr (.inl c), .inr (.inl e), .inr (.inl i), .inr (.inl j)] h Q := sorry
def s_Mo_turnOf (d0 : Nat) (K : qK) : qK := fun ls st h => match st with
  | .inr (.inl j) :: .inr (.inl i) :: .inr (.inl e) :: .inr (.inl c) :: .inr (.inl b) :: .inr (.inl a) :: r => 1 ≤ d0 ∧ q_cs r ≤ 8 ∧ K ls (.inr (.inl (f_Mo_turnOf a b c e i j h.2)) :: r) h
  | _ => False
set_option maxRecDepth 100000 in
theorem to_Mo_turnOf {l : Launch} {D : qD} {d0 : Nat} {K : qK} : qI (s_Mo_turnOf d0 K) (s_invS l D (d0, 0, 0) m_Mo_turnOf 6 K) := sorry
def w_Mo_signOf_21 (l : Launch) (D : qD) (d0 : Nat) (B : Nat × Nat) (Q : qQ) : qK := (s_iret Q)
theorem Mo_signOf_21 {l : Launch} {D : qD} {d0 : Nat} {B : Nat × Nat} {Q : qQ} : qI (w_Mo_signOf_21 l D d0 B Q) (qR l D (d0 + 1, B) m_Mo_signOf 21 Q) := sorry
def w_Mo_signOf_20 (l : Launch) (D : qD) (d0 : Nat) (B : Nat × Nat) (Q : qQ) : qK := (s_ic (0) (w_Mo_signOf_21 l D d0 B Q))
theorem Mo_signOf_20 {l : Launch} {D : qD} {d0 : Nat} {B : Nat × Nat} {Q : qQ} : qI (w_Mo_signOf_20 l D d0 B Q) (qR l D (d0 + 1, B) m_Mo_signOf 20 Q) := sorry
def w_Mo_signOf_10 (l : Launch) (D : qD) (d0 : Nat) (B : Nat × Nat) (Q : qQ) : qK := (s_lload 0 (s_lc 0 (s_lcmp (s_if_ge (w_Mo_signOf_20 l D d0 B Q) (s_ic (-1) (w_Mo_signOf_21 l D d0 B Q))))))
theorem Mo_signOf_10 {l : Launch} {D : qD} {d0 : Nat} {B : Nat × Nat} {Q : qQ} : qI (w_Mo_signOf_10 l D d0 B Q) (qR l D (d0 + 1, B) m_Mo_signOf 10 Q) := sorry
def w_Mo_signOf_0 (l : Launch) (D : qD) (d0 : Nat) (B : Nat × Nat) (Q : qQ) : qK := (s_lload 0 (s_lc 0 (s_lcmp (s_if_le (w_Mo_signOf_10 l D d0 B Q) (s_ic (1) (w_Mo_signOf_21 l D d0 B Q))))))
theorem Mo_signOf_0 {l : Launch} {D : qD} {d0 : Nat} {B : Nat × Nat} {Q : qQ} : qI (w_Mo_signOf_0 l D d0 B Q) (qR l D (d0 + 1, B) m_Mo_signOf 0 Q) := sorry
def f_Mo_signOf (a : Int) (v : Int → Int → Int) : Int := (if (q_lc a 0) ≤ 0 then (if 0 ≤ (q_lc a 0) then 0 else (-1)) else 1)
set_option maxRecDepth 100000 in
theorem sp_Mo_signOf {l : Launch} {D : qD} {d : Nat} {a : Int} {h : qh} {Q : qQ} (hq : Q (some (.inl (f_Mo_signOf a h.2))) h) : qM l D (d + 1, 0, 0) m_Mo_signOf [.inr (.inl a)] h Q := sorry
def s_Mo_signOf (d0 : Nat) (K : qK) : qK := fun ls st h => match st with
  | .inr (.inl a) :: r => 1 ≤ d0 ∧ q_cs r ≤ 8 ∧ K ls (.inl (f_Mo_signOf a h.2) :: r) h
  | _ => False
set_option maxRecDepth 100000 in
theorem to_Mo_signOf {l : Launch} {D : qD} {d0 : Nat} {K : qK} : qI (s_Mo_signOf d0 K) (s_invS l D (d0, 0, 0) m_Mo_signOf 1 K) := sorry
def w_Mo_styleSign_40 (l : Launch) (D : qD) (d0 : Nat) (B : Nat × Nat) (Q : qQ) : qK := (s_zret Q)
theorem Mo_styleSign_40 {l : Launch} {D : qD} {d0 : Nat} {B : Nat × Nat} {Q : qQ} : qI (w_Mo_styleSign_40 l D d0 B Q) (qR l D (d0 + 1, B) m_Mo_styleSign 40 Q) := sorry
def w_Mo_styleSign_39 (l : Launch) (D : qD) (d0 : Nat) (B : Nat × Nat) (Q : qQ) : qK := (s_ic (0) (w_Mo_styleSign_40 l D d0 B Q))
theorem Mo_styleSign_39 {l : Launch} {D : qD} {d0 : Nat} {B : Nat × Nat} {Q : qQ} : qI (w_Mo_styleSign_39 l D d0 B Q) (qR l D (d0 + 1, B) m_Mo_styleSign 39 Q) := sorry
def w_Mo_styleSign_0 (l : Launch) (D : qD) (d0 : Nat) (B : Nat × Nat) (Q : qQ) : qK := (s_aload 0 (s_getI 18 8 (s_if_ne (w_Mo_styleSign_39 l D d0 B Q) (s_aload 0 (s_getR 18 160 (s_aload 0 (s_getI 18 158 (s_iald (s_ic (3) (s_icmp_ne (w_Mo_styleSign_39 l D d0 B Q) (s_aload 0 (s_getR 18 161 (s_aload 0 (s_getI 18 158 (s_lald (s_iload 1 (s_i2l (s_lcmp (s_if_ne (w_Mo_styleSign_39 l D d0 B Q) (s_ic (1) (w_Mo_styleSign_40 l D d0 B Q)))))))))))))))))))))
theorem Mo_styleSign_0 {l : Launch} {D : qD} {d0 : Nat} {B : Nat × Nat} {Q : qQ} : qI (w_Mo_styleSign_0 l D d0 B Q) (qR l D (d0 + 1, B) m_Mo_styleSign 0 Q) := sorry
abbrev e_Mo_styleSign (a : Int) (v : Int → Int → Int) : Prop := v 280 160 = 389 ∧ v 280 161 = 390
def p_Mo_styleSign (a : Int) (v : Int → Int → Int) : Prop := ((v 280 8) = 0 → (0 ≤ (v 280 158) ∧ (v 280 158) < 2010 ∧ ((v 389 (v 280 158)) = 3 → (0 ≤ (v 280 158) ∧ (v 280 158) < 2010))))
def f_Mo_styleSign (a : Int) (v : Int → Int → Int) : Int := (if (v 280 8) ≠ 0 then 0 else (if (v 389 (v 280 158)) ≠ 3 then 0 else (if (q_lc (v 390 (v 280 158)) a) ≠ 0 then 0 else 1)))
theorem fb_Mo_styleSign (a : Int) (v : Int → Int → Int) : f_Mo_styleSign a v = 0 ∨ f_Mo_styleSign a v = 1 := sorry
set_option maxRecDepth 100000 in
theorem sp_Mo_styleSign {l : Launch} {D : qD} {d : Nat} {a : Int} {h : qh} {Q : qQ} (he : e_Mo_styleSign a h.2) (hp : p_Mo_styleSign a h.2) (hq : Q (some (.inl (f_Mo_styleSign a h.2))) h) : qM l D (d + 1, 0, 0) m_Mo_styleSign [.inr (.inr 280), .inl a] h Q := sorry
def s_Mo_styleSign (d0 : Nat) (K : qK) : qK := fun ls st h => match st with
  | .inl a :: .inr (.inr o) :: r => o = 280 ∧ 1 ≤ d0 ∧ q_cs r ≤ 8 ∧ e_Mo_styleSign a h.2 ∧ p_Mo_styleSign a h.2 ∧ K ls (.inl (f_Mo_styleSign a h.2) :: r) h
  | _ => False
set_option maxRecDepth 100000 in
theorem to_Mo_styleSign {l : Launch} {D : qD} {d0 : Nat} {K : qK} : qI (s_Mo_styleSign d0 K) (s_invV l D (d0, 0, 0) 18 m_Mo_styleSign 1 K) := sorry
def w_Mo_fault_46 (l : Launch) (D : qD) (d0 : Nat) (B : Nat × Nat) (Q : qQ) : qK := (s_iret Q)
theorem Mo_fault_46 {l : Launch} {D : qD} {d0 : Nat} {B : Nat × Nat} {Q : qQ} : qI (w_Mo_fault_46 l D d0 B Q) (qR l D (d0 + 1, B) m_Mo_fault 46 Q) := sorry
def w_Mo_fault_42 (l : Launch) (D : qD) (d0 : Nat) (B : Nat × Nat) (Q : qQ) : qK := (s_aload 0 (s_getI 18 9 (w_Mo_fault_46 l D d0 B Q)))
theorem Mo_fault_42 {l : Launch} {D : qD} {d0 : Nat} {B : Nat × Nat} {Q : qQ} : qI (w_Mo_fault_42 l D d0 B Q) (qR l D (d0 + 1, B) m_Mo_fault 42 Q) := sorry
def w_Mo_fault_31 (l : Launch) (D : qD) (d0 : Nat) (B : Nat × Nat) (Q : qQ) : qK := (s_aload 0 (s_getI 18 8 (s_if_ne (w_Mo_fault_42 l D d0 B Q) (s_ic (-1) (w_Mo_fault_46 l D d0 B Q)))))
theorem Mo_fault_31 {l : Launch} {D : qD} {d0 : Nat} {B : Nat × Nat} {Q : qQ} : qI (w_Mo_fault_31 l D d0 B Q) (qR l D (d0 + 1, B) m_Mo_fault 31 Q) := sorry
def w_Mo_fault_20 (l : Launch) (D : qD) (d0 : Nat) (B : Nat × Nat) (Q : qQ) : qK := (s_iload 1 (s_if_ne (w_Mo_fault_31 l D d0 B Q) (s_aload 0 (s_getI 18 8 (w_Mo_fault_46 l D d0 B Q)))))
theorem Mo_fault_20 {l : Launch} {D : qD} {d0 : Nat} {B : Nat × Nat} {Q : qQ} : qI (w_Mo_fault_20 l D d0 B Q) (qR l D (d0 + 1, B) m_Mo_fault 20 Q) := sorry
def w_Mo_fault_16 (l : Launch) (D : qD) (d0 : Nat) (B : Nat × Nat) (Q : qQ) : qK := (s_ic (-1) (w_Mo_fault_46 l D d0 B Q))
theorem Mo_fault_16 {l : Launch} {D : qD} {d0 : Nat} {B : Nat × Nat} {Q : qQ} : qI (w_Mo_fault_16 l D d0 B Q) (qR l D (d0 + 1, B) m_Mo_fault 16 Q) := sorry
def w_Mo_fault_0 (l : Launch) (D : qD) (d0 : Nat) (B : Nat × Nat) (Q : qQ) : qK := (s_aload 0 (s_getI 18 7 (s_if_eq (w_Mo_fault_16 l D d0 B Q) (s_iload 1 (s_ic (0) (s_ic (1) (s_Mo_in d0 (s_if_ne (w_Mo_fault_20 l D d0 B Q) (w_Mo_fault_16 l D d0 B Q)))))))))
theorem Mo_fault_0 {l : Launch} {D : qD} {d0 : Nat} {B : Nat × Nat} {Q : qQ} : qI (w_Mo_fault_0 l D d0 B Q) (qR l D (d0 + 1, B) m_Mo_fault 0 Q) := sorry
def f_Mo_fault (a : Int) (v : Int → Int → Int) : Int := (if (v 280 7) = 0 then (-1) else (if (f_Mo_in a 0 1 v) ≠ 0 then (if a ≠ 0 then (if (v 280 8) ≠ 0 then (v 280 9) else (-1)) else (v 280 8)) else (-1)))
set_option maxRecDepth 100000 in
theorem sp_Mo_fault {l : Launch} {D : qD} {d : Nat} {a : Int} {h : qh} {Q : qQ} (hq : Q (some (.inl (f_Mo_fault a h.2))) h) : qM l D (d + 2, 0, 0) m_Mo_fault [.inr (.inr 280), .inl a] h Q := sorry
def s_Mo_fault (d0 : Nat) (K : qK) : qK := fun ls st h => match st with
  | .inl a :: .inr (.inr o) :: r => o = 280 ∧ 2 ≤ d0 ∧ q_cs r ≤ 8 ∧ K ls (.inl (f_Mo_fault a h.2) :: r) h
  | _ => False
set_option maxRecDepth 100000 in
theorem to_Mo_fault {l : Launch} {D : qD} {d0 : Nat} {K : qK} : qI (s_Mo_fault d0 K) (s_invV l D (d0, 0, 0) 18 m_Mo_fault 1 K) := sorry
def w_Mo_map_52 (l : Launch) (D : qD) (d0 : Nat) (B : Nat × Nat) (Q : qQ) : qK := (s_iret Q)
theorem Mo_map_52 {l : Launch} {D : qD} {d0 : Nat} {B : Nat × Nat} {Q : qQ} : qI (w_Mo_map_52 l D d0 B Q) (qR l D (d0 + 1, B) m_Mo_map 52 Q) := sorry
def w_Mo_map_51 (l : Launch) (D : qD) (d0 : Nat) (B : Nat × Nat) (Q : qQ) : qK := (s_ic (-1) (w_Mo_map_52 l D d0 B Q))
theorem Mo_map_51 {l : Launch} {D : qD} {d0 : Nat} {B : Nat × Nat} {Q : qQ} : qI (w_Mo_map_51 l D d0 B Q) (qR l D (d0 + 1, B) m_Mo_map 51 Q) := sorry
def w_Mo_map_21 (l : Launch) (D : qD) (d0 : Nat) (B : Nat × Nat) (Q : qQ) : qK := (s_aload 0 (s_getI 18 25 (s_if_eq (w_Mo_map_51 l D d0 B Q) (s_iload 1 (s_ic (0) (s_aload 0 (s_getI 18 26 (s_ic (1) (s_isub (s_Mo_in d0 (s_if_eq (w_Mo_map_51 l D d0 B Q) (s_aload 0 (s_getR 18 23 (s_iload 1 (s_iald (w_Mo_map_52 l D d0 B Q))))))))))))))))
theorem Mo_map_21 {l : Launch} {D : qD} {d0 : Nat} {B : Nat × Nat} {Q : qQ} : qI (w_Mo_map_21 l D d0 B Q) (qR l D (d0 + 1, B) m_Mo_map 21 Q) := sorry
def w_Mo_map_20 (l : Launch) (D : qD) (d0 : Nat) (B : Nat × Nat) (Q : qQ) : qK := (s_iret Q)
theorem Mo_map_20 {l : Launch} {D : qD} {d0 : Nat} {B : Nat × Nat} {Q : qQ} : qI (w_Mo_map_20 l D d0 B Q) (qR l D (d0 + 1, B) m_Mo_map 20 Q) := sorry
def w_Mo_map_19 (l : Launch) (D : qD) (d0 : Nat) (B : Nat × Nat) (Q : qQ) : qK := (s_ic (-1) (w_Mo_map_20 l D d0 B Q))
theorem Mo_map_19 {l : Launch} {D : qD} {d0 : Nat} {B : Nat × Nat} {Q : qQ} : qI (w_Mo_map_19 l D d0 B Q) (qR l D (d0 + 1, B) m_Mo_map 19 Q) := sorry
def w_Mo_map_0 (l : Launch) (D : qD) (d0 : Nat) (B : Nat × Nat) (Q : qQ) : qK := (s_iload 1 (s_ic (-1) (s_icmp_ne (w_Mo_map_21 l D d0 B Q) (s_aload 0 (s_getI 18 30 (s_if_eq (w_Mo_map_19 l D d0 B Q) (s_aload 0 (s_getI 18 27 (w_Mo_map_20 l D d0 B Q)))))))))
theorem Mo_map_0 {l : Launch} {D : qD} {d0 : Nat} {B : Nat × Nat} {Q : qQ} : qI (w_Mo_map_0 l D d0 B Q) (qR l D (d0 + 1, B) m_Mo_map 0 Q) := sorry
abbrev e_Mo_map (a : Int) (v : Int → Int → Int) : Prop := v 280 23 = 293
def p_Mo_map (a : Int) (v : Int → Int → Int) : Prop := (a ≠ (-1) → ((v 280 25) ≠ 0 → (r32 ((v 280 26) - 1) ∧ ((f_Mo_in a 0 ((v 280 26) - 1) v) ≠ 0 → (0 ≤ a ∧ a < 24)))))
def f_Mo_map (a : Int) (v : Int → Int → Int) : Int := (if a ≠ (-1) then (if (v 280 25) = 0 then (-1) else (if (f_Mo_in a 0 ((v 280 26) - 1) v) = 0 then (-1) else (v 293 a))) else (if (v 280 30) = 0 then (-1) else (v 280 27)))
set_option maxRecDepth 100000 in
theorem sp_Mo_map {l : Launch} {D : qD} {d : Nat} {a : Int} {h : qh} {Q : qQ} (he : e_Mo_map a h.2) (hp : p_Mo_map a h.2) (hq : Q (some (.inl (f_Mo_map a h.2))) h) : qM l D (d + 2, 0, 0) m_Mo_map [.inr (.inr 280), .inl a] h Q := sorry
def s_Mo_map (d0 : Nat) (K : qK) : qK := fun ls st h => match st with
  | .inl a :: .inr (.inr o) :: r => o = 280 ∧ 2 ≤ d0 ∧ q_cs r ≤ 8 ∧ e_Mo_map a h.2 ∧ p_Mo_map a h.2 ∧ K ls (.inl (f_Mo_map a h.2) :: r) h
  | _ => False
set_option maxRecDepth 100000 in
theorem to_Mo_map {l : Launch} {D : qD} {d0 : Nat} {K : qK} : qI (s_Mo_map d0 K) (s_invV l D (d0, 0, 0) 18 m_Mo_map 1 K) := sorry
def w_Mo_octet_24 (l : Launch) (D : qD) (d0 : Nat) (B : Nat × Nat) (Q : qQ) : qK := (s_iret Q)
theorem Mo_octet_24 {l : Launch} {D : qD} {d0 : Nat} {B : Nat × Nat} {Q : qQ} : qI (w_Mo_octet_24 l D d0 B Q) (qR l D (d0 + 1, B) m_Mo_octet 24 Q) := sorry
def w_Mo_octet_23 (l : Launch) (D : qD) (d0 : Nat) (B : Nat × Nat) (Q : qQ) : qK := (s_ic (-1) (w_Mo_octet_24 l D d0 B Q))
theorem Mo_octet_23 {l : Launch} {D : qD} {d0 : Nat} {B : Nat × Nat} {Q : qQ} : qI (w_Mo_octet_23 l D d0 B Q) (qR l D (d0 + 1, B) m_Mo_octet 23 Q) := sorry
def w_Mo_octet_0 (l : Launch) (D : qD) (d0 : Nat) (B : Nat × Nat) (Q : qQ) : qK := (s_iload 1 (s_ic (0) (s_aload 0 (s_getI 18 169 (s_ic (1) (s_isub (s_Mo_in d0 (s_if_eq (w_Mo_octet_23 l D d0 B Q) (s_aload 0 (s_getR 18 171 (s_iload 1 (s_bald (w_Mo_octet_24 l D d0 B Q)))))))))))))
theorem Mo_octet_0 {l : Launch} {D : qD} {d0 : Nat} {B : Nat × Nat} {Q : qQ} : qI (w_Mo_octet_0 l D d0 B Q) (qR l D (d0 + 1, B) m_Mo_octet 0 Q) := sorry
abbrev e_Mo_octet (a : Int) (v : Int → Int → Int) : Prop := v 280 171 = 396
def p_Mo_octet (a : Int) (v : Int → Int → Int) : Prop := (r32 ((v 280 169) - 1) ∧ ((f_Mo_in a 0 ((v 280 169) - 1) v) ≠ 0 → (0 ≤ a ∧ a < 4000)))
def f_Mo_octet (a : Int) (v : Int → Int → Int) : Int := (if (f_Mo_in a 0 ((v 280 169) - 1) v) = 0 then (-1) else (v 396 a))
set_option maxRecDepth 100000 in
theorem sp_Mo_octet {l : Launch} {D : qD} {d : Nat} {a : Int} {h : qh} {Q : qQ} (he : e_Mo_octet a h.2) (hp : p_Mo_octet a h.2) (hq : Q (some (.inl (f_Mo_octet a h.2))) h) : qM l D (d + 2, 0, 0) m_Mo_octet [.inr (.inr 280), .inl a] h Q := sorry
def s_Mo_octet (d0 : Nat) (K : qK) : qK := fun ls st h => match st with
  | .inl a :: .inr (.inr o) :: r => o = 280 ∧ 2 ≤ d0 ∧ q_cs r ≤ 8 ∧ e_Mo_octet a h.2 ∧ p_Mo_octet a h.2 ∧ K ls (.inl (f_Mo_octet a h.2) :: r) h
  | _ => False
set_option maxRecDepth 100000 in
theorem to_Mo_octet {l : Launch} {D : qD} {d0 : Nat} {K : qK} : qI (s_Mo_octet d0 K) (s_invV l D (d0, 0, 0) 18 m_Mo_octet 1 K) := sorry
def w_Mo_dot_43 (l : Launch) (D : qD) (d0 : Nat) (B : Nat × Nat) (Q : qQ) : qK := (s_iret Q)
theorem Mo_dot_43 {l : Launch} {D : qD} {d0 : Nat} {B : Nat × Nat} {Q : qQ} : qI (w_Mo_dot_43 l D d0 B Q) (qR l D (d0 + 1, B) m_Mo_dot 43 Q) := sorry
def w_Mo_dot_42 (l : Launch) (D : qD) (d0 : Nat) (B : Nat × Nat) (Q : qQ) : qK := (s_ic (-1) (w_Mo_dot_43 l D d0 B Q))
theorem Mo_dot_42 {l : Launch} {D : qD} {d0 : Nat} {B : Nat × Nat} {Q : qQ} : qI (w_Mo_dot_42 l D d0 B Q) (qR l D (d0 + 1, B) m_Mo_dot 42 Q) := sorry
def w_Mo_dot_0 (l : Launch) (D : qD) (d0 : Nat) (B : Nat × Nat) (Q : qQ) : qK := (s_iload 1 (s_ic (0) (s_aload 0 (s_getI 18 173 (s_ic (1) (s_isub (s_Mo_in d0 (s_if_eq (w_Mo_dot_42 l D d0 B Q) (s_iload 2 (s_ic (0) (s_aload 0 (s_getI 18 174 (s_ic (1) (s_isub (s_Mo_in d0 (s_if_eq (w_Mo_dot_42 l D d0 B Q) (s_aload 0 (s_getR 18 175 (s_ic (64) (s_iload 2 (s_imul (s_iload 1 (s_iadd (s_iald (w_Mo_dot_43 l D d0 B Q)))))))))))))))))))))))))
theorem Mo_dot_0 {l : Launch} {D : qD} {d0 : Nat} {B : Nat × Nat} {Q : qQ} : qI (w_Mo_dot_0 l D d0 B Q) (qR l D (d0 + 1, B) m_Mo_dot 0 Q) := sorry
abbrev e_Mo_dot (a b : Int) (v : Int → Int → Int) : Prop := v 280 175 = 398
def p_Mo_dot (a b : Int) (v : Int → Int → Int) : Prop := (r32 ((v 280 173) - 1) ∧ ((f_Mo_in a 0 ((v 280 173) - 1) v) ≠ 0 → (r32 ((v 280 174) - 1) ∧ ((f_Mo_in b 0 ((v 280 174) - 1) v) ≠ 0 → (r32 (64 * b) ∧ r32 ((64 * b) + a) ∧ 0 ≤ ((64 * b) + a) ∧ ((64 * b) + a) < 4096)))))
def f_Mo_dot (a b : Int) (v : Int → Int → Int) : Int := (if (f_Mo_in a 0 ((v 280 173) - 1) v) = 0 then (-1) else (if (f_Mo_in b 0 ((v 280 174) - 1) v) = 0 then (-1) else (v 398 ((64 * b) + a))))
set_option maxRecDepth 100000 in
theorem sp_Mo_dot {l : Launch} {D : qD} {d : Nat} {a b : Int} {h : qh} {Q : qQ} (he : e_Mo_dot a b h.2) (hp : p_Mo_dot a b h.2) (hq : Q (some (.inl (f_Mo_dot a b h.2))) h) : qM l D (d + 2, 0, 0) m_Mo_dot [.inr (.inr 280), .inl a, .inl b] h Q := sorry
def s_Mo_dot (d0 : Nat) (K : qK) : qK := fun ls st h => match st with
  | .inl b :: .inl a :: .inr (.inr o) :: r => o = 280 ∧ 2 ≤ d0 ∧ q_cs r ≤ 8 ∧ e_Mo_dot a b h.2 ∧ p_Mo_dot a b h.2 ∧ K ls (.inl (f_Mo_dot a b h.2) :: r) h
  | _ => False
set_option maxRecDepth 100000 in
theorem to_Mo_dot {l : Launch} {D : qD} {d0 : Nat} {K : qK} : qI (s_Mo_dot d0 K) (s_invV l D (d0, 0, 0) 18 m_Mo_dot 2 K) := sorry
def w_Gr_isNode_17 (l : Launch) (D : qD) (d0 : Nat) (B : Nat × Nat) (Q : qQ) : qK := (s_zret Q)
theorem Gr_isNode_17 {l : Launch} {D : qD} {d0 : Nat} {B : Nat × Nat} {Q : qQ} : qI (w_Gr_isNode_17 l D d0 B Q) (qR l D (d0 + 1, B) m_Gr_isNode 17 Q) := sorry
def w_Gr_isNode_16 (l : Launch) (D : qD) (d0 : Nat) (B : Nat × Nat) (Q : qQ) : qK := (s_ic (0) (w_Gr_isNode_17 l D d0 B Q))
theorem Gr_isNode_16 {l : Launch} {D : qD} {d0 : Nat} {B : Nat × Nat} {Q : qQ} : qI (w_Gr_isNode_16 l D d0 B Q) (qR l D (d0 + 1, B) m_Gr_isNode 16 Q) := sorry
def w_Gr_isNode_0 (l : Launch) (D : qD) (d0 : Nat) (B : Nat × Nat) (Q : qQ) : qK := (s_iload 1 (s_if_lt (w_Gr_isNode_16 l D d0 B Q) (s_iload 1 (s_aload 0 (s_getI 3 0 (s_icmp_ge (w_Gr_isNode_16 l D d0 B Q) (s_ic (1) (w_Gr_isNode_17 l D d0 B Q))))))))
theorem Gr_isNode_0 {l : Launch} {D : qD} {d0 : Nat} {B : Nat × Nat} {Q : qQ} : qI (w_Gr_isNode_0 l D d0 B Q) (qR l D (d0 + 1, B) m_Gr_isNode 0 Q) := sorry
abbrev e_Gr_isNode (o a : Int) (v : Int → Int → Int) : Prop := 0 ≤ o ∧ q_shp o = (3, 0)
def f_Gr_isNode (o a : Int) (v : Int → Int → Int) : Int := (if a < 0 then 0 else (if (v o 0) ≤ a then 0 else 1))
theorem fb_Gr_isNode (o a : Int) (v : Int → Int → Int) : f_Gr_isNode o a v = 0 ∨ f_Gr_isNode o a v = 1 := sorry
set_option maxRecDepth 100000 in
theorem sp_Gr_isNode {l : Launch} {D : qD} {d : Nat} {o a : Int} {h : qh} {Q : qQ} (he : e_Gr_isNode o a h.2) (hq : Q (some (.inl (f_Gr_isNode o a h.2))) h) : qM l D (d + 1, 0, 0) m_Gr_isNode [.inr (.inr o), .inl a] h Q := sorry
def s_Gr_isNode (d0 : Nat) (K : qK) : qK := fun ls st h => match st with
  | .inl a :: .inr (.inr o) :: r => 1 ≤ d0 ∧ q_cs r ≤ 8 ∧ 0 ≤ o ∧ (q_shp o).1 = 3 ∧ e_Gr_isNode o a h.2 ∧ K ls (.inl (f_Gr_isNode o a h.2) :: r) h
  | _ => False
set_option maxRecDepth 100000 in
theorem to_Gr_isNode {l : Launch} {D : qD} {d0 : Nat} {K : qK} : qI (s_Gr_isNode d0 K) (s_invV l D (d0, 0, 0) 3 m_Gr_isNode 1 K) := sorry
def w_Gr_isEdge_17 (l : Launch) (D : qD) (d0 : Nat) (B : Nat × Nat) (Q : qQ) : qK := (s_zret Q)
theorem Gr_isEdge_17 {l : Launch} {D : qD} {d0 : Nat} {B : Nat × Nat} {Q : qQ} : qI (w_Gr_isEdge_17 l D d0 B Q) (qR l D (d0 + 1, B) m_Gr_isEdge 17 Q) := sorry
def w_Gr_isEdge_16 (l : Launch) (D : qD) (d0 : Nat) (B : Nat × Nat) (Q : qQ) : qK := (s_ic (0) (w_Gr_isEdge_17 l D d0 B Q))
theorem Gr_isEdge_16 {l : Launch} {D : qD} {d0 : Nat} {B : Nat × Nat} {Q : qQ} : qI (w_Gr_isEdge_16 l D d0 B Q) (qR l D (d0 + 1, B) m_Gr_isEdge 16 Q) := sorry
def w_Gr_isEdge_0 (l : Launch) (D : qD) (d0 : Nat) (B : Nat × Nat) (Q : qQ) : qK := (s_iload 1 (s_if_lt (w_Gr_isEdge_16 l D d0 B Q) (s_iload 1 (s_aload 0 (s_getI 3 1 (s_icmp_ge (w_Gr_isEdge_16 l D d0 B Q) (s_ic (1) (w_Gr_isEdge_17 l D d0 B Q))))))))
theorem Gr_isEdge_0 {l : Launch} {D : qD} {d0 : Nat} {B : Nat × Nat} {Q : qQ} : qI (w_Gr_isEdge_0 l D d0 B Q) (qR l D (d0 + 1, B) m_Gr_isEdge 0 Q) := sorry
abbrev e_Gr_isEdge (o a : Int) (v : Int → Int → Int) : Prop := 0 ≤ o ∧ q_shp o = (3, 0)
def f_Gr_isEdge (o a : Int) (v : Int → Int → Int) : Int := (if a < 0 then 0 else (if (v o 1) ≤ a then 0 else 1))
theorem fb_Gr_isEdge (o a : Int) (v : Int → Int → Int) : f_Gr_isEdge o a v = 0 ∨ f_Gr_isEdge o a v = 1 := sorry
set_option maxRecDepth 100000 in
theorem sp_Gr_isEdge {l : Launch} {D : qD} {d : Nat} {o a : Int} {h : qh} {Q : qQ} (he : e_Gr_isEdge o a h.2) (hq : Q (some (.inl (f_Gr_isEdge o a h.2))) h) : qM l D (d + 1, 0, 0) m_Gr_isEdge [.inr (.inr o), .inl a] h Q := sorry
def s_Gr_isEdge (d0 : Nat) (K : qK) : qK := fun ls st h => match st with
  | .inl a :: .inr (.inr o) :: r => 1 ≤ d0 ∧ q_cs r ≤ 8 ∧ 0 ≤ o ∧ (q_shp o).1 = 3 ∧ e_Gr_isEdge o a h.2 ∧ K ls (.inl (f_Gr_isEdge o a h.2) :: r) h
  | _ => False
set_option maxRecDepth 100000 in
theorem to_Gr_isEdge {l : Launch} {D : qD} {d0 : Nat} {K : qK} : qI (s_Gr_isEdge d0 K) (s_invV l D (d0, 0, 0) 3 m_Gr_isEdge 1 K) := sorry
def w_Gr_isGroup_17 (l : Launch) (D : qD) (d0 : Nat) (B : Nat × Nat) (Q : qQ) : qK := (s_zret Q)
theorem Gr_isGroup_17 {l : Launch} {D : qD} {d0 : Nat} {B : Nat × Nat} {Q : qQ} : qI (w_Gr_isGroup_17 l D d0 B Q) (qR l D (d0 + 1, B) m_Gr_isGroup 17 Q) := sorry
def w_Gr_isGroup_16 (l : Launch) (D : qD) (d0 : Nat) (B : Nat × Nat) (Q : qQ) : qK := (s_ic (0) (w_Gr_isGroup_17 l D d0 B Q))
theorem Gr_isGroup_16 {l : Launch} {D : qD} {d0 : Nat} {B : Nat × Nat} {Q : qQ} : qI (w_Gr_isGroup_16 l D d0 B Q) (qR l D (d0 + 1, B) m_Gr_isGroup 16 Q) := sorry
def w_Gr_isGroup_0 (l : Launch) (D : qD) (d0 : Nat) (B : Nat × Nat) (Q : qQ) : qK := (s_iload 1 (s_if_lt (w_Gr_isGroup_16 l D d0 B Q) (s_iload 1 (s_aload 0 (s_getI 3 2 (s_icmp_ge (w_Gr_isGroup_16 l D d0 B Q) (s_ic (1) (w_Gr_isGroup_17 l D d0 B Q))))))))
theorem Gr_isGroup_0 {l : Launch} {D : qD} {d0 : Nat} {B : Nat × Nat} {Q : qQ} : qI (w_Gr_isGroup_0 l D d0 B Q) (qR l D (d0 + 1, B) m_Gr_isGroup 0 Q) := sorry
abbrev e_Gr_isGroup (o a : Int) (v : Int → Int → Int) : Prop := 0 ≤ o ∧ q_shp o = (3, 0)
def f_Gr_isGroup (o a : Int) (v : Int → Int → Int) : Int := (if a < 0 then 0 else (if (v o 2) ≤ a then 0 else 1))
theorem fb_Gr_isGroup (o a : Int) (v : Int → Int → Int) : f_Gr_isGroup o a v = 0 ∨ f_Gr_isGroup o a v = 1 := sorry
set_option maxRecDepth 100000 in
theorem sp_Gr_isGroup {l : Launch} {D : qD} {d : Nat} {o a : Int} {h : qh} {Q : qQ} (he : e_Gr_isGroup o a h.2) (hq : Q (some (.inl (f_Gr_isGroup o a h.2))) h) : qM l D (d + 1, 0, 0) m_Gr_isGroup [.inr (.inr o), .inl a] h Q := sorry
def s_Gr_isGroup (d0 : Nat) (K : qK) : qK := fun ls st h => match st with
  | .inl a :: .inr (.inr o) :: r => 1 ≤ d0 ∧ q_cs r ≤ 8 ∧ 0 ≤ o ∧ (q_shp o).1 = 3 ∧ e_Gr_isGroup o a h.2 ∧ K ls (.inl (f_Gr_isGroup o a h.2) :: r) h
  | _ => False
set_option maxRecDepth 100000 in
theorem to_Gr_isGroup {l : Launch} {D : qD} {d0 : Nat} {K : qK} : qI (s_Gr_isGroup d0 K) (s_invV l D (d0, 0, 0) 3 m_Gr_isGroup 1 K) := sorry
def w_Gr_other_25 (l : Launch) (D : qD) (d0 : Nat) (B : Nat × Nat) (Q : qQ) : qK := (s_iret Q)
theorem Gr_other_25 {l : Launch} {D : qD} {d0 : Nat} {B : Nat × Nat} {Q : qQ} : qI (w_Gr_other_25 l D d0 B Q) (qR l D (d0 + 1, B) m_Gr_other 25 Q) := sorry
def w_Gr_other_19 (l : Launch) (D : qD) (d0 : Nat) (B : Nat × Nat) (Q : qQ) : qK := (s_aload 0 (s_getR 3 8 (s_iload 1 (s_iald (w_Gr_other_25 l D d0 B Q)))))
theorem Gr_other_19 {l : Launch} {D : qD} {d0 : Nat} {B : Nat × Nat} {Q : qQ} : qI (w_Gr_other_19 l D d0 B Q) (qR l D (d0 + 1, B) m_Gr_other 19 Q) := sorry
def w_Gr_other_0 (l : Launch) (D : qD) (d0 : Nat) (B : Nat × Nat) (Q : qQ) : qK := (s_aload 0 (s_getR 3 8 (s_iload 1 (s_iald (s_iload 2 (s_icmp_ne (w_Gr_other_19 l D d0 B Q) (s_aload 0 (s_getR 3 9 (s_iload 1 (s_iald (w_Gr_other_25 l D d0 B Q)))))))))))
theorem Gr_other_0 {l : Launch} {D : qD} {d0 : Nat} {B : Nat × Nat} {Q : qQ} : qI (w_Gr_other_0 l D d0 B Q) (qR l D (d0 + 1, B) m_Gr_other 0 Q) := sorry
abbrev e_Gr_other (o a b : Int) (v : Int → Int → Int) : Prop := 0 ≤ o ∧ q_shp o = (3, 0) ∧ v o 8 = o + 6 ∧ q_shp (o + 6) = (100, 48) ∧ 0 ≤ (o + 6) ∧ v o 9 = o + 7 ∧ q_shp (o + 7) = (100, 48) ∧ 0 ≤ (o + 7)
def p_Gr_other (o a b : Int) (v : Int → Int → Int) : Prop := (0 ≤ a ∧ a < 48 ∧ ((v (o + 6) a) ≠ b → (0 ≤ a ∧ a < 48)) ∧ ((v (o + 6) a) = b → (0 ≤ a ∧ a < 48)))
def f_Gr_other (o a b : Int) (v : Int → Int → Int) : Int := (if (v (o + 6) a) ≠ b then (v (o + 6) a) else (v (o + 7) a))
set_option maxRecDepth 100000 in
theorem sp_Gr_other {l : Launch} {D : qD} {d : Nat} {o a b : Int} {h : qh} {Q : qQ} (he : e_Gr_other o a b h.2) (hp : p_Gr_other o a b h.2) (hq : Q (some (.inl (f_Gr_other o a b h.2))) h) : qM l D (d + 1, 0, 0) m_Gr_other [.inr (.inr o), .inl a, .inl b] h Q := sorry
def s_Gr_other (d0 : Nat) (K : qK) : qK := fun ls st h => match st with
  | .inl b :: .inl a :: .inr (.inr o) :: r => 1 ≤ d0 ∧ q_cs r ≤ 8 ∧ 0 ≤ o ∧ (q_shp o).1 = 3 ∧ e_Gr_other o a b h.2 ∧ p_Gr_other o a b h.2 ∧ K ls (.inl (f_Gr_other o a b h.2) :: r) h
  | _ => False
set_option maxRecDepth 100000 in
theorem to_Gr_other {l : Launch} {D : qD} {d0 : Nat} {K : qK} : qI (s_Gr_other d0 K) (s_invV l D (d0, 0, 0) 3 m_Gr_other 2 K) := sorry
def w_Em_other_25 (l : Launch) (D : qD) (d0 : Nat) (B : Nat × Nat) (Q : qQ) : qK := (s_iret Q)
theorem Em_other_25 {l : Launch} {D : qD} {d0 : Nat} {B : Nat × Nat} {Q : qQ} : qI (w_Em_other_25 l D d0 B Q) (qR l D (d0 + 1, B) m_Em_other 25 Q) := sorry
def w_Em_other_19 (l : Launch) (D : qD) (d0 : Nat) (B : Nat × Nat) (Q : qQ) : qK := (s_aload 0 (s_getR 9 0 (s_iload 1 (s_iald (w_Em_other_25 l D d0 B Q)))))
theorem Em_other_19 {l : Launch} {D : qD} {d0 : Nat} {B : Nat × Nat} {Q : qQ} : qI (w_Em_other_19 l D d0 B Q) (qR l D (d0 + 1, B) m_Em_other 19 Q) := sorry
def w_Em_other_0 (l : Launch) (D : qD) (d0 : Nat) (B : Nat × Nat) (Q : qQ) : qK := (s_aload 0 (s_getR 9 0 (s_iload 1 (s_iald (s_iload 2 (s_icmp_ne (w_Em_other_19 l D d0 B Q) (s_aload 0 (s_getR 9 1 (s_iload 1 (s_iald (w_Em_other_25 l D d0 B Q)))))))))))
theorem Em_other_0 {l : Launch} {D : qD} {d0 : Nat} {B : Nat × Nat} {Q : qQ} : qI (w_Em_other_0 l D d0 B Q) (qR l D (d0 + 1, B) m_Em_other 0 Q) := sorry
abbrev e_Em_other (a b : Int) (v : Int → Int → Int) : Prop := v 152 0 = 153 ∧ v 152 1 = 154
def p_Em_other (a b : Int) (v : Int → Int → Int) : Prop := (0 ≤ a ∧ a < 72 ∧ ((v 153 a) ≠ b → (0 ≤ a ∧ a < 72)) ∧ ((v 153 a) = b → (0 ≤ a ∧ a < 72)))
def f_Em_other (a b : Int) (v : Int → Int → Int) : Int := (if (v 153 a) ≠ b then (v 153 a) else (v 154 a))
set_option maxRecDepth 100000 in
theorem sp_Em_other {l : Launch} {D : qD} {d : Nat} {a b : Int} {h : qh} {Q : qQ} (he : e_Em_other a b h.2) (hp : p_Em_other a b h.2) (hq : Q (some (.inl (f_Em_other a b h.2))) h) : qM l D (d + 1, 0, 0) m_Em_other [.inr (.inr 152), .inl a, .inl b] h Q := sorry
def s_Em_other (d0 : Nat) (K : qK) : qK := fun ls st h => match st with
  | .inl b :: .inl a :: .inr (.inr o) :: r => o = 152 ∧ 1 ≤ d0 ∧ q_cs r ≤ 8 ∧ e_Em_other a b h.2 ∧ p_Em_other a b h.2 ∧ K ls (.inl (f_Em_other a b h.2) :: r) h
  | _ => False
set_option maxRecDepth 100000 in
theorem to_Em_other {l : Launch} {D : qD} {d0 : Nat} {K : qK} : qI (s_Em_other d0 K) (s_invV l D (d0, 0, 0) 9 m_Em_other 2 K) := sorry
def w_We_other_25 (l : Launch) (D : qD) (d0 : Nat) (B : Nat × Nat) (Q : qQ) : qK := (s_iret Q)
theorem We_other_25 {l : Launch} {D : qD} {d0 : Nat} {B : Nat × Nat} {Q : qQ} : qI (w_We_other_25 l D d0 B Q) (qR l D (d0 + 1, B) m_We_other 25 Q) := sorry
def w_We_other_19 (l : Launch) (D : qD) (d0 : Nat) (B : Nat × Nat) (Q : qQ) : qK := (s_aload 0 (s_getR 10 3 (s_iload 1 (s_iald (w_We_other_25 l D d0 B Q)))))
theorem We_other_19 {l : Launch} {D : qD} {d0 : Nat} {B : Nat × Nat} {Q : qQ} : qI (w_We_other_19 l D d0 B Q) (qR l D (d0 + 1, B) m_We_other 19 Q) := sorry
def w_We_other_0 (l : Launch) (D : qD) (d0 : Nat) (B : Nat × Nat) (Q : qQ) : qK := (s_aload 0 (s_getR 10 3 (s_iload 1 (s_iald (s_iload 2 (s_icmp_ne (w_We_other_19 l D d0 B Q) (s_aload 0 (s_getR 10 4 (s_iload 1 (s_iald (w_We_other_25 l D d0 B Q)))))))))))
theorem We_other_0 {l : Launch} {D : qD} {d0 : Nat} {B : Nat × Nat} {Q : qQ} : qI (w_We_other_0 l D d0 B Q) (qR l D (d0 + 1, B) m_We_other 0 Q) := sorry
abbrev e_We_other (a b : Int) (v : Int → Int → Int) : Prop := v 166 3 = 167 ∧ v 166 4 = 168
def p_We_other (a b : Int) (v : Int → Int → Int) : Prop := (0 ≤ a ∧ a < 80 ∧ ((v 167 a) ≠ b → (0 ≤ a ∧ a < 80)) ∧ ((v 167 a) = b → (0 ≤ a ∧ a < 80)))
def f_We_other (a b : Int) (v : Int → Int → Int) : Int := (if (v 167 a) ≠ b then (v 167 a) else (v 168 a))
set_option maxRecDepth 100000 in
theorem sp_We_other {l : Launch} {D : qD} {d : Nat} {a b : Int} {h : qh} {Q : qQ} (he : e_We_other a b h.2) (hp : p_We_other a b h.2) (hq : Q (some (.inl (f_We_other a b h.2))) h) : qM l D (d + 1, 0, 0) m_We_other [.inr (.inr 166), .inl a, .inl b] h Q := sorry
def s_We_other (d0 : Nat) (K : qK) : qK := fun ls st h => match st with
  | .inl b :: .inl a :: .inr (.inr o) :: r => o = 166 ∧ 1 ≤ d0 ∧ q_cs r ≤ 8 ∧ e_We_other a b h.2 ∧ p_We_other a b h.2 ∧ K ls (.inl (f_We_other a b h.2) :: r) h
  | _ => False
set_option maxRecDepth 100000 in
theorem to_We_other {l : Launch} {D : qD} {d0 : Nat} {K : qK} : qI (s_We_other d0 K) (s_invV l D (d0, 0, 0) 10 m_We_other 2 K) := sorry
def w_DH_isPlace_14 (l : Launch) (D : qD) (d0 : Nat) (B : Nat × Nat) (Q : qQ) : qK := (s_zret Q)
theorem DH_isPlace_14 {l : Launch} {D : qD} {d0 : Nat} {B : Nat × Nat} {Q : qQ} : qI (w_DH_isPlace_14 l D d0 B Q) (qR l D (d0 + 1, B) m_DH_isPlace 14 Q) := sorry
def w_DH_isPlace_13 (l : Launch) (D : qD) (d0 : Nat) (B : Nat × Nat) (Q : qQ) : qK := (s_ic (0) (w_DH_isPlace_14 l D d0 B Q))
theorem DH_isPlace_13 {l : Launch} {D : qD} {d0 : Nat} {B : Nat × Nat} {Q : qQ} : qI (w_DH_isPlace_13 l D d0 B Q) (qR l D (d0 + 1, B) m_DH_isPlace 13 Q) := sorry
def w_DH_isPlace_0 (l : Launch) (D : qD) (d0 : Nat) (B : Nat × Nat) (Q : qQ) : qK := (s_iload 0 (s_if_lt (w_DH_isPlace_13 l D d0 B Q) (s_iload 0 (s_ic (4) (s_icmp_ge (w_DH_isPlace_13 l D d0 B Q) (s_ic (1) (w_DH_isPlace_14 l D d0 B Q)))))))
theorem DH_isPlace_0 {l : Launch} {D : qD} {d0 : Nat} {B : Nat × Nat} {Q : qQ} : qI (w_DH_isPlace_0 l D d0 B Q) (qR l D (d0 + 1, B) m_DH_isPlace 0 Q) := sorry
def f_DH_isPlace (a : Int) (v : Int → Int → Int) : Int := (if a < 0 then 0 else (if 4 ≤ a then 0 else 1))
theorem fb_DH_isPlace (a : Int) (v : Int → Int → Int) : f_DH_isPlace a v = 0 ∨ f_DH_isPlace a v = 1 := sorry
set_option maxRecDepth 100000 in
theorem sp_DH_isPlace {l : Launch} {D : qD} {d : Nat} {a : Int} {h : qh} {Q : qQ} (hq : Q (some (.inl (f_DH_isPlace a h.2))) h) : qM l D (d + 1, 0, 0) m_DH_isPlace [.inl a] h Q := sorry
def s_DH_isPlace (d0 : Nat) (K : qK) : qK := fun ls st h => match st with
  | .inl a :: r => 1 ≤ d0 ∧ q_cs r ≤ 8 ∧ K ls (.inl (f_DH_isPlace a h.2) :: r) h
  | _ => False
set_option maxRecDepth 100000 in
theorem to_DH_isPlace {l : Launch} {D : qD} {d0 : Nat} {K : qK} : qI (s_DH_isPlace d0 K) (s_invS l D (d0, 0, 0) m_DH_isPlace 1 K) := sorry
def w_DH_isLetter_29 (l : Launch) (D : qD) (d0 : Nat) (B : Nat × Nat) (Q : qQ) : qK := (s_zret Q)
theorem DH_isLetter_29 {l : Launch} {D : qD} {d0 : Nat} {B : Nat × Nat} {Q : qQ} : qI (w_DH_isLetter_29 l D d0 B Q) (qR l D (d0 + 1, B) m_DH_isLetter 29 Q) := sorry
def w_DH_isLetter_28 (l : Launch) (D : qD) (d0 : Nat) (B : Nat × Nat) (Q : qQ) : qK := (s_ic (0) (w_DH_isLetter_29 l D d0 B Q))
theorem DH_isLetter_28 {l : Launch} {D : qD} {d0 : Nat} {B : Nat × Nat} {Q : qQ} : qI (w_DH_isLetter_28 l D d0 B Q) (qR l D (d0 + 1, B) m_DH_isLetter 28 Q) := sorry
def w_DH_isLetter_24 (l : Launch) (D : qD) (d0 : Nat) (B : Nat × Nat) (Q : qQ) : qK := (s_ic (1) (w_DH_isLetter_29 l D d0 B Q))
theorem DH_isLetter_24 {l : Launch} {D : qD} {d0 : Nat} {B : Nat × Nat} {Q : qQ} : qI (w_DH_isLetter_24 l D d0 B Q) (qR l D (d0 + 1, B) m_DH_isLetter 24 Q) := sorry
def w_DH_isLetter_12 (l : Launch) (D : qD) (d0 : Nat) (B : Nat × Nat) (Q : qQ) : qK := (s_iload 0 (s_ic (65) (s_icmp_lt (w_DH_isLetter_28 l D d0 B Q) (s_iload 0 (s_ic (90) (s_icmp_gt (w_DH_isLetter_28 l D d0 B Q) (w_DH_isLetter_24 l D d0 B Q)))))))
theorem DH_isLetter_12 {l : Launch} {D : qD} {d0 : Nat} {B : Nat × Nat} {Q : qQ} : qI (w_DH_isLetter_12 l D d0 B Q) (qR l D (d0 + 1, B) m_DH_isLetter 12 Q) := sorry
def w_DH_isLetter_0 (l : Launch) (D : qD) (d0 : Nat) (B : Nat × Nat) (Q : qQ) : qK := (s_iload 0 (s_ic (97) (s_icmp_lt (w_DH_isLetter_12 l D d0 B Q) (s_iload 0 (s_ic (122) (s_icmp_le (w_DH_isLetter_24 l D d0 B Q) (w_DH_isLetter_12 l D d0 B Q)))))))
theorem DH_isLetter_0 {l : Launch} {D : qD} {d0 : Nat} {B : Nat × Nat} {Q : qQ} : qI (w_DH_isLetter_0 l D d0 B Q) (qR l D (d0 + 1, B) m_DH_isLetter 0 Q) := sorry
def f_DH_isLetter (a : Int) (v : Int → Int → Int) : Int := (if a < 97 then (if a < 65 then 0 else (if 90 < a then 0 else 1)) else (if a ≤ 122 then 1 else (if a < 65 then 0 else (if 90 < a then 0 else 1))))
theorem fb_DH_isLetter (a : Int) (v : Int → Int → Int) : f_DH_isLetter a v = 0 ∨ f_DH_isLetter a v = 1 := sorry
set_option maxRecDepth 100000 in
theorem sp_DH_isLetter {l : Launch} {D : qD} {d : Nat} {a : Int} {h : qh} {Q : qQ} (hq : Q (some (.inl (f_DH_isLetter a h.2))) h) : qM l D (d + 1, 0, 0) m_DH_isLetter [.inl a] h Q := sorry
def s_DH_isLetter (d0 : Nat) (K : qK) : qK := fun ls st h => match st with
  | .inl a :: r => 1 ≤ d0 ∧ q_cs r ≤ 8 ∧ K ls (.inl (f_DH_isLetter a h.2) :: r) h
  | _ => False
set_option maxRecDepth 100000 in
theorem to_DH_isLetter {l : Launch} {D : qD} {d0 : Nat} {K : qK} : qI (s_DH_isLetter d0 K) (s_invS l D (d0, 0, 0) m_DH_isLetter 1 K) := sorry
def w_DH_isDigit_17 (l : Launch) (D : qD) (d0 : Nat) (B : Nat × Nat) (Q : qQ) : qK := (s_zret Q)
theorem DH_isDigit_17 {l : Launch} {D : qD} {d0 : Nat} {B : Nat × Nat} {Q : qQ} : qI (w_DH_isDigit_17 l D d0 B Q) (qR l D (d0 + 1, B) m_DH_isDigit 17 Q) := sorry
def w_DH_isDigit_16 (l : Launch) (D : qD) (d0 : Nat) (B : Nat × Nat) (Q : qQ) : qK := (s_ic (0) (w_DH_isDigit_17 l D d0 B Q))
theorem DH_isDigit_16 {l : Launch} {D : qD} {d0 : Nat} {B : Nat × Nat} {Q : qQ} : qI (w_DH_isDigit_16 l D d0 B Q) (qR l D (d0 + 1, B) m_DH_isDigit 16 Q) := sorry
def w_DH_isDigit_0 (l : Launch) (D : qD) (d0 : Nat) (B : Nat × Nat) (Q : qQ) : qK := (s_iload 0 (s_ic (48) (s_icmp_lt (w_DH_isDigit_16 l D d0 B Q) (s_iload 0 (s_ic (57) (s_icmp_gt (w_DH_isDigit_16 l D d0 B Q) (s_ic (1) (w_DH_isDigit_17 l D d0 B Q))))))))
theorem DH_isDigit_0 {l : Launch} {D : qD} {d0 : Nat} {B : Nat × Nat} {Q : qQ} : qI (w_DH_isDigit_0 l D d0 B Q) (qR l D (d0 + 1, B) m_DH_isDigit 0 Q) := sorry
def f_DH_isDigit (a : Int) (v : Int → Int → Int) : Int := (if a < 48 then 0 else (if 57 < a then 0 else 1))
theorem fb_DH_isDigit (a : Int) (v : Int → Int → Int) : f_DH_isDigit a v = 0 ∨ f_DH_isDigit a v = 1 := sorry
set_option maxRecDepth 100000 in
theorem sp_DH_isDigit {l : Launch} {D : qD} {d : Nat} {a : Int} {h : qh} {Q : qQ} (hq : Q (some (.inl (f_DH_isDigit a h.2))) h) : qM l D (d + 1, 0, 0) m_DH_isDigit [.inl a] h Q := sorry
def s_DH_isDigit (d0 : Nat) (K : qK) : qK := fun ls st h => match st with
  | .inl a :: r => 1 ≤ d0 ∧ q_cs r ≤ 8 ∧ K ls (.inl (f_DH_isDigit a h.2) :: r) h
  | _ => False
set_option maxRecDepth 100000 in
theorem to_DH_isDigit {l : Launch} {D : qD} {d0 : Nat} {K : qK} : qI (s_DH_isDigit d0 K) (s_invS l D (d0, 0, 0) m_DH_isDigit 1 K) := sorry
def w_Sy_isOfWord_17 (l : Launch) (D : qD) (d0 : Nat) (B : Nat × Nat) (Q : qQ) : qK := (s_zret Q)
theorem Sy_isOfWord_17 {l : Launch} {D : qD} {d0 : Nat} {B : Nat × Nat} {Q : qQ} : qI (w_Sy_isOfWord_17 l D d0 B Q) (qR l D (d0 + 1, B) m_Sy_isOfWord 17 Q) := sorry
def w_Sy_isOfWord_16 (l : Launch) (D : qD) (d0 : Nat) (B : Nat × Nat) (Q : qQ) : qK := (s_ic (0) (w_Sy_isOfWord_17 l D d0 B Q))
theorem Sy_isOfWord_16 {l : Launch} {D : qD} {d0 : Nat} {B : Nat × Nat} {Q : qQ} : qI (w_Sy_isOfWord_16 l D d0 B Q) (qR l D (d0 + 1, B) m_Sy_isOfWord 16 Q) := sorry
def w_Sy_isOfWord_0 (l : Launch) (D : qD) (d0 : Nat) (B : Nat × Nat) (Q : qQ) : qK := (s_iload 1 (s_ic (97) (s_icmp_lt (w_Sy_isOfWord_16 l D d0 B Q) (s_iload 1 (s_ic (122) (s_icmp_gt (w_Sy_isOfWord_16 l D d0 B Q) (s_ic (1) (w_Sy_isOfWord_17 l D d0 B Q))))))))
theorem Sy_isOfWord_0 {l : Launch} {D : qD} {d0 : Nat} {B : Nat × Nat} {Q : qQ} : qI (w_Sy_isOfWord_0 l D d0 B Q) (qR l D (d0 + 1, B) m_Sy_isOfWord 0 Q) := sorry
def f_Sy_isOfWord (a : Int) (v : Int → Int → Int) : Int := (if a < 97 then 0 else (if 122 < a then 0 else 1))
theorem fb_Sy_isOfWord (a : Int) (v : Int → Int → Int) : f_Sy_isOfWord a v = 0 ∨ f_Sy_isOfWord a v = 1 := sorry
set_option maxRecDepth 100000 in
theorem sp_Sy_isOfWord {l : Launch} {D : qD} {d : Nat} {a : Int} {h : qh} {Q : qQ} (hq : Q (some (.inl (f_Sy_isOfWord a h.2))) h) : qM l D (d + 1, 0, 0) m_Sy_isOfWord [.inr (.inr 126), .inl a] h Q := sorry
def s_Sy_isOfWord (d0 : Nat) (K : qK) : qK := fun ls st h => match st with
  | .inl a :: .inr (.inr o) :: r => o = 126 ∧ 1 ≤ d0 ∧ q_cs r ≤ 8 ∧ K ls (.inl (f_Sy_isOfWord a h.2) :: r) h
  | _ => False
set_option maxRecDepth 100000 in
theorem to_Sy_isOfWord {l : Launch} {D : qD} {d0 : Nat} {K : qK} : qI (s_Sy_isOfWord d0 K) (s_invV l D (d0, 0, 0) 6 m_Sy_isOfWord 1 K) := sorry
def w_GR_wordRoom_0 (l : Launch) (D : qD) (d0 : Nat) (B : Nat × Nat) (Q : qQ) : qK := (s_ic (8) (s_iret Q))
theorem GR_wordRoom_0 {l : Launch} {D : qD} {d0 : Nat} {B : Nat × Nat} {Q : qQ} : qI (w_GR_wordRoom_0 l D d0 B Q) (qR l D (d0 + 1, B) m_GR_wordRoom 0 Q) := sorry
def f_GR_wordRoom (v : Int → Int → Int) : Int := 8
set_option maxRecDepth 100000 in
theorem sp_GR_wordRoom {l : Launch} {D : qD} {d : Nat} {h : qh} {Q : qQ} (hq : Q (some (.inl (f_GR_wordRoom h.2))) h) : qM l D (d + 1, 0, 0) m_GR_wordRoom [.inr (.inr 111)] h Q := sorry
def s_GR_wordRoom (d0 : Nat) (K : qK) : qK := fun ls st h => match st with
  | .inr (.inr o) :: r => o = 111 ∧ 1 ≤ d0 ∧ q_cs r ≤ 8 ∧ K ls (.inl (f_GR_wordRoom h.2) :: r) h
  | _ => False
set_option maxRecDepth 100000 in
theorem to_GR_wordRoom {l : Launch} {D : qD} {d0 : Nat} {K : qK} : qI (s_GR_wordRoom d0 K) (s_invV l D (d0, 0, 0) 4 m_GR_wordRoom 0 K) := sorry
def w_Sy_wordRoom_0 (l : Launch) (D : qD) (d0 : Nat) (B : Nat × Nat) (Q : qQ) : qK := (s_ic (8) (s_iret Q))
theorem Sy_wordRoom_0 {l : Launch} {D : qD} {d0 : Nat} {B : Nat × Nat} {Q : qQ} : qI (w_Sy_wordRoom_0 l D d0 B Q) (qR l D (d0 + 1, B) m_Sy_wordRoom 0 Q) := sorry
def f_Sy_wordRoom (v : Int → Int → Int) : Int := 8
set_option maxRecDepth 100000 in
theorem sp_Sy_wordRoom {l : Launch} {D : qD} {d : Nat} {h : qh} {Q : qQ} (hq : Q (some (.inl (f_Sy_wordRoom h.2))) h) : qM l D (d + 1, 0, 0) m_Sy_wordRoom [.inr (.inr 126)] h Q := sorry
def s_Sy_wordRoom (d0 : Nat) (K : qK) : qK := fun ls st h => match st with
  | .inr (.inr o) :: r => o = 126 ∧ 1 ≤ d0 ∧ q_cs r ≤ 8 ∧ K ls (.inl (f_Sy_wordRoom h.2) :: r) h
  | _ => False
set_option maxRecDepth 100000 in
theorem to_Sy_wordRoom {l : Launch} {D : qD} {d0 : Nat} {K : qK} : qI (s_Sy_wordRoom d0 K) (s_invV l D (d0, 0, 0) 6 m_Sy_wordRoom 0 K) := sorry
def w_GR_digitRoom_0 (l : Launch) (D : qD) (d0 : Nat) (B : Nat × Nat) (Q : qQ) : qK := (s_ic (3) (s_iret Q))
theorem GR_digitRoom_0 {l : Launch} {D : qD} {d0 : Nat} {B : Nat × Nat} {Q : qQ} : qI (w_GR_digitRoom_0 l D d0 B Q) (qR l D (d0 + 1, B) m_GR_digitRoom 0 Q) := sorry
def f_GR_digitRoom (v : Int → Int → Int) : Int := 3
set_option maxRecDepth 100000 in
theorem sp_GR_digitRoom {l : Launch} {D : qD} {d : Nat} {h : qh} {Q : qQ} (hq : Q (some (.inl (f_GR_digitRoom h.2))) h) : qM l D (d + 1, 0, 0) m_GR_digitRoom [.inr (.inr 111)] h Q := sorry
def s_GR_digitRoom (d0 : Nat) (K : qK) : qK := fun ls st h => match st with
  | .inr (.inr o) :: r => o = 111 ∧ 1 ≤ d0 ∧ q_cs r ≤ 8 ∧ K ls (.inl (f_GR_digitRoom h.2) :: r) h
  | _ => False
set_option maxRecDepth 100000 in
theorem to_GR_digitRoom {l : Launch} {D : qD} {d0 : Nat} {K : qK} : qI (s_GR_digitRoom d0 K) (s_invV l D (d0, 0, 0) 4 m_GR_digitRoom 0 K) := sorry
def w_Sy_digitRoom_0 (l : Launch) (D : qD) (d0 : Nat) (B : Nat × Nat) (Q : qQ) : qK := (s_ic (4) (s_iret Q))
theorem Sy_digitRoom_0 {l : Launch} {D : qD} {d0 : Nat} {B : Nat × Nat} {Q : qQ} : qI (w_Sy_digitRoom_0 l D d0 B Q) (qR l D (d0 + 1, B) m_Sy_digitRoom 0 Q) := sorry
def f_Sy_digitRoom (v : Int → Int → Int) : Int := 4
set_option maxRecDepth 100000 in
theorem sp_Sy_digitRoom {l : Launch} {D : qD} {d : Nat} {h : qh} {Q : qQ} (hq : Q (some (.inl (f_Sy_digitRoom h.2))) h) : qM l D (d + 1, 0, 0) m_Sy_digitRoom [.inr (.inr 126)] h Q := sorry
def s_Sy_digitRoom (d0 : Nat) (K : qK) : qK := fun ls st h => match st with
  | .inr (.inr o) :: r => o = 126 ∧ 1 ≤ d0 ∧ q_cs r ≤ 8 ∧ K ls (.inl (f_Sy_digitRoom h.2) :: r) h
  | _ => False
set_option maxRecDepth 100000 in
theorem to_Sy_digitRoom {l : Launch} {D : qD} {d0 : Nat} {K : qK} : qI (s_Sy_digitRoom d0 K) (s_invV l D (d0, 0, 0) 6 m_Sy_digitRoom 0 K) := sorry
def w_GR_isSign_53 (l : Launch) (D : qD) (d0 : Nat) (B : Nat × Nat) (Q : qQ) : qK := (s_zret Q)
theorem GR_isSign_53 {l : Launch} {D : qD} {d0 : Nat} {B : Nat × Nat} {Q : qQ} : qI (w_GR_isSign_53 l D d0 B Q) (qR l D (d0 + 1, B) m_GR_isSign 53 Q) := sorry
def w_GR_isSign_52 (l : Launch) (D : qD) (d0 : Nat) (B : Nat × Nat) (Q : qQ) : qK := (s_ic (0) (w_GR_isSign_53 l D d0 B Q))
theorem GR_isSign_52 {l : Launch} {D : qD} {d0 : Nat} {B : Nat × Nat} {Q : qQ} : qI (w_GR_isSign_52 l D d0 B Q) (qR l D (d0 + 1, B) m_GR_isSign 52 Q) := sorry
def w_GR_isSign_48 (l : Launch) (D : qD) (d0 : Nat) (B : Nat × Nat) (Q : qQ) : qK := (s_ic (1) (w_GR_isSign_53 l D d0 B Q))
theorem GR_isSign_48 {l : Launch} {D : qD} {d0 : Nat} {B : Nat × Nat} {Q : qQ} : qI (w_GR_isSign_48 l D d0 B Q) (qR l D (d0 + 1, B) m_GR_isSign 48 Q) := sorry
def w_GR_isSign_0 (l : Launch) (D : qD) (d0 : Nat) (B : Nat × Nat) (Q : qQ) : qK := (s_iload 1 (s_ic (123) (s_icmp_eq (w_GR_isSign_48 l D d0 B Q) (s_iload 1 (s_ic (125) (s_icmp_eq (w_GR_isSign_48 l D d0 B Q) (s_iload 1 (s_ic (91) (s_icmp_eq (w_GR_isSign_48 l D d0 B Q) (s_iload 1 (s_ic (93) (s_icmp_eq (w_GR_isSign_48 l D d0 B Q) (s_iload 1 (s_ic (59) (s_icmp_eq (w_GR_isSign_48 l D d0 B Q) (s_iload 1 (s_ic (61) (s_icmp_eq (w_GR_isSign_48 l D d0 B Q) (s_iload 1 (s_ic (45) (s_icmp_eq (w_GR_isSign_48 l D d0 B Q) (s_iload 1 (s_ic (62) (s_icmp_ne (w_GR_isSign_52 l D d0 B Q) (w_GR_isSign_48 l D d0 B Q)))))))))))))))))))))))))
theorem GR_isSign_0 {l : Launch} {D : qD} {d0 : Nat} {B : Nat × Nat} {Q : qQ} : qI (w_GR_isSign_0 l D d0 B Q) (qR l D (d0 + 1, B) m_GR_isSign 0 Q) := sorry
def f_GR_isSign (a : Int) (v : Int → Int → Int) : Int := (if a = 123 then 1 else (if a = 125 then 1 else (if a = 91 then 1 else (if a = 93 then 1 else (if a = 59 then 1 else (if a = 61 then 1 else (if a = 45 then 1 else (if a ≠ 62 then 0 else 1))))))))
theorem fb_GR_isSign (a : Int) (v : Int → Int → Int) : f_GR_isSign a v = 0 ∨ f_GR_isSign a v = 1 := sorry
set_option maxRecDepth 100000 in
theorem sp_GR_isSign {l : Launch} {D : qD} {d : Nat} {a : Int} {h : qh} {Q : qQ} (hq : Q (some (.inl (f_GR_isSign a h.2))) h) : qM l D (d + 1, 0, 0) m_GR_isSign [.inr (.inr 111), .inl a] h Q := sorry
def s_GR_isSign (d0 : Nat) (K : qK) : qK := fun ls st h => match st with
  | .inl a :: .inr (.inr o) :: r => o = 111 ∧ 1 ≤ d0 ∧ q_cs r ≤ 8 ∧ K ls (.inl (f_GR_isSign a h.2) :: r) h
  | _ => False
set_option maxRecDepth 100000 in
theorem to_GR_isSign {l : Launch} {D : qD} {d0 : Nat} {K : qK} : qI (s_GR_isSign d0 K) (s_invV l D (d0, 0, 0) 4 m_GR_isSign 1 K) := sorry
def w_Sy_isSign_89 (l : Launch) (D : qD) (d0 : Nat) (B : Nat × Nat) (Q : qQ) : qK := (s_zret Q)
theorem Sy_isSign_89 {l : Launch} {D : qD} {d0 : Nat} {B : Nat × Nat} {Q : qQ} : qI (w_Sy_isSign_89 l D d0 B Q) (qR l D (d0 + 1, B) m_Sy_isSign 89 Q) := sorry
def w_Sy_isSign_88 (l : Launch) (D : qD) (d0 : Nat) (B : Nat × Nat) (Q : qQ) : qK := (s_ic (0) (w_Sy_isSign_89 l D d0 B Q))
theorem Sy_isSign_88 {l : Launch} {D : qD} {d0 : Nat} {B : Nat × Nat} {Q : qQ} : qI (w_Sy_isSign_88 l D d0 B Q) (qR l D (d0 + 1, B) m_Sy_isSign 88 Q) := sorry
def w_Sy_isSign_84 (l : Launch) (D : qD) (d0 : Nat) (B : Nat × Nat) (Q : qQ) : qK := (s_ic (1) (w_Sy_isSign_89 l D d0 B Q))
theorem Sy_isSign_84 {l : Launch} {D : qD} {d0 : Nat} {B : Nat × Nat} {Q : qQ} : qI (w_Sy_isSign_84 l D d0 B Q) (qR l D (d0 + 1, B) m_Sy_isSign 84 Q) := sorry
def w_Sy_isSign_0 (l : Launch) (D : qD) (d0 : Nat) (B : Nat × Nat) (Q : qQ) : qK := (s_iload 1 (s_ic (123) (s_icmp_eq (w_Sy_isSign_84 l D d0 B Q) (s_iload 1 (s_ic (125) (s_icmp_eq (w_Sy_isSign_84 l D d0 B Q) (s_iload 1 (s_ic (40) (s_icmp_eq (w_Sy_isSign_84 l D d0 B Q) (s_iload 1 (s_ic (41) (s_icmp_eq (w_Sy_isSign_84 l D d0 B Q) (s_iload 1 (s_ic (58) (s_icmp_eq (w_Sy_isSign_84 l D d0 B Q) (s_iload 1 (s_ic (61) (s_icmp_eq (w_Sy_isSign_84 l D d0 B Q) (s_iload 1 (s_ic (44) (s_icmp_eq (w_Sy_isSign_84 l D d0 B Q) (s_iload 1 (s_ic (59) (s_icmp_eq (w_Sy_isSign_84 l D d0 B Q) (s_iload 1 (s_ic (60) (s_icmp_eq (w_Sy_isSign_84 l D d0 B Q) (s_iload 1 (s_ic (62) (s_icmp_eq (w_Sy_isSign_84 l D d0 B Q) (s_iload 1 (s_ic (43) (s_icmp_eq (w_Sy_isSign_84 l D d0 B Q) (s_iload 1 (s_ic (45) (s_icmp_eq (w_Sy_isSign_84 l D d0 B Q) (s_iload 1 (s_ic (42) (s_icmp_eq (w_Sy_isSign_84 l D d0 B Q) (s_iload 1 (s_ic (47) (s_icmp_ne (w_Sy_isSign_88 l D d0 B Q) (w_Sy_isSign_84 l D d0 B Q)))))))))))))))))))))))))))))))))))))))))))
theorem Sy_isSign_0 {l : Launch} {D : qD} {d0 : Nat} {B : Nat × Nat} {Q : qQ} : qI (w_Sy_isSign_0 l D d0 B Q) (qR l D (d0 + 1, B) m_Sy_isSign 0 Q) := sorry
def f_Sy_isSign (a : Int) (v : Int → Int → Int) : Int := (if a = 123 then 1 else (if a = 125 then 1 else (if a = 40 then 1 else (if a = 41 then 1 else (if a = 58 then 1 else (if a = 61 then 1 else (if a = 44 then 1 else (if a = 59 then 1 else (if a = 60 then 1 else (if a = 62 then 1 else (if a = 43 then 1 else (if a = 45 then 1 else (if a = 42 then 1 else (if a ≠ 47 then 0 else 1))))))))))))))
theorem fb_Sy_isSign (a : Int) (v : Int → Int → Int) : f_Sy_isSign a v = 0 ∨ f_Sy_isSign a v = 1 := sorry
set_option maxRecDepth 100000 in
theorem sp_Sy_isSign {l : Launch} {D : qD} {d : Nat} {a : Int} {h : qh} {Q : qQ} (hq : Q (some (.inl (f_Sy_isSign a h.2))) h) : qM l D (d + 1, 0, 0) m_Sy_isSign [.inr (.inr 126), .inl a] h Q := sorry
def s_Sy_isSign (d0 : Nat) (K : qK) : qK := fun ls st h => match st with
  | .inl a :: .inr (.inr o) :: r => o = 126 ∧ 1 ≤ d0 ∧ q_cs r ≤ 8 ∧ K ls (.inl (f_Sy_isSign a h.2) :: r) h
  | _ => False
set_option maxRecDepth 100000 in
theorem to_Sy_isSign {l : Launch} {D : qD} {d0 : Nat} {K : qK} : qI (s_Sy_isSign d0 K) (s_invV l D (d0, 0, 0) 6 m_Sy_isSign 1 K) := sorry
def w_La_from_30 (l : Launch) (D : qD) (d0 : Nat) (B : Nat × Nat) (Q : qQ) : qK := (s_iret Q)
theorem La_from_30 {l : Launch} {D : qD} {d0 : Nat} {B : Nat × Nat} {Q : qQ} : qI (w_La_from_30 l D d0 B Q) (qR l D (d0 + 1, B) m_La_from 30 Q) := sorry
def w_La_from_21 (l : Launch) (D : qD) (d0 : Nat) (B : Nat × Nat) (Q : qQ) : qK := (s_aload 0 (s_getR 11 1 (s_getR 3 8 (s_iload 1 (s_iald (w_La_from_30 l D d0 B Q))))))
theorem La_from_21 {l : Launch} {D : qD} {d0 : Nat} {B : Nat × Nat} {Q : qQ} : qI (w_La_from_21 l D d0 B Q) (qR l D (d0 + 1, B) m_La_from 21 Q) := sorry
def w_La_from_0 (l : Launch) (D : qD) (d0 : Nat) (B : Nat × Nat) (Q : qQ) : qK := (s_aload 0 (s_getR 11 3 (s_iload 1 (s_bald (s_if_eq (w_La_from_21 l D d0 B Q) (s_aload 0 (s_getR 11 1 (s_getR 3 9 (s_iload 1 (s_iald (w_La_from_30 l D d0 B Q)))))))))))
theorem La_from_0 {l : Launch} {D : qD} {d0 : Nat} {B : Nat × Nat} {Q : qQ} : qI (w_La_from_0 l D d0 B Q) (qR l D (d0 + 1, B) m_La_from 0 Q) := sorry
abbrev e_La_from (a : Int) (v : Int → Int → Int) : Prop := v 209 3 = 217 ∧ 0 ≤ (v 209 1) ∧ q_shp (v 209 1) = (3, 0) ∧ v (v 209 1) 8 = (v 209 1) + 6 ∧ q_shp ((v 209 1) + 6) = (100, 48) ∧ 0 ≤ ((v 209 1) + 6) ∧ v (v 209 1) 9 = (v 209 1) + 7 ∧ q_shp ((v 209 1) + 7) = (100, 48) ∧ 0 ≤ ((v 209 1) + 7)
def p_La_from (a : Int) (v : Int → Int → Int) : Prop := (0 ≤ a ∧ a < 48 ∧ ((v 217 a) = 0 → (0 ≤ a ∧ a < 48)) ∧ ((v 217 a) ≠ 0 → (0 ≤ a ∧ a < 48)))
def f_La_from (a : Int) (v : Int → Int → Int) : Int := (if (v 217 a) = 0 then (v ((v 209 1) + 6) a) else (v ((v 209 1) + 7) a))
set_option maxRecDepth 100000 in
theorem sp_La_from {l : Launch} {D : qD} {d : Nat} {a : Int} {h : qh} {Q : qQ} (he : e_La_from a h.2) (hp : p_La_from a h.2) (hq : Q (some (.inl (f_La_from a h.2))) h) : qM l D (d + 1, 0, 0) m_La_from [.inr (.inr 209), .inl a] h Q := sorry
def s_La_from (d0 : Nat) (K : qK) : qK := fun ls st h => match st with
  | .inl a :: .inr (.inr o) :: r => o = 209 ∧ 1 ≤ d0 ∧ q_cs r ≤ 8 ∧ e_La_from a h.2 ∧ p_La_from a h.2 ∧ K ls (.inl (f_La_from a h.2) :: r) h
  | _ => False
set_option maxRecDepth 100000 in
theorem to_La_from {l : Launch} {D : qD} {d0 : Nat} {K : qK} : qI (s_La_from d0 K) (s_invV l D (d0, 0, 0) 11 m_La_from 1 K) := sorry
def w_La_to_30 (l : Launch) (D : qD) (d0 : Nat) (B : Nat × Nat) (Q : qQ) : qK := (s_iret Q)
theorem La_to_30 {l : Launch} {D : qD} {d0 : Nat} {B : Nat × Nat} {Q : qQ} : qI (w_La_to_30 l D d0 B Q) (qR l D (d0 + 1, B) m_La_to 30 Q) := sorry
def w_La_to_21 (l : Launch) (D : qD) (d0 : Nat) (B : Nat × Nat) (Q : qQ) : qK := (s_aload 0 (s_getR 11 1 (s_getR 3 9 (s_iload 1 (s_iald (w_La_to_30 l D d0 B Q))))))
theorem La_to_21 {l : Launch} {D : qD} {d0 : Nat} {B : Nat × Nat} {Q : qQ} : qI (w_La_to_21 l D d0 B Q) (qR l D (d0 + 1, B) m_La_to 21 Q) := sorry
def w_La_to_0 (l : Launch) (D : qD) (d0 : Nat) (B : Nat × Nat) (Q : qQ) : qK := (s_aload 0 (s_getR 11 3 (s_iload 1 (s_bald (s_if_eq (w_La_to_21 l D d0 B Q) (s_aload 0 (s_getR 11 1 (s_getR 3 8 (s_iload 1 (s_iald (w_La_to_30 l D d0 B Q)))))))))))
theorem La_to_0 {l : Launch} {D : qD} {d0 : Nat} {B : Nat × Nat} {Q : qQ} : qI (w_La_to_0 l D d0 B Q) (qR l D (d0 + 1, B) m_La_to 0 Q) := sorry
abbrev e_La_to (a : Int) (v : Int → Int → Int) : Prop := v 209 3 = 217 ∧ 0 ≤ (v 209 1) ∧ q_shp (v 209 1) = (3, 0) ∧ v (v 209 1) 9 = (v 209 1) + 7 ∧ q_shp ((v 209 1) + 7) = (100, 48) ∧ 0 ≤ ((v 209 1) + 7) ∧ v (v 209 1) 8 = (v 209 1) + 6 ∧ q_shp ((v 209 1) + 6) = (100, 48) ∧ 0 ≤ ((v 209 1) + 6)
def p_La_to (a : Int) (v : Int → Int → Int) : Prop := (0 ≤ a ∧ a < 48 ∧ ((v 217 a) = 0 → (0 ≤ a ∧ a < 48)) ∧ ((v 217 a) ≠ 0 → (0 ≤ a ∧ a < 48)))
def f_La_to (a : Int) (v : Int → Int → Int) : Int := (if (v 217 a) = 0 then (v ((v 209 1) + 7) a) else (v ((v 209 1) + 6) a))
set_option maxRecDepth 100000 in
theorem sp_La_to {l : Launch} {D : qD} {d : Nat} {a : Int} {h : qh} {Q : qQ} (he : e_La_to a h.2) (hp : p_La_to a h.2) (hq : Q (some (.inl (f_La_to a h.2))) h) : qM l D (d + 1, 0, 0) m_La_to [.inr (.inr 209), .inl a] h Q := sorry
def s_La_to (d0 : Nat) (K : qK) : qK := fun ls st h => match st with
  | .inl a :: .inr (.inr o) :: r => o = 209 ∧ 1 ≤ d0 ∧ q_cs r ≤ 8 ∧ e_La_to a h.2 ∧ p_La_to a h.2 ∧ K ls (.inl (f_La_to a h.2) :: r) h
  | _ => False
set_option maxRecDepth 100000 in
theorem to_La_to {l : Launch} {D : qD} {d0 : Nat} {K : qK} : qI (s_La_to d0 K) (s_invV l D (d0, 0, 0) 11 m_La_to 1 K) := sorry
def w_La_half_25 (l : Launch) (D : qD) (d0 : Nat) (B : Nat × Nat) (Q : qQ) : qK := (s_iret Q)
theorem La_half_25 {l : Launch} {D : qD} {d0 : Nat} {B : Nat × Nat} {Q : qQ} : qI (w_La_half_25 l D d0 B Q) (qR l D (d0 + 1, B) m_La_half 25 Q) := sorry
def w_La_half_24 (l : Launch) (D : qD) (d0 : Nat) (B : Nat × Nat) (Q : qQ) : qK := (s_ic (0) (w_La_half_25 l D d0 B Q))
theorem La_half_24 {l : Launch} {D : qD} {d0 : Nat} {B : Nat × Nat} {Q : qQ} : qI (w_La_half_24 l D d0 B Q) (qR l D (d0 + 1, B) m_La_half 24 Q) := sorry
def w_La_half_0 (l : Launch) (D : qD) (d0 : Nat) (B : Nat × Nat) (Q : qQ) : qK := (s_aload 0 (s_getR 11 6 (s_iload 1 (s_iald (s_ic (-1) (s_icmp_ne (w_La_half_24 l D d0 B Q) (s_aload 0 (s_getR 11 1 (s_getR 3 5 (s_iload 1 (s_iald (s_ic (1) (s_iadd (w_La_half_25 l D d0 B Q))))))))))))))
theorem La_half_0 {l : Launch} {D : qD} {d0 : Nat} {B : Nat × Nat} {Q : qQ} : qI (w_La_half_0 l D d0 B Q) (qR l D (d0 + 1, B) m_La_half 0 Q) := sorry
abbrev e_La_half (a : Int) (v : Int → Int → Int) : Prop := v 209 6 = 220 ∧ 0 ≤ (v 209 1) ∧ q_shp (v 209 1) = (3, 0) ∧ v (v 209 1) 5 = (v 209 1) + 3 ∧ q_shp ((v 209 1) + 3) = (100, 24) ∧ 0 ≤ ((v 209 1) + 3)
def p_La_half (a : Int) (v : Int → Int → Int) : Prop := (0 ≤ a ∧ a < 73 ∧ ((v 220 a) = (-1) → (0 ≤ a ∧ a < 24 ∧ r32 ((v ((v 209 1) + 3) a) + 1))))
def f_La_half (a : Int) (v : Int → Int → Int) : Int := (if (v 220 a) ≠ (-1) then 0 else ((v ((v 209 1) + 3) a) + 1))
set_option maxRecDepth 100000 in
theorem sp_La_half {l : Launch} {D : qD} {d : Nat} {a : Int} {h : qh} {Q : qQ} (he : e_La_half a h.2) (hp : p_La_half a h.2) (hq : Q (some (.inl (f_La_half a h.2))) h) : qM l D (d + 1, 0, 0) m_La_half [.inr (.inr 209), .inl a] h Q := sorry
def s_La_half (d0 : Nat) (K : qK) : qK := fun ls st h => match st with
  | .inl a :: .inr (.inr o) :: r => o = 209 ∧ 1 ≤ d0 ∧ q_cs r ≤ 8 ∧ e_La_half a h.2 ∧ p_La_half a h.2 ∧ K ls (.inl (f_La_half a h.2) :: r) h
  | _ => False
set_option maxRecDepth 100000 in
theorem to_La_half {l : Launch} {D : qD} {d0 : Nat} {K : qK} : qI (s_La_half d0 K) (s_invV l D (d0, 0, 0) 11 m_La_half 1 K) := sorry
def w_Ps_ahead_35 (l : Launch) (D : qD) (d0 : Nat) (B : Nat × Nat) (Q : qQ) : qK := (s_iret Q)
theorem Ps_ahead_35 {l : Launch} {D : qD} {d0 : Nat} {B : Nat × Nat} {Q : qQ} : qI (w_Ps_ahead_35 l D d0 B Q) (qR l D (d0 + 1, B) m_Ps_ahead 35 Q) := sorry
def w_Ps_ahead_29 (l : Launch) (D : qD) (d0 : Nat) (B : Nat × Nat) (Q : qQ) : qK := (s_aload 0 (s_getR 12 3 (s_iload 2 (s_iald (w_Ps_ahead_35 l D d0 B Q)))))
theorem Ps_ahead_29 {l : Launch} {D : qD} {d0 : Nat} {B : Nat × Nat} {Q : qQ} : qI (w_Ps_ahead_29 l D d0 B Q) (qR l D (d0 + 1, B) m_Ps_ahead 29 Q) := sorry
def w_Ps_ahead_0 (l : Launch) (D : qD) (d0 : Nat) (B : Nat × Nat) (Q : qQ) : qK := (s_aload 0 (s_getR 12 7 (s_iload 1 (s_iald (s_ic (2) (s_idiv (s_istore 2 (s_aload 0 (s_getR 12 7 (s_iload 1 (s_iald (s_ic (2) (s_irem (s_if_ne (w_Ps_ahead_29 l D d0 B Q) (s_aload 0 (s_getR 12 2 (s_iload 2 (s_iald (w_Ps_ahead_35 l D d0 B Q)))))))))))))))))))
theorem Ps_ahead_0 {l : Launch} {D : qD} {d0 : Nat} {B : Nat × Nat} {Q : qQ} : qI (w_Ps_ahead_0 l D d0 B Q) (qR l D (d0 + 1, B) m_Ps_ahead 0 Q) := sorry
abbrev e_Ps_ahead (a : Int) (v : Int → Int → Int) : Prop := v 210 7 = 216 ∧ v 210 3 = 212 ∧ v 210 2 = 211
def p_Ps_ahead (a : Int) (v : Int → Int → Int) : Prop := (0 ≤ a ∧ a < 220 ∧ 2 ≠ 0 ∧ r32 (Int.tdiv (v 216 a) 2) ∧ ((Int.tmod (v 216 a) 2) ≠ 0 → (0 ≤ (Int.tdiv (v 216 a) 2) ∧ (Int.tdiv (v 216 a) 2) < 420)) ∧ ((Int.tmod (v 216 a) 2) = 0 → (0 ≤ (Int.tdiv (v 216 a) 2) ∧ (Int.tdiv (v 216 a) 2) < 420)))
def f_Ps_ahead (a : Int) (v : Int → Int → Int) : Int := (if (Int.tmod (v 216 a) 2) ≠ 0 then (v 212 (Int.tdiv (v 216 a) 2)) else (v 211 (Int.tdiv (v 216 a) 2)))
set_option maxRecDepth 100000 in
theorem sp_Ps_ahead {l : Launch} {D : qD} {d : Nat} {a : Int} {h : qh} {Q : qQ} (he : e_Ps_ahead a h.2) (hp : p_Ps_ahead a h.2) (hq : Q (some (.inl (f_Ps_ahead a h.2))) h) : qM l D (d + 1, 0, 0) m_Ps_ahead [.inr (.inr 210), .inl a] h Q := sorry
def s_Ps_ahead (d0 : Nat) (K : qK) : qK := fun ls st h => match st with
  | .inl a :: .inr (.inr o) :: r => o = 210 ∧ 1 ≤ d0 ∧ q_cs r ≤ 8 ∧ e_Ps_ahead a h.2 ∧ p_Ps_ahead a h.2 ∧ K ls (.inl (f_Ps_ahead a h.2) :: r) h
  | _ => False
set_option maxRecDepth 100000 in
theorem to_Ps_ahead {l : Launch} {D : qD} {d0 : Nat} {K : qK} : qI (s_Ps_ahead d0 K) (s_invV l D (d0, 0, 0) 12 m_Ps_ahead 1 K) := sorry
def w_DH_isIn_19 (l : Launch) (D : qD) (d0 : Nat) (B : Nat × Nat) (Q : qQ) : qK := (s_zret Q)
theorem DH_isIn_19 {l : Launch} {D : qD} {d0 : Nat} {B : Nat × Nat} {Q : qQ} : qI (w_DH_isIn_19 l D d0 B Q) (qR l D (d0 + 1, B) m_DH_isIn 19 Q) := sorry
def w_DH_isIn_18 (l : Launch) (D : qD) (d0 : Nat) (B : Nat × Nat) (Q : qQ) : qK := (s_ic (0) (w_DH_isIn_19 l D d0 B Q))
theorem DH_isIn_18 {l : Launch} {D : qD} {d0 : Nat} {B : Nat × Nat} {Q : qQ} : qI (w_DH_isIn_18 l D d0 B Q) (qR l D (d0 + 1, B) m_DH_isIn 18 Q) := sorry
def w_DH_isIn_0 (l : Launch) (D : qD) (d0 : Nat) (B : Nat × Nat) (Q : qQ) : qK := (s_iload 0 (s_ic (-1000000) (s_icmp_lt (w_DH_isIn_18 l D d0 B Q) (s_iload 0 (s_ic (1000000) (s_icmp_gt (w_DH_isIn_18 l D d0 B Q) (s_ic (1) (w_DH_isIn_19 l D d0 B Q))))))))
theorem DH_isIn_0 {l : Launch} {D : qD} {d0 : Nat} {B : Nat × Nat} {Q : qQ} : qI (w_DH_isIn_0 l D d0 B Q) (qR l D (d0 + 1, B) m_DH_isIn 0 Q) := sorry
def f_DH_isIn (a : Int) (v : Int → Int → Int) : Int := (if a < (-1000000) then 0 else (if 1000000 < a then 0 else 1))
theorem fb_DH_isIn (a : Int) (v : Int → Int → Int) : f_DH_isIn a v = 0 ∨ f_DH_isIn a v = 1 := sorry
set_option maxRecDepth 100000 in
theorem sp_DH_isIn {l : Launch} {D : qD} {d : Nat} {a : Int} {h : qh} {Q : qQ} (hq : Q (some (.inl (f_DH_isIn a h.2))) h) : qM l D (d + 1, 0, 0) m_DH_isIn [.inl a] h Q := sorry
def s_DH_isIn (d0 : Nat) (K : qK) : qK := fun ls st h => match st with
  | .inl a :: r => 1 ≤ d0 ∧ q_cs r ≤ 8 ∧ K ls (.inl (f_DH_isIn a h.2) :: r) h
  | _ => False
set_option maxRecDepth 100000 in
theorem to_DH_isIn {l : Launch} {D : qD} {d0 : Nat} {K : qK} : qI (s_DH_isIn d0 K) (s_invS l D (d0, 0, 0) m_DH_isIn 1 K) := sorry
def w_Ro_half_0 (l : Launch) (D : qD) (d0 : Nat) (B : Nat × Nat) (Q : qQ) : qK := (s_aload 0 (s_getR 3 5 (s_iload 1 (s_iald (s_ic (1) (s_iadd (s_iret Q)))))))
theorem Ro_half_0 {l : Launch} {D : qD} {d0 : Nat} {B : Nat × Nat} {Q : qQ} : qI (w_Ro_half_0 l D d0 B Q) (qR l D (d0 + 1, B) m_Ro_half 0 Q) := sorry
abbrev e_Ro_half (a b : Int) (v : Int → Int → Int) : Prop := 0 ≤ a ∧ q_shp a = (3, 0) ∧ v a 5 = a + 3 ∧ q_shp (a + 3) = (100, 24) ∧ 0 ≤ (a + 3)
def p_Ro_half (a b : Int) (v : Int → Int → Int) : Prop := (0 ≤ b ∧ b < 24 ∧ r32 ((v (a + 3) b) + 1))
def f_Ro_half (a b : Int) (v : Int → Int → Int) : Int := ((v (a + 3) b) + 1)
set_option maxRecDepth 100000 in
theorem sp_Ro_half {l : Launch} {D : qD} {d : Nat} {a b : Int} {h : qh} {Q : qQ} (he : e_Ro_half a b h.2) (hp : p_Ro_half a b h.2) (hq : Q (some (.inl (f_Ro_half a b h.2))) h) : qM l D (d + 1, 0, 0) m_Ro_half [.inr (.inr a), .inl b] h Q := sorry
def s_Ro_half (d0 : Nat) (K : qK) : qK := fun ls st h => match st with
  | .inl b :: .inr (.inr a) :: r => 1 ≤ d0 ∧ q_cs r ≤ 8 ∧ e_Ro_half a b h.2 ∧ p_Ro_half a b h.2 ∧ K ls (.inl (f_Ro_half a b h.2) :: r) h
  | _ => False
set_option maxRecDepth 100000 in
theorem to_Ro_half {l : Launch} {D : qD} {d0 : Nat} {K : qK} : qI (s_Ro_half d0 K) (s_invS l D (d0, 0, 0) m_Ro_half 2 K) := sorry
def w_Ro_point_0 (l : Launch) (D : qD) (d0 : Nat) (B : Nat × Nat) (Q : qQ) : qK := (s_aload 0 (s_getI 16 4 (s_iload 2 (s_aload 0 (s_getI 16 3 (s_isub (s_imul (s_iload 1 (s_iadd (s_aload 0 (s_getI 16 2 (s_isub (s_iret Q)))))))))))))
theorem Ro_point_0 {l : Launch} {D : qD} {d0 : Nat} {B : Nat × Nat} {Q : qQ} : qI (w_Ro_point_0 l D d0 B Q) (qR l D (d0 + 1, B) m_Ro_point 0 Q) := sorry
def p_Ro_point (a b : Int) (v : Int → Int → Int) : Prop := (r32 (b - (v 267 3)) ∧ r32 ((v 267 4) * (b - (v 267 3))) ∧ r32 (((v 267 4) * (b - (v 267 3))) + a) ∧ r32 ((((v 267 4) * (b - (v 267 3))) + a) - (v 267 2)))
def f_Ro_point (a b : Int) (v : Int → Int → Int) : Int := ((((v 267 4) * (b - (v 267 3))) + a) - (v 267 2))
set_option maxRecDepth 100000 in
theorem sp_Ro_point {l : Launch} {D : qD} {d : Nat} {a b : Int} {h : qh} {Q : qQ} (hp : p_Ro_point a b h.2) (hq : Q (some (.inl (f_Ro_point a b h.2))) h) : qM l D (d + 1, 0, 0) m_Ro_point [.inr (.inr 267), .inl a, .inl b] h Q := sorry
def s_Ro_point (d0 : Nat) (K : qK) : qK := fun ls st h => match st with
  | .inl b :: .inl a :: .inr (.inr o) :: r => o = 267 ∧ 1 ≤ d0 ∧ q_cs r ≤ 8 ∧ p_Ro_point a b h.2 ∧ K ls (.inl (f_Ro_point a b h.2) :: r) h
  | _ => False
set_option maxRecDepth 100000 in
theorem to_Ro_point {l : Launch} {D : qD} {d0 : Nat} {K : qK} : qI (s_Ro_point d0 K) (s_invV l D (d0, 0, 0) 16 m_Ro_point 2 K) := sorry
def w_Dr_pointX_55 (l : Launch) (D : qD) (d0 : Nat) (B : Nat × Nat) (Q : qQ) : qK := (s_iret Q)
theorem Dr_pointX_55 {l : Launch} {D : qD} {d0 : Nat} {B : Nat × Nat} {Q : qQ} : qI (w_Dr_pointX_55 l D d0 B Q) (qR l D (d0 + 1, B) m_Dr_pointX 55 Q) := sorry
def w_Dr_pointX_42 (l : Launch) (D : qD) (d0 : Nat) (B : Nat × Nat) (Q : qQ) : qK := (s_aload 0 (s_getR 2 8 (s_ic (24) (s_iload 2 (s_imul (s_iload 3 (s_iadd (s_ic (1) (s_isub (s_iald (w_Dr_pointX_55 l D d0 B Q)))))))))))
theorem Dr_pointX_42 {l : Launch} {D : qD} {d0 : Nat} {B : Nat × Nat} {Q : qQ} : qI (w_Dr_pointX_42 l D d0 B Q) (qR l D (d0 + 1, B) m_Dr_pointX 42 Q) := sorry
def w_Dr_pointX_18 (l : Launch) (D : qD) (d0 : Nat) (B : Nat × Nat) (Q : qQ) : qK := (s_iload 3 (s_aload 0 (s_getR 2 7 (s_iload 2 (s_iald (s_icmp_le (w_Dr_pointX_42 l D d0 B Q) (s_aload 0 (s_getR 2 5 (s_aload 1 (s_getR 3 9 (s_iload 2 (s_iald (s_iald (w_Dr_pointX_55 l D d0 B Q))))))))))))))
theorem Dr_pointX_18 {l : Launch} {D : qD} {d0 : Nat} {B : Nat × Nat} {Q : qQ} : qI (w_Dr_pointX_18 l D d0 B Q) (qR l D (d0 + 1, B) m_Dr_pointX 18 Q) := sorry
def w_Dr_pointX_0 (l : Launch) (D : qD) (d0 : Nat) (B : Nat × Nat) (Q : qQ) : qK := (s_iload 3 (s_if_ne (w_Dr_pointX_18 l D d0 B Q) (s_aload 0 (s_getR 2 5 (s_aload 1 (s_getR 3 8 (s_iload 2 (s_iald (s_iald (w_Dr_pointX_55 l D d0 B Q))))))))))
theorem Dr_pointX_0 {l : Launch} {D : qD} {d0 : Nat} {B : Nat × Nat} {Q : qQ} : qI (w_Dr_pointX_0 l D d0 B Q) (qR l D (d0 + 1, B) m_Dr_pointX 0 Q) := sorry
abbrev e_Dr_pointX (o a b c : Int) (v : Int → Int → Int) : Prop := 0 ≤ o ∧ q_shp o = (2, 0) ∧ v o 7 = o + 3 ∧ q_shp (o + 3) = (100, 48) ∧ 0 ≤ (o + 3) ∧ v o 8 = o + 4 ∧ q_shp (o + 4) = (100, 1152) ∧ 0 ≤ (o + 4) ∧ v o 5 = o + 1 ∧ 0 ≤ a ∧ q_shp a = (3, 0) ∧ v a 9 = a + 7 ∧ q_shp (a + 7) = (100, 48) ∧ 0 ≤ (a + 7) ∧ q_shp (o + 1) = (100, 24) ∧ 0 ≤ (o + 1) ∧ v a 8 = a + 6 ∧ q_shp (a + 6) = (100, 48) ∧ 0 ≤ (a + 6)
def p_Dr_pointX (o a b c : Int) (v : Int → Int → Int) : Prop := ((c ≠ 0 → (0 ≤ b ∧ b < 48 ∧ (c ≤ (v (o + 3) b) → (r32 (24 * b) ∧ r32 ((24 * b) + c) ∧ r32 (((24 * b) + c) - 1) ∧ 0 ≤ (((24 * b) + c) - 1) ∧ (((24 * b) + c) - 1) < 1152)) ∧ ((v (o + 3) b) < c → (0 ≤ b ∧ b < 48 ∧ 0 ≤ (v (a + 7) b) ∧ (v (a + 7) b) < 24)))) ∧ (c = 0 → (0 ≤ b ∧ b < 48 ∧ 0 ≤ (v (a + 6) b) ∧ (v (a + 6) b) < 24)))
def f_Dr_pointX (o a b c : Int) (v : Int → Int → Int) : Int := (if c ≠ 0 then (if c ≤ (v (o + 3) b) then (v (o + 4) (((24 * b) + c) - 1)) else (v (o + 1) (v (a + 7) b))) else (v (o + 1) (v (a + 6) b)))
set_option maxRecDepth 100000 in
theorem sp_Dr_pointX {l : Launch} {D : qD} {d : Nat} {o a b c : Int} {h : qh} {Q : qQ} (he : e_Dr_pointX o a b c h.2) (hp : p_Dr_pointX o a b c h.2) (hq : Q (some (.inl (f_Dr_pointX o a b c h.2))) h) : qM l D (d + 1, 0, 0) m_Dr_pointX [.inr (.inr o), .inr (.inr a), .inl b, .inl c] h Q := sorry
def s_Dr_pointX (d0 : Nat) (K : qK) : qK := fun ls st h => match st with
  | .inl c :: .inl b :: .inr (.inr a) :: .inr (.inr o) :: r => 1 ≤ d0 ∧ q_cs r ≤ 8 ∧ 0 ≤ o ∧ (q_shp o).1 = 2 ∧ e_Dr_pointX o a b c h.2 ∧ p_Dr_pointX o a b c h.2 ∧ K ls (.inl (f_Dr_pointX o a b c h.2) :: r) h
  | _ => False
set_option maxRecDepth 100000 in
theorem to_Dr_pointX {l : Launch} {D : qD} {d0 : Nat} {K : qK} : qI (s_Dr_pointX d0 K) (s_invV l D (d0, 0, 0) 2 m_Dr_pointX 3 K) := sorry
def w_Dr_pointY_55 (l : Launch) (D : qD) (d0 : Nat) (B : Nat × Nat) (Q : qQ) : qK := (s_iret Q)
theorem Dr_pointY_55 {l : Launch} {D : qD} {d0 : Nat} {B : Nat × Nat} {Q : qQ} : qI (w_Dr_pointY_55 l D d0 B Q) (qR l D (d0 + 1, B) m_Dr_pointY 55 Q) := sorry
def w_Dr_pointY_42 (l : Launch) (D : qD) (d0 : Nat) (B : Nat × Nat) (Q : qQ) : qK := (s_aload 0 (s_getR 2 9 (s_ic (24) (s_iload 2 (s_imul (s_iload 3 (s_iadd (s_ic (1) (s_isub (s_iald (w_Dr_pointY_55 l D d0 B Q)))))))))))
theorem Dr_pointY_42 {l : Launch} {D : qD} {d0 : Nat} {B : Nat × Nat} {Q : qQ} : qI (w_Dr_pointY_42 l D d0 B Q) (qR l D (d0 + 1, B) m_Dr_pointY 42 Q) := sorry
def w_Dr_pointY_18 (l : Launch) (D : qD) (d0 : Nat) (B : Nat × Nat) (Q : qQ) : qK := (s_iload 3 (s_aload 0 (s_getR 2 7 (s_iload 2 (s_iald (s_icmp_le (w_Dr_pointY_42 l D d0 B Q) (s_aload 0 (s_getR 2 6 (s_aload 1 (s_getR 3 9 (s_iload 2 (s_iald (s_iald (w_Dr_pointY_55 l D d0 B Q))))))))))))))
theorem Dr_pointY_18 {l : Launch} {D : qD} {d0 : Nat} {B : Nat × Nat} {Q : qQ} : qI (w_Dr_pointY_18 l D d0 B Q) (qR l D (d0 + 1, B) m_Dr_pointY 18 Q) := sorry
def w_Dr_pointY_0 (l : Launch) (D : qD) (d0 : Nat) (B : Nat × Nat) (Q : qQ) : qK := (s_iload 3 (s_if_ne (w_Dr_pointY_18 l D d0 B Q) (s_aload 0 (s_getR 2 6 (s_aload 1 (s_getR 3 8 (s_iload 2 (s_iald (s_iald (w_Dr_pointY_55 l D d0 B Q))))))))))
theorem Dr_pointY_0 {l : Launch} {D : qD} {d0 : Nat} {B : Nat × Nat} {Q : qQ} : qI (w_Dr_pointY_0 l D d0 B Q) (qR l D (d0 + 1, B) m_Dr_pointY 0 Q) := sorry
abbrev e_Dr_pointY (o a b c : Int) (v : Int → Int → Int) : Prop := 0 ≤ o ∧ q_shp o = (2, 0) ∧ v o 7 = o + 3 ∧ q_shp (o + 3) = (100, 48) ∧ 0 ≤ (o + 3) ∧ v o 9 = o + 5 ∧ q_shp (o + 5) = (100, 1152) ∧ 0 ≤ (o + 5) ∧ v o 6 = o + 2 ∧ 0 ≤ a ∧ q_shp a = (3, 0) ∧ v a 9 = a + 7 ∧ q_shp (a + 7) = (100, 48) ∧ 0 ≤ (a + 7) ∧ q_shp (o + 2) = (100, 24) ∧ 0 ≤ (o + 2) ∧ v a 8 = a + 6 ∧ q_shp (a + 6) = (100, 48) ∧ 0 ≤ (a + 6)
def p_Dr_pointY (o a b c : Int) (v : Int → Int → Int) : Prop := ((c ≠ 0 → (0 ≤ b ∧ b < 48 ∧ (c ≤ (v (o + 3) b) → (r32 (24 * b) ∧ r32 ((24 * b) + c) ∧ r32 (((24 * b) + c) - 1) ∧ 0 ≤ (((24 * b) + c) - 1) ∧ (((24 * b) + c) - 1) < 1152)) ∧ ((v (o + 3) b) < c → (0 ≤ b ∧ b < 48 ∧ 0 ≤ (v (a + 7) b) ∧ (v (a + 7) b) < 24)))) ∧ (c = 0 → (0 ≤ b ∧ b < 48 ∧ 0 ≤ (v (a + 6) b) ∧ (v (a + 6) b) < 24)))
def f_Dr_pointY (o a b c : Int) (v : Int → Int → Int) : Int := (if c ≠ 0 then (if c ≤ (v (o + 3) b) then (v (o + 5) (((24 * b) + c) - 1)) else (v (o + 2) (v (a + 7) b))) else (v (o + 2) (v (a + 6) b)))
set_option maxRecDepth 100000 in
theorem sp_Dr_pointY {l : Launch} {D : qD} {d : Nat} {o a b c : Int} {h : qh} {Q : qQ} (he : e_Dr_pointY o a b c h.2) (hp : p_Dr_pointY o a b c h.2) (hq : Q (some (.inl (f_Dr_pointY o a b c h.2))) h) : qM l D (d + 1, 0, 0) m_Dr_pointY [.inr (.inr o), .inr (.inr a), .inl b, .inl c] h Q := sorry
def s_Dr_pointY (d0 : Nat) (K : qK) : qK := fun ls st h => match st with
  | .inl c :: .inl b :: .inr (.inr a) :: .inr (.inr o) :: r => 1 ≤ d0 ∧ q_cs r ≤ 8 ∧ 0 ≤ o ∧ (q_shp o).1 = 2 ∧ e_Dr_pointY o a b c h.2 ∧ p_Dr_pointY o a b c h.2 ∧ K ls (.inl (f_Dr_pointY o a b c h.2) :: r) h
  | _ => False
set_option maxRecDepth 100000 in
theorem to_Dr_pointY {l : Launch} {D : qD} {d0 : Nat} {K : qK} : qI (s_Dr_pointY d0 K) (s_invV l D (d0, 0, 0) 2 m_Dr_pointY 3 K) := sorry
def w_Ju_half_0 (l : Launch) (D : qD) (d0 : Nat) (B : Nat × Nat) (Q : qQ) : qK := (s_aload 0 (s_getR 3 5 (s_iload 1 (s_iald (s_ic (1) (s_iadd (s_iret Q)))))))
theorem Ju_half_0 {l : Launch} {D : qD} {d0 : Nat} {B : Nat × Nat} {Q : qQ} : qI (w_Ju_half_0 l D d0 B Q) (qR l D (d0 + 1, B) m_Ju_half 0 Q) := sorry
abbrev e_Ju_half (a b : Int) (v : Int → Int → Int) : Prop := 0 ≤ a ∧ q_shp a = (3, 0) ∧ v a 5 = a + 3 ∧ q_shp (a + 3) = (100, 24) ∧ 0 ≤ (a + 3)
def p_Ju_half (a b : Int) (v : Int → Int → Int) : Prop := (0 ≤ b ∧ b < 24 ∧ r32 ((v (a + 3) b) + 1))
def f_Ju_half (a b : Int) (v : Int → Int → Int) : Int := ((v (a + 3) b) + 1)
set_option maxRecDepth 100000 in
theorem sp_Ju_half {l : Launch} {D : qD} {d : Nat} {a b : Int} {h : qh} {Q : qQ} (he : e_Ju_half a b h.2) (hp : p_Ju_half a b h.2) (hq : Q (some (.inl (f_Ju_half a b h.2))) h) : qM l D (d + 1, 0, 0) m_Ju_half [.inr (.inr a), .inl b] h Q := sorry
def s_Ju_half (d0 : Nat) (K : qK) : qK := fun ls st h => match st with
  | .inl b :: .inr (.inr a) :: r => 1 ≤ d0 ∧ q_cs r ≤ 8 ∧ e_Ju_half a b h.2 ∧ p_Ju_half a b h.2 ∧ K ls (.inl (f_Ju_half a b h.2) :: r) h
  | _ => False
set_option maxRecDepth 100000 in
theorem to_Ju_half {l : Launch} {D : qD} {d0 : Nat} {K : qK} : qI (s_Ju_half d0 K) (s_invS l D (d0, 0, 0) m_Ju_half 2 K) := sorry
def w_Ju_isOther_15 (l : Launch) (D : qD) (d0 : Nat) (B : Nat × Nat) (Q : qQ) : qK := (s_zret Q)
theorem Ju_isOther_15 {l : Launch} {D : qD} {d0 : Nat} {B : Nat × Nat} {Q : qQ} : qI (w_Ju_isOther_15 l D d0 B Q) (qR l D (d0 + 1, B) m_Ju_isOther 15 Q) := sorry
def w_Ju_isOther_14 (l : Launch) (D : qD) (d0 : Nat) (B : Nat × Nat) (Q : qQ) : qK := (s_ic (0) (w_Ju_isOther_15 l D d0 B Q))
theorem Ju_isOther_14 {l : Launch} {D : qD} {d0 : Nat} {B : Nat × Nat} {Q : qQ} : qI (w_Ju_isOther_14 l D d0 B Q) (qR l D (d0 + 1, B) m_Ju_isOther 14 Q) := sorry
def w_Ju_isOther_10 (l : Launch) (D : qD) (d0 : Nat) (B : Nat × Nat) (Q : qQ) : qK := (s_ic (1) (w_Ju_isOther_15 l D d0 B Q))
theorem Ju_isOther_10 {l : Launch} {D : qD} {d0 : Nat} {B : Nat × Nat} {Q : qQ} : qI (w_Ju_isOther_10 l D d0 B Q) (qR l D (d0 + 1, B) m_Ju_isOther 10 Q) := sorry
def w_Ju_isOther_0 (l : Launch) (D : qD) (d0 : Nat) (B : Nat × Nat) (Q : qQ) : qK := (s_iload 0 (s_iload 2 (s_icmp_ne (w_Ju_isOther_10 l D d0 B Q) (s_iload 1 (s_iload 3 (s_icmp_eq (w_Ju_isOther_14 l D d0 B Q) (w_Ju_isOther_10 l D d0 B Q)))))))
theorem Ju_isOther_0 {l : Launch} {D : qD} {d0 : Nat} {B : Nat × Nat} {Q : qQ} : qI (w_Ju_isOther_0 l D d0 B Q) (qR l D (d0 + 1, B) m_Ju_isOther 0 Q) := sorry
def f_Ju_isOther (a b c e : Int) (v : Int → Int → Int) : Int := (if a ≠ c then 1 else (if b = e then 0 else 1))
theorem fb_Ju_isOther (a b c e : Int) (v : Int → Int → Int) : f_Ju_isOther a b c e v = 0 ∨ f_Ju_isOther a b c e v = 1 := sorry
set_option maxRecDepth 100000 in
theorem sp_Ju_isOther {l : Launch} {D : qD} {d : Nat} {a b c e : Int} {h : qh} {Q : qQ} (hq : Q (some (.inl (f_Ju_isOther a b c e h.2))) h) : qM l D (d + 1, 0, 0) m_Ju_isOther [.inl a, .inl b, .inl c, .inl e] h Q := sorry
def s_Ju_isOther (d0 : Nat) (K : qK) : qK := fun ls st h => match st with
  | .inl e :: .inl c :: .inl b :: .inl a :: r => 1 ≤ d0 ∧ q_cs r ≤ 8 ∧ K ls (.inl (f_Ju_isOther a b c e h.2) :: r) h
  | _ => False
set_option maxRecDepth 100000 in
theorem to_Ju_isOther {l : Launch} {D : qD} {d0 : Nat} {K : qK} : qI (s_Ju_isOther d0 K) (s_invS l D (d0, 0, 0) m_Ju_isOther 4 K) := sorry
def w_Math_max_0_10 (l : Launch) (D : qD) (d0 : Nat) (B : Nat × Nat) (Q : qQ) : qK := (s_iret Q)
theorem Math_max_0_10 {l : Launch} {D : qD} {d0 : Nat} {B : Nat × Nat} {Q : qQ} : qI (w_Math_max_0_10 l D d0 B Q) (qR l D (d0 + 1, B) m_Math_max_0 10 Q) := sorry
def w_Math_max_0_9 (l : Launch) (D : qD) (d0 : Nat) (B : Nat × Nat) (Q : qQ) : qK := (s_iload 1 (w_Math_max_0_10 l D d0 B Q))
theorem Math_max_0_9 {l : Launch} {D : qD} {d0 : Nat} {B : Nat × Nat} {Q : qQ} : qI (w_Math_max_0_9 l D d0 B Q) (qR l D (d0 + 1, B) m_Math_max_0 9 Q) := sorry
def w_Math_max_0_0 (l : Launch) (D : qD) (d0 : Nat) (B : Nat × Nat) (Q : qQ) : qK := (s_iload 0 (s_iload 1 (s_icmp_lt (w_Math_max_0_9 l D d0 B Q) (s_iload 0 (w_Math_max_0_10 l D d0 B Q)))))
theorem Math_max_0_0 {l : Launch} {D : qD} {d0 : Nat} {B : Nat × Nat} {Q : qQ} : qI (w_Math_max_0_0 l D d0 B Q) (qR l D (d0 + 1, B) m_Math_max_0 0 Q) := sorry
def f_Math_max_0 (a b : Int) (v : Int → Int → Int) : Int := (if a < b then b else a)
set_option maxRecDepth 100000 in
theorem sp_Math_max_0 {l : Launch} {D : qD} {d : Nat} {a b : Int} {h : qh} {Q : qQ} (hq : Q (some (.inl (f_Math_max_0 a b h.2))) h) : qM l D (d + 1, 0, 0) m_Math_max_0 [.inl a, .inl b] h Q := sorry
def s_Math_max_0 (d0 : Nat) (K : qK) : qK := fun ls st h => match st with
  | .inl b :: .inl a :: r => 1 ≤ d0 ∧ q_cs r ≤ 8 ∧ K ls (.inl (f_Math_max_0 a b h.2) :: r) h
  | _ => False
set_option maxRecDepth 100000 in
theorem to_Math_max_0 {l : Launch} {D : qD} {d0 : Nat} {K : qK} : qI (s_Math_max_0 d0 K) (s_invS l D (d0, 0, 0) m_Math_max_0 2 K) := sorry
def w_Math_min_0_10 (l : Launch) (D : qD) (d0 : Nat) (B : Nat × Nat) (Q : qQ) : qK := (s_iret Q)
theorem Math_min_0_10 {l : Launch} {D : qD} {d0 : Nat} {B : Nat × Nat} {Q : qQ} : qI (w_Math_min_0_10 l D d0 B Q) (qR l D (d0 + 1, B) m_Math_min_0 10 Q) := sorry
def w_Math_min_0_9 (l : Launch) (D : qD) (d0 : Nat) (B : Nat × Nat) (Q : qQ) : qK := (s_iload 1 (w_Math_min_0_10 l D d0 B Q))
theorem Math_min_0_9 {l : Launch} {D : qD} {d0 : Nat} {B : Nat × Nat} {Q : qQ} : qI (w_Math_min_0_9 l D d0 B Q) (qR l D (d0 + 1, B) m_Math_min_0 9 Q) := sorry
def w_Math_min_0_0 (l : Launch) (D : qD) (d0 : Nat) (B : Nat × Nat) (Q : qQ) : qK := (s_iload 0 (s_iload 1 (s_icmp_gt (w_Math_min_0_9 l D d0 B Q) (s_iload 0 (w_Math_min_0_10 l D d0 B Q)))))
theorem Math_min_0_0 {l : Launch} {D : qD} {d0 : Nat} {B : Nat × Nat} {Q : qQ} : qI (w_Math_min_0_0 l D d0 B Q) (qR l D (d0 + 1, B) m_Math_min_0 0 Q) := sorry
def f_Math_min_0 (a b : Int) (v : Int → Int → Int) : Int := (if b < a then b else a)
set_option maxRecDepth 100000 in
theorem sp_Math_min_0 {l : Launch} {D : qD} {d : Nat} {a b : Int} {h : qh} {Q : qQ} (hq : Q (some (.inl (f_Math_min_0 a b h.2))) h) : qM l D (d + 1, 0, 0) m_Math_min_0 [.inl a, .inl b] h Q := sorry
def s_Math_min_0 (d0 : Nat) (K : qK) : qK := fun ls st h => match st with
  | .inl b :: .inl a :: r => 1 ≤ d0 ∧ q_cs r ≤ 8 ∧ K ls (.inl (f_Math_min_0 a b h.2) :: r) h
  | _ => False
set_option maxRecDepth 100000 in
theorem to_Math_min_0 {l : Launch} {D : qD} {d0 : Nat} {K : qK} : qI (s_Math_min_0 d0 K) (s_invS l D (d0, 0, 0) m_Math_min_0 2 K) := sorry
def w_Math_abs_0_10 (l : Launch) (D : qD) (d0 : Nat) (B : Nat × Nat) (Q : qQ) : qK := (s_iret Q)
theorem Math_abs_0_10 {l : Launch} {D : qD} {d0 : Nat} {B : Nat × Nat} {Q : qQ} : qI (w_Math_abs_0_10 l D d0 B Q) (qR l D (d0 + 1, B) m_Math_abs_0 10 Q) := sorry
def w_Math_abs_0_9 (l : Launch) (D : qD) (d0 : Nat) (B : Nat × Nat) (Q : qQ) : qK := (s_iload 0 (w_Math_abs_0_10 l D d0 B Q))
theorem Math_abs_0_9 {l : Launch} {D : qD} {d0 : Nat} {B : Nat × Nat} {Q : qQ} : qI (w_Math_abs_0_9 l D d0 B Q) (qR l D (d0 + 1, B) m_Math_abs_0 9 Q) := sorry
def w_Math_abs_0_0 (l : Launch) (D : qD) (d0 : Nat) (B : Nat × Nat) (Q : qQ) : qK := (s_iload 0 (s_if_ge (w_Math_abs_0_9 l D d0 B Q) (s_iload 0 (s_ineg (w_Math_abs_0_10 l D d0 B Q)))))
theorem Math_abs_0_0 {l : Launch} {D : qD} {d0 : Nat} {B : Nat × Nat} {Q : qQ} : qI (w_Math_abs_0_0 l D d0 B Q) (qR l D (d0 + 1, B) m_Math_abs_0 0 Q) := sorry
def p_Math_abs_0 (a : Int) (v : Int → Int → Int) : Prop := (a < 0 → r32 (-a))
def f_Math_abs_0 (a : Int) (v : Int → Int → Int) : Int := (if 0 ≤ a then a else (-a))
set_option maxRecDepth 100000 in
theorem sp_Math_abs_0 {l : Launch} {D : qD} {d : Nat} {a : Int} {h : qh} {Q : qQ} (hp : p_Math_abs_0 a h.2) (hq : Q (some (.inl (f_Math_abs_0 a h.2))) h) : qM l D (d + 1, 0, 0) m_Math_abs_0 [.inl a] h Q := sorry
def s_Math_abs_0 (d0 : Nat) (K : qK) : qK := fun ls st h => match st with
  | .inl a :: r => 1 ≤ d0 ∧ q_cs r ≤ 8 ∧ p_Math_abs_0 a h.2 ∧ K ls (.inl (f_Math_abs_0 a h.2) :: r) h
  | _ => False
set_option maxRecDepth 100000 in
theorem to_Math_abs_0 {l : Launch} {D : qD} {d0 : Nat} {K : qK} : qI (s_Math_abs_0 d0 K) (s_invS l D (d0, 0, 0) m_Math_abs_0 1 K) := sorry
def w_Math_max_1_11 (l : Launch) (D : qD) (d0 : Nat) (B : Nat × Nat) (Q : qQ) : qK := (s_lret Q)
theorem Math_max_1_11 {l : Launch} {D : qD} {d0 : Nat} {B : Nat × Nat} {Q : qQ} : qI (w_Math_max_1_11 l D d0 B Q) (qR l D (d0 + 1, B) m_Math_max_1 11 Q) := sorry
def w_Math_max_1_10 (l : Launch) (D : qD) (d0 : Nat) (B : Nat × Nat) (Q : qQ) : qK := (s_lload 2 (w_Math_max_1_11 l D d0 B Q))
theorem Math_max_1_10 {l : Launch} {D : qD} {d0 : Nat} {B : Nat × Nat} {Q : qQ} : qI (w_Math_max_1_10 l D d0 B Q) (qR l D (d0 + 1, B) m_Math_max_1 10 Q) := sorry
def w_Math_max_1_0 (l : Launch) (D : qD) (d0 : Nat) (B : Nat × Nat) (Q : qQ) : qK := (s_lload 0 (s_lload 2 (s_lcmp (s_if_lt (w_Math_max_1_10 l D d0 B Q) (s_lload 0 (w_Math_max_1_11 l D d0 B Q))))))
theorem Math_max_1_0 {l : Launch} {D : qD} {d0 : Nat} {B : Nat × Nat} {Q : qQ} : qI (w_Math_max_1_0 l D d0 B Q) (qR l D (d0 + 1, B) m_Math_max_1 0 Q) := sorry
def f_Math_max_1 (a b : Int) (v : Int → Int → Int) : Int := (if (q_lc a b) < 0 then b else a)
set_option maxRecDepth 100000 in
theorem sp_Math_max_1 {l : Launch} {D : qD} {d : Nat} {a b : Int} {h : qh} {Q : qQ} (hq : Q (some (.inr (.inl (f_Math_max_1 a b h.2)))) h) : qM l D (d + 1, 0, 0) m_Math_max_1 [.inr (.inl a), .inr (.inl b)] h Q := sorry
def s_Math_max_1 (d0 : Nat) (K : qK) : qK := fun ls st h => match st with
  | .inr (.inl b) :: .inr (.inl a) :: r => 1 ≤ d0 ∧ q_cs r ≤ 8 ∧ K ls (.inr (.inl (f_Math_max_1 a b h.2)) :: r) h
  | _ => False
set_option maxRecDepth 100000 in
theorem to_Math_max_1 {l : Launch} {D : qD} {d0 : Nat} {K : qK} : qI (s_Math_max_1 d0 K) (s_invS l D (d0, 0, 0) m_Math_max_1 2 K) := sorry
def w_Math_min_1_11 (l : Launch) (D : qD) (d0 : Nat) (B : Nat × Nat) (Q : qQ) : qK := (s_lret Q)
theorem Math_min_1_11 {l : Launch} {D : qD} {d0 : Nat} {B : Nat × Nat} {Q : qQ} : qI (w_Math_min_1_11 l D d0 B Q) (qR l D (d0 + 1, B) m_Math_min_1 11 Q) := sorry
def w_Math_min_1_10 (l : Launch) (D : qD) (d0 : Nat) (B : Nat × Nat) (Q : qQ) : qK := (s_lload 2 (w_Math_min_1_11 l D d0 B Q))
theorem Math_min_1_10 {l : Launch} {D : qD} {d0 : Nat} {B : Nat × Nat} {Q : qQ} : qI (w_Math_min_1_10 l D d0 B Q) (qR l D (d0 + 1, B) m_Math_min_1 10 Q) := sorry
def w_Math_min_1_0 (l : Launch) (D : qD) (d0 : Nat) (B : Nat × Nat) (Q : qQ) : qK := (s_lload 0 (s_lload 2 (s_lcmp (s_if_gt (w_Math_min_1_10 l D d0 B Q) (s_lload 0 (w_Math_min_1_11 l D d0 B Q))))))
theorem Math_min_1_0 {l : Launch} {D : qD} {d0 : Nat} {B : Nat × Nat} {Q : qQ} : qI (w_Math_min_1_0 l D d0 B Q) (qR l D (d0 + 1, B) m_Math_min_1 0 Q) := sorry
def f_Math_min_1 (a b : Int) (v : Int → Int → Int) : Int := (if 0 < (q_lc a b) then b else a)
set_option maxRecDepth 100000 in
theorem sp_Math_min_1 {l : Launch} {D : qD} {d : Nat} {a b : Int} {h : qh} {Q : qQ} (hq : Q (some (.inr (.inl (f_Math_min_1 a b h.2)))) h) : qM l D (d + 1, 0, 0) m_Math_min_1 [.inr (.inl a), .inr (.inl b)] h Q := sorry
def s_Math_min_1 (d0 : Nat) (K : qK) : qK := fun ls st h => match st with
  | .inr (.inl b) :: .inr (.inl a) :: r => 1 ≤ d0 ∧ q_cs r ≤ 8 ∧ K ls (.inr (.inl (f_Math_min_1 a b h.2)) :: r) h
  | _ => False
set_option maxRecDepth 100000 in
theorem to_Math_min_1 {l : Launch} {D : qD} {d0 : Nat} {K : qK} : qI (s_Math_min_1 d0 K) (s_invS l D (d0, 0, 0) m_Math_min_1 2 K) := sorry
def w_Math_abs_1_12 (l : Launch) (D : qD) (d0 : Nat) (B : Nat × Nat) (Q : qQ) : qK := (s_lret Q)
theorem Math_abs_1_12 {l : Launch} {D : qD} {d0 : Nat} {B : Nat × Nat} {Q : qQ} : qI (w_Math_abs_1_12 l D d0 B Q) (qR l D (d0 + 1, B) m_Math_abs_1 12 Q) := sorry
def w_Math_abs_1_11 (l : Launch) (D : qD) (d0 : Nat) (B : Nat × Nat) (Q : qQ) : qK := (s_lload 0 (w_Math_abs_1_12 l D d0 B Q))
theorem Math_abs_1_11 {l : Launch} {D : qD} {d0 : Nat} {B : Nat × Nat} {Q : qQ} : qI (w_Math_abs_1_11 l D d0 B Q) (qR l D (d0 + 1, B) m_Math_abs_1 11 Q) := sorry
def w_Math_abs_1_0 (l : Launch) (D : qD) (d0 : Nat) (B : Nat × Nat) (Q : qQ) : qK := (s_lload 0 (s_lc 0 (s_lcmp (s_if_ge (w_Math_abs_1_11 l D d0 B Q) (s_lload 0 (s_lneg (w_Math_abs_1_12 l D d0 B Q)))))))
theorem Math_abs_1_0 {l : Launch} {D : qD} {d0 : Nat} {B : Nat × Nat} {Q : qQ} : qI (w_Math_abs_1_0 l D d0 B Q) (qR l D (d0 + 1, B) m_Math_abs_1 0 Q) := sorry
def f_Math_abs_1 (a : Int) (v : Int → Int → Int) : Int := (if 0 ≤ (q_lc a 0) then a else (w64 (-a)))
set_option maxRecDepth 100000 in
theorem sp_Math_abs_1 {l : Launch} {D : qD} {d : Nat} {a : Int} {h : qh} {Q : qQ} (hq : Q (some (.inr (.inl (f_Math_abs_1 a h.2)))) h) : qM l D (d + 1, 0, 0) m_Math_abs_1 [.inr (.inl a)] h Q := sorry
def s_Math_abs_1 (d0 : Nat) (K : qK) : qK := fun ls st h => match st with
  | .inr (.inl a) :: r => 1 ≤ d0 ∧ q_cs r ≤ 8 ∧ K ls (.inr (.inl (f_Math_abs_1 a h.2)) :: r) h
  | _ => False
set_option maxRecDepth 100000 in
theorem to_Math_abs_1 {l : Launch} {D : qD} {d0 : Nat} {K : qK} : qI (s_Math_abs_1 d0 K) (s_invS l D (d0, 0, 0) m_Math_abs_1 1 K) := sorry
def w_DH_octet_22 (l : Launch) (D : qD) (d0 : Nat) (B : Nat × Nat) (Q : qQ) : qK := (s_iret Q)
theorem DH_octet_22 {l : Launch} {D : qD} {d0 : Nat} {B : Nat × Nat} {Q : qQ} : qI (w_DH_octet_22 l D d0 B Q) (qR l D (d0 + 1, B) m_DH_octet 22 Q) := sorry
def w_DH_octet_16 (l : Launch) (D : qD) (d0 : Nat) (B : Nat × Nat) (Q : qQ) : qK := (s_aload 0 (s_getR 0 27 (s_iload 1 (s_bald (w_DH_octet_22 l D d0 B Q)))))
theorem DH_octet_16 {l : Launch} {D : qD} {d0 : Nat} {B : Nat × Nat} {Q : qQ} : qI (w_DH_octet_16 l D d0 B Q) (qR l D (d0 + 1, B) m_DH_octet 16 Q) := sorry
def w_DH_octet_12 (l : Launch) (D : qD) (d0 : Nat) (B : Nat × Nat) (Q : qQ) : qK := (s_ic (-1) (w_DH_octet_22 l D d0 B Q))
theorem DH_octet_12 {l : Launch} {D : qD} {d0 : Nat} {B : Nat × Nat} {Q : qQ} : qI (w_DH_octet_12 l D d0 B Q) (qR l D (d0 + 1, B) m_DH_octet 12 Q) := sorry
def w_DH_octet_0 (l : Launch) (D : qD) (d0 : Nat) (B : Nat × Nat) (Q : qQ) : qK := (s_iload 1 (s_if_lt (w_DH_octet_12 l D d0 B Q) (s_iload 1 (s_aload 0 (s_getI 0 28 (s_icmp_lt (w_DH_octet_16 l D d0 B Q) (w_DH_octet_12 l D d0 B Q)))))))
theorem DH_octet_0 {l : Launch} {D : qD} {d0 : Nat} {B : Nat × Nat} {Q : qQ} : qI (w_DH_octet_0 l D d0 B Q) (qR l D (d0 + 1, B) m_DH_octet 0 Q) := sorry
abbrev e_DH_octet (a : Int) (v : Int → Int → Int) : Prop := v 0 27 = 274
def p_DH_octet (a : Int) (v : Int → Int → Int) : Prop := (0 ≤ a → (a < (v 0 28) → (0 ≤ a ∧ a < 4000)))
def f_DH_octet (a : Int) (v : Int → Int → Int) : Int := (if a < 0 then (-1) else (if a < (v 0 28) then (v 274 a) else (-1)))
set_option maxRecDepth 100000 in
theorem sp_DH_octet {l : Launch} {D : qD} {d : Nat} {a : Int} {h : qh} {Q : qQ} (he : e_DH_octet a h.2) (hp : p_DH_octet a h.2) (hq : Q (some (.inl (f_DH_octet a h.2))) h) : qM l D (d + 1, 0, 0) m_DH_octet [.inr (.inr 0), .inl a] h Q := sorry
def s_DH_octet (d0 : Nat) (K : qK) : qK := fun ls st h => match st with
  | .inl a :: .inr (.inr o) :: r => o = 0 ∧ 1 ≤ d0 ∧ q_cs r ≤ 8 ∧ e_DH_octet a h.2 ∧ p_DH_octet a h.2 ∧ K ls (.inl (f_DH_octet a h.2) :: r) h
  | _ => False
set_option maxRecDepth 100000 in
theorem to_DH_octet {l : Launch} {D : qD} {d0 : Nat} {K : qK} : qI (s_DH_octet d0 K) (s_invV l D (d0, 0, 0) 0 m_DH_octet 1 K) := sorry
def w_DH_dot_41 (l : Launch) (D : qD) (d0 : Nat) (B : Nat × Nat) (Q : qQ) : qK := (s_iret Q)
theorem DH_dot_41 {l : Launch} {D : qD} {d0 : Nat} {B : Nat × Nat} {Q : qQ} : qI (w_DH_dot_41 l D d0 B Q) (qR l D (d0 + 1, B) m_DH_dot 41 Q) := sorry
def w_DH_dot_28 (l : Launch) (D : qD) (d0 : Nat) (B : Nat × Nat) (Q : qQ) : qK := (s_aload 0 (s_getR 0 31 (s_aload 0 (s_getI 0 32 (s_iload 2 (s_imul (s_iload 1 (s_iadd (s_iald (w_DH_dot_41 l D d0 B Q))))))))))
theorem DH_dot_28 {l : Launch} {D : qD} {d0 : Nat} {B : Nat × Nat} {Q : qQ} : qI (w_DH_dot_28 l D d0 B Q) (qR l D (d0 + 1, B) m_DH_dot 28 Q) := sorry
def w_DH_dot_24 (l : Launch) (D : qD) (d0 : Nat) (B : Nat × Nat) (Q : qQ) : qK := (s_ic (-1) (w_DH_dot_41 l D d0 B Q))
theorem DH_dot_24 {l : Launch} {D : qD} {d0 : Nat} {B : Nat × Nat} {Q : qQ} : qI (w_DH_dot_24 l D d0 B Q) (qR l D (d0 + 1, B) m_DH_dot 24 Q) := sorry
def w_DH_dot_0 (l : Launch) (D : qD) (d0 : Nat) (B : Nat × Nat) (Q : qQ) : qK := (s_iload 1 (s_if_lt (w_DH_dot_24 l D d0 B Q) (s_iload 2 (s_if_lt (w_DH_dot_24 l D d0 B Q) (s_iload 1 (s_aload 0 (s_getI 0 32 (s_icmp_ge (w_DH_dot_24 l D d0 B Q) (s_iload 2 (s_aload 0 (s_getI 0 33 (s_icmp_lt (w_DH_dot_28 l D d0 B Q) (w_DH_dot_24 l D d0 B Q)))))))))))))
theorem DH_dot_0 {l : Launch} {D : qD} {d0 : Nat} {B : Nat × Nat} {Q : qQ} : qI (w_DH_dot_0 l D d0 B Q) (qR l D (d0 + 1, B) m_DH_dot 0 Q) := sorry
abbrev e_DH_dot (a b : Int) (v : Int → Int → Int) : Prop := v 0 31 = 276
def p_DH_dot (a b : Int) (v : Int → Int → Int) : Prop := (0 ≤ a → (0 ≤ b → (a < (v 0 32) → (b < (v 0 33) → (r32 ((v 0 32) * b) ∧ r32 (((v 0 32) * b) + a) ∧ 0 ≤ (((v 0 32) * b) + a) ∧ (((v 0 32) * b) + a) < 4096)))))
def f_DH_dot (a b : Int) (v : Int → Int → Int) : Int := (if a < 0 then (-1) else (if b < 0 then (-1) else (if (v 0 32) ≤ a then (-1) else (if b < (v 0 33) then (v 276 (((v 0 32) * b) + a)) else (-1)))))
set_option maxRecDepth 100000 in
theorem sp_DH_dot {l : Launch} {D : qD} {d : Nat} {a b : Int} {h : qh} {Q : qQ} (he : e_DH_dot a b h.2) (hp : p_DH_dot a b h.2) (hq : Q (some (.inl (f_DH_dot a b h.2))) h) : qM l D (d + 1, 0, 0) m_DH_dot [.inr (.inr 0), .inl a, .inl b] h Q := sorry
def s_DH_dot (d0 : Nat) (K : qK) : qK := fun ls st h => match st with
  | .inl b :: .inl a :: .inr (.inr o) :: r => o = 0 ∧ 1 ≤ d0 ∧ q_cs r ≤ 8 ∧ e_DH_dot a b h.2 ∧ p_DH_dot a b h.2 ∧ K ls (.inl (f_DH_dot a b h.2) :: r) h
  | _ => False
set_option maxRecDepth 100000 in
theorem to_DH_dot {l : Launch} {D : qD} {d0 : Nat} {K : qK} : qI (s_DH_dot d0 K) (s_invV l D (d0, 0, 0) 0 m_DH_dot 2 K) := sorry
def w_DH_map_43 (l : Launch) (D : qD) (d0 : Nat) (B : Nat × Nat) (Q : qQ) : qK := (s_iret Q)
theorem DH_map_43 {l : Launch} {D : qD} {d0 : Nat} {B : Nat × Nat} {Q : qQ} : qI (w_DH_map_43 l D d0 B Q) (qR l D (d0 + 1, B) m_DH_map 43 Q) := sorry
def w_DH_map_42 (l : Launch) (D : qD) (d0 : Nat) (B : Nat × Nat) (Q : qQ) : qK := (s_ic (-1) (w_DH_map_43 l D d0 B Q))
theorem DH_map_42 {l : Launch} {D : qD} {d0 : Nat} {B : Nat × Nat} {Q : qQ} : qI (w_DH_map_42 l D d0 B Q) (qR l D (d0 + 1, B) m_DH_map 42 Q) := sorry
def w_DH_map_15 (l : Launch) (D : qD) (d0 : Nat) (B : Nat × Nat) (Q : qQ) : qK := (s_iload 1 (s_if_lt (w_DH_map_42 l D d0 B Q) (s_iload 1 (s_aload 0 (s_getR 0 9 (s_getI 8 3 (s_icmp_ge (w_DH_map_42 l D d0 B Q) (s_aload 0 (s_getR 0 9 (s_getR 8 1 (s_iload 1 (s_iald (w_DH_map_43 l D d0 B Q)))))))))))))
theorem DH_map_15 {l : Launch} {D : qD} {d0 : Nat} {B : Nat × Nat} {Q : qQ} : qI (w_DH_map_15 l D d0 B Q) (qR l D (d0 + 1, B) m_DH_map 15 Q) := sorry
def w_DH_map_0 (l : Launch) (D : qD) (d0 : Nat) (B : Nat × Nat) (Q : qQ) : qK := (s_iload 1 (s_ic (-1) (s_icmp_ne (w_DH_map_15 l D d0 B Q) (s_aload 0 (s_getR 0 9 (s_getI 8 2 (w_DH_map_43 l D d0 B Q)))))))
theorem DH_map_0 {l : Launch} {D : qD} {d0 : Nat} {B : Nat × Nat} {Q : qQ} : qI (w_DH_map_0 l D d0 B Q) (qR l D (d0 + 1, B) m_DH_map 0 Q) := sorry
abbrev e_DH_map (a : Int) (v : Int → Int → Int) : Prop := v 0 9 = 145 ∧ v 145 1 = 147
def p_DH_map (a : Int) (v : Int → Int → Int) : Prop := (a ≠ (-1) → (0 ≤ a → (a < (v 145 3) → (0 ≤ a ∧ a < 24))))
def f_DH_map (a : Int) (v : Int → Int → Int) : Int := (if a ≠ (-1) then (if a < 0 then (-1) else (if (v 145 3) ≤ a then (-1) else (v 147 a))) else (v 145 2))
set_option maxRecDepth 100000 in
theorem sp_DH_map {l : Launch} {D : qD} {d : Nat} {a : Int} {h : qh} {Q : qQ} (he : e_DH_map a h.2) (hp : p_DH_map a h.2) (hq : Q (some (.inl (f_DH_map a h.2))) h) : qM l D (d + 1, 0, 0) m_DH_map [.inr (.inr 0), .inl a] h Q := sorry
def s_DH_map (d0 : Nat) (K : qK) : qK := fun ls st h => match st with
  | .inl a :: .inr (.inr o) :: r => o = 0 ∧ 1 ≤ d0 ∧ q_cs r ≤ 8 ∧ e_DH_map a h.2 ∧ p_DH_map a h.2 ∧ K ls (.inl (f_DH_map a h.2) :: r) h
  | _ => False
set_option maxRecDepth 100000 in
theorem to_DH_map {l : Launch} {D : qD} {d0 : Nat} {K : qK} : qI (s_DH_map d0 K) (s_invV l D (d0, 0, 0) 0 m_DH_map 1 K) := sorry
end
section
/-! printed by gen/sym.py: methods without loops that write -/
theorem ne_ad (o k : Int) : (o = o + k) = (k = 0) := sorry
theorem ad_ne (o k : Int) : (o + k = o) = (k = 0) := sorry
theorem ad_ad (o j k : Int) : (o + j = o + k) = (j = k) := sorry
theorem lp_Gr_51 : q_pF "DrawingHouse$Graph" 51 3 0 0 (.int) false := sorry
theorem lp_Gr_54 : q_pF "DrawingHouse$Graph" 54 3 1 0 (.int) false := sorry
theorem lp_Gr_9 : q_pF "DrawingHouse$Graph" 9 3 2 0 (.int) false := sorry
theorem lf_Gr_45 : q_gF "DrawingHouse$Graph" 45 3 12 2 := sorry
theorem lf_Gr_48 : q_gF "DrawingHouse$Graph" 48 3 13 2 := sorry
theorem lf_Gr_38 : q_gF "DrawingHouse$Graph" 38 3 10 2 := sorry
theorem lf_Gr_41 : q_gF "DrawingHouse$Graph" 41 3 11 2 := sorry
theorem lf_Mo_20 : q_gF "DrawingHouseModel" 20 18 3 2 := sorry
theorem lm_Mo_372 : q_gS "DrawingHouseModel" 372 2 m_Mo_rowOf := sorry
theorem lp_Mo_391 : q_pF "DrawingHouseModel" 391 18 5 0 (.int) false := sorry
theorem lm_Mo_401 : q_gV "DrawingHouseModel" 401 18 0 m_Mo_edges := sorry
theorem lp_Mo_413 : q_pF "DrawingHouseModel" 413 18 8 0 (.int) false := sorry
theorem lp_Mo_416 : q_pF "DrawingHouseModel" 416 18 9 0 (.int) false := sorry
theorem lf_Mo_177 : q_gF "DrawingHouseModel" 177 18 83 2 := sorry
theorem lf_Mo_777 : q_gF "DrawingHouseModel" 777 18 80 0 := sorry
theorem lf_Mo_180 : q_gF "DrawingHouseModel" 180 18 84 2 := sorry
theorem lf_Mo_183 : q_gF "DrawingHouseModel" 183 18 85 2 := sorry
theorem lf_Mo_186 : q_gF "DrawingHouseModel" 186 18 86 2 := sorry
theorem lp_Mo_777 : q_pF "DrawingHouseModel" 777 18 80 0 (.int) false := sorry
theorem lf_Mo_189 : q_gF "DrawingHouseModel" 189 18 87 2 := sorry
theorem lf_Mo_780 : q_gF "DrawingHouseModel" 780 18 81 0 := sorry
theorem lf_Mo_192 : q_gF "DrawingHouseModel" 192 18 88 2 := sorry
theorem lf_Mo_195 : q_gF "DrawingHouseModel" 195 18 89 2 := sorry
theorem lp_Mo_780 : q_pF "DrawingHouseModel" 780 18 81 0 (.int) false := sorry
theorem lf_Mo_237 : q_gF "DrawingHouseModel" 237 18 108 2 := sorry
theorem lf_Mo_847 : q_gF "DrawingHouseModel" 847 18 107 0 := sorry
theorem lf_Mo_240 : q_gF "DrawingHouseModel" 240 18 109 2 := sorry
theorem lp_Mo_847 : q_pF "DrawingHouseModel" 847 18 107 0 (.int) false := sorry
theorem lf_Mo_597 : q_gF "DrawingHouseModel" 597 18 32 0 := sorry
theorem lp_Mo_597 : q_pF "DrawingHouseModel" 597 18 32 0 (.int) false := sorry
theorem lf_Mo_290 : q_gF "DrawingHouseModel" 290 18 127 2 := sorry
theorem lf_Mo_293 : q_gF "DrawingHouseModel" 293 18 128 2 := sorry
theorem lf_Mo_150 : q_gF "DrawingHouseModel" 150 18 71 2 := sorry
theorem lf_Mo_153 : q_gF "DrawingHouseModel" 153 18 72 2 := sorry
theorem lf_Mo_317 : q_gF "DrawingHouseModel" 317 18 140 2 := sorry
theorem lf_Mo_321 : q_gF "DrawingHouseModel" 321 18 141 2 := sorry
theorem lf_Mo_324 : q_gF "DrawingHouseModel" 324 18 142 2 := sorry
theorem lf_Mo_93 : q_gF "DrawingHouseModel" 93 18 48 2 := sorry
theorem lf_Mo_1277 : q_gF "DrawingHouseModel" 1277 18 170 0 := sorry
theorem lp_Mo_1277 : q_pF "DrawingHouseModel" 1277 18 170 0 (.int) false := sorry
theorem lf_Mo_366 : q_gF "DrawingHouseModel" 366 18 172 2 := sorry
theorem lf_Ps_30 : q_gF "DrawingHouse$Places" 30 12 0 0 := sorry
theorem lp_Ps_30 : q_pF "DrawingHouse$Places" 30 12 0 0 (.int) false := sorry
theorem lf_Ps_34 : q_gF "DrawingHouse$Places" 34 12 1 0 := sorry
theorem lp_Ps_34 : q_pF "DrawingHouse$Places" 34 12 1 0 (.int) false := sorry
theorem lf_Ps_18 : q_gF "DrawingHouse$Places" 18 12 4 2 := sorry
theorem lf_Ps_21 : q_gF "DrawingHouse$Places" 21 12 5 2 := sorry
theorem lf_Gd_24 : q_gF "DrawingHouse$Grid" 24 13 4 2 := sorry
theorem lf_Gd_27 : q_gF "DrawingHouse$Grid" 27 13 5 2 := sorry
theorem lf_Ba_26 : q_gF "DrawingHouse$Bars" 26 14 4 2 := sorry
theorem lf_Em_43 : q_gF "DrawingHouse$Embedding" 43 9 16 2 := sorry
theorem lf_Pn_33 : q_gF "DrawingHouse$Plain" 33 15 10 2 := sorry
theorem lf_DH_139 : q_gF "DrawingHouse" 139 0 30 2 := sorry
theorem lf_Sy_11 : q_gF "DrawingHouse$Style" 11 6 0 2 := sorry
theorem lf_Sy_76 : q_gF "DrawingHouse$Style" 76 6 2 0 := sorry
theorem lf_Sy_15 : q_gF "DrawingHouse$Style" 15 6 1 2 := sorry
theorem lp_Sy_76 : q_pF "DrawingHouse$Style" 76 6 2 0 (.int) false := sorry
def w_Gr_clear_0 (l : Launch) (D : qD) (d0 : Nat) (B : Nat × Nat) (Q : qQ) : qK := (s_aload 0 (s_ic (0) (s_putI 3 0 (s_aload 0 (s_ic (0) (s_putI 3 1 (s_aload 0 (s_ic (1) (s_putI 3 2 (s_aload 0 (s_getR 3 12 (s_ic (0) (s_ic (-1) (s_iast (s_aload 0 (s_getR 3 13 (s_ic (0) (s_ic (0) (s_iast (s_vret Q))))))))))))))))))))
theorem Gr_clear_0 {l : Launch} {D : qD} {d0 : Nat} {B : Nat × Nat} {Q : qQ} : qI (w_Gr_clear_0 l D d0 B Q) (qR l D (d0 + 1, B) m_Gr_clear 0 Q) := sorry
abbrev e_Gr_clear (o : Int) (v : Int → Int → Int) : Prop := 0 ≤ o ∧ q_shp o = (3, 0) ∧ v o 12 = o + 10 ∧ q_shp (o + 10) = (100, 8) ∧ 0 ≤ (o + 10) ∧ v o 13 = o + 11 ∧ q_shp (o + 11) = (100, 8) ∧ 0 ≤ (o + 11)
def p_Gr_clear (o : Int) (v : Int → Int → Int) : Prop := (0 ≤ 0 ∧ 0 < 8)
def g_Gr_clear (o : Int) (v : Int → Int → Int) : Int → Int → Int := (up2 (up2 (up2 (up2 (up2 v o 0 0) o 1 0) o 2 1) (o + 10) 0 (-1)) (o + 11) 0 0)
set_option maxRecDepth 100000 in
theorem sp_Gr_clear {l : Launch} {D : qD} {d : Nat} {o : Int} {h : qh} {Q : qQ} (he : e_Gr_clear o h.2) (hp : p_Gr_clear o h.2) (hq : Q none (h.1, g_Gr_clear o h.2)) : qM l D (d + 1, 0, 0) m_Gr_clear [.inr (.inr o)] h Q := sorry
def s_Gr_clear (d0 : Nat) (K : qK) : qK := fun ls st h => match st with
  | .inr (.inr o) :: r => 1 ≤ d0 ∧ q_cs r ≤ 8 ∧ 0 ≤ o ∧ (q_shp o).1 = 3 ∧ e_Gr_clear o h.2 ∧ p_Gr_clear o h.2 ∧ K ls (r) (h.1, g_Gr_clear o h.2)
  | _ => False
set_option maxRecDepth 100000 in
theorem to_Gr_clear {l : Launch} {D : qD} {d0 : Nat} {K : qK} : qI (s_Gr_clear d0 K) (s_invV l D (d0, 0, 0) 3 m_Gr_clear 0 K) := sorry
def w_Gr_addEdge_0 (l : Launch) (D : qD) (d0 : Nat) (B : Nat × Nat) (Q : qQ) : qK := (s_aload 0 (s_getI 3 1 (s_istore 4 (s_aload 0 (s_getR 3 8 (s_iload 4 (s_iload 1 (s_iast (s_aload 0 (s_getR 3 9 (s_iload 4 (s_iload 2 (s_iast (s_aload 0 (s_getR 3 10 (s_iload 4 (s_ic (1) (s_iast (s_aload 0 (s_getR 3 11 (s_iload 4 (s_iload 3 (s_bast (s_aload 0 (s_dup (s_getI 3 1 (s_ic (1) (s_iadd (s_putI 3 1 (s_iload 4 (s_iret Q)))))))))))))))))))))))))))))))
theorem Gr_addEdge_0 {l : Launch} {D : qD} {d0 : Nat} {B : Nat × Nat} {Q : qQ} : qI (w_Gr_addEdge_0 l D d0 B Q) (qR l D (d0 + 1, B) m_Gr_addEdge 0 Q) := sorry
abbrev e_Gr_addEdge (o a b c : Int) (v : Int → Int → Int) : Prop := 0 ≤ o ∧ q_shp o = (3, 0) ∧ v o 8 = o + 6 ∧ q_shp (o + 6) = (100, 48) ∧ 0 ≤ (o + 6) ∧ v o 9 = o + 7 ∧ q_shp (o + 7) = (100, 48) ∧ 0 ≤ (o + 7) ∧ v o 10 = o + 8 ∧ q_shp (o + 8) = (100, 48) ∧ 0 ≤ (o + 8) ∧ v o 11 = o + 9 ∧ q_shp (o + 9) = (102, 48) ∧ 0 ≤ (o + 9)
def p_Gr_addEdge (o a b c : Int) (v : Int → Int → Int) : Prop := (0 ≤ (v o 1) ∧ (v o 1) < 48 ∧ (c = 0 ∨ c = 1) ∧ r32 ((v o 1) + 1))
def f_Gr_addEdge (o a b c : Int) (v : Int → Int → Int) : Int := (v o 1)
def g_Gr_addEdge (o a b c : Int) (v : Int → Int → Int) : Int → Int → Int := (up2 (up2 (up2 (up2 (up2 v (o + 6) (v o 1) a) (o + 7) (v o 1) b) (o + 8) (v o 1) 1) (o + 9) (v o 1) c) o 1 ((v o 1) + 1))
set_option maxRecDepth 100000 in
theorem sp_Gr_addEdge {l : Launch} {D : qD} {d : Nat} {o a b c : Int} {h : qh} {Q : qQ} (he : e_Gr_addEdge o a b c h.2) (hp : p_Gr_addEdge o a b c h.2) (hq : Q (some (.inl (f_Gr_addEdge o a b c h.2))) (h.1, g_Gr_addEdge o a b c h.2)) : qM l D (d + 1, 0, 0) m_Gr_addEdge [.inr (.inr o), .inl a, .inl b, .inl c] h Q := sorry
def s_Gr_addEdge (d0 : Nat) (K : qK) : qK := fun ls st h => match st with
  | .inl c :: .inl b :: .inl a :: .inr (.inr o) :: r => 1 ≤ d0 ∧ q_cs r ≤ 8 ∧ 0 ≤ o ∧ (q_shp o).1 = 3 ∧ e_Gr_addEdge o a b c h.2 ∧ p_Gr_addEdge o a b c h.2 ∧ K ls (.inl (f_Gr_addEdge o a b c h.2) :: r) (h.1, g_Gr_addEdge o a b c h.2)
  | _ => False
set_option maxRecDepth 100000 in
theorem to_Gr_addEdge {l : Launch} {D : qD} {d0 : Nat} {K : qK} : qI (s_Gr_addEdge d0 K) (s_invV l D (d0, 0, 0) 3 m_Gr_addEdge 3 K) := sorry
def w_Mo_take_0 (l : Launch) (D : qD) (d0 : Nat) (B : Nat × Nat) (Q : qQ) : qK := (s_aload 0 (s_iload 1 (s_aload 0 (s_getR 18 3 (s_iload 1 (s_iald (s_Mo_rowOf d0 (s_putI 18 5 (s_vret Q)))))))))
theorem Mo_take_0 {l : Launch} {D : qD} {d0 : Nat} {B : Nat × Nat} {Q : qQ} : qI (w_Mo_take_0 l D d0 B Q) (qR l D (d0 + 1, B) m_Mo_take 0 Q) := sorry
abbrev e_Mo_take (a : Int) (v : Int → Int → Int) : Prop := v 280 3 = 283
def p_Mo_take (a : Int) (v : Int → Int → Int) : Prop := (0 ≤ a ∧ a < 4 ∧ p_Mo_rowOf a (v 283 a) v)
def g_Mo_take (a : Int) (v : Int → Int → Int) : Int → Int → Int := (up2 v 280 5 (f_Mo_rowOf a (v 283 a) v))
set_option maxRecDepth 100000 in
theorem sp_Mo_take {l : Launch} {D : qD} {d : Nat} {a : Int} {h : qh} {Q : qQ} (he : e_Mo_take a h.2) (hp : p_Mo_take a h.2) (hq : Q none (h.1, g_Mo_take a h.2)) : qM l D (d + 2, 0, 0) m_Mo_take [.inr (.inr 280), .inl a] h Q := sorry
def s_Mo_take (d0 : Nat) (K : qK) : qK := fun ls st h => match st with
  | .inl a :: .inr (.inr o) :: r => o = 280 ∧ 2 ≤ d0 ∧ q_cs r ≤ 8 ∧ e_Mo_take a h.2 ∧ p_Mo_take a h.2 ∧ K ls (r) (h.1, g_Mo_take a h.2)
  | _ => False
set_option maxRecDepth 100000 in
theorem to_Mo_take {l : Launch} {D : qD} {d0 : Nat} {K : qK} : qI (s_Mo_take d0 K) (s_invV l D (d0, 0, 0) 18 m_Mo_take 1 K) := sorry
def w_Mo_newEdge_0 (l : Launch) (D : qD) (d0 : Nat) (B : Nat × Nat) (Q : qQ) : qK := (s_aload 0 (s_Mo_edges d0 (s_istore 4 (s_aload 0 (s_getR 18 2 (s_aload 0 (s_getI 18 5 (s_ic (1) (s_iadd (s_dup2 (s_iald (s_ic (1) (s_iadd (s_iast (s_aload 0 (s_getR 18 2 (s_aload 0 (s_getI 18 5 (s_ic (267) (s_iadd (s_iload 4 (s_iadd (s_iload 1 (s_iast (s_aload 0 (s_getR 18 2 (s_aload 0 (s_getI 18 5 (s_ic (315) (s_iadd (s_iload 4 (s_iadd (s_iload 2 (s_iast (s_aload 0 (s_getR 18 2 (s_aload 0 (s_getI 18 5 (s_ic (363) (s_iadd (s_iload 4 (s_iadd (s_ic (1) (s_iast (s_aload 0 (s_getR 18 2 (s_aload 0 (s_getI 18 5 (s_ic (411) (s_iadd (s_iload 4 (s_iadd (s_iload 3 (s_iast (s_vret Q)))))))))))))))))))))))))))))))))))))))))))))))))))))))
theorem Mo_newEdge_0 {l : Launch} {D : qD} {d0 : Nat} {B : Nat × Nat} {Q : qQ} : qI (w_Mo_newEdge_0 l D d0 B Q) (qR l D (d0 + 1, B) m_Mo_newEdge 0 Q) := sorry
abbrev e_Mo_newEdge (a b c : Int) (v : Int → Int → Int) : Prop := e_Mo_edges v ∧ v 280 2 = 282
def p_Mo_newEdge (a b c : Int) (v : Int → Int → Int) : Prop := (p_Mo_edges v ∧ r32 ((v 280 5) + 1) ∧ 0 ≤ ((v 280 5) + 1) ∧ ((v 280 5) + 1) < 66836 ∧ r32 ((v 282 ((v 280 5) + 1)) + 1) ∧ r32 ((v 280 5) + 267) ∧ r32 (((v 280 5) + 267) + (f_Mo_edges v)) ∧ 0 ≤ (((v 280 5) + 267) + (f_Mo_edges v)) ∧ (((v 280 5) + 267) + (f_Mo_edges v)) < 66836 ∧ r32 ((v 280 5) + 315) ∧ r32 (((v 280 5) + 315) + (f_Mo_edges v)) ∧ 0 ≤ (((v 280 5) + 315) + (f_Mo_edges v)) ∧ (((v 280 5) + 315) + (f_Mo_edges v)) < 66836 ∧ r32 ((v 280 5) + 363) ∧ r32 (((v 280 5) + 363) + (f_Mo_edges v)) ∧ 0 ≤ (((v 280 5) + 363) + (f_Mo_edges v)) ∧ (((v 280 5) + 363) + (f_Mo_edges v)) < 66836 ∧ r32 ((v 280 5) + 411) ∧ r32 (((v 280 5) + 411) + (f_Mo_edges v)) ∧ 0 ≤ (((v 280 5) + 411) + (f_Mo_edges v)) ∧ (((v 280 5) + 411) + (f_Mo_edges v)) < 66836)
def g_Mo_newEdge (a b c : Int) (v : Int → Int → Int) : Int → Int → Int := (up2 (up2 (up2 (up2 (up2 v 282 ((v 280 5) + 1) ((v 282 ((v 280 5) + 1)) + 1)) 282 (((v 280 5) + 267) + (f_Mo_edges v)) a) 282 (((v 280 5) + 315) + (f_Mo_edges v)) b) 282 (((v 280 5) + 363) + (f_Mo_edges v)) 1) 282 (((v 280 5) + 411) + (f_Mo_edges v)) c)
set_option maxRecDepth 100000 in
theorem sp_Mo_newEdge {l : Launch} {D : qD} {d : Nat} {a b c : Int} {h : qh} {Q : qQ} (he : e_Mo_newEdge a b c h.2) (hp : p_Mo_newEdge a b c h.2) (hq : Q none (h.1, g_Mo_newEdge a b c h.2)) : qM l D (d + 2, 0, 0) m_Mo_newEdge [.inr (.inr 280), .inl a, .inl b, .inl c] h Q := sorry
def s_Mo_newEdge (d0 : Nat) (K : qK) : qK := fun ls st h => match st with
  | .inl c :: .inl b :: .inl a :: .inr (.inr o) :: r => o = 280 ∧ 2 ≤ d0 ∧ q_cs r ≤ 8 ∧ e_Mo_newEdge a b c h.2 ∧ p_Mo_newEdge a b c h.2 ∧ K ls (r) (h.1, g_Mo_newEdge a b c h.2)
  | _ => False
set_option maxRecDepth 100000 in
theorem to_Mo_newEdge {l : Launch} {D : qD} {d0 : Nat} {K : qK} : qI (s_Mo_newEdge d0 K) (s_invV l D (d0, 0, 0) 18 m_Mo_newEdge 3 K) := sorry
def w_Mo_wrong_8 (l : Launch) (D : qD) (d0 : Nat) (B : Nat × Nat) (Q : qQ) : qK := (s_aload 0 (s_iload 1 (s_putI 18 8 (s_aload 0 (s_iload 2 (s_putI 18 9 (s_vret Q)))))))
theorem Mo_wrong_8 {l : Launch} {D : qD} {d0 : Nat} {B : Nat × Nat} {Q : qQ} : qI (w_Mo_wrong_8 l D d0 B Q) (qR l D (d0 + 1, B) m_Mo_wrong 8 Q) := sorry
def w_Mo_wrong_0 (l : Launch) (D : qD) (d0 : Nat) (B : Nat × Nat) (Q : qQ) : qK := (s_aload 0 (s_getI 18 8 (s_if_le (w_Mo_wrong_8 l D d0 B Q) (s_vret Q))))
theorem Mo_wrong_0 {l : Launch} {D : qD} {d0 : Nat} {B : Nat × Nat} {Q : qQ} : qI (w_Mo_wrong_0 l D d0 B Q) (qR l D (d0 + 1, B) m_Mo_wrong 0 Q) := sorry
def g_Mo_wrong (a b : Int) (v : Int → Int → Int) : Int → Int → Int := (if (v 280 8) ≤ 0 then (up2 (up2 v 280 8 a) 280 9 b) else v)
set_option maxRecDepth 100000 in
theorem sp_Mo_wrong {l : Launch} {D : qD} {d : Nat} {a b : Int} {h : qh} {Q : qQ} (hq : Q none (h.1, g_Mo_wrong a b h.2)) : qM l D (d + 1, 0, 0) m_Mo_wrong [.inr (.inr 280), .inl a, .inl b] h Q := sorry
def s_Mo_wrong (d0 : Nat) (K : qK) : qK := fun ls st h => match st with
  | .inl b :: .inl a :: .inr (.inr o) :: r => o = 280 ∧ 1 ≤ d0 ∧ q_cs r ≤ 8 ∧ K ls (r) (h.1, g_Mo_wrong a b h.2)
  | _ => False
set_option maxRecDepth 100000 in
theorem to_Mo_wrong {l : Launch} {D : qD} {d0 : Nat} {K : qK} : qI (s_Mo_wrong d0 K) (s_invV l D (d0, 0, 0) 18 m_Mo_wrong 2 K) := sorry
def w_Mo_cost_0 (l : Launch) (D : qD) (d0 : Nat) (B : Nat × Nat) (Q : qQ) : qK := (s_aload 0 (s_getR 18 83 (s_aload 0 (s_getI 18 80 (s_iload 1 (s_iast (s_aload 0 (s_getR 18 84 (s_aload 0 (s_getI 18 80 (s_iload 2 (s_iast (s_aload 0 (s_getR 18 85 (s_aload 0 (s_getI 18 80 (s_iload 3 (s_iast (s_aload 0 (s_getR 18 86 (s_aload 0 (s_getI 18 80 (s_iload 4 (s_bast (s_aload 0 (s_dup (s_getI 18 80 (s_ic (1) (s_iadd (s_putI 18 80 (s_vret Q)))))))))))))))))))))))))))))))
theorem Mo_cost_0 {l : Launch} {D : qD} {d0 : Nat} {B : Nat × Nat} {Q : qQ} : qI (w_Mo_cost_0 l D d0 B Q) (qR l D (d0 + 1, B) m_Mo_cost 0 Q) := sorry
abbrev e_Mo_cost (a b c e : Int) (v : Int → Int → Int) : Prop := v 280 83 = 335 ∧ v 280 84 = 336 ∧ v 280 85 = 337 ∧ v 280 86 = 338
def p_Mo_cost (a b c e : Int) (v : Int → Int → Int) : Prop := (0 ≤ (v 280 80) ∧ (v 280 80) < 200 ∧ (e = 0 ∨ e = 1) ∧ r32 ((v 280 80) + 1))
def g_Mo_cost (a b c e : Int) (v : Int → Int → Int) : Int → Int → Int := (up2 (up2 (up2 (up2 (up2 v 335 (v 280 80) a) 336 (v 280 80) b) 337 (v 280 80) c) 338 (v 280 80) e) 280 80 ((v 280 80) + 1))
set_option maxRecDepth 100000 in
theorem sp_Mo_cost {l : Launch} {D : qD} {d : Nat} {a b c e : Int} {h : qh} {Q : qQ} (he : e_Mo_cost a b c e h.2) (hp : p_Mo_cost a b c e h.2) (hq : Q none (h.1, g_Mo_cost a b c e h.2)) : qM l D (d + 1, 0, 0) m_Mo_cost [.inr (.inr 280), .inl a, .inl b, .inl c, .inl e] h Q := sorry
def s_Mo_cost (d0 : Nat) (K : qK) : qK := fun ls st h => match st with
  | .inl e :: .inl c :: .inl b :: .inl a :: .inr (.inr o) :: r => o = 280 ∧ 1 ≤ d0 ∧ q_cs r ≤ 8 ∧ e_Mo_cost a b c e h.2 ∧ p_Mo_cost a b c e h.2 ∧ K ls (r) (h.1, g_Mo_cost a b c e h.2)
  | _ => False
set_option maxRecDepth 100000 in
theorem to_Mo_cost {l : Launch} {D : qD} {d0 : Nat} {K : qK} : qI (s_Mo_cost d0 K) (s_invV l D (d0, 0, 0) 18 m_Mo_cost 4 K) := sorry
def w_Mo_apart_0 (l : Launch) (D : qD) (d0 : Nat) (B : Nat × Nat) (Q : qQ) : qK := (s_aload 0 (s_getR 18 87 (s_aload 0 (s_getI 18 81 (s_iload 1 (s_iast (s_aload 0 (s_getR 18 88 (s_aload 0 (s_getI 18 81 (s_iload 2 (s_iast (s_aload 0 (s_getR 18 89 (s_aload 0 (s_getI 18 81 (s_iload 3 (s_iast (s_aload 0 (s_dup (s_getI 18 81 (s_ic (1) (s_iadd (s_putI 18 81 (s_vret Q)))))))))))))))))))))))))
theorem Mo_apart_0 {l : Launch} {D : qD} {d0 : Nat} {B : Nat × Nat} {Q : qQ} : qI (w_Mo_apart_0 l D d0 B Q) (qR l D (d0 + 1, B) m_Mo_apart 0 Q) := sorry
abbrev e_Mo_apart (a b c : Int) (v : Int → Int → Int) : Prop := v 280 87 = 339 ∧ v 280 88 = 340 ∧ v 280 89 = 341
def p_Mo_apart (a b c : Int) (v : Int → Int → Int) : Prop := (0 ≤ (v 280 81) ∧ (v 280 81) < 200 ∧ r32 ((v 280 81) + 1))
def g_Mo_apart (a b c : Int) (v : Int → Int → Int) : Int → Int → Int := (up2 (up2 (up2 (up2 v 339 (v 280 81) a) 340 (v 280 81) b) 341 (v 280 81) c) 280 81 ((v 280 81) + 1))
set_option maxRecDepth 100000 in
theorem sp_Mo_apart {l : Launch} {D : qD} {d : Nat} {a b c : Int} {h : qh} {Q : qQ} (he : e_Mo_apart a b c h.2) (hp : p_Mo_apart a b c h.2) (hq : Q none (h.1, g_Mo_apart a b c h.2)) : qM l D (d + 1, 0, 0) m_Mo_apart [.inr (.inr 280), .inl a, .inl b, .inl c] h Q := sorry
def s_Mo_apart (d0 : Nat) (K : qK) : qK := fun ls st h => match st with
  | .inl c :: .inl b :: .inl a :: .inr (.inr o) :: r => o = 280 ∧ 1 ≤ d0 ∧ q_cs r ≤ 8 ∧ e_Mo_apart a b c h.2 ∧ p_Mo_apart a b c h.2 ∧ K ls (r) (h.1, g_Mo_apart a b c h.2)
  | _ => False
set_option maxRecDepth 100000 in
theorem to_Mo_apart {l : Launch} {D : qD} {d0 : Nat} {K : qK} : qI (s_Mo_apart d0 K) (s_invV l D (d0, 0, 0) 18 m_Mo_apart 3 K) := sorry
def w_Mo_line_0 (l : Launch) (D : qD) (d0 : Nat) (B : Nat × Nat) (Q : qQ) : qK := (s_aload 0 (s_getR 18 108 (s_aload 0 (s_getI 18 107 (s_iload 1 (s_iast (s_aload 0 (s_getR 18 109 (s_aload 0 (s_getI 18 107 (s_iload 2 (s_iast (s_aload 0 (s_dup (s_getI 18 107 (s_ic (1) (s_iadd (s_putI 18 107 (s_vret Q)))))))))))))))))))
theorem Mo_line_0 {l : Launch} {D : qD} {d0 : Nat} {B : Nat × Nat} {Q : qQ} : qI (w_Mo_line_0 l D d0 B Q) (qR l D (d0 + 1, B) m_Mo_line 0 Q) := sorry
abbrev e_Mo_line (a b : Int) (v : Int → Int → Int) : Prop := v 280 108 = 355 ∧ v 280 109 = 356
def p_Mo_line (a b : Int) (v : Int → Int → Int) : Prop := (0 ≤ (v 280 107) ∧ (v 280 107) < 130 ∧ r32 ((v 280 107) + 1))
def g_Mo_line (a b : Int) (v : Int → Int → Int) : Int → Int → Int := (up2 (up2 (up2 v 355 (v 280 107) a) 356 (v 280 107) b) 280 107 ((v 280 107) + 1))
set_option maxRecDepth 100000 in
theorem sp_Mo_line {l : Launch} {D : qD} {d : Nat} {a b : Int} {h : qh} {Q : qQ} (he : e_Mo_line a b h.2) (hp : p_Mo_line a b h.2) (hq : Q none (h.1, g_Mo_line a b h.2)) : qM l D (d + 1, 0, 0) m_Mo_line [.inr (.inr 280), .inl a, .inl b] h Q := sorry
def s_Mo_line (d0 : Nat) (K : qK) : qK := fun ls st h => match st with
  | .inl b :: .inl a :: .inr (.inr o) :: r => o = 280 ∧ 1 ≤ d0 ∧ q_cs r ≤ 8 ∧ e_Mo_line a b h.2 ∧ p_Mo_line a b h.2 ∧ K ls (r) (h.1, g_Mo_line a b h.2)
  | _ => False
set_option maxRecDepth 100000 in
theorem to_Mo_line {l : Launch} {D : qD} {d0 : Nat} {K : qK} : qI (s_Mo_line d0 K) (s_invV l D (d0, 0, 0) 18 m_Mo_line 2 K) := sorry
def w_Mo_newLine_0 (l : Launch) (D : qD) (d0 : Nat) (B : Nat × Nat) (Q : qQ) : qK := (s_aload 0 (s_getR 18 33 (s_aload 0 (s_getI 18 32 (s_iload 1 (s_iast (s_aload 0 (s_getR 18 34 (s_aload 0 (s_getI 18 32 (s_iload 2 (s_iast (s_aload 0 (s_getR 18 35 (s_aload 0 (s_getI 18 32 (s_ic (1) (s_bast (s_aload 0 (s_dup (s_getI 18 32 (s_ic (1) (s_iadd (s_putI 18 32 (s_aload 0 (s_getI 18 32 (s_ic (1) (s_isub (s_iret Q)))))))))))))))))))))))))))))
theorem Mo_newLine_0 {l : Launch} {D : qD} {d0 : Nat} {B : Nat × Nat} {Q : qQ} : qI (w_Mo_newLine_0 l D d0 B Q) (qR l D (d0 + 1, B) m_Mo_newLine 0 Q) := sorry
abbrev e_Mo_newLine (a b : Int) (v : Int → Int → Int) : Prop := v 280 33 = 295 ∧ v 280 34 = 296 ∧ v 280 35 = 297
def p_Mo_newLine (a b : Int) (v : Int → Int → Int) : Prop := (0 ≤ (v 280 32) ∧ (v 280 32) < 80 ∧ (1 = 0 ∨ 1 = 1) ∧ r32 ((v 280 32) + 1) ∧ r32 (((v 280 32) + 1) - 1))
def f_Mo_newLine (a b : Int) (v : Int → Int → Int) : Int := (((v 280 32) + 1) - 1)
def g_Mo_newLine (a b : Int) (v : Int → Int → Int) : Int → Int → Int := (up2 (up2 (up2 (up2 v 295 (v 280 32) a) 296 (v 280 32) b) 297 (v 280 32) 1) 280 32 ((v 280 32) + 1))
set_option maxRecDepth 100000 in
theorem sp_Mo_newLine {l : Launch} {D : qD} {d : Nat} {a b : Int} {h : qh} {Q : qQ} (he : e_Mo_newLine a b h.2) (hp : p_Mo_newLine a b h.2) (hq : Q (some (.inl (f_Mo_newLine a b h.2))) (h.1, g_Mo_newLine a b h.2)) : qM l D (d + 1, 0, 0) m_Mo_newLine [.inr (.inr 280), .inl a, .inl b] h Q := sorry
def s_Mo_newLine (d0 : Nat) (K : qK) : qK := fun ls st h => match st with
  | .inl b :: .inl a :: .inr (.inr o) :: r => o = 280 ∧ 1 ≤ d0 ∧ q_cs r ≤ 8 ∧ e_Mo_newLine a b h.2 ∧ p_Mo_newLine a b h.2 ∧ K ls (.inl (f_Mo_newLine a b h.2) :: r) (h.1, g_Mo_newLine a b h.2)
  | _ => False
set_option maxRecDepth 100000 in
theorem to_Mo_newLine {l : Launch} {D : qD} {d0 : Nat} {K : qK} : qI (s_Mo_newLine d0 K) (s_invV l D (d0, 0, 0) 18 m_Mo_newLine 2 K) := sorry
def w_Mo_hangs_0 (l : Launch) (D : qD) (d0 : Nat) (B : Nat × Nat) (Q : qQ) : qK := (s_aload 0 (s_getR 18 127 (s_iload 1 (s_iload 2 (s_iast (s_aload 0 (s_getR 18 128 (s_iload 1 (s_aload 0 (s_getR 18 128 (s_iload 2 (s_iald (s_ic (1) (s_iadd (s_iast (s_vret Q))))))))))))))))
theorem Mo_hangs_0 {l : Launch} {D : qD} {d0 : Nat} {B : Nat × Nat} {Q : qQ} : qI (w_Mo_hangs_0 l D d0 B Q) (qR l D (d0 + 1, B) m_Mo_hangs 0 Q) := sorry
abbrev e_Mo_hangs (a b : Int) (v : Int → Int → Int) : Prop := v 280 127 = 372 ∧ v 280 128 = 373
def p_Mo_hangs (a b : Int) (v : Int → Int → Int) : Prop := (0 ≤ a ∧ a < 26 ∧ 0 ≤ b ∧ b < 26 ∧ r32 ((v 373 b) + 1))
def g_Mo_hangs (a b : Int) (v : Int → Int → Int) : Int → Int → Int := (up2 (up2 v 372 a b) 373 a ((v 373 b) + 1))
set_option maxRecDepth 100000 in
theorem sp_Mo_hangs {l : Launch} {D : qD} {d : Nat} {a b : Int} {h : qh} {Q : qQ} (he : e_Mo_hangs a b h.2) (hp : p_Mo_hangs a b h.2) (hq : Q none (h.1, g_Mo_hangs a b h.2)) : qM l D (d + 1, 0, 0) m_Mo_hangs [.inr (.inr 280), .inl a, .inl b] h Q := sorry
def s_Mo_hangs (d0 : Nat) (K : qK) : qK := fun ls st h => match st with
  | .inl b :: .inl a :: .inr (.inr o) :: r => o = 280 ∧ 1 ≤ d0 ∧ q_cs r ≤ 8 ∧ e_Mo_hangs a b h.2 ∧ p_Mo_hangs a b h.2 ∧ K ls (r) (h.1, g_Mo_hangs a b h.2)
  | _ => False
set_option maxRecDepth 100000 in
theorem to_Mo_hangs {l : Launch} {D : qD} {d0 : Nat} {K : qK} : qI (s_Mo_hangs d0 K) (s_invV l D (d0, 0, 0) 18 m_Mo_hangs 2 K) := sorry
def w_Mo_setBox_40 (l : Launch) (D : qD) (d0 : Nat) (B : Nat × Nat) (Q : qQ) : qK := (s_astore 9 (s_aload 9 (s_iload 8 (s_iload 4 (s_iast (s_aload 9 (s_iload 8 (s_ic (1) (s_iadd (s_iload 5 (s_iast (s_aload 9 (s_iload 8 (s_ic (2) (s_iadd (s_iload 6 (s_iast (s_aload 9 (s_iload 8 (s_ic (3) (s_iadd (s_iload 7 (s_iast (s_vret Q))))))))))))))))))))))))
theorem Mo_setBox_40 {l : Launch} {D : qD} {d0 : Nat} {B : Nat × Nat} {Q : qQ} : qI (w_Mo_setBox_40 l D d0 B Q) (qR l D (d0 + 1, B) m_Mo_setBox 40 Q) := sorry
def w_Mo_setBox_36 (l : Launch) (D : qD) (d0 : Nat) (B : Nat × Nat) (Q : qQ) : qK := (s_aload 0 (s_getR 18 71 (w_Mo_setBox_40 l D d0 B Q)))
theorem Mo_setBox_36 {l : Launch} {D : qD} {d0 : Nat} {B : Nat × Nat} {Q : qQ} : qI (w_Mo_setBox_36 l D d0 B Q) (qR l D (d0 + 1, B) m_Mo_setBox 36 Q) := sorry
def w_Mo_setBox_23 (l : Launch) (D : qD) (d0 : Nat) (B : Nat × Nat) (Q : qQ) : qK := (s_istore 8 (s_iload 3 (s_if_eq (w_Mo_setBox_36 l D d0 B Q) (s_aload 0 (s_getR 18 72 (w_Mo_setBox_40 l D d0 B Q))))))
theorem Mo_setBox_23 {l : Launch} {D : qD} {d0 : Nat} {B : Nat × Nat} {Q : qQ} : qI (w_Mo_setBox_23 l D d0 B Q) (qR l D (d0 + 1, B) m_Mo_setBox 23 Q) := sorry
def w_Mo_setBox_15 (l : Launch) (D : qD) (d0 : Nat) (B : Nat × Nat) (Q : qQ) : qK := (s_ic (4) (s_ic (24) (s_iload 1 (s_imul (s_iload 2 (s_iadd (s_imul (w_Mo_setBox_23 l D d0 B Q))))))))
theorem Mo_setBox_15 {l : Launch} {D : qD} {d0 : Nat} {B : Nat × Nat} {Q : qQ} : qI (w_Mo_setBox_15 l D d0 B Q) (qR l D (d0 + 1, B) m_Mo_setBox 15 Q) := sorry
def w_Mo_setBox_0 (l : Launch) (D : qD) (d0 : Nat) (B : Nat × Nat) (Q : qQ) : qK := (s_iload 3 (s_if_eq (w_Mo_setBox_15 l D d0 B Q) (s_ic (4) (s_ic (8) (s_iload 1 (s_imul (s_iload 2 (s_iadd (s_imul (w_Mo_setBox_23 l D d0 B Q))))))))))
theorem Mo_setBox_0 {l : Launch} {D : qD} {d0 : Nat} {B : Nat × Nat} {Q : qQ} : qI (w_Mo_setBox_0 l D d0 B Q) (qR l D (d0 + 1, B) m_Mo_setBox 0 Q) := sorry
abbrev e_Mo_setBox (a b c e i j k : Int) (v : Int → Int → Int) : Prop := v 280 71 = 326 ∧ v 280 72 = 327
def p_Mo_setBox (a b c e i j k : Int) (v : Int → Int → Int) : Prop := ((c = 0 → (r32 (24 * a) ∧ r32 ((24 * a) + b) ∧ r32 (4 * ((24 * a) + b)) ∧ (c = 0 → (0 ≤ (4 * ((24 * a) + b)) ∧ (4 * ((24 * a) + b)) < 384 ∧ r32 ((4 * ((24 * a) + b)) + 1) ∧ 0 ≤ ((4 * ((24 * a) + b)) + 1) ∧ ((4 * ((24 * a) + b)) + 1) < 384 ∧ r32 ((4 * ((24 * a) + b)) + 2) ∧ 0 ≤ ((4 * ((24 * a) + b)) + 2) ∧ ((4 * ((24 * a) + b)) + 2) < 384 ∧ r32 ((4 * ((24 * a) + b)) + 3) ∧ 0 ≤ ((4 * ((24 * a) + b)) + 3) ∧ ((4 * ((24 * a) + b)) + 3) < 384)) ∧ (c ≠ 0 → (0 ≤ (4 * ((24 * a) + b)) ∧ (4 * ((24 * a) + b)) < 128 ∧ r32 ((4 * ((24 * a) + b)) + 1) ∧ 0 ≤ ((4 * ((24 * a) + b)) + 1) ∧ ((4 * ((24 * a) + b)) + 1) < 128 ∧ r32 ((4 * ((24 * a) + b)) + 2) ∧ 0 ≤ ((4 * ((24 * a) + b)) + 2) ∧ ((4 * ((24 * a) + b)) + 2) < 128 ∧ r32 ((4 * ((24 * a) + b)) + 3) ∧ 0 ≤ ((4 * ((24 * a) + b)) + 3) ∧ ((4 * ((24 * a) + b)) + 3) < 128)))) ∧ (c ≠ 0 → (r32 (8 * a) ∧ r32 ((8 * a) + b) ∧ r32 (4 * ((8 * a) + b)) ∧ (c = 0 → (0 ≤ (4 * ((8 * a) + b)) ∧ (4 * ((8 * a) + b)) < 384 ∧ r32 ((4 * ((8 * a) + b)) + 1) ∧ 0 ≤ ((4 * ((8 * a) + b)) + 1) ∧ ((4 * ((8 * a) + b)) + 1) < 384 ∧ r32 ((4 * ((8 * a) + b)) + 2) ∧ 0 ≤ ((4 * ((8 * a) + b)) + 2) ∧ ((4 * ((8 * a) + b)) + 2) < 384 ∧ r32 ((4 * ((8 * a) + b)) + 3) ∧ 0 ≤ ((4 * ((8 * a) + b)) + 3) ∧ ((4 * ((8 * a) + b)) + 3) < 384)) ∧ (c ≠ 0 → (0 ≤ (4 * ((8 * a) + b)) ∧ (4 * ((8 * a) + b)) < 128 ∧ r32 ((4 * ((8 * a) + b)) + 1) ∧ 0 ≤ ((4 * ((8 * a) + b)) + 1) ∧ ((4 * ((8 * a) + b)) + 1) < 128 ∧ r32 ((4 * ((8 * a) + b)) + 2) ∧ 0 ≤ ((4 * ((8 * a) + b)) + 2) ∧ ((4 * ((8 * a) + b)) + 2) < 128 ∧ r32 ((4 * ((8 * a) + b)) + 3) ∧ 0 ≤ ((4 * ((8 * a) + b)) + 3) ∧ ((4 * ((8 * a) + b)) + 3) < 128)))))
def g_Mo_setBox (a b c e i j k : Int) (v : Int → Int → Int) : Int → Int → Int := (if c = 0 then (if c = 0 then (up2 (up2 (up2 (up2 v 326 (4 * ((24 * a) + b)) e) 326 ((4 * ((24 * a) + b)) + 1) i) 326 ((4 * ((24 * a) + b)) + 2) j) 326 ((4 * ((24 * a) + b)) + 3) k) else (up2 (up2 (up2 (up2 v 327 (4 * ((24 * a) + b)) e) 327 ((4 * ((24 * a) + b)) + 1) i) 327 ((4 * ((24 * a) + b)) + 2) j) 327 ((4 * ((24 * a) + b)) + 3) k)) else (if c = 0 then (up2 (up2 (up2 (up2 v 326 (4 * ((8 * a) + b)) e) 326 ((4 * ((8 * a) + b)) + 1) i) 326 ((4 * ((8 * a) + b)) + 2) j) 326 ((4 * ((8 * a) + b)) + 3) k) else (up2 (up2 (up2 (up2 v 327 (4 * ((8 * a) + b)) e) 327 ((4 * ((8 * a) + b)) + 1) i) 327 ((4 * ((8 * a) + b)) + 2) j) 327 ((4 * ((8 * a) + b)) + 3) k)))
set_option maxRecDepth 100000 in
theorem sp_Mo_setBox {l : Launch} {D : qD} {d : Nat} {a b c e i j k : Int} {h : qh} {Q : qQ} (he : e_Mo_setBox a b c e i j k h.2) (hp : p_Mo_setBox a b c e i j k h.2) (hq : Q none (h.1, g_Mo_setBox a b c e i j k h.2)) : qM l D (d + 1, 0, 0) m_Mo_setBox [.inr (.inr 280), .inl a, .inl b, .inl c, .inl e, .inl i, .inl j, .inl k] h Q := sorry
def s_Mo_setBox (d0 : Nat) (K : qK) : qK := fun ls st h => match st with
  | .inl k :: .inl j :: .inl i :: .inl e :: .inl c :: .inl b :: .inl a :: .inr (.inr o) :: r => o = 280 ∧ 1 ≤ d0 ∧ q_cs r ≤ 8 ∧ e_Mo_setBox a b c e i j k h.2 ∧ p_Mo_setBox a b c e i j k h.2 ∧ K ls (r) (h.1, g_Mo_setBox a b c e i j k h.2)
  | _ => False
set_option maxRecDepth 100000 in
theorem to_Mo_setBox {l : Launch} {D : qD} {d0 : Nat} {K : qK} : qI (s_Mo_setBox d0 K) (s_invV l D (d0, 0, 0) 18 m_Mo_setBox 7 K) := sorry
def w_Mo_reached_11 (l : Launch) (D : qD) (d0 : Nat) (B : Nat × Nat) (Q : qQ) : qK := (s_aload 0 (s_getR 18 140 (s_iload 1 (s_iload 2 (s_iast (s_iload 2 (s_ic (3) (s_iand (s_istore 3 (s_aload 0 (s_getR 18 141 (s_ic (24010) (s_iload 3 (s_imul (s_aload 0 (s_getR 18 142 (s_iload 3 (s_iald (s_iadd (s_iload 1 (s_iast (s_aload 0 (s_getR 18 142 (s_iload 3 (s_dup2 (s_iald (s_ic (1) (s_iadd (s_iast (s_vret Q))))))))))))))))))))))))))))))
theorem Mo_reached_11 {l : Launch} {D : qD} {d0 : Nat} {B : Nat × Nat} {Q : qQ} : qI (w_Mo_reached_11 l D d0 B Q) (qR l D (d0 + 1, B) m_Mo_reached 11 Q) := sorry
def w_Mo_reached_0 (l : Launch) (D : qD) (d0 : Nat) (B : Nat × Nat) (Q : qQ) : qK := (s_aload 0 (s_getR 18 140 (s_iload 1 (s_iald (s_iload 2 (s_icmp_gt (w_Mo_reached_11 l D d0 B Q) (s_vret Q)))))))
theorem Mo_reached_0 {l : Launch} {D : qD} {d0 : Nat} {B : Nat × Nat} {Q : qQ} : qI (w_Mo_reached_0 l D d0 B Q) (qR l D (d0 + 1, B) m_Mo_reached 0 Q) := sorry
abbrev e_Mo_reached (a b : Int) (v : Int → Int → Int) : Prop := v 280 140 = 381 ∧ v 280 141 = 382 ∧ v 280 142 = 383
def p_Mo_reached (a b : Int) (v : Int → Int → Int) : Prop := (0 ≤ a ∧ a < 24000 ∧ (b < (v 381 a) → (0 ≤ a ∧ a < 24000 ∧ r32 (24010 * (z_iand b 3)) ∧ 0 ≤ (z_iand b 3) ∧ (z_iand b 3) < 4 ∧ r32 ((24010 * (z_iand b 3)) + (v 383 (z_iand b 3))) ∧ 0 ≤ ((24010 * (z_iand b 3)) + (v 383 (z_iand b 3))) ∧ ((24010 * (z_iand b 3)) + (v 383 (z_iand b 3))) < 96040 ∧ r32 ((v 383 (z_iand b 3)) + 1))))
def g_Mo_reached (a b : Int) (v : Int → Int → Int) : Int → Int → Int := (if b < (v 381 a) then (up2 (up2 (up2 v 381 a b) 382 ((24010 * (z_iand b 3)) + (v 383 (z_iand b 3))) a) 383 (z_iand b 3) ((v 383 (z_iand b 3)) + 1)) else v)
set_option maxRecDepth 100000 in
theorem sp_Mo_reached {l : Launch} {D : qD} {d : Nat} {a b : Int} {h : qh} {Q : qQ} (he : e_Mo_reached a b h.2) (hp : p_Mo_reached a b h.2) (hq : Q none (h.1, g_Mo_reached a b h.2)) : qM l D (d + 1, 0, 0) m_Mo_reached [.inr (.inr 280), .inl a, .inl b] h Q := sorry
def s_Mo_reached (d0 : Nat) (K : qK) : qK := fun ls st h => match st with
  | .inl b :: .inl a :: .inr (.inr o) :: r => o = 280 ∧ 1 ≤ d0 ∧ q_cs r ≤ 8 ∧ e_Mo_reached a b h.2 ∧ p_Mo_reached a b h.2 ∧ K ls (r) (h.1, g_Mo_reached a b h.2)
  | _ => False
set_option maxRecDepth 100000 in
theorem to_Mo_reached {l : Launch} {D : qD} {d0 : Nat} {K : qK} : qI (s_Mo_reached d0 K) (s_invV l D (d0, 0, 0) 18 m_Mo_reached 2 K) := sorry
def w_Mo_closer_58 (l : Launch) (D : qD) (d0 : Nat) (B : Nat × Nat) (Q : qQ) : qK := (s_aload 0 (s_getR 18 48 (s_iload 1 (s_aload 0 (s_getR 18 48 (s_iload 2 (s_iald (s_ic (1) (s_iadd (s_iast (s_ic (1) (s_zret Q))))))))))))
theorem Mo_closer_58 {l : Launch} {D : qD} {d0 : Nat} {B : Nat × Nat} {Q : qQ} : qI (w_Mo_closer_58 l D d0 B Q) (qR l D (d0 + 1, B) m_Mo_closer 58 Q) := sorry
def w_Mo_closer_56 (l : Launch) (D : qD) (d0 : Nat) (B : Nat × Nat) (Q : qQ) : qK := (s_ic (0) (s_zret Q))
theorem Mo_closer_56 {l : Launch} {D : qD} {d0 : Nat} {B : Nat × Nat} {Q : qQ} : qI (w_Mo_closer_56 l D d0 B Q) (qR l D (d0 + 1, B) m_Mo_closer 56 Q) := sorry
def w_Mo_closer_39 (l : Launch) (D : qD) (d0 : Nat) (B : Nat × Nat) (Q : qQ) : qK := (s_aload 0 (s_getR 18 48 (s_iload 1 (s_iald (s_aload 0 (s_getR 18 48 (s_iload 2 (s_iald (s_ic (1) (s_iadd (s_icmp_gt (w_Mo_closer_58 l D d0 B Q) (w_Mo_closer_56 l D d0 B Q))))))))))))
theorem Mo_closer_39 {l : Launch} {D : qD} {d0 : Nat} {B : Nat × Nat} {Q : qQ} : qI (w_Mo_closer_39 l D d0 B Q) (qR l D (d0 + 1, B) m_Mo_closer 39 Q) := sorry
def w_Mo_closer_20 (l : Launch) (D : qD) (d0 : Nat) (B : Nat × Nat) (Q : qQ) : qK := (s_iload 5 (s_if_eq (w_Mo_closer_39 l D d0 B Q) (s_iload 1 (s_iload 3 (s_icmp_eq (w_Mo_closer_39 l D d0 B Q) (s_aload 0 (s_getR 18 42 (s_iload 1 (s_bald (s_if_ne (w_Mo_closer_56 l D d0 B Q) (w_Mo_closer_39 l D d0 B Q)))))))))))
theorem Mo_closer_20 {l : Launch} {D : qD} {d0 : Nat} {B : Nat × Nat} {Q : qQ} : qI (w_Mo_closer_20 l D d0 B Q) (qR l D (d0 + 1, B) m_Mo_closer 20 Q) := sorry
def w_Mo_closer_0 (l : Launch) (D : qD) (d0 : Nat) (B : Nat × Nat) (Q : qQ) : qK := (s_iload 5 (s_if_eq (w_Mo_closer_20 l D d0 B Q) (s_iload 2 (s_iload 4 (s_icmp_eq (w_Mo_closer_20 l D d0 B Q) (s_aload 0 (s_getR 18 42 (s_iload 2 (s_bald (s_if_ne (w_Mo_closer_56 l D d0 B Q) (w_Mo_closer_20 l D d0 B Q)))))))))))
theorem Mo_closer_0 {l : Launch} {D : qD} {d0 : Nat} {B : Nat × Nat} {Q : qQ} : qI (w_Mo_closer_0 l D d0 B Q) (qR l D (d0 + 1, B) m_Mo_closer 0 Q) := sorry
abbrev e_Mo_closer (a b c e i : Int) (v : Int → Int → Int) : Prop := v 280 48 = 307 ∧ v 280 42 = 303
def p_Mo_closer (a b c e i : Int) (v : Int → Int → Int) : Prop := ((i = 0 → ((i = 0 → (0 ≤ a ∧ a < 26 ∧ 0 ≤ b ∧ b < 26 ∧ r32 ((v 307 b) + 1) ∧ (((v 307 b) + 1) < (v 307 a) → (0 ≤ b ∧ b < 26 ∧ r32 ((v 307 b) + 1) ∧ 0 ≤ a ∧ a < 26)))) ∧ (i ≠ 0 → ((a = c → (0 ≤ a ∧ a < 26 ∧ 0 ≤ b ∧ b < 26 ∧ r32 ((v 307 b) + 1) ∧ (((v 307 b) + 1) < (v 307 a) → (0 ≤ b ∧ b < 26 ∧ r32 ((v 307 b) + 1) ∧ 0 ≤ a ∧ a < 26)))) ∧ (a ≠ c → (0 ≤ a ∧ a < 26 ∧ ((v 303 a) = 0 → (0 ≤ a ∧ a < 26 ∧ 0 ≤ b ∧ b < 26 ∧ r32 ((v 307 b) + 1) ∧ (((v 307 b) + 1) < (v 307 a) → (0 ≤ b ∧ b < 26 ∧ r32 ((v 307 b) + 1) ∧ 0 ≤ a ∧ a < 26)))))))))) ∧ (i ≠ 0 → ((b = e → ((i = 0 → (0 ≤ a ∧ a < 26 ∧ 0 ≤ b ∧ b < 26 ∧ r32 ((v 307 b) + 1) ∧ (((v 307 b) + 1) < (v 307 a) → (0 ≤ b ∧ b < 26 ∧ r32 ((v 307 b) + 1) ∧ 0 ≤ a ∧ a < 26)))) ∧ (i ≠ 0 → ((a = c → (0 ≤ a ∧ a < 26 ∧ 0 ≤ b ∧ b < 26 ∧ r32 ((v 307 b) + 1) ∧ (((v 307 b) + 1) < (v 307 a) → (0 ≤ b ∧ b < 26 ∧ r32 ((v 307 b) + 1) ∧ 0 ≤ a ∧ a < 26)))) ∧ (a ≠ c → (0 ≤ a ∧ a < 26 ∧ ((v 303 a) = 0 → (0 ≤ a ∧ a < 26 ∧ 0 ≤ b ∧ b < 26 ∧ r32 ((v 307 b) + 1) ∧ (((v 307 b) + 1) < (v 307 a) → (0 ≤ b ∧ b < 26 ∧ r32 ((v 307 b) + 1) ∧ 0 ≤ a ∧ a < 26)))))))))) ∧ (b ≠ e → (0 ≤ b ∧ b < 26 ∧ ((v 303 b) = 0 → ((i = 0 → (0 ≤ a ∧ a < 26 ∧ 0 ≤ b ∧ b < 26 ∧ r32 ((v 307 b) + 1) ∧ (((v 307 b) + 1) < (v 307 a) → (0 ≤ b ∧ b < 26 ∧ r32 ((v 307 b) + 1) ∧ 0 ≤ a ∧ a < 26)))) ∧ (i ≠ 0 → ((a = c → (0 ≤ a ∧ a < 26 ∧ 0 ≤ b ∧ b < 26 ∧ r32 ((v 307 b) + 1) ∧ (((v 307 b) + 1) < (v 307 a) → (0 ≤ b ∧ b < 26 ∧ r32 ((v 307 b) + 1) ∧ 0 ≤ a ∧ a < 26)))) ∧ (a ≠ c → (0 ≤ a ∧ a < 26 ∧ ((v 303 a) = 0 → (0 ≤ a ∧ a < 26 ∧ 0 ≤ b ∧ b < 26 ∧ r32 ((v 307 b) + 1) ∧ (((v 307 b) + 1) < (v 307 a) → (0 ≤ b ∧ b < 26 ∧ r32 ((v 307 b) + 1) ∧ 0 ≤ a ∧ a < 26)))))))))))))))
def f_Mo_closer (a b c e i : Int) (v : Int → Int → Int) : Int := (if i = 0 then (if i = 0 then (if ((v 307 b) + 1) < (v 307 a) then 1 else 0) else (if a = c then (if ((v 307 b) + 1) < (v 307 a) then 1 else 0) else (if (v 303 a) ≠ 0 then 0 else (if ((v 307 b) + 1) < (v 307 a) then 1 else 0)))) else (if b = e then (if i = 0 then (if ((v 307 b) + 1) < (v 307 a) then 1 else 0) else (if a = c then (if ((v 307 b) + 1) < (v 307 a) then 1 else 0) else (if (v 303 a) ≠ 0 then 0 else (if ((v 307 b) + 1) < (v 307 a) then 1 else 0)))) else (if (v 303 b) ≠ 0 then 0 else (if i = 0 then (if ((v 307 b) + 1) < (v 307 a) then 1 else 0) else (if a = c then (if ((v 307 b) + 1) < (v 307 a) then 1 else 0) else (if (v 303 a) ≠ 0 then 0 else (if ((v 307 b) + 1) < (v 307 a) then 1 else 0)))))))
def g_Mo_closer (a b c e i : Int) (v : Int → Int → Int) : Int → Int → Int := (if i = 0 then (if i = 0 then (if ((v 307 b) + 1) < (v 307 a) then (up2 v 307 a ((v 307 b) + 1)) else v) else (if a = c then (if ((v 307 b) + 1) < (v 307 a) then (up2 v 307 a ((v 307 b) + 1)) else v) else (if (v 303 a) ≠ 0 then v else (if ((v 307 b) + 1) < (v 307 a) then (up2 v 307 a ((v 307 b) + 1)) else v)))) else (if b = e then (if i = 0 then (if ((v 307 b) + 1) < (v 307 a) then (up2 v 307 a ((v 307 b) + 1)) else v) else (if a = c then (if ((v 307 b) + 1) < (v 307 a) then (up2 v 307 a ((v 307 b) + 1)) else v) else (if (v 303 a) ≠ 0 then v else (if ((v 307 b) + 1) < (v 307 a) then (up2 v 307 a ((v 307 b) + 1)) else v)))) else (if (v 303 b) ≠ 0 then v else (if i = 0 then (if ((v 307 b) + 1) < (v 307 a) then (up2 v 307 a ((v 307 b) + 1)) else v) else (if a = c then (if ((v 307 b) + 1) < (v 307 a) then (up2 v 307 a ((v 307 b) + 1)) else v) else (if (v 303 a) ≠ 0 then v else (if ((v 307 b) + 1) < (v 307 a) then (up2 v 307 a ((v 307 b) + 1)) else v)))))))
theorem fb_Mo_closer (a b c e i : Int) (v : Int → Int → Int) : f_Mo_closer a b c e i v = 0 ∨ f_Mo_closer a b c e i v = 1 := sorry
set_option maxRecDepth 100000 in
theorem sp_Mo_closer {l : Launch} {D : qD} {d : Nat} {a b c e i : Int} {h : qh} {Q : qQ} (he : e_Mo_closer a b c e i h.2) (hp : p_Mo_closer a b c e i h.2) (hq : Q (some (.inl (f_Mo_closer a b c e i h.2))) (h.1, g_Mo_closer a b c e i h.2)) : qM l D (d + 1, 0, 0) m_Mo_closer [.inr (.inr 280), .inl a, .inl b, .inl c, .inl e, .inl i] h Q := sorry
def s_Mo_closer (d0 : Nat) (K : qK) : qK := fun ls st h => match st with
  | .inl i :: .inl e :: .inl c :: .inl b :: .inl a :: .inr (.inr o) :: r => o = 280 ∧ 1 ≤ d0 ∧ q_cs r ≤ 8 ∧ e_Mo_closer a b c e i h.2 ∧ p_Mo_closer a b c e i h.2 ∧ K ls (.inl (f_Mo_closer a b c e i h.2) :: r) (h.1, g_Mo_closer a b c e i h.2)
  | _ => False
set_option maxRecDepth 100000 in
theorem to_Mo_closer {l : Launch} {D : qD} {d0 : Nat} {K : qK} : qI (s_Mo_closer d0 K) (s_invV l D (d0, 0, 0) 18 m_Mo_closer 5 K) := sorry
def w_Mo_write_1_21 (l : Launch) (D : qD) (d0 : Nat) (B : Nat × Nat) (Q : qQ) : qK := (s_aload 0 (s_dup (s_getI 18 170 (s_ic (1) (s_iadd (s_putI 18 170 (s_vret Q)))))))
theorem Mo_write_1_21 {l : Launch} {D : qD} {d0 : Nat} {B : Nat × Nat} {Q : qQ} : qI (w_Mo_write_1_21 l D d0 B Q) (qR l D (d0 + 1, B) m_Mo_write_1 21 Q) := sorry
def w_Mo_write_1_0 (l : Launch) (D : qD) (d0 : Nat) (B : Nat × Nat) (Q : qQ) : qK := (s_aload 0 (s_getI 18 170 (s_ic (4000) (s_icmp_ge (w_Mo_write_1_21 l D d0 B Q) (s_aload 0 (s_getR 18 172 (s_aload 0 (s_getI 18 170 (s_iload 1 (s_i2b (s_bast (w_Mo_write_1_21 l D d0 B Q))))))))))))
theorem Mo_write_1_0 {l : Launch} {D : qD} {d0 : Nat} {B : Nat × Nat} {Q : qQ} : qI (w_Mo_write_1_0 l D d0 B Q) (qR l D (d0 + 1, B) m_Mo_write_1 0 Q) := sorry
abbrev e_Mo_write_1 (a : Int) (v : Int → Int → Int) : Prop := v 280 172 = 397
def p_Mo_write_1 (a : Int) (v : Int → Int → Int) : Prop := ((4000 ≤ (v 280 170) → r32 ((v 280 170) + 1)) ∧ ((v 280 170) < 4000 → (0 ≤ (v 280 170) ∧ (v 280 170) < 4000 ∧ (-128 ≤ (z_i2b a) ∧ (z_i2b a) ≤ 127) ∧ r32 ((v 280 170) + 1))))
def g_Mo_write_1 (a : Int) (v : Int → Int → Int) : Int → Int → Int := (if 4000 ≤ (v 280 170) then (up2 v 280 170 ((v 280 170) + 1)) else (up2 (up2 v 397 (v 280 170) (z_i2b a)) 280 170 ((v 280 170) + 1)))
set_option maxRecDepth 100000 in
theorem sp_Mo_write_1 {l : Launch} {D : qD} {d : Nat} {a : Int} {h : qh} {Q : qQ} (he : e_Mo_write_1 a h.2) (hp : p_Mo_write_1 a h.2) (hq : Q none (h.1, g_Mo_write_1 a h.2)) : qM l D (d + 1, 0, 0) m_Mo_write_1 [.inr (.inr 280), .inl a] h Q := sorry
def s_Mo_write_1 (d0 : Nat) (K : qK) : qK := fun ls st h => match st with
  | .inl a :: .inr (.inr o) :: r => o = 280 ∧ 1 ≤ d0 ∧ q_cs r ≤ 8 ∧ e_Mo_write_1 a h.2 ∧ p_Mo_write_1 a h.2 ∧ K ls (r) (h.1, g_Mo_write_1 a h.2)
  | _ => False
set_option maxRecDepth 100000 in
theorem to_Mo_write_1 {l : Launch} {D : qD} {d0 : Nat} {K : qK} : qI (s_Mo_write_1 d0 K) (s_invV l D (d0, 0, 0) 18 m_Mo_write_1 1 K) := sorry
def w_Ps_clear_0 (l : Launch) (D : qD) (d0 : Nat) (B : Nat × Nat) (Q : qQ) : qK := (s_aload 0 (s_iload 1 (s_putI 12 0 (s_aload 0 (s_ic (0) (s_putI 12 1 (s_vret Q)))))))
theorem Ps_clear_0 {l : Launch} {D : qD} {d0 : Nat} {B : Nat × Nat} {Q : qQ} : qI (w_Ps_clear_0 l D d0 B Q) (qR l D (d0 + 1, B) m_Ps_clear 0 Q) := sorry
def g_Ps_clear (a : Int) (v : Int → Int → Int) : Int → Int → Int := (up2 (up2 v 210 0 a) 210 1 0)
set_option maxRecDepth 100000 in
theorem sp_Ps_clear {l : Launch} {D : qD} {d : Nat} {a : Int} {h : qh} {Q : qQ} (hq : Q none (h.1, g_Ps_clear a h.2)) : qM l D (d + 1, 0, 0) m_Ps_clear [.inr (.inr 210), .inl a] h Q := sorry
def s_Ps_clear (d0 : Nat) (K : qK) : qK := fun ls st h => match st with
  | .inl a :: .inr (.inr o) :: r => o = 210 ∧ 1 ≤ d0 ∧ q_cs r ≤ 8 ∧ K ls (r) (h.1, g_Ps_clear a h.2)
  | _ => False
set_option maxRecDepth 100000 in
theorem to_Ps_clear {l : Launch} {D : qD} {d0 : Nat} {K : qK} : qI (s_Ps_clear d0 K) (s_invV l D (d0, 0, 0) 12 m_Ps_clear 1 K) := sorry
def w_Ps_pair_0 (l : Launch) (D : qD) (d0 : Nat) (B : Nat × Nat) (Q : qQ) : qK := (s_aload 0 (s_getR 12 2 (s_aload 0 (s_getI 12 1 (s_iload 1 (s_iast (s_aload 0 (s_getR 12 3 (s_aload 0 (s_getI 12 1 (s_iload 2 (s_iast (s_aload 0 (s_getR 12 4 (s_aload 0 (s_getI 12 1 (s_iload 3 (s_iast (s_aload 0 (s_getR 12 5 (s_aload 0 (s_getI 12 1 (s_iload 4 (s_iast (s_aload 0 (s_dup (s_getI 12 1 (s_ic (1) (s_iadd (s_putI 12 1 (s_vret Q)))))))))))))))))))))))))))))))
theorem Ps_pair_0 {l : Launch} {D : qD} {d0 : Nat} {B : Nat × Nat} {Q : qQ} : qI (w_Ps_pair_0 l D d0 B Q) (qR l D (d0 + 1, B) m_Ps_pair 0 Q) := sorry
abbrev e_Ps_pair (a b c e : Int) (v : Int → Int → Int) : Prop := v 210 2 = 211 ∧ v 210 3 = 212 ∧ v 210 4 = 213 ∧ v 210 5 = 214
def p_Ps_pair (a b c e : Int) (v : Int → Int → Int) : Prop := (0 ≤ (v 210 1) ∧ (v 210 1) < 420 ∧ r32 ((v 210 1) + 1))
def g_Ps_pair (a b c e : Int) (v : Int → Int → Int) : Int → Int → Int := (up2 (up2 (up2 (up2 (up2 v 211 (v 210 1) a) 212 (v 210 1) b) 213 (v 210 1) c) 214 (v 210 1) e) 210 1 ((v 210 1) + 1))
set_option maxRecDepth 100000 in
theorem sp_Ps_pair {l : Launch} {D : qD} {d : Nat} {a b c e : Int} {h : qh} {Q : qQ} (he : e_Ps_pair a b c e h.2) (hp : p_Ps_pair a b c e h.2) (hq : Q none (h.1, g_Ps_pair a b c e h.2)) : qM l D (d + 1, 0, 0) m_Ps_pair [.inr (.inr 210), .inl a, .inl b, .inl c, .inl e] h Q := sorry
def s_Ps_pair (d0 : Nat) (K : qK) : qK := fun ls st h => match st with
  | .inl e :: .inl c :: .inl b :: .inl a :: .inr (.inr o) :: r => o = 210 ∧ 1 ≤ d0 ∧ q_cs r ≤ 8 ∧ e_Ps_pair a b c e h.2 ∧ p_Ps_pair a b c e h.2 ∧ K ls (r) (h.1, g_Ps_pair a b c e h.2)
  | _ => False
set_option maxRecDepth 100000 in
theorem to_Ps_pair {l : Launch} {D : qD} {d0 : Nat} {K : qK} : qI (s_Ps_pair d0 K) (s_invV l D (d0, 0, 0) 12 m_Ps_pair 4 K) := sorry
def w_Dr_bend_0 (l : Launch) (D : qD) (d0 : Nat) (B : Nat × Nat) (Q : qQ) : qK := (s_aload 0 (s_getR 2 8 (s_ic (24) (s_iload 1 (s_imul (s_aload 0 (s_getR 2 7 (s_iload 1 (s_iald (s_iadd (s_iload 2 (s_iast (s_aload 0 (s_getR 2 9 (s_ic (24) (s_iload 1 (s_imul (s_aload 0 (s_getR 2 7 (s_iload 1 (s_iald (s_iadd (s_iload 3 (s_iast (s_aload 0 (s_getR 2 7 (s_iload 1 (s_dup2 (s_iald (s_ic (1) (s_iadd (s_iast (s_vret Q)))))))))))))))))))))))))))))))))
theorem Dr_bend_0 {l : Launch} {D : qD} {d0 : Nat} {B : Nat × Nat} {Q : qQ} : qI (w_Dr_bend_0 l D d0 B Q) (qR l D (d0 + 1, B) m_Dr_bend 0 Q) := sorry
abbrev e_Dr_bend (o a b c : Int) (v : Int → Int → Int) : Prop := 0 ≤ o ∧ q_shp o = (2, 0) ∧ v o 8 = o + 4 ∧ v o 7 = o + 3 ∧ q_shp (o + 3) = (100, 48) ∧ 0 ≤ (o + 3) ∧ q_shp (o + 4) = (100, 1152) ∧ 0 ≤ (o + 4) ∧ v o 9 = o + 5 ∧ q_shp (o + 5) = (100, 1152) ∧ 0 ≤ (o + 5)
def p_Dr_bend (o a b c : Int) (v : Int → Int → Int) : Prop := (r32 (24 * a) ∧ 0 ≤ a ∧ a < 48 ∧ r32 ((24 * a) + (v (o + 3) a)) ∧ 0 ≤ ((24 * a) + (v (o + 3) a)) ∧ ((24 * a) + (v (o + 3) a)) < 1152 ∧ r32 ((v (o + 3) a) + 1))
def g_Dr_bend (o a b c : Int) (v : Int → Int → Int) : Int → Int → Int := (up2 (up2 (up2 v (o + 4) ((24 * a) + (v (o + 3) a)) b) (o + 5) ((24 * a) + (v (o + 3) a)) c) (o + 3) a ((v (o + 3) a) + 1))
set_option maxRecDepth 100000 in
theorem sp_Dr_bend {l : Launch} {D : qD} {d : Nat} {o a b c : Int} {h : qh} {Q : qQ} (he : e_Dr_bend o a b c h.2) (hp : p_Dr_bend o a b c h.2) (hq : Q none (h.1, g_Dr_bend o a b c h.2)) : qM l D (d + 1, 0, 0) m_Dr_bend [.inr (.inr o), .inl a, .inl b, .inl c] h Q := sorry
def s_Dr_bend (d0 : Nat) (K : qK) : qK := fun ls st h => match st with
  | .inl c :: .inl b :: .inl a :: .inr (.inr o) :: r => 1 ≤ d0 ∧ q_cs r ≤ 8 ∧ 0 ≤ o ∧ (q_shp o).1 = 2 ∧ e_Dr_bend o a b c h.2 ∧ p_Dr_bend o a b c h.2 ∧ K ls (r) (h.1, g_Dr_bend o a b c h.2)
  | _ => False
set_option maxRecDepth 100000 in
theorem to_Dr_bend {l : Launch} {D : qD} {d0 : Nat} {K : qK} : qI (s_Dr_bend d0 K) (s_invV l D (d0, 0, 0) 2 m_Dr_bend 3 K) := sorry
def w_Gd_set_0 (l : Launch) (D : qD) (d0 : Nat) (B : Nat × Nat) (Q : qQ) : qK := (s_aload 0 (s_getR 13 4 (s_iload 1 (s_iload 2 (s_iast (s_aload 0 (s_getR 13 5 (s_iload 1 (s_iload 3 (s_iast (s_vret Q)))))))))))
theorem Gd_set_0 {l : Launch} {D : qD} {d0 : Nat} {B : Nat × Nat} {Q : qQ} : qI (w_Gd_set_0 l D d0 B Q) (qR l D (d0 + 1, B) m_Gd_set 0 Q) := sorry
abbrev e_Gd_set (a b c : Int) (v : Int → Int → Int) : Prop := v 238 4 = 243 ∧ v 238 5 = 244
def p_Gd_set (a b c : Int) (v : Int → Int → Int) : Prop := (0 ≤ a ∧ a < 24)
def g_Gd_set (a b c : Int) (v : Int → Int → Int) : Int → Int → Int := (up2 (up2 v 243 a b) 244 a c)
set_option maxRecDepth 100000 in
theorem sp_Gd_set {l : Launch} {D : qD} {d : Nat} {a b c : Int} {h : qh} {Q : qQ} (he : e_Gd_set a b c h.2) (hp : p_Gd_set a b c h.2) (hq : Q none (h.1, g_Gd_set a b c h.2)) : qM l D (d + 1, 0, 0) m_Gd_set [.inr (.inr 238), .inl a, .inl b, .inl c] h Q := sorry
def s_Gd_set (d0 : Nat) (K : qK) : qK := fun ls st h => match st with
  | .inl c :: .inl b :: .inl a :: .inr (.inr o) :: r => o = 238 ∧ 1 ≤ d0 ∧ q_cs r ≤ 8 ∧ e_Gd_set a b c h.2 ∧ p_Gd_set a b c h.2 ∧ K ls (r) (h.1, g_Gd_set a b c h.2)
  | _ => False
set_option maxRecDepth 100000 in
theorem to_Gd_set {l : Launch} {D : qD} {d0 : Nat} {K : qK} : qI (s_Gd_set d0 K) (s_invV l D (d0, 0, 0) 13 m_Gd_set 3 K) := sorry
def w_Ba_nearer_28 (l : Launch) (D : qD) (d0 : Nat) (B : Nat × Nat) (Q : qQ) : qK := (s_aload 0 (s_getR 14 4 (s_iload 1 (s_aload 0 (s_getR 14 4 (s_iload 2 (s_iald (s_ic (1) (s_iadd (s_iast (s_ic (1) (s_zret Q))))))))))))
theorem Ba_nearer_28 {l : Launch} {D : qD} {d0 : Nat} {B : Nat × Nat} {Q : qQ} : qI (w_Ba_nearer_28 l D d0 B Q) (qR l D (d0 + 1, B) m_Ba_nearer 28 Q) := sorry
def w_Ba_nearer_26 (l : Launch) (D : qD) (d0 : Nat) (B : Nat × Nat) (Q : qQ) : qK := (s_ic (0) (s_zret Q))
theorem Ba_nearer_26 {l : Launch} {D : qD} {d0 : Nat} {B : Nat × Nat} {Q : qQ} : qI (w_Ba_nearer_26 l D d0 B Q) (qR l D (d0 + 1, B) m_Ba_nearer 26 Q) := sorry
def w_Ba_nearer_0 (l : Launch) (D : qD) (d0 : Nat) (B : Nat × Nat) (Q : qQ) : qK := (s_iload 3 (s_iload 1 (s_ishr (s_ic (1) (s_iand (s_ic (1) (s_icmp_eq (w_Ba_nearer_26 l D d0 B Q) (s_aload 0 (s_getR 14 4 (s_iload 2 (s_iald (s_ic (1) (s_iadd (s_aload 0 (s_getR 14 4 (s_iload 1 (s_iald (s_icmp_lt (w_Ba_nearer_28 l D d0 B Q) (w_Ba_nearer_26 l D d0 B Q)))))))))))))))))))
theorem Ba_nearer_0 {l : Launch} {D : qD} {d0 : Nat} {B : Nat × Nat} {Q : qQ} : qI (w_Ba_nearer_0 l D d0 B Q) (qR l D (d0 + 1, B) m_Ba_nearer 0 Q) := sorry
abbrev e_Ba_nearer (a b c : Int) (v : Int → Int → Int) : Prop := v 246 4 = 251
def p_Ba_nearer (a b c : Int) (v : Int → Int → Int) : Prop := ((z_iand (z_ishr c a) 1) ≠ 1 → (0 ≤ b ∧ b < 24 ∧ r32 ((v 251 b) + 1) ∧ 0 ≤ a ∧ a < 24 ∧ (((v 251 b) + 1) < (v 251 a) → (0 ≤ b ∧ b < 24 ∧ r32 ((v 251 b) + 1) ∧ 0 ≤ a ∧ a < 24))))
def f_Ba_nearer (a b c : Int) (v : Int → Int → Int) : Int := (if (z_iand (z_ishr c a) 1) = 1 then 0 else (if ((v 251 b) + 1) < (v 251 a) then 1 else 0))
def g_Ba_nearer (a b c : Int) (v : Int → Int → Int) : Int → Int → Int := (if (z_iand (z_ishr c a) 1) = 1 then v else (if ((v 251 b) + 1) < (v 251 a) then (up2 v 251 a ((v 251 b) + 1)) else v))
theorem fb_Ba_nearer (a b c : Int) (v : Int → Int → Int) : f_Ba_nearer a b c v = 0 ∨ f_Ba_nearer a b c v = 1 := sorry
set_option maxRecDepth 100000 in
theorem sp_Ba_nearer {l : Launch} {D : qD} {d : Nat} {a b c : Int} {h : qh} {Q : qQ} (he : e_Ba_nearer a b c h.2) (hp : p_Ba_nearer a b c h.2) (hq : Q (some (.inl (f_Ba_nearer a b c h.2))) (h.1, g_Ba_nearer a b c h.2)) : qM l D (d + 1, 0, 0) m_Ba_nearer [.inr (.inr 246), .inl a, .inl b, .inl c] h Q := sorry
def s_Ba_nearer (d0 : Nat) (K : qK) : qK := fun ls st h => match st with
  | .inl c :: .inl b :: .inl a :: .inr (.inr o) :: r => o = 246 ∧ 1 ≤ d0 ∧ q_cs r ≤ 8 ∧ e_Ba_nearer a b c h.2 ∧ p_Ba_nearer a b c h.2 ∧ K ls (.inl (f_Ba_nearer a b c h.2) :: r) (h.1, g_Ba_nearer a b c h.2)
  | _ => False
set_option maxRecDepth 100000 in
theorem to_Ba_nearer {l : Launch} {D : qD} {d0 : Nat} {K : qK} : qI (s_Ba_nearer d0 K) (s_invV l D (d0, 0, 0) 14 m_Ba_nearer 3 K) := sorry
def w_Em_nearer_63 (l : Launch) (D : qD) (d0 : Nat) (B : Nat × Nat) (Q : qQ) : qK := (s_aload 0 (s_getR 9 16 (s_iload 1 (s_aload 0 (s_getR 9 16 (s_iload 2 (s_iald (s_ic (1) (s_iadd (s_iast (s_ic (1) (s_zret Q))))))))))))
theorem Em_nearer_63 {l : Launch} {D : qD} {d0 : Nat} {B : Nat × Nat} {Q : qQ} : qI (w_Em_nearer_63 l D d0 B Q) (qR l D (d0 + 1, B) m_Em_nearer 63 Q) := sorry
def w_Em_nearer_61 (l : Launch) (D : qD) (d0 : Nat) (B : Nat × Nat) (Q : qQ) : qK := (s_ic (0) (s_zret Q))
theorem Em_nearer_61 {l : Launch} {D : qD} {d0 : Nat} {B : Nat × Nat} {Q : qQ} : qI (w_Em_nearer_61 l D d0 B Q) (qR l D (d0 + 1, B) m_Em_nearer 61 Q) := sorry
def w_Em_nearer_23 (l : Launch) (D : qD) (d0 : Nat) (B : Nat × Nat) (Q : qQ) : qK := (s_istore 5 (s_iload 5 (s_if_eq (w_Em_nearer_61 l D d0 B Q) (s_aload 0 (s_getR 9 16 (s_iload 2 (s_iald (s_ic (1) (s_iadd (s_aload 0 (s_getR 9 16 (s_iload 1 (s_iald (s_icmp_ge (w_Em_nearer_61 l D d0 B Q) (s_iload 1 (s_iload 4 (s_icmp_eq (w_Em_nearer_63 l D d0 B Q) (s_iload 3 (s_iload 1 (s_ishr (s_ic (1) (s_iand (s_if_ne (w_Em_nearer_63 l D d0 B Q) (w_Em_nearer_61 l D d0 B Q))))))))))))))))))))))))
theorem Em_nearer_23 {l : Launch} {D : qD} {d0 : Nat} {B : Nat × Nat} {Q : qQ} : qI (w_Em_nearer_23 l D d0 B Q) (qR l D (d0 + 1, B) m_Em_nearer 23 Q) := sorry
def w_Em_nearer_22 (l : Launch) (D : qD) (d0 : Nat) (B : Nat × Nat) (Q : qQ) : qK := (s_ic (0) (w_Em_nearer_23 l D d0 B Q))
theorem Em_nearer_22 {l : Launch} {D : qD} {d0 : Nat} {B : Nat × Nat} {Q : qQ} : qI (w_Em_nearer_22 l D d0 B Q) (qR l D (d0 + 1, B) m_Em_nearer 22 Q) := sorry
def w_Em_nearer_18 (l : Launch) (D : qD) (d0 : Nat) (B : Nat × Nat) (Q : qQ) : qK := (s_ic (1) (w_Em_nearer_23 l D d0 B Q))
theorem Em_nearer_18 {l : Launch} {D : qD} {d0 : Nat} {B : Nat × Nat} {Q : qQ} : qI (w_Em_nearer_18 l D d0 B Q) (qR l D (d0 + 1, B) m_Em_nearer 18 Q) := sorry
def w_Em_nearer_0 (l : Launch) (D : qD) (d0 : Nat) (B : Nat × Nat) (Q : qQ) : qK := (s_aload 0 (s_getR 9 16 (s_iload 2 (s_iald (s_if_eq (w_Em_nearer_18 l D d0 B Q) (s_iload 3 (s_iload 2 (s_ishr (s_ic (1) (s_iand (s_ic (1) (s_icmp_ne (w_Em_nearer_22 l D d0 B Q) (w_Em_nearer_18 l D d0 B Q)))))))))))))
theorem Em_nearer_0 {l : Launch} {D : qD} {d0 : Nat} {B : Nat × Nat} {Q : qQ} : qI (w_Em_nearer_0 l D d0 B Q) (qR l D (d0 + 1, B) m_Em_nearer 0 Q) := sorry
abbrev e_Em_nearer (a b c e : Int) (v : Int → Int → Int) : Prop := v 152 16 = 163
def p_Em_nearer (a b c e : Int) (v : Int → Int → Int) : Prop := (0 ≤ b ∧ b < 25 ∧ ((v 163 b) = 0 → (0 ≤ b ∧ b < 25 ∧ r32 ((v 163 b) + 1) ∧ 0 ≤ a ∧ a < 25 ∧ (((v 163 b) + 1) < (v 163 a) → ((a = e → (0 ≤ b ∧ b < 25 ∧ r32 ((v 163 b) + 1) ∧ 0 ≤ a ∧ a < 25)) ∧ (a ≠ e → ((z_iand (z_ishr c a) 1) ≠ 0 → (0 ≤ b ∧ b < 25 ∧ r32 ((v 163 b) + 1) ∧ 0 ≤ a ∧ a < 25))))))) ∧ ((v 163 b) ≠ 0 → ((z_iand (z_ishr c b) 1) = 1 → (0 ≤ b ∧ b < 25 ∧ r32 ((v 163 b) + 1) ∧ 0 ≤ a ∧ a < 25 ∧ (((v 163 b) + 1) < (v 163 a) → ((a = e → (0 ≤ b ∧ b < 25 ∧ r32 ((v 163 b) + 1) ∧ 0 ≤ a ∧ a < 25)) ∧ (a ≠ e → ((z_iand (z_ishr c a) 1) ≠ 0 → (0 ≤ b ∧ b < 25 ∧ r32 ((v 163 b) + 1) ∧ 0 ≤ a ∧ a < 25)))))))))
def f_Em_nearer (a b c e : Int) (v : Int → Int → Int) : Int := (if (v 163 b) = 0 then (if (v 163 a) ≤ ((v 163 b) + 1) then 0 else (if a = e then 1 else (if (z_iand (z_ishr c a) 1) ≠ 0 then 1 else 0))) else (if (z_iand (z_ishr c b) 1) ≠ 1 then 0 else (if (v 163 a) ≤ ((v 163 b) + 1) then 0 else (if a = e then 1 else (if (z_iand (z_ishr c a) 1) ≠ 0 then 1 else 0)))))
def g_Em_nearer (a b c e : Int) (v : Int → Int → Int) : Int → Int → Int := (if (v 163 b) = 0 then (if (v 163 a) ≤ ((v 163 b) + 1) then v else (if a = e then (up2 v 163 a ((v 163 b) + 1)) else (if (z_iand (z_ishr c a) 1) ≠ 0 then (up2 v 163 a ((v 163 b) + 1)) else v))) else (if (z_iand (z_ishr c b) 1) ≠ 1 then v else (if (v 163 a) ≤ ((v 163 b) + 1) then v else (if a = e then (up2 v 163 a ((v 163 b) + 1)) else (if (z_iand (z_ishr c a) 1) ≠ 0 then (up2 v 163 a ((v 163 b) + 1)) else v)))))
theorem fb_Em_nearer (a b c e : Int) (v : Int → Int → Int) : f_Em_nearer a b c e v = 0 ∨ f_Em_nearer a b c e v = 1 := sorry
set_option maxRecDepth 100000 in
theorem sp_Em_nearer {l : Launch} {D : qD} {d : Nat} {a b c e : Int} {h : qh} {Q : qQ} (he : e_Em_nearer a b c e h.2) (hp : p_Em_nearer a b c e h.2) (hq : Q (some (.inl (f_Em_nearer a b c e h.2))) (h.1, g_Em_nearer a b c e h.2)) : qM l D (d + 1, 0, 0) m_Em_nearer [.inr (.inr 152), .inl a, .inl b, .inl c, .inl e] h Q := sorry
def s_Em_nearer (d0 : Nat) (K : qK) : qK := fun ls st h => match st with
  | .inl e :: .inl c :: .inl b :: .inl a :: .inr (.inr o) :: r => o = 152 ∧ 1 ≤ d0 ∧ q_cs r ≤ 8 ∧ e_Em_nearer a b c e h.2 ∧ p_Em_nearer a b c e h.2 ∧ K ls (.inl (f_Em_nearer a b c e h.2) :: r) (h.1, g_Em_nearer a b c e h.2)
  | _ => False
set_option maxRecDepth 100000 in
theorem to_Em_nearer {l : Launch} {D : qD} {d0 : Nat} {K : qK} : qI (s_Em_nearer d0 K) (s_invV l D (d0, 0, 0) 9 m_Em_nearer 4 K) := sorry
def w_Pn_swap_0 (l : Launch) (D : qD) (d0 : Nat) (B : Nat × Nat) (Q : qQ) : qK := (s_aload 0 (s_getR 15 10 (s_iload 1 (s_iald (s_istore 3 (s_aload 0 (s_getR 15 10 (s_iload 1 (s_aload 0 (s_getR 15 10 (s_iload 2 (s_iald (s_iast (s_aload 0 (s_getR 15 10 (s_iload 2 (s_iload 3 (s_iast (s_vret Q)))))))))))))))))))
theorem Pn_swap_0 {l : Launch} {D : qD} {d0 : Nat} {B : Nat × Nat} {Q : qQ} : qI (w_Pn_swap_0 l D d0 B Q) (qR l D (d0 + 1, B) m_Pn_swap 0 Q) := sorry
abbrev e_Pn_swap (a b : Int) (v : Int → Int → Int) : Prop := v 253 10 = 261
def p_Pn_swap (a b : Int) (v : Int → Int → Int) : Prop := (0 ≤ a ∧ a < 24 ∧ 0 ≤ b ∧ b < 24)
def g_Pn_swap (a b : Int) (v : Int → Int → Int) : Int → Int → Int := (up2 (up2 v 261 a (v 261 b)) 261 b (v 261 a))
set_option maxRecDepth 100000 in
theorem sp_Pn_swap {l : Launch} {D : qD} {d : Nat} {a b : Int} {h : qh} {Q : qQ} (he : e_Pn_swap a b h.2) (hp : p_Pn_swap a b h.2) (hq : Q none (h.1, g_Pn_swap a b h.2)) : qM l D (d + 1, 0, 0) m_Pn_swap [.inr (.inr 253), .inl a, .inl b] h Q := sorry
def s_Pn_swap (d0 : Nat) (K : qK) : qK := fun ls st h => match st with
  | .inl b :: .inl a :: .inr (.inr o) :: r => o = 253 ∧ 1 ≤ d0 ∧ q_cs r ≤ 8 ∧ e_Pn_swap a b h.2 ∧ p_Pn_swap a b h.2 ∧ K ls (r) (h.1, g_Pn_swap a b h.2)
  | _ => False
set_option maxRecDepth 100000 in
theorem to_Pn_swap {l : Launch} {D : qD} {d0 : Nat} {K : qK} : qI (s_Pn_swap d0 K) (s_invV l D (d0, 0, 0) 15 m_Pn_swap 2 K) := sorry
def w_DH_nameOf_33 (l : Launch) (D : qD) (d0 : Nat) (B : Nat × Nat) (Q : qQ) : qK := (s_aload 0 (s_getR 0 30 (s_iload 2 (s_iinc 2 (1) (s_ic (48) (s_iload 1 (s_ic (10) (s_irem (s_iadd (s_i2b (s_bast (s_iload 2 (s_iret Q)))))))))))))
theorem DH_nameOf_33 {l : Launch} {D : qD} {d0 : Nat} {B : Nat × Nat} {Q : qQ} : qI (w_DH_nameOf_33 l D d0 B Q) (qR l D (d0 + 1, B) m_DH_nameOf 33 Q) := sorry
def w_DH_nameOf_0 (l : Launch) (D : qD) (d0 : Nat) (B : Nat × Nat) (Q : qQ) : qK := (s_aload 0 (s_getR 0 30 (s_ic (0) (s_ic (110) (s_bast (s_ic (1) (s_istore 2 (s_iload 1 (s_ic (9) (s_icmp_le (w_DH_nameOf_33 l D d0 B Q) (s_aload 0 (s_getR 0 30 (s_iload 2 (s_iinc 2 (1) (s_ic (48) (s_iload 1 (s_ic (10) (s_idiv (s_iadd (s_i2b (s_bast (w_DH_nameOf_33 l D d0 B Q))))))))))))))))))))))
theorem DH_nameOf_0 {l : Launch} {D : qD} {d0 : Nat} {B : Nat × Nat} {Q : qQ} : qI (w_DH_nameOf_0 l D d0 B Q) (qR l D (d0 + 1, B) m_DH_nameOf 0 Q) := sorry
abbrev e_DH_nameOf (a : Int) (v : Int → Int → Int) : Prop := v 0 30 = 275
def p_DH_nameOf (a : Int) (v : Int → Int → Int) : Prop := (0 ≤ 0 ∧ 0 < 4000 ∧ (-128 ≤ 110 ∧ 110 ≤ 127) ∧ (a ≤ 9 → (r32 (1 + 1) ∧ 10 ≠ 0 ∧ r32 (48 + (Int.tmod a 10)) ∧ 0 ≤ 1 ∧ 1 < 4000 ∧ (-128 ≤ (z_i2b (48 + (Int.tmod a 10))) ∧ (z_i2b (48 + (Int.tmod a 10))) ≤ 127))) ∧ (9 < a → (r32 (1 + 1) ∧ 10 ≠ 0 ∧ r32 (Int.tdiv a 10) ∧ r32 (48 + (Int.tdiv a 10)) ∧ 0 ≤ 1 ∧ 1 < 4000 ∧ (-128 ≤ (z_i2b (48 + (Int.tdiv a 10))) ∧ (z_i2b (48 + (Int.tdiv a 10))) ≤ 127) ∧ r32 ((1 + 1) + 1) ∧ r32 (48 + (Int.tmod a 10)) ∧ 0 ≤ (1 + 1) ∧ (1 + 1) < 4000 ∧ (-128 ≤ (z_i2b (48 + (Int.tmod a 10))) ∧ (z_i2b (48 + (Int.tmod a 10))) ≤ 127))))
def f_DH_nameOf (a : Int) (v : Int → Int → Int) : Int := (if a ≤ 9 then (1 + 1) else ((1 + 1) + 1))
def g_DH_nameOf (a : Int) (v : Int → Int → Int) : Int → Int → Int := (if a ≤ 9 then (up2 (up2 v 275 0 110) 275 1 (z_i2b (48 + (Int.tmod a 10)))) else (up2 (up2 (up2 v 275 0 110) 275 1 (z_i2b (48 + (Int.tdiv a 10)))) 275 (1 + 1) (z_i2b (48 + (Int.tmod a 10)))))
set_option maxRecDepth 100000 in
theorem sp_DH_nameOf {l : Launch} {D : qD} {d : Nat} {a : Int} {h : qh} {Q : qQ} (he : e_DH_nameOf a h.2) (hp : p_DH_nameOf a h.2) (hq : Q (some (.inl (f_DH_nameOf a h.2))) (h.1, g_DH_nameOf a h.2)) : qM l D (d + 1, 0, 0) m_DH_nameOf [.inr (.inr 0), .inl a] h Q := sorry
def s_DH_nameOf (d0 : Nat) (K : qK) : qK := fun ls st h => match st with
  | .inl a :: .inr (.inr o) :: r => o = 0 ∧ 1 ≤ d0 ∧ q_cs r ≤ 8 ∧ e_DH_nameOf a h.2 ∧ p_DH_nameOf a h.2 ∧ K ls (.inl (f_DH_nameOf a h.2) :: r) (h.1, g_DH_nameOf a h.2)
  | _ => False
set_option maxRecDepth 100000 in
theorem to_DH_nameOf {l : Launch} {D : qD} {d0 : Nat} {K : qK} : qI (s_DH_nameOf d0 K) (s_invV l D (d0, 0, 0) 0 m_DH_nameOf 1 K) := sorry
def w_Sy_put_0 (l : Launch) (D : qD) (d0 : Nat) (B : Nat × Nat) (Q : qQ) : qK := (s_aload 0 (s_getR 6 0 (s_aload 0 (s_getI 6 2 (s_iload 1 (s_iast (s_aload 0 (s_getR 6 1 (s_aload 0 (s_getI 6 2 (s_iload 2 (s_iast (s_aload 0 (s_dup (s_getI 6 2 (s_ic (1) (s_iadd (s_putI 6 2 (s_vret Q)))))))))))))))))))
theorem Sy_put_0 {l : Launch} {D : qD} {d0 : Nat} {B : Nat × Nat} {Q : qQ} : qI (w_Sy_put_0 l D d0 B Q) (qR l D (d0 + 1, B) m_Sy_put 0 Q) := sorry
abbrev e_Sy_put (a b : Int) (v : Int → Int → Int) : Prop := v 126 0 = 129 ∧ v 126 1 = 130
def p_Sy_put (a b : Int) (v : Int → Int → Int) : Prop := (0 ≤ (v 126 2) ∧ (v 126 2) < 4000 ∧ r32 ((v 126 2) + 1))
def g_Sy_put (a b : Int) (v : Int → Int → Int) : Int → Int → Int := (up2 (up2 (up2 v 129 (v 126 2) a) 130 (v 126 2) b) 126 2 ((v 126 2) + 1))
set_option maxRecDepth 100000 in
theorem sp_Sy_put {l : Launch} {D : qD} {d : Nat} {a b : Int} {h : qh} {Q : qQ} (he : e_Sy_put a b h.2) (hp : p_Sy_put a b h.2) (hq : Q none (h.1, g_Sy_put a b h.2)) : qM l D (d + 1, 0, 0) m_Sy_put [.inr (.inr 126), .inl a, .inl b] h Q := sorry
def s_Sy_put (d0 : Nat) (K : qK) : qK := fun ls st h => match st with
  | .inl b :: .inl a :: .inr (.inr o) :: r => o = 126 ∧ 1 ≤ d0 ∧ q_cs r ≤ 8 ∧ e_Sy_put a b h.2 ∧ p_Sy_put a b h.2 ∧ K ls (r) (h.1, g_Sy_put a b h.2)
  | _ => False
set_option maxRecDepth 100000 in
theorem to_Sy_put {l : Launch} {D : qD} {d0 : Nat} {K : qK} : qI (s_Sy_put d0 K) (s_invV l D (d0, 0, 0) 6 m_Sy_put 2 K) := sorry
end
section
/-! printed by gen/gcode.py: the code of DrawingHouse$Graph, block by block -/
theorem lf_Gr_15 : q_gF "DrawingHouse$Graph" 15 3 3 2 := sorry
theorem lf_Gr_22 : q_gF "DrawingHouse$Graph" 22 3 5 2 := sorry
theorem lf_Gr_26 : q_gF "DrawingHouse$Graph" 26 3 6 2 := sorry
theorem lf_Gr_29 : q_gF "DrawingHouse$Graph" 29 3 7 2 := sorry
theorem lf_Gr_19 : q_gF "DrawingHouse$Graph" 19 3 4 2 := sorry
theorem lm_Gr_71 : q_gV "DrawingHouse$Graph" 71 3 2 m_Gr_other := sorry
theorem lm_Gr_67 : q_gV "DrawingHouse$Graph" 67 3 2 m_Gr_isIn := sorry
theorem lm_Gr_63 : q_gV "DrawingHouse$Graph" 63 3 1 m_Gr_dropEdge := sorry
def w_Gr_find_93 (l : Launch) (D : qD) (d0 : Nat) (B : Nat × Nat) (Q : qQ) : qK := (s_ic (-1) (s_iret Q))
theorem Gr_find_93 {l : Launch} {D : qD} {d0 : Nat} {B : Nat × Nat} {Q : qQ} : qI (w_Gr_find_93 l D d0 B Q) (qR l D (d0 + 1, B) m_Gr_find 93 Q) := sorry
def w_Gr_find_87 (l : Launch) (D : qD) (d0 : Nat) (B : Nat × Nat) (Q : qQ) : qK := (s_iinc 4 (1) (qR l D (d0 + 1, B) m_Gr_find 3 Q))
theorem Gr_find_87 {l : Launch} {D : qD} {d0 : Nat} {B : Nat × Nat} {Q : qQ} : qI (w_Gr_find_87 l D d0 B Q) (qR l D (d0 + 1, B) m_Gr_find 87 Q) := sorry
def w_Gr_find_79 (l : Launch) (D : qD) (d0 : Nat) (B : Nat × Nat) (Q : qQ) : qK := (s_iload 5 (s_if_eq (w_Gr_find_87 l D d0 B Q) (s_iload 4 (s_iret Q))))
theorem Gr_find_79 {l : Launch} {D : qD} {d0 : Nat} {B : Nat × Nat} {Q : qQ} : qI (w_Gr_find_79 l D d0 B Q) (qR l D (d0 + 1, B) m_Gr_find 79 Q) := sorry
def w_Gr_find_71 (l : Launch) (D : qD) (d0 : Nat) (B : Nat × Nat) (Q : qQ) : qK := (s_istore 5 (s_iinc 6 (1) (qR l D (d0 + 1, B) m_Gr_find 33 Q)))
theorem Gr_find_71 {l : Launch} {D : qD} {d0 : Nat} {B : Nat × Nat} {Q : qQ} : qI (w_Gr_find_71 l D d0 B Q) (qR l D (d0 + 1, B) m_Gr_find 71 Q) := sorry
def w_Gr_find_70 (l : Launch) (D : qD) (d0 : Nat) (B : Nat × Nat) (Q : qQ) : qK := (s_ic (0) (w_Gr_find_71 l D d0 B Q))
theorem Gr_find_70 {l : Launch} {D : qD} {d0 : Nat} {B : Nat × Nat} {Q : qQ} : qI (w_Gr_find_70 l D d0 B Q) (qR l D (d0 + 1, B) m_Gr_find 70 Q) := sorry
def w_Gr_find_33 (l : Launch) (D : qD) (d0 : Nat) (B : Nat × Nat) (Q : qQ) : qK := (s_iload 6 (s_iload 3 (s_icmp_ge (w_Gr_find_79 l D d0 B Q) (s_iload 5 (s_if_eq (w_Gr_find_79 l D d0 B Q) (s_aload 0 (s_getR 3 3 (s_ic (8) (s_iload 4 (s_imul (s_iload 6 (s_iadd (s_bald (s_aload 1 (s_iload 2 (s_iload 6 (s_iadd (s_bald (s_icmp_ne (w_Gr_find_70 l D d0 B Q) (s_ic (1) (w_Gr_find_71 l D d0 B Q)))))))))))))))))))))
theorem Gr_find_33 {l : Launch} {D : qD} {d0 : Nat} {B : Nat × Nat} {Q : qQ} : qI (w_Gr_find_33 l D d0 B Q) (qR l D (d0 + 1, B) m_Gr_find 33 Q) := sorry
def w_Gr_find_28 (l : Launch) (D : qD) (d0 : Nat) (B : Nat × Nat) (Q : qQ) : qK := (s_istore 5 (s_ic (0) (s_istore 6 (qR l D (d0 + 1, B) m_Gr_find 33 Q))))
theorem Gr_find_28 {l : Launch} {D : qD} {d0 : Nat} {B : Nat × Nat} {Q : qQ} : qI (w_Gr_find_28 l D d0 B Q) (qR l D (d0 + 1, B) m_Gr_find 28 Q) := sorry
def w_Gr_find_27 (l : Launch) (D : qD) (d0 : Nat) (B : Nat × Nat) (Q : qQ) : qK := (s_ic (0) (w_Gr_find_28 l D d0 B Q))
theorem Gr_find_27 {l : Launch} {D : qD} {d0 : Nat} {B : Nat × Nat} {Q : qQ} : qI (w_Gr_find_27 l D d0 B Q) (qR l D (d0 + 1, B) m_Gr_find 27 Q) := sorry
def w_Gr_find_3 (l : Launch) (D : qD) (d0 : Nat) (B : Nat × Nat) (Q : qQ) : qK := (s_iload 4 (s_aload 0 (s_getI 3 0 (s_icmp_ge (w_Gr_find_93 l D d0 B Q) (s_aload 0 (s_getR 3 5 (s_iload 4 (s_iald (s_iload 3 (s_icmp_ne (w_Gr_find_27 l D d0 B Q) (s_ic (1) (w_Gr_find_28 l D d0 B Q))))))))))))
theorem Gr_find_3 {l : Launch} {D : qD} {d0 : Nat} {B : Nat × Nat} {Q : qQ} : qI (w_Gr_find_3 l D d0 B Q) (qR l D (d0 + 1, B) m_Gr_find 3 Q) := sorry
def w_Gr_find_0 (l : Launch) (D : qD) (d0 : Nat) (B : Nat × Nat) (Q : qQ) : qK := (s_ic (0) (s_istore 4 (qR l D (d0 + 1, B) m_Gr_find 3 Q)))
theorem Gr_find_0 {l : Launch} {D : qD} {d0 : Nat} {B : Nat × Nat} {Q : qQ} : qI (w_Gr_find_0 l D d0 B Q) (qR l D (d0 + 1, B) m_Gr_find 0 Q) := sorry
def w_Gr_addNode_0 (l : Launch) (D : qD) (d0 : Nat) (B : Nat × Nat) (Q : qQ) : qK := (s_aload 0 (s_getI 3 0 (s_istore 5 (s_aload 1 (s_iload 2 (s_aload 0 (s_getR 3 3 (s_ic (8) (s_iload 5 (s_imul (s_iload 3 (s_acopy (s_aload 0 (s_getR 3 5 (s_iload 5 (s_iload 3 (s_iast (s_aload 0 (s_getR 3 6 (s_iload 5 (s_ic (1) (s_iast (s_aload 0 (s_getR 3 7 (s_iload 5 (s_iload 4 (s_iast (s_aload 0 (s_dup (s_getI 3 0 (s_ic (1) (s_iadd (s_putI 3 0 (s_iload 5 (s_iret Q)))))))))))))))))))))))))))))))))))
theorem Gr_addNode_0 {l : Launch} {D : qD} {d0 : Nat} {B : Nat × Nat} {Q : qQ} : qI (w_Gr_addNode_0 l D d0 B Q) (qR l D (d0 + 1, B) m_Gr_addNode 0 Q) := sorry
def w_Gr_deep_21 (l : Launch) (D : qD) (d0 : Nat) (B : Nat × Nat) (Q : qQ) : qK := (s_iload 2 (s_iret Q))
theorem Gr_deep_21 {l : Launch} {D : qD} {d0 : Nat} {B : Nat × Nat} {Q : qQ} : qI (w_Gr_deep_21 l D d0 B Q) (qR l D (d0 + 1, B) m_Gr_deep 21 Q) := sorry
def w_Gr_deep_4 (l : Launch) (D : qD) (d0 : Nat) (B : Nat × Nat) (Q : qQ) : qK := (s_iload 3 (s_if_le (w_Gr_deep_21 l D d0 B Q) (s_iinc 2 (1) (s_aload 0 (s_getR 3 12 (s_iload 3 (s_iald (s_istore 3 (qR l D (d0 + 1, B) m_Gr_deep 4 Q)))))))))
theorem Gr_deep_4 {l : Launch} {D : qD} {d0 : Nat} {B : Nat × Nat} {Q : qQ} : qI (w_Gr_deep_4 l D d0 B Q) (qR l D (d0 + 1, B) m_Gr_deep 4 Q) := sorry
def w_Gr_deep_0 (l : Launch) (D : qD) (d0 : Nat) (B : Nat × Nat) (Q : qQ) : qK := (s_ic (0) (s_istore 2 (s_iload 1 (s_istore 3 (qR l D (d0 + 1, B) m_Gr_deep 4 Q)))))
theorem Gr_deep_0 {l : Launch} {D : qD} {d0 : Nat} {B : Nat × Nat} {Q : qQ} : qI (w_Gr_deep_0 l D d0 B Q) (qR l D (d0 + 1, B) m_Gr_deep 0 Q) := sorry
def w_Gr_between_58 (l : Launch) (D : qD) (d0 : Nat) (B : Nat × Nat) (Q : qQ) : qK := (s_ic (-1) (s_iret Q))
theorem Gr_between_58 {l : Launch} {D : qD} {d0 : Nat} {B : Nat × Nat} {Q : qQ} : qI (w_Gr_between_58 l D d0 B Q) (qR l D (d0 + 1, B) m_Gr_between 58 Q) := sorry
def w_Gr_between_52 (l : Launch) (D : qD) (d0 : Nat) (B : Nat × Nat) (Q : qQ) : qK := (s_iinc 3 (1) (qR l D (d0 + 1, B) m_Gr_between 2 Q))
theorem Gr_between_52 {l : Launch} {D : qD} {d0 : Nat} {B : Nat × Nat} {Q : qQ} : qI (w_Gr_between_52 l D d0 B Q) (qR l D (d0 + 1, B) m_Gr_between 52 Q) := sorry
def w_Gr_between_50 (l : Launch) (D : qD) (d0 : Nat) (B : Nat × Nat) (Q : qQ) : qK := (s_iload 3 (s_iret Q))
theorem Gr_between_50 {l : Launch} {D : qD} {d0 : Nat} {B : Nat × Nat} {Q : qQ} : qI (w_Gr_between_50 l D d0 B Q) (qR l D (d0 + 1, B) m_Gr_between 50 Q) := sorry
def w_Gr_between_30 (l : Launch) (D : qD) (d0 : Nat) (B : Nat × Nat) (Q : qQ) : qK := (s_aload 0 (s_getR 3 8 (s_iload 3 (s_iald (s_iload 2 (s_icmp_ne (w_Gr_between_52 l D d0 B Q) (s_aload 0 (s_getR 3 9 (s_iload 3 (s_iald (s_iload 1 (s_icmp_ne (w_Gr_between_52 l D d0 B Q) (w_Gr_between_50 l D d0 B Q)))))))))))))
theorem Gr_between_30 {l : Launch} {D : qD} {d0 : Nat} {B : Nat × Nat} {Q : qQ} : qI (w_Gr_between_30 l D d0 B Q) (qR l D (d0 + 1, B) m_Gr_between 30 Q) := sorry
def w_Gr_between_2 (l : Launch) (D : qD) (d0 : Nat) (B : Nat × Nat) (Q : qQ) : qK := (s_iload 3 (s_aload 0 (s_getI 3 1 (s_icmp_ge (w_Gr_between_58 l D d0 B Q) (s_aload 0 (s_getR 3 8 (s_iload 3 (s_iald (s_iload 1 (s_icmp_ne (w_Gr_between_30 l D d0 B Q) (s_aload 0 (s_getR 3 9 (s_iload 3 (s_iald (s_iload 2 (s_icmp_eq (w_Gr_between_50 l D d0 B Q) (w_Gr_between_30 l D d0 B Q)))))))))))))))))
theorem Gr_between_2 {l : Launch} {D : qD} {d0 : Nat} {B : Nat × Nat} {Q : qQ} : qI (w_Gr_between_2 l D d0 B Q) (qR l D (d0 + 1, B) m_Gr_between 2 Q) := sorry
def w_Gr_between_0 (l : Launch) (D : qD) (d0 : Nat) (B : Nat × Nat) (Q : qQ) : qK := (s_ic (0) (s_istore 3 (qR l D (d0 + 1, B) m_Gr_between 2 Q)))
theorem Gr_between_0 {l : Launch} {D : qD} {d0 : Nat} {B : Nat × Nat} {Q : qQ} : qI (w_Gr_between_0 l D d0 B Q) (qR l D (d0 + 1, B) m_Gr_between 0 Q) := sorry
def w_Gr_copy_0 (l : Launch) (D : qD) (d0 : Nat) (B : Nat × Nat) (Q : qQ) : qK := (s_aload 0 (s_aload 1 (s_getI 3 0 (s_putI 3 0 (s_aload 0 (s_aload 1 (s_getI 3 1 (s_putI 3 1 (s_aload 0 (s_aload 1 (s_getI 3 2 (s_putI 3 2 (s_aload 1 (s_getR 3 3 (s_ic (0) (s_aload 0 (s_getR 3 3 (s_ic (0) (s_aload 0 (s_getR 3 3 (s_alen (s_acopy (s_aload 1 (s_getR 3 4 (s_ic (0) (s_aload 0 (s_getR 3 4 (s_ic (0) (s_aload 0 (s_getR 3 4 (s_alen (s_acopy (s_aload 1 (s_getR 3 5 (s_ic (0) (s_aload 0 (s_getR 3 5 (s_ic (0) (s_ic (24) (s_acopy (s_aload 1 (s_getR 3 6 (s_ic (0) (s_aload 0 (s_getR 3 6 (s_ic (0) (s_ic (24) (s_acopy (s_aload 1 (s_getR 3 7 (s_ic (0) (s_aload 0 (s_getR 3 7 (s_ic (0) (s_ic (24) (s_acopy (s_aload 1 (s_getR 3 8 (s_ic (0) (s_aload 0 (s_getR 3 8 (s_ic (0) (s_ic (48) (s_acopy (s_aload 1 (s_getR 3 9 (s_ic (0) (s_aload 0 (s_getR 3 9 (s_ic (0) (s_ic (48) (s_acopy (s_aload 1 (s_getR 3 10 (s_ic (0) (s_aload 0 (s_getR 3 10 (s_ic (0) (s_ic (48) (s_acopy (s_aload 1 (s_getR 3 11 (s_ic (0) (s_aload 0 (s_getR 3 11 (s_ic (0) (s_ic (48) (s_acopy (s_aload 1 (s_getR 3 12 (s_ic (0) (s_aload 0 (s_getR 3 12 (s_ic (0) (s_ic (8) (s_acopy (s_aload 1 (s_getR 3 13 (s_ic (0) (s_aload 0 (s_getR 3 13 (s_ic (0) (s_ic (8) (s_acopy (s_vret Q)))))))))))))))))))))))))))))))))))))))))))))))))))))))))))))))))))))))))))))))))))))))))))))))))))))))))
theorem Gr_copy_0 {l : Launch} {D : qD} {d0 : Nat} {B : Nat × Nat} {Q : qQ} : qI (w_Gr_copy_0 l D d0 B Q) (qR l D (d0 + 1, B) m_Gr_copy 0 Q) := sorry
def w_Gr_neighbours_49 (l : Launch) (D : qD) (d0 : Nat) (B : Nat × Nat) (Q : qQ) : qK := (s_iload 2 (s_iret Q))
theorem Gr_neighbours_49 {l : Launch} {D : qD} {d0 : Nat} {B : Nat × Nat} {Q : qQ} : qI (w_Gr_neighbours_49 l D d0 B Q) (qR l D (d0 + 1, B) m_Gr_neighbours 49 Q) := sorry
def w_Gr_neighbours_43 (l : Launch) (D : qD) (d0 : Nat) (B : Nat × Nat) (Q : qQ) : qK := (s_iinc 3 (1) (qR l D (d0 + 1, B) m_Gr_neighbours 4 Q))
theorem Gr_neighbours_43 {l : Launch} {D : qD} {d0 : Nat} {B : Nat × Nat} {Q : qQ} : qI (w_Gr_neighbours_43 l D d0 B Q) (qR l D (d0 + 1, B) m_Gr_neighbours 43 Q) := sorry
def w_Gr_neighbours_32 (l : Launch) (D : qD) (d0 : Nat) (B : Nat × Nat) (Q : qQ) : qK := (s_iload 2 (s_ic (1) (s_aload 0 (s_iload 3 (s_iload 1 (s_Gr_other d0 (s_ishl (s_ior (s_istore 2 (w_Gr_neighbours_43 l D d0 B Q))))))))))
theorem Gr_neighbours_32 {l : Launch} {D : qD} {d0 : Nat} {B : Nat × Nat} {Q : qQ} : qI (w_Gr_neighbours_32 l D d0 B Q) (qR l D (d0 + 1, B) m_Gr_neighbours 32 Q) := sorry
def w_Gr_neighbours_4 (l : Launch) (D : qD) (d0 : Nat) (B : Nat × Nat) (Q : qQ) : qK := (s_iload 3 (s_aload 0 (s_getI 3 1 (s_icmp_ge (w_Gr_neighbours_49 l D d0 B Q) (s_aload 0 (s_getR 3 8 (s_iload 3 (s_iald (s_iload 1 (s_icmp_eq (w_Gr_neighbours_32 l D d0 B Q) (s_aload 0 (s_getR 3 9 (s_iload 3 (s_iald (s_iload 1 (s_icmp_ne (w_Gr_neighbours_43 l D d0 B Q) (w_Gr_neighbours_32 l D d0 B Q)))))))))))))))))
theorem Gr_neighbours_4 {l : Launch} {D : qD} {d0 : Nat} {B : Nat × Nat} {Q : qQ} : qI (w_Gr_neighbours_4 l D d0 B Q) (qR l D (d0 + 1, B) m_Gr_neighbours 4 Q) := sorry
def w_Gr_neighbours_0 (l : Launch) (D : qD) (d0 : Nat) (B : Nat × Nat) (Q : qQ) : qK := (s_ic (0) (s_istore 2 (s_ic (0) (s_istore 3 (qR l D (d0 + 1, B) m_Gr_neighbours 4 Q)))))
theorem Gr_neighbours_0 {l : Launch} {D : qD} {d0 : Nat} {B : Nat × Nat} {Q : qQ} : qI (w_Gr_neighbours_0 l D d0 B Q) (qR l D (d0 + 1, B) m_Gr_neighbours 0 Q) := sorry
def w_Gr_sum_41 (l : Launch) (D : qD) (d0 : Nat) (B : Nat × Nat) (Q : qQ) : qK := (s_iload 2 (s_iret Q))
theorem Gr_sum_41 {l : Launch} {D : qD} {d0 : Nat} {B : Nat × Nat} {Q : qQ} : qI (w_Gr_sum_41 l D d0 B Q) (qR l D (d0 + 1, B) m_Gr_sum 41 Q) := sorry
def w_Gr_sum_35 (l : Launch) (D : qD) (d0 : Nat) (B : Nat × Nat) (Q : qQ) : qK := (s_iinc 3 (1) (qR l D (d0 + 1, B) m_Gr_sum 4 Q))
theorem Gr_sum_35 {l : Launch} {D : qD} {d0 : Nat} {B : Nat × Nat} {Q : qQ} : qI (w_Gr_sum_35 l D d0 B Q) (qR l D (d0 + 1, B) m_Gr_sum 35 Q) := sorry
def w_Gr_sum_4 (l : Launch) (D : qD) (d0 : Nat) (B : Nat × Nat) (Q : qQ) : qK := (s_iload 3 (s_aload 0 (s_getI 3 0 (s_icmp_ge (w_Gr_sum_41 l D d0 B Q) (s_aload 0 (s_aload 0 (s_getR 3 7 (s_iload 3 (s_iald (s_iload 1 (s_invV l D (d0, 0, 0) 3 m_Gr_isIn 2 (s_if_eq (w_Gr_sum_35 l D d0 B Q) (s_iload 2 (s_aload 0 (s_getR 3 6 (s_iload 3 (s_iald (s_iadd (s_istore 2 (w_Gr_sum_35 l D d0 B Q))))))))))))))))))))
theorem Gr_sum_4 {l : Launch} {D : qD} {d0 : Nat} {B : Nat × Nat} {Q : qQ} : qI (w_Gr_sum_4 l D d0 B Q) (qR l D (d0 + 1, B) m_Gr_sum 4 Q) := sorry
def w_Gr_sum_0 (l : Launch) (D : qD) (d0 : Nat) (B : Nat × Nat) (Q : qQ) : qK := (s_ic (0) (s_istore 2 (s_ic (0) (s_istore 3 (qR l D (d0 + 1, B) m_Gr_sum 4 Q)))))
theorem Gr_sum_0 {l : Launch} {D : qD} {d0 : Nat} {B : Nat × Nat} {Q : qQ} : qI (w_Gr_sum_0 l D d0 B Q) (qR l D (d0 + 1, B) m_Gr_sum 0 Q) := sorry
def w_Gr_isIn_31 (l : Launch) (D : qD) (d0 : Nat) (B : Nat × Nat) (Q : qQ) : qK := (s_zret Q)
theorem Gr_isIn_31 {l : Launch} {D : qD} {d0 : Nat} {B : Nat × Nat} {Q : qQ} : qI (w_Gr_isIn_31 l D d0 B Q) (qR l D (d0 + 1, B) m_Gr_isIn 31 Q) := sorry
def w_Gr_isIn_30 (l : Launch) (D : qD) (d0 : Nat) (B : Nat × Nat) (Q : qQ) : qK := (s_ic (0) (w_Gr_isIn_31 l D d0 B Q))
theorem Gr_isIn_30 {l : Launch} {D : qD} {d0 : Nat} {B : Nat × Nat} {Q : qQ} : qI (w_Gr_isIn_30 l D d0 B Q) (qR l D (d0 + 1, B) m_Gr_isIn 30 Q) := sorry
def w_Gr_isIn_21 (l : Launch) (D : qD) (d0 : Nat) (B : Nat × Nat) (Q : qQ) : qK := (s_iload 3 (s_iload 2 (s_icmp_ne (w_Gr_isIn_30 l D d0 B Q) (s_ic (1) (w_Gr_isIn_31 l D d0 B Q)))))
theorem Gr_isIn_21 {l : Launch} {D : qD} {d0 : Nat} {B : Nat × Nat} {Q : qQ} : qI (w_Gr_isIn_21 l D d0 B Q) (qR l D (d0 + 1, B) m_Gr_isIn 21 Q) := sorry
def w_Gr_isIn_2 (l : Launch) (D : qD) (d0 : Nat) (B : Nat × Nat) (Q : qQ) : qK := (s_iload 3 (s_iload 2 (s_icmp_eq (w_Gr_isIn_21 l D d0 B Q) (s_iload 3 (s_if_le (w_Gr_isIn_21 l D d0 B Q) (s_aload 0 (s_getR 3 12 (s_iload 3 (s_iald (s_istore 3 (qR l D (d0 + 1, B) m_Gr_isIn 2 Q)))))))))))
theorem Gr_isIn_2 {l : Launch} {D : qD} {d0 : Nat} {B : Nat × Nat} {Q : qQ} : qI (w_Gr_isIn_2 l D d0 B Q) (qR l D (d0 + 1, B) m_Gr_isIn 2 Q) := sorry
def w_Gr_isIn_0 (l : Launch) (D : qD) (d0 : Nat) (B : Nat × Nat) (Q : qQ) : qK := (s_iload 1 (s_istore 3 (qR l D (d0 + 1, B) m_Gr_isIn 2 Q)))
theorem Gr_isIn_0 {l : Launch} {D : qD} {d0 : Nat} {B : Nat × Nat} {Q : qQ} : qI (w_Gr_isIn_0 l D d0 B Q) (qR l D (d0 + 1, B) m_Gr_isIn 0 Q) := sorry
def w_Gr_dropEdge_82 (l : Launch) (D : qD) (d0 : Nat) (B : Nat × Nat) (Q : qQ) : qK := (s_vret Q)
theorem Gr_dropEdge_82 {l : Launch} {D : qD} {d0 : Nat} {B : Nat × Nat} {Q : qQ} : qI (w_Gr_dropEdge_82 l D d0 B Q) (qR l D (d0 + 1, B) m_Gr_dropEdge 82 Q) := sorry
def w_Gr_dropEdge_12 (l : Launch) (D : qD) (d0 : Nat) (B : Nat × Nat) (Q : qQ) : qK := (s_iload 2 (s_aload 0 (s_getI 3 1 (s_icmp_ge (w_Gr_dropEdge_82 l D d0 B Q) (s_aload 0 (s_getR 3 8 (s_iload 2 (s_aload 0 (s_getR 3 8 (s_iload 2 (s_ic (1) (s_iadd (s_iald (s_iast (s_aload 0 (s_getR 3 9 (s_iload 2 (s_aload 0 (s_getR 3 9 (s_iload 2 (s_ic (1) (s_iadd (s_iald (s_iast (s_aload 0 (s_getR 3 10 (s_iload 2 (s_aload 0 (s_getR 3 10 (s_iload 2 (s_ic (1) (s_iadd (s_iald (s_iast (s_aload 0 (s_getR 3 11 (s_iload 2 (s_aload 0 (s_getR 3 11 (s_iload 2 (s_ic (1) (s_iadd (s_bald (s_bast (s_iinc 2 (1) (qR l D (d0 + 1, B) m_Gr_dropEdge 12 Q))))))))))))))))))))))))))))))))))))))))))))))
theorem Gr_dropEdge_12 {l : Launch} {D : qD} {d0 : Nat} {B : Nat × Nat} {Q : qQ} : qI (w_Gr_dropEdge_12 l D d0 B Q) (qR l D (d0 + 1, B) m_Gr_dropEdge 12 Q) := sorry
def w_Gr_dropEdge_0 (l : Launch) (D : qD) (d0 : Nat) (B : Nat × Nat) (Q : qQ) : qK := (s_aload 0 (s_dup (s_getI 3 1 (s_ic (1) (s_isub (s_putI 3 1 (s_iload 1 (s_istore 2 (qR l D (d0 + 1, B) m_Gr_dropEdge 12 Q)))))))))
theorem Gr_dropEdge_0 {l : Launch} {D : qD} {d0 : Nat} {B : Nat × Nat} {Q : qQ} : qI (w_Gr_dropEdge_0 l D d0 B Q) (qR l D (d0 + 1, B) m_Gr_dropEdge 0 Q) := sorry
def w_Gr_dropNode_197 (l : Launch) (D : qD) (d0 : Nat) (B : Nat × Nat) (Q : qQ) : qK := (s_vret Q)
theorem Gr_dropNode_197 {l : Launch} {D : qD} {d0 : Nat} {B : Nat × Nat} {Q : qQ} : qI (w_Gr_dropNode_197 l D d0 B Q) (qR l D (d0 + 1, B) m_Gr_dropNode 197 Q) := sorry
def w_Gr_dropNode_118 (l : Launch) (D : qD) (d0 : Nat) (B : Nat × Nat) (Q : qQ) : qK := (s_iload 2 (s_aload 0 (s_getI 3 0 (s_icmp_ge (w_Gr_dropNode_197 l D d0 B Q) (s_aload 0 (s_getR 3 3 (s_ic (8) (s_iload 2 (s_ic (1) (s_iadd (s_imul (s_aload 0 (s_getR 3 3 (s_ic (8) (s_iload 2 (s_imul (s_ic (8) (s_acopy (s_aload 0 (s_getR 3 5 (s_iload 2 (s_aload 0 (s_getR 3 5 (s_iload 2 (s_ic (1) (s_iadd (s_iald (s_iast (s_aload 0 (s_getR 3 6 (s_iload 2 (s_aload 0 (s_getR 3 6 (s_iload 2 (s_ic (1) (s_iadd (s_iald (s_iast (s_aload 0 (s_getR 3 7 (s_iload 2 (s_aload 0 (s_getR 3 7 (s_iload 2 (s_ic (1) (s_iadd (s_iald (s_iast (s_iinc 2 (1) (qR l D (d0 + 1, B) m_Gr_dropNode 118 Q))))))))))))))))))))))))))))))))))))))))))))))))))
theorem Gr_dropNode_118 {l : Launch} {D : qD} {d0 : Nat} {B : Nat × Nat} {Q : qQ} : qI (w_Gr_dropNode_118 l D d0 B Q) (qR l D (d0 + 1, B) m_Gr_dropNode 118 Q) := sorry
def w_Gr_dropNode_106 (l : Launch) (D : qD) (d0 : Nat) (B : Nat × Nat) (Q : qQ) : qK := (s_aload 0 (s_dup (s_getI 3 0 (s_ic (1) (s_isub (s_putI 3 0 (s_iload 1 (s_istore 2 (qR l D (d0 + 1, B) m_Gr_dropNode 118 Q)))))))))
theorem Gr_dropNode_106 {l : Launch} {D : qD} {d0 : Nat} {B : Nat × Nat} {Q : qQ} : qI (w_Gr_dropNode_106 l D d0 B Q) (qR l D (d0 + 1, B) m_Gr_dropNode 106 Q) := sorry
def w_Gr_dropNode_98 (l : Launch) (D : qD) (d0 : Nat) (B : Nat × Nat) (Q : qQ) : qK := (s_isub (s_iast (s_iinc 2 (1) (qR l D (d0 + 1, B) m_Gr_dropNode 44 Q))))
theorem Gr_dropNode_98 {l : Launch} {D : qD} {d0 : Nat} {B : Nat × Nat} {Q : qQ} : qI (w_Gr_dropNode_98 l D d0 B Q) (qR l D (d0 + 1, B) m_Gr_dropNode 98 Q) := sorry
def w_Gr_dropNode_97 (l : Launch) (D : qD) (d0 : Nat) (B : Nat × Nat) (Q : qQ) : qK := (s_ic (0) (w_Gr_dropNode_98 l D d0 B Q))
theorem Gr_dropNode_97 {l : Launch} {D : qD} {d0 : Nat} {B : Nat × Nat} {Q : qQ} : qI (w_Gr_dropNode_97 l D d0 B Q) (qR l D (d0 + 1, B) m_Gr_dropNode 97 Q) := sorry
def w_Gr_dropNode_74 (l : Launch) (D : qD) (d0 : Nat) (B : Nat × Nat) (Q : qQ) : qK := (s_isub (s_iast (s_aload 0 (s_getR 3 9 (s_iload 2 (s_dup2 (s_iald (s_aload 0 (s_getR 3 9 (s_iload 2 (s_iald (s_iload 1 (s_icmp_le (w_Gr_dropNode_97 l D d0 B Q) (s_ic (1) (w_Gr_dropNode_98 l D d0 B Q)))))))))))))))
theorem Gr_dropNode_74 {l : Launch} {D : qD} {d0 : Nat} {B : Nat × Nat} {Q : qQ} : qI (w_Gr_dropNode_74 l D d0 B Q) (qR l D (d0 + 1, B) m_Gr_dropNode 74 Q) := sorry
def w_Gr_dropNode_73 (l : Launch) (D : qD) (d0 : Nat) (B : Nat × Nat) (Q : qQ) : qK := (s_ic (0) (w_Gr_dropNode_74 l D d0 B Q))
theorem Gr_dropNode_73 {l : Launch} {D : qD} {d0 : Nat} {B : Nat × Nat} {Q : qQ} : qI (w_Gr_dropNode_73 l D d0 B Q) (qR l D (d0 + 1, B) m_Gr_dropNode 73 Q) := sorry
def w_Gr_dropNode_44 (l : Launch) (D : qD) (d0 : Nat) (B : Nat × Nat) (Q : qQ) : qK := (s_iload 2 (s_aload 0 (s_getI 3 1 (s_icmp_ge (w_Gr_dropNode_106 l D d0 B Q) (s_aload 0 (s_getR 3 8 (s_iload 2 (s_dup2 (s_iald (s_aload 0 (s_getR 3 8 (s_iload 2 (s_iald (s_iload 1 (s_icmp_le (w_Gr_dropNode_73 l D d0 B Q) (s_ic (1) (w_Gr_dropNode_74 l D d0 B Q)))))))))))))))))
theorem Gr_dropNode_44 {l : Launch} {D : qD} {d0 : Nat} {B : Nat × Nat} {Q : qQ} : qI (w_Gr_dropNode_44 l D d0 B Q) (qR l D (d0 + 1, B) m_Gr_dropNode 44 Q) := sorry
def w_Gr_dropNode_42 (l : Launch) (D : qD) (d0 : Nat) (B : Nat × Nat) (Q : qQ) : qK := (s_ic (0) (s_istore 2 (qR l D (d0 + 1, B) m_Gr_dropNode 44 Q)))
theorem Gr_dropNode_42 {l : Launch} {D : qD} {d0 : Nat} {B : Nat × Nat} {Q : qQ} : qI (w_Gr_dropNode_42 l D d0 B Q) (qR l D (d0 + 1, B) m_Gr_dropNode 42 Q) := sorry
def w_Gr_dropNode_36 (l : Launch) (D : qD) (d0 : Nat) (B : Nat × Nat) (Q : qQ) : qK := (s_iinc 2 (-1) (qR l D (d0 + 1, B) m_Gr_dropNode 7 Q))
theorem Gr_dropNode_36 {l : Launch} {D : qD} {d0 : Nat} {B : Nat × Nat} {Q : qQ} : qI (w_Gr_dropNode_36 l D d0 B Q) (qR l D (d0 + 1, B) m_Gr_dropNode 36 Q) := sorry
def w_Gr_dropNode_31 (l : Launch) (D : qD) (d0 : Nat) (B : Nat × Nat) (Q : qQ) : qK := (s_aload 0 (s_iload 2 (s_invV l D (d0, 0, 0) 3 m_Gr_dropEdge 1 (w_Gr_dropNode_36 l D d0 B Q))))
theorem Gr_dropNode_31 {l : Launch} {D : qD} {d0 : Nat} {B : Nat × Nat} {Q : qQ} : qI (w_Gr_dropNode_31 l D d0 B Q) (qR l D (d0 + 1, B) m_Gr_dropNode 31 Q) := sorry
def w_Gr_dropNode_7 (l : Launch) (D : qD) (d0 : Nat) (B : Nat × Nat) (Q : qQ) : qK := (s_iload 2 (s_if_lt (w_Gr_dropNode_42 l D d0 B Q) (s_aload 0 (s_getR 3 8 (s_iload 2 (s_iald (s_iload 1 (s_icmp_eq (w_Gr_dropNode_31 l D d0 B Q) (s_aload 0 (s_getR 3 9 (s_iload 2 (s_iald (s_iload 1 (s_icmp_ne (w_Gr_dropNode_36 l D d0 B Q) (w_Gr_dropNode_31 l D d0 B Q)))))))))))))))
theorem Gr_dropNode_7 {l : Launch} {D : qD} {d0 : Nat} {B : Nat × Nat} {Q : qQ} : qI (w_Gr_dropNode_7 l D d0 B Q) (qR l D (d0 + 1, B) m_Gr_dropNode 7 Q) := sorry
def w_Gr_dropNode_0 (l : Launch) (D : qD) (d0 : Nat) (B : Nat × Nat) (Q : qQ) : qK := (s_aload 0 (s_getI 3 1 (s_ic (1) (s_isub (s_istore 2 (qR l D (d0 + 1, B) m_Gr_dropNode 7 Q))))))
theorem Gr_dropNode_0 {l : Launch} {D : qD} {d0 : Nat} {B : Nat × Nat} {Q : qQ} : qI (w_Gr_dropNode_0 l D d0 B Q) (qR l D (d0 + 1, B) m_Gr_dropNode 0 Q) := sorry
end
section
/-! printed by gen/gcode.py: the code of DrawingHouse$Drawing, block by block -/
theorem lf_Dr_43 : q_gF "DrawingHouse$Drawing" 43 2 0 0 := sorry
theorem lp_Dr_43 : q_pF "DrawingHouse$Drawing" 43 2 0 0 (.boolean) false := sorry
theorem lf_Dr_47 : q_gF "DrawingHouse$Drawing" 47 2 1 0 := sorry
theorem lp_Dr_47 : q_pF "DrawingHouse$Drawing" 47 2 1 0 (.int) false := sorry
theorem lf_Dr_51 : q_gF "DrawingHouse$Drawing" 51 2 2 0 := sorry
theorem lp_Dr_51 : q_pF "DrawingHouse$Drawing" 51 2 2 0 (.int) false := sorry
theorem lf_Dr_54 : q_gF "DrawingHouse$Drawing" 54 2 3 0 := sorry
theorem lp_Dr_54 : q_pF "DrawingHouse$Drawing" 54 2 3 0 (.int) false := sorry
theorem lf_Dr_57 : q_gF "DrawingHouse$Drawing" 57 2 4 0 := sorry
theorem lp_Dr_57 : q_pF "DrawingHouse$Drawing" 57 2 4 0 (.int) false := sorry
theorem lf_Dr_27 : q_gF "DrawingHouse$Drawing" 27 2 10 2 := sorry
theorem lf_Dr_30 : q_gF "DrawingHouse$Drawing" 30 2 11 2 := sorry
theorem lf_Dr_33 : q_gF "DrawingHouse$Drawing" 33 2 12 2 := sorry
theorem lf_Dr_36 : q_gF "DrawingHouse$Drawing" 36 2 13 2 := sorry
theorem lf_Dr_39 : q_gF "DrawingHouse$Drawing" 39 2 14 2 := sorry
def w_Dr_clear_21 (l : Launch) (D : qD) (d0 : Nat) (B : Nat × Nat) (Q : qQ) : qK := (s_vret Q)
theorem Dr_clear_21 {l : Launch} {D : qD} {d0 : Nat} {B : Nat × Nat} {Q : qQ} : qI (w_Dr_clear_21 l D d0 B Q) (qR l D (d0 + 1, B) m_Dr_clear 21 Q) := sorry
def w_Dr_clear_2 (l : Launch) (D : qD) (d0 : Nat) (B : Nat × Nat) (Q : qQ) : qK := (s_iload 1 (s_ic (48) (s_icmp_ge (w_Dr_clear_21 l D d0 B Q) (s_aload 0 (s_getR 2 7 (s_iload 1 (s_ic (0) (s_iast (s_iinc 1 (1) (qR l D (d0 + 1, B) m_Dr_clear 2 Q))))))))))
theorem Dr_clear_2 {l : Launch} {D : qD} {d0 : Nat} {B : Nat × Nat} {Q : qQ} : qI (w_Dr_clear_2 l D d0 B Q) (qR l D (d0 + 1, B) m_Dr_clear 2 Q) := sorry
def w_Dr_clear_0 (l : Launch) (D : qD) (d0 : Nat) (B : Nat × Nat) (Q : qQ) : qK := (s_ic (0) (s_istore 1 (qR l D (d0 + 1, B) m_Dr_clear 2 Q)))
theorem Dr_clear_0 {l : Launch} {D : qD} {d0 : Nat} {B : Nat × Nat} {Q : qQ} : qI (w_Dr_clear_0 l D d0 B Q) (qR l D (d0 + 1, B) m_Dr_clear 0 Q) := sorry
def w_Dr_copy_0 (l : Launch) (D : qD) (d0 : Nat) (B : Nat × Nat) (Q : qQ) : qK := (s_aload 0 (s_aload 1 (s_getI 2 0 (s_putZ 2 0 (s_aload 0 (s_aload 1 (s_getI 2 1 (s_putI 2 1 (s_aload 0 (s_aload 1 (s_getI 2 2 (s_putI 2 2 (s_aload 0 (s_aload 1 (s_getI 2 3 (s_putI 2 3 (s_aload 0 (s_aload 1 (s_getI 2 4 (s_putI 2 4 (s_aload 1 (s_getR 2 5 (s_ic (0) (s_aload 0 (s_getR 2 5 (s_ic (0) (s_ic (24) (s_acopy (s_aload 1 (s_getR 2 6 (s_ic (0) (s_aload 0 (s_getR 2 6 (s_ic (0) (s_ic (24) (s_acopy (s_aload 1 (s_getR 2 7 (s_ic (0) (s_aload 0 (s_getR 2 7 (s_ic (0) (s_ic (48) (s_acopy (s_aload 1 (s_getR 2 8 (s_ic (0) (s_aload 0 (s_getR 2 8 (s_ic (0) (s_aload 0 (s_getR 2 8 (s_alen (s_acopy (s_aload 1 (s_getR 2 9 (s_ic (0) (s_aload 0 (s_getR 2 9 (s_ic (0) (s_aload 0 (s_getR 2 9 (s_alen (s_acopy (s_aload 1 (s_getR 2 10 (s_ic (0) (s_aload 0 (s_getR 2 10 (s_ic (0) (s_ic (24) (s_acopy (s_aload 1 (s_getR 2 11 (s_ic (0) (s_aload 0 (s_getR 2 11 (s_ic (0) (s_ic (24) (s_acopy (s_aload 1 (s_getR 2 12 (s_ic (0) (s_aload 0 (s_getR 2 12 (s_ic (0) (s_aload 0 (s_getR 2 12 (s_alen (s_acopy (s_aload 1 (s_getR 2 13 (s_ic (0) (s_aload 0 (s_getR 2 13 (s_ic (0) (s_aload 0 (s_getR 2 13 (s_alen (s_acopy (s_aload 1 (s_getR 2 14 (s_ic (0) (s_aload 0 (s_getR 2 14 (s_ic (0) (s_ic (48) (s_acopy (s_vret Q)))))))))))))))))))))))))))))))))))))))))))))))))))))))))))))))))))))))))))))))))))))))))))))))))))))))))))))
theorem Dr_copy_0 {l : Launch} {D : qD} {d0 : Nat} {B : Nat × Nat} {Q : qQ} : qI (w_Dr_copy_0 l D d0 B Q) (qR l D (d0 + 1, B) m_Dr_copy 0 Q) := sorry
end
section
/-! printed by gen/gcode.py: the code of DrawingHouse$Likeness, block by block -/
theorem lf_Li_52 : q_gF "DrawingHouse$Likeness" 52 8 4 0 := sorry
theorem lp_Li_52 : q_pF "DrawingHouse$Likeness" 52 8 4 0 (.boolean) false := sorry
theorem lf_Li_64 : q_gF "DrawingHouse$Likeness" 64 8 3 0 := sorry
theorem lp_Li_64 : q_pF "DrawingHouse$Likeness" 64 8 3 0 (.int) false := sorry
theorem lf_Li_9 : q_gF "DrawingHouse$Likeness" 9 8 0 2 := sorry
theorem lf_Li_15 : q_gF "DrawingHouse$Likeness" 15 8 1 2 := sorry
theorem lf_Li_18 : q_gF "DrawingHouse$Likeness" 18 8 2 0 := sorry
theorem lp_Li_18 : q_pF "DrawingHouse$Likeness" 18 8 2 0 (.int) false := sorry
theorem lm_Li_60 : q_gV "DrawingHouse$Likeness" 60 8 2 m_Li_fits := sorry
theorem lf_Li_22 : q_gF "DrawingHouse$Likeness" 22 8 5 2 := sorry
theorem lf_Li_28 : q_gF "DrawingHouse$Likeness" 28 8 7 2 := sorry
theorem lm_Li_56 : q_gS "DrawingHouse$Likeness" 56 3 m_Li_fill := sorry
theorem lf_Li_25 : q_gF "DrawingHouse$Likeness" 25 8 6 2 := sorry
theorem lf_Li_31 : q_gF "DrawingHouse$Likeness" 31 8 8 2 := sorry
theorem lf_Li_34 : q_gF "DrawingHouse$Likeness" 34 3 0 0 := sorry
theorem lf_Li_39 : q_gF "DrawingHouse$Likeness" 39 3 1 0 := sorry
theorem lf_Li_48 : q_gF "DrawingHouse$Likeness" 48 3 11 2 := sorry
theorem lf_Li_42 : q_gF "DrawingHouse$Likeness" 42 3 8 2 := sorry
theorem lf_Li_45 : q_gF "DrawingHouse$Likeness" 45 3 9 2 := sorry
def w_Li_look_273 (l : Launch) (D : qD) (d0 : Nat) (B : Nat × Nat) (Q : qQ) : qK := (s_aload 0 (s_ic (1) (s_putZ 8 4 (s_aload 0 (s_iload 3 (s_putI 8 3 (s_aload 0 (s_getR 8 0 (s_ic (0) (s_aload 0 (s_getR 8 1 (s_ic (0) (s_iload 3 (s_acopy (s_ic (1) (s_iret Q))))))))))))))))
theorem Li_look_273 {l : Launch} {D : qD} {d0 : Nat} {B : Nat × Nat} {Q : qQ} : qI (w_Li_look_273 l D d0 B Q) (qR l D (d0 + 1, B) m_Li_look 273 Q) := sorry
def w_Li_look_266 (l : Launch) (D : qD) (d0 : Nat) (B : Nat × Nat) (Q : qQ) : qK := (s_iload 5 (s_if_ge (w_Li_look_273 l D d0 B Q) (s_ic (0) (s_iret Q))))
theorem Li_look_266 {l : Launch} {D : qD} {d0 : Nat} {B : Nat × Nat} {Q : qQ} : qI (w_Li_look_266 l D d0 B Q) (qR l D (d0 + 1, B) m_Li_look 266 Q) := sorry
def w_Li_look_260 (l : Launch) (D : qD) (d0 : Nat) (B : Nat × Nat) (Q : qQ) : qK := (s_iadd (s_istore 5 (qR l D (d0 + 1, B) m_Li_look 92 Q)))
theorem Li_look_260 {l : Launch} {D : qD} {d0 : Nat} {B : Nat × Nat} {Q : qQ} : qI (w_Li_look_260 l D d0 B Q) (qR l D (d0 + 1, B) m_Li_look 260 Q) := sorry
def w_Li_look_259 (l : Launch) (D : qD) (d0 : Nat) (B : Nat × Nat) (Q : qQ) : qK := (s_ic (-1) (w_Li_look_260 l D d0 B Q))
theorem Li_look_259 {l : Launch} {D : qD} {d0 : Nat} {B : Nat × Nat} {Q : qQ} : qI (w_Li_look_259 l D d0 B Q) (qR l D (d0 + 1, B) m_Li_look 259 Q) := sorry
def w_Li_look_248 (l : Launch) (D : qD) (d0 : Nat) (B : Nat × Nat) (Q : qQ) : qK := (s_iload 5 (s_iload 7 (s_if_eq (w_Li_look_259 l D d0 B Q) (s_ic (1) (w_Li_look_260 l D d0 B Q)))))
theorem Li_look_248 {l : Launch} {D : qD} {d0 : Nat} {B : Nat × Nat} {Q : qQ} : qI (w_Li_look_248 l D d0 B Q) (qR l D (d0 + 1, B) m_Li_look 248 Q) := sorry
def w_Li_look_233 (l : Launch) (D : qD) (d0 : Nat) (B : Nat × Nat) (Q : qQ) : qK := (s_iast (s_iload 7 (s_if_eq (w_Li_look_248 l D d0 B Q) (s_iload 4 (s_ic (1) (s_iload 6 (s_ishl (s_ior (s_istore 4 (w_Li_look_248 l D d0 B Q))))))))))
theorem Li_look_233 {l : Launch} {D : qD} {d0 : Nat} {B : Nat × Nat} {Q : qQ} : qI (w_Li_look_233 l D d0 B Q) (qR l D (d0 + 1, B) m_Li_look 233 Q) := sorry
def w_Li_look_232 (l : Launch) (D : qD) (d0 : Nat) (B : Nat × Nat) (Q : qQ) : qK := (s_ic (-1) (w_Li_look_233 l D d0 B Q))
theorem Li_look_232 {l : Launch} {D : qD} {d0 : Nat} {B : Nat × Nat} {Q : qQ} : qI (w_Li_look_232 l D d0 B Q) (qR l D (d0 + 1, B) m_Li_look 232 Q) := sorry
def w_Li_look_216 (l : Launch) (D : qD) (d0 : Nat) (B : Nat × Nat) (Q : qQ) : qK := (s_aload 0 (s_getR 8 0 (s_iload 5 (s_iload 7 (s_if_eq (w_Li_look_232 l D d0 B Q) (s_iload 6 (w_Li_look_233 l D d0 B Q)))))))
theorem Li_look_216 {l : Launch} {D : qD} {d0 : Nat} {B : Nat × Nat} {Q : qQ} : qI (w_Li_look_216 l D d0 B Q) (qR l D (d0 + 1, B) m_Li_look 216 Q) := sorry
def w_Li_look_210 (l : Launch) (D : qD) (d0 : Nat) (B : Nat × Nat) (Q : qQ) : qK := (s_iadd (s_istore 6 (qR l D (d0 + 1, B) m_Li_look 144 Q)))
theorem Li_look_210 {l : Launch} {D : qD} {d0 : Nat} {B : Nat × Nat} {Q : qQ} : qI (w_Li_look_210 l D d0 B Q) (qR l D (d0 + 1, B) m_Li_look 210 Q) := sorry
def w_Li_look_209 (l : Launch) (D : qD) (d0 : Nat) (B : Nat × Nat) (Q : qQ) : qK := (s_ic (1) (w_Li_look_210 l D d0 B Q))
theorem Li_look_209 {l : Launch} {D : qD} {d0 : Nat} {B : Nat × Nat} {Q : qQ} : qI (w_Li_look_209 l D d0 B Q) (qR l D (d0 + 1, B) m_Li_look 209 Q) := sorry
def w_Li_look_198 (l : Launch) (D : qD) (d0 : Nat) (B : Nat × Nat) (Q : qQ) : qK := (s_iload 6 (s_iload 7 (s_if_eq (w_Li_look_209 l D d0 B Q) (s_ic (0) (w_Li_look_210 l D d0 B Q)))))
theorem Li_look_198 {l : Launch} {D : qD} {d0 : Nat} {B : Nat × Nat} {Q : qQ} : qI (w_Li_look_198 l D d0 B Q) (qR l D (d0 + 1, B) m_Li_look 198 Q) := sorry
def w_Li_look_178 (l : Launch) (D : qD) (d0 : Nat) (B : Nat × Nat) (Q : qQ) : qK := (s_aload 0 (s_dup (s_getI 8 2 (s_ic (1) (s_iadd (s_putI 8 2 (s_aload 0 (s_iload 5 (s_iload 6 (s_invV l D (d0, 0, 0) 8 m_Li_fits 2 (s_istore 7 (w_Li_look_198 l D d0 B Q))))))))))))
theorem Li_look_178 {l : Launch} {D : qD} {d0 : Nat} {B : Nat × Nat} {Q : qQ} : qI (w_Li_look_178 l D d0 B Q) (qR l D (d0 + 1, B) m_Li_look 178 Q) := sorry
def w_Li_look_144 (l : Launch) (D : qD) (d0 : Nat) (B : Nat × Nat) (Q : qQ) : qK := (s_iload 6 (s_iload 3 (s_icmp_ge (w_Li_look_216 l D d0 B Q) (s_iload 7 (s_if_ne (w_Li_look_216 l D d0 B Q) (s_iload 4 (s_iload 6 (s_ishr (s_ic (1) (s_iand (s_if_ne (w_Li_look_198 l D d0 B Q) (s_aload 0 (s_getI 8 2 (s_ic (20000) (s_icmp_ne (w_Li_look_178 l D d0 B Q) (s_ic (-2) (s_iret Q)))))))))))))))))
theorem Li_look_144 {l : Launch} {D : qD} {d0 : Nat} {B : Nat × Nat} {Q : qQ} : qI (w_Li_look_144 l D d0 B Q) (qR l D (d0 + 1, B) m_Li_look 144 Q) := sorry
def w_Li_look_130 (l : Launch) (D : qD) (d0 : Nat) (B : Nat × Nat) (Q : qQ) : qK := (s_aload 0 (s_getR 8 0 (s_iload 5 (s_iald (s_ic (1) (s_iadd (s_istore 6 (s_ic (0) (s_istore 7 (qR l D (d0 + 1, B) m_Li_look 144 Q))))))))))
theorem Li_look_130 {l : Launch} {D : qD} {d0 : Nat} {B : Nat × Nat} {Q : qQ} : qI (w_Li_look_130 l D d0 B Q) (qR l D (d0 + 1, B) m_Li_look 130 Q) := sorry
def w_Li_look_92 (l : Launch) (D : qD) (d0 : Nat) (B : Nat × Nat) (Q : qQ) : qK := (s_iload 5 (s_if_lt (w_Li_look_266 l D d0 B Q) (s_iload 5 (s_iload 3 (s_icmp_ge (w_Li_look_266 l D d0 B Q) (s_aload 0 (s_getR 8 0 (s_iload 5 (s_iald (s_ic (-1) (s_icmp_eq (w_Li_look_130 l D d0 B Q) (s_iload 4 (s_ic (1) (s_aload 0 (s_getR 8 0 (s_iload 5 (s_iald (s_ishl (s_ic (-1) (s_ixor (s_iand (s_istore 4 (w_Li_look_130 l D d0 B Q)))))))))))))))))))))))
theorem Li_look_92 {l : Launch} {D : qD} {d0 : Nat} {B : Nat × Nat} {Q : qQ} : qI (w_Li_look_92 l D d0 B Q) (qR l D (d0 + 1, B) m_Li_look 92 Q) := sorry
def w_Li_look_72 (l : Launch) (D : qD) (d0 : Nat) (B : Nat × Nat) (Q : qQ) : qK := (s_iload 6 (s_iload 3 (s_icmp_ge (qR l D (d0 + 1, B) m_Li_look 92 Q) (s_aload 0 (s_getR 8 0 (s_iload 6 (s_ic (-1) (s_iast (s_iinc 6 (1) (qR l D (d0 + 1, B) m_Li_look 72 Q))))))))))
theorem Li_look_72 {l : Launch} {D : qD} {d0 : Nat} {B : Nat × Nat} {Q : qQ} : qI (w_Li_look_72 l D d0 B Q) (qR l D (d0 + 1, B) m_Li_look 72 Q) := sorry
def w_Li_look_34 (l : Launch) (D : qD) (d0 : Nat) (B : Nat × Nat) (Q : qQ) : qK := (s_aload 1 (s_aload 0 (s_getR 8 5 (s_aload 0 (s_getR 8 7 (s_invS l D (d0, 0, 0) m_Li_fill 3 (s_aload 2 (s_aload 0 (s_getR 8 6 (s_aload 0 (s_getR 8 8 (s_invS l D (d0, 0, 0) m_Li_fill 3 (s_aload 1 (s_getI 3 0 (s_istore 3 (s_ic (0) (s_istore 4 (s_ic (0) (s_istore 5 (s_ic (0) (s_istore 6 (qR l D (d0 + 1, B) m_Li_look 72 Q))))))))))))))))))))))
theorem Li_look_34 {l : Launch} {D : qD} {d0 : Nat} {B : Nat × Nat} {Q : qQ} : qI (w_Li_look_34 l D d0 B Q) (qR l D (d0 + 1, B) m_Li_look 34 Q) := sorry
def w_Li_look_32 (l : Launch) (D : qD) (d0 : Nat) (B : Nat × Nat) (Q : qQ) : qK := (s_ic (0) (s_iret Q))
theorem Li_look_32 {l : Launch} {D : qD} {d0 : Nat} {B : Nat × Nat} {Q : qQ} : qI (w_Li_look_32 l D d0 B Q) (qR l D (d0 + 1, B) m_Li_look 32 Q) := sorry
def w_Li_look_0 (l : Launch) (D : qD) (d0 : Nat) (B : Nat × Nat) (Q : qQ) : qK := (s_aload 0 (s_ic (0) (s_putI 8 2 (s_aload 0 (s_ic (0) (s_putZ 8 4 (s_aload 1 (s_getI 3 0 (s_aload 2 (s_getI 3 0 (s_icmp_ne (w_Li_look_32 l D d0 B Q) (s_aload 1 (s_getI 3 1 (s_aload 2 (s_getI 3 1 (s_icmp_eq (w_Li_look_34 l D d0 B Q) (w_Li_look_32 l D d0 B Q)))))))))))))))))
theorem Li_look_0 {l : Launch} {D : qD} {d0 : Nat} {B : Nat × Nat} {Q : qQ} : qI (w_Li_look_0 l D d0 B Q) (qR l D (d0 + 1, B) m_Li_look 0 Q) := sorry
def w_Li_fill_134 (l : Launch) (D : qD) (d0 : Nat) (B : Nat × Nat) (Q : qQ) : qK := (s_vret Q)
theorem Li_fill_134 {l : Launch} {D : qD} {d0 : Nat} {B : Nat × Nat} {Q : qQ} : qI (w_Li_fill_134 l D d0 B Q) (qR l D (d0 + 1, B) m_Li_fill 134 Q) := sorry
def w_Li_fill_111 (l : Launch) (D : qD) (d0 : Nat) (B : Nat × Nat) (Q : qQ) : qK := (s_iast (s_aload 2 (s_iload 4 (s_dup2 (s_iald (s_ic (1) (s_iadd (s_iast (s_aload 2 (s_iload 5 (s_dup2 (s_iald (s_ic (1) (s_iadd (s_iast (s_iinc 3 (1) (qR l D (d0 + 1, B) m_Li_fill 40 Q)))))))))))))))))
theorem Li_fill_111 {l : Launch} {D : qD} {d0 : Nat} {B : Nat × Nat} {Q : qQ} : qI (w_Li_fill_111 l D d0 B Q) (qR l D (d0 + 1, B) m_Li_fill 111 Q) := sorry
def w_Li_fill_110 (l : Launch) (D : qD) (d0 : Nat) (B : Nat × Nat) (Q : qQ) : qK := (s_ic (3) (w_Li_fill_111 l D d0 B Q))
theorem Li_fill_110 {l : Launch} {D : qD} {d0 : Nat} {B : Nat × Nat} {Q : qQ} : qI (w_Li_fill_110 l D d0 B Q) (qR l D (d0 + 1, B) m_Li_fill 110 Q) := sorry
def w_Li_fill_87 (l : Launch) (D : qD) (d0 : Nat) (B : Nat × Nat) (Q : qQ) : qK := (s_iast (s_aload 1 (s_ic (24) (s_iload 5 (s_imul (s_iload 4 (s_iadd (s_aload 0 (s_getR 3 11 (s_iload 3 (s_bald (s_if_eq (w_Li_fill_110 l D d0 B Q) (s_ic (2) (w_Li_fill_111 l D d0 B Q))))))))))))))
theorem Li_fill_87 {l : Launch} {D : qD} {d0 : Nat} {B : Nat × Nat} {Q : qQ} : qI (w_Li_fill_87 l D d0 B Q) (qR l D (d0 + 1, B) m_Li_fill 87 Q) := sorry
def w_Li_fill_86 (l : Launch) (D : qD) (d0 : Nat) (B : Nat × Nat) (Q : qQ) : qK := (s_ic (3) (w_Li_fill_87 l D d0 B Q))
theorem Li_fill_86 {l : Launch} {D : qD} {d0 : Nat} {B : Nat × Nat} {Q : qQ} : qI (w_Li_fill_86 l D d0 B Q) (qR l D (d0 + 1, B) m_Li_fill 86 Q) := sorry
def w_Li_fill_40 (l : Launch) (D : qD) (d0 : Nat) (B : Nat × Nat) (Q : qQ) : qK := (s_iload 3 (s_aload 0 (s_getI 3 1 (s_icmp_ge (w_Li_fill_134 l D d0 B Q) (s_aload 0 (s_getR 3 8 (s_iload 3 (s_iald (s_istore 4 (s_aload 0 (s_getR 3 9 (s_iload 3 (s_iald (s_istore 5 (s_aload 1 (s_ic (24) (s_iload 4 (s_imul (s_iload 5 (s_iadd (s_aload 0 (s_getR 3 11 (s_iload 3 (s_bald (s_if_eq (w_Li_fill_86 l D d0 B Q) (s_ic (1) (w_Li_fill_87 l D d0 B Q)))))))))))))))))))))))))))
theorem Li_fill_40 {l : Launch} {D : qD} {d0 : Nat} {B : Nat × Nat} {Q : qQ} : qI (w_Li_fill_40 l D d0 B Q) (qR l D (d0 + 1, B) m_Li_fill 40 Q) := sorry
def w_Li_fill_38 (l : Launch) (D : qD) (d0 : Nat) (B : Nat × Nat) (Q : qQ) : qK := (s_ic (0) (s_istore 3 (qR l D (d0 + 1, B) m_Li_fill 40 Q)))
theorem Li_fill_38 {l : Launch} {D : qD} {d0 : Nat} {B : Nat × Nat} {Q : qQ} : qI (w_Li_fill_38 l D d0 B Q) (qR l D (d0 + 1, B) m_Li_fill 38 Q) := sorry
def w_Li_fill_20 (l : Launch) (D : qD) (d0 : Nat) (B : Nat × Nat) (Q : qQ) : qK := (s_iload 3 (s_aload 0 (s_getI 3 0 (s_icmp_ge (w_Li_fill_38 l D d0 B Q) (s_aload 2 (s_iload 3 (s_ic (0) (s_iast (s_iinc 3 (1) (qR l D (d0 + 1, B) m_Li_fill 20 Q))))))))))
theorem Li_fill_20 {l : Launch} {D : qD} {d0 : Nat} {B : Nat × Nat} {Q : qQ} : qI (w_Li_fill_20 l D d0 B Q) (qR l D (d0 + 1, B) m_Li_fill 20 Q) := sorry
def w_Li_fill_18 (l : Launch) (D : qD) (d0 : Nat) (B : Nat × Nat) (Q : qQ) : qK := (s_ic (0) (s_istore 3 (qR l D (d0 + 1, B) m_Li_fill 20 Q)))
theorem Li_fill_18 {l : Launch} {D : qD} {d0 : Nat} {B : Nat × Nat} {Q : qQ} : qI (w_Li_fill_18 l D d0 B Q) (qR l D (d0 + 1, B) m_Li_fill 18 Q) := sorry
def w_Li_fill_2 (l : Launch) (D : qD) (d0 : Nat) (B : Nat × Nat) (Q : qQ) : qK := (s_iload 3 (s_aload 1 (s_alen (s_icmp_ge (w_Li_fill_18 l D d0 B Q) (s_aload 1 (s_iload 3 (s_ic (0) (s_iast (s_iinc 3 (1) (qR l D (d0 + 1, B) m_Li_fill 2 Q))))))))))
theorem Li_fill_2 {l : Launch} {D : qD} {d0 : Nat} {B : Nat × Nat} {Q : qQ} : qI (w_Li_fill_2 l D d0 B Q) (qR l D (d0 + 1, B) m_Li_fill 2 Q) := sorry
def w_Li_fill_0 (l : Launch) (D : qD) (d0 : Nat) (B : Nat × Nat) (Q : qQ) : qK := (s_ic (0) (s_istore 3 (qR l D (d0 + 1, B) m_Li_fill 2 Q)))
theorem Li_fill_0 {l : Launch} {D : qD} {d0 : Nat} {B : Nat × Nat} {Q : qQ} : qI (w_Li_fill_0 l D d0 B Q) (qR l D (d0 + 1, B) m_Li_fill 0 Q) := sorry
def w_Li_fits_62 (l : Launch) (D : qD) (d0 : Nat) (B : Nat × Nat) (Q : qQ) : qK := (s_ic (1) (s_zret Q))
theorem Li_fits_62 {l : Launch} {D : qD} {d0 : Nat} {B : Nat × Nat} {Q : qQ} : qI (w_Li_fits_62 l D d0 B Q) (qR l D (d0 + 1, B) m_Li_fits 62 Q) := sorry
def w_Li_fits_56 (l : Launch) (D : qD) (d0 : Nat) (B : Nat × Nat) (Q : qQ) : qK := (s_iinc 3 (1) (qR l D (d0 + 1, B) m_Li_fits 19 Q))
theorem Li_fits_56 {l : Launch} {D : qD} {d0 : Nat} {B : Nat × Nat} {Q : qQ} : qI (w_Li_fits_56 l D d0 B Q) (qR l D (d0 + 1, B) m_Li_fits 56 Q) := sorry
def w_Li_fits_19 (l : Launch) (D : qD) (d0 : Nat) (B : Nat × Nat) (Q : qQ) : qK := (s_iload 3 (s_iload 1 (s_icmp_ge (w_Li_fits_62 l D d0 B Q) (s_aload 0 (s_getR 8 5 (s_ic (24) (s_iload 3 (s_imul (s_iload 1 (s_iadd (s_iald (s_aload 0 (s_getR 8 6 (s_ic (24) (s_aload 0 (s_getR 8 0 (s_iload 3 (s_iald (s_imul (s_iload 2 (s_iadd (s_iald (s_icmp_eq (w_Li_fits_56 l D d0 B Q) (s_ic (0) (s_zret Q)))))))))))))))))))))))))
theorem Li_fits_19 {l : Launch} {D : qD} {d0 : Nat} {B : Nat × Nat} {Q : qQ} : qI (w_Li_fits_19 l D d0 B Q) (qR l D (d0 + 1, B) m_Li_fits 19 Q) := sorry
def w_Li_fits_17 (l : Launch) (D : qD) (d0 : Nat) (B : Nat × Nat) (Q : qQ) : qK := (s_ic (0) (s_istore 3 (qR l D (d0 + 1, B) m_Li_fits 19 Q)))
theorem Li_fits_17 {l : Launch} {D : qD} {d0 : Nat} {B : Nat × Nat} {Q : qQ} : qI (w_Li_fits_17 l D d0 B Q) (qR l D (d0 + 1, B) m_Li_fits 17 Q) := sorry
def w_Li_fits_0 (l : Launch) (D : qD) (d0 : Nat) (B : Nat × Nat) (Q : qQ) : qK := (s_aload 0 (s_getR 8 7 (s_iload 1 (s_iald (s_aload 0 (s_getR 8 8 (s_iload 2 (s_iald (s_icmp_eq (w_Li_fits_17 l D d0 B Q) (s_ic (0) (s_zret Q)))))))))))
theorem Li_fits_0 {l : Launch} {D : qD} {d0 : Nat} {B : Nat × Nat} {Q : qQ} : qI (w_Li_fits_0 l D d0 B Q) (qR l D (d0 + 1, B) m_Li_fits 0 Q) := sorry
end
section
/-! printed by gen/gcode.py: the code of DrawingHouse$Places, block by block -/
theorem lf_Ps_24 : q_gF "DrawingHouse$Places" 24 12 6 2 := sorry
theorem lm_Ps_37 : q_gV "DrawingHouse$Places" 37 12 0 m_Ps_turnOne := sorry
theorem lm_Ps_41 : q_gV "DrawingHouse$Places" 41 12 1 m_Ps_turnRound := sorry
theorem lm_Ps_45 : q_gV "DrawingHouse$Places" 45 12 1 m_Ps_ahead := sorry
theorem lm_Ps_52 : q_gS "DrawingHouse$Places" 52 2 m_Math_min_0 := sorry
def w_Ps_solve_199 (l : Launch) (D : qD) (d0 : Nat) (B : Nat × Nat) (Q : qQ) : qK := (s_vret Q)
theorem Ps_solve_199 {l : Launch} {D : qD} {d0 : Nat} {B : Nat × Nat} {Q : qQ} : qI (w_Ps_solve_199 l D d0 B Q) (qR l D (d0 + 1, B) m_Ps_solve 199 Q) := sorry
def w_Ps_solve_196 (l : Launch) (D : qD) (d0 : Nat) (B : Nat × Nat) (Q : qQ) : qK := (qR l D (d0 + 1, B) m_Ps_solve 39 Q)
theorem Ps_solve_196 {l : Launch} {D : qD} {d0 : Nat} {B : Nat × Nat} {Q : qQ} : qI (w_Ps_solve_196 l D d0 B Q) (qR l D (d0 + 1, B) m_Ps_solve 196 Q) := sorry
def w_Ps_solve_190 (l : Launch) (D : qD) (d0 : Nat) (B : Nat × Nat) (Q : qQ) : qK := (s_iinc 3 (1) (qR l D (d0 + 1, B) m_Ps_solve 47 Q))
theorem Ps_solve_190 {l : Launch} {D : qD} {d0 : Nat} {B : Nat × Nat} {Q : qQ} : qI (w_Ps_solve_190 l D d0 B Q) (qR l D (d0 + 1, B) m_Ps_solve 190 Q) := sorry
def w_Ps_solve_118 (l : Launch) (D : qD) (d0 : Nat) (B : Nat × Nat) (Q : qQ) : qK := (s_aload 0 (s_getR 12 5 (s_iload 3 (s_iald (s_if_le (w_Ps_solve_190 l D d0 B Q) (s_aload 0 (s_getR 12 6 (s_aload 0 (s_getR 12 3 (s_iload 3 (s_iald (s_iald (s_aload 0 (s_getR 12 4 (s_iload 3 (s_iald (s_isub (s_aload 0 (s_getR 12 6 (s_aload 0 (s_getR 12 2 (s_iload 3 (s_iald (s_iald (s_icmp_le (w_Ps_solve_190 l D d0 B Q) (s_aload 0 (s_getR 12 6 (s_aload 0 (s_getR 12 2 (s_iload 3 (s_iald (s_aload 0 (s_getR 12 6 (s_aload 0 (s_getR 12 3 (s_iload 3 (s_iald (s_iald (s_aload 0 (s_getR 12 4 (s_iload 3 (s_iald (s_isub (s_iast (s_ic (1) (s_istore 2 (w_Ps_solve_190 l D d0 B Q)))))))))))))))))))))))))))))))))))))))))))))))
theorem Ps_solve_118 {l : Launch} {D : qD} {d0 : Nat} {B : Nat × Nat} {Q : qQ} : qI (w_Ps_solve_118 l D d0 B Q) (qR l D (d0 + 1, B) m_Ps_solve 118 Q) := sorry
def w_Ps_solve_47 (l : Launch) (D : qD) (d0 : Nat) (B : Nat × Nat) (Q : qQ) : qK := (s_iload 3 (s_aload 0 (s_getI 12 1 (s_icmp_ge (w_Ps_solve_196 l D d0 B Q) (s_aload 0 (s_getR 12 6 (s_aload 0 (s_getR 12 2 (s_iload 3 (s_iald (s_iald (s_aload 0 (s_getR 12 4 (s_iload 3 (s_iald (s_iadd (s_aload 0 (s_getR 12 6 (s_aload 0 (s_getR 12 3 (s_iload 3 (s_iald (s_iald (s_icmp_le (w_Ps_solve_118 l D d0 B Q) (s_aload 0 (s_getR 12 6 (s_aload 0 (s_getR 12 3 (s_iload 3 (s_iald (s_aload 0 (s_getR 12 6 (s_aload 0 (s_getR 12 2 (s_iload 3 (s_iald (s_iald (s_aload 0 (s_getR 12 4 (s_iload 3 (s_iald (s_iadd (s_iast (s_ic (1) (s_istore 2 (w_Ps_solve_118 l D d0 B Q))))))))))))))))))))))))))))))))))))))))))))))
theorem Ps_solve_47 {l : Launch} {D : qD} {d0 : Nat} {B : Nat × Nat} {Q : qQ} : qI (w_Ps_solve_47 l D d0 B Q) (qR l D (d0 + 1, B) m_Ps_solve 47 Q) := sorry
def w_Ps_solve_39 (l : Launch) (D : qD) (d0 : Nat) (B : Nat × Nat) (Q : qQ) : qK := (s_iload 2 (s_if_eq (w_Ps_solve_199 l D d0 B Q) (s_ic (0) (s_istore 2 (s_ic (0) (s_istore 3 (qR l D (d0 + 1, B) m_Ps_solve 47 Q)))))))
theorem Ps_solve_39 {l : Launch} {D : qD} {d0 : Nat} {B : Nat × Nat} {Q : qQ} : qI (w_Ps_solve_39 l D d0 B Q) (qR l D (d0 + 1, B) m_Ps_solve 39 Q) := sorry
def w_Ps_solve_37 (l : Launch) (D : qD) (d0 : Nat) (B : Nat × Nat) (Q : qQ) : qK := (s_ic (1) (s_istore 2 (qR l D (d0 + 1, B) m_Ps_solve 39 Q)))
theorem Ps_solve_37 {l : Launch} {D : qD} {d0 : Nat} {B : Nat × Nat} {Q : qQ} : qI (w_Ps_solve_37 l D d0 B Q) (qR l D (d0 + 1, B) m_Ps_solve 37 Q) := sorry
def w_Ps_solve_16 (l : Launch) (D : qD) (d0 : Nat) (B : Nat × Nat) (Q : qQ) : qK := (s_iload 2 (s_aload 0 (s_getI 12 0 (s_icmp_ge (w_Ps_solve_37 l D d0 B Q) (s_aload 0 (s_getR 12 6 (s_iload 2 (s_ic (0) (s_iast (s_iinc 2 (1) (qR l D (d0 + 1, B) m_Ps_solve 16 Q)))))))))))
theorem Ps_solve_16 {l : Launch} {D : qD} {d0 : Nat} {B : Nat × Nat} {Q : qQ} : qI (w_Ps_solve_16 l D d0 B Q) (qR l D (d0 + 1, B) m_Ps_solve 16 Q) := sorry
def w_Ps_solve_14 (l : Launch) (D : qD) (d0 : Nat) (B : Nat × Nat) (Q : qQ) : qK := (s_ic (0) (s_istore 2 (qR l D (d0 + 1, B) m_Ps_solve 16 Q)))
theorem Ps_solve_14 {l : Launch} {D : qD} {d0 : Nat} {B : Nat × Nat} {Q : qQ} : qI (w_Ps_solve_14 l D d0 B Q) (qR l D (d0 + 1, B) m_Ps_solve 14 Q) := sorry
def w_Ps_solve_2 (l : Launch) (D : qD) (d0 : Nat) (B : Nat × Nat) (Q : qQ) : qK := (s_iload 1 (s_if_eq (w_Ps_solve_14 l D d0 B Q) (s_aload 0 (s_invV l D (d0, 0, 0) 12 m_Ps_turnOne 0 (s_istore 1 (qR l D (d0 + 1, B) m_Ps_solve 2 Q))))))
theorem Ps_solve_2 {l : Launch} {D : qD} {d0 : Nat} {B : Nat × Nat} {Q : qQ} : qI (w_Ps_solve_2 l D d0 B Q) (qR l D (d0 + 1, B) m_Ps_solve 2 Q) := sorry
def w_Ps_solve_0 (l : Launch) (D : qD) (d0 : Nat) (B : Nat × Nat) (Q : qQ) : qK := (s_ic (1) (s_istore 1 (qR l D (d0 + 1, B) m_Ps_solve 2 Q)))
theorem Ps_solve_0 {l : Launch} {D : qD} {d0 : Nat} {B : Nat × Nat} {Q : qQ} : qI (w_Ps_solve_0 l D d0 B Q) (qR l D (d0 + 1, B) m_Ps_solve 0 Q) := sorry
def w_Ps_turnOne_248 (l : Launch) (D : qD) (d0 : Nat) (B : Nat × Nat) (Q : qQ) : qK := (s_aload 0 (s_iload 1 (s_invV l D (d0, 0, 0) 12 m_Ps_turnRound 1 (s_ic (1) (s_zret Q)))))
theorem Ps_turnOne_248 {l : Launch} {D : qD} {d0 : Nat} {B : Nat × Nat} {Q : qQ} : qI (w_Ps_turnOne_248 l D d0 B Q) (qR l D (d0 + 1, B) m_Ps_turnOne 248 Q) := sorry
def w_Ps_turnOne_242 (l : Launch) (D : qD) (d0 : Nat) (B : Nat × Nat) (Q : qQ) : qK := (s_iinc 2 (1) (qR l D (d0 + 1, B) m_Ps_turnOne 34 Q))
theorem Ps_turnOne_242 {l : Launch} {D : qD} {d0 : Nat} {B : Nat × Nat} {Q : qQ} : qI (w_Ps_turnOne_242 l D d0 B Q) (qR l D (d0 + 1, B) m_Ps_turnOne 242 Q) := sorry
def w_Ps_turnOne_235 (l : Launch) (D : qD) (d0 : Nat) (B : Nat × Nat) (Q : qQ) : qK := (s_iload 1 (s_ic (-1) (s_icmp_ne (w_Ps_turnOne_242 l D d0 B Q) (s_ic (0) (s_zret Q)))))
theorem Ps_turnOne_235 {l : Launch} {D : qD} {d0 : Nat} {B : Nat × Nat} {Q : qQ} : qI (w_Ps_turnOne_235 l D d0 B Q) (qR l D (d0 + 1, B) m_Ps_turnOne 235 Q) := sorry
def w_Ps_turnOne_229 (l : Launch) (D : qD) (d0 : Nat) (B : Nat × Nat) (Q : qQ) : qK := (s_iinc 3 (1) (qR l D (d0 + 1, B) m_Ps_turnOne 46 Q))
theorem Ps_turnOne_229 {l : Launch} {D : qD} {d0 : Nat} {B : Nat × Nat} {Q : qQ} : qI (w_Ps_turnOne_229 l D d0 B Q) (qR l D (d0 + 1, B) m_Ps_turnOne 229 Q) := sorry
def w_Ps_turnOne_136 (l : Launch) (D : qD) (d0 : Nat) (B : Nat × Nat) (Q : qQ) : qK := (s_aload 0 (s_getR 12 5 (s_iload 3 (s_iald (s_if_le (w_Ps_turnOne_229 l D d0 B Q) (s_aload 0 (s_getR 12 6 (s_aload 0 (s_getR 12 3 (s_iload 3 (s_iald (s_iald (s_aload 0 (s_getR 12 4 (s_iload 3 (s_iald (s_isub (s_aload 0 (s_getR 12 6 (s_aload 0 (s_getR 12 2 (s_iload 3 (s_iald (s_iald (s_icmp_le (w_Ps_turnOne_229 l D d0 B Q) (s_aload 0 (s_getR 12 6 (s_aload 0 (s_getR 12 2 (s_iload 3 (s_iald (s_aload 0 (s_getR 12 6 (s_aload 0 (s_getR 12 3 (s_iload 3 (s_iald (s_iald (s_aload 0 (s_getR 12 4 (s_iload 3 (s_iald (s_isub (s_iast (s_aload 0 (s_getR 12 7 (s_aload 0 (s_getR 12 2 (s_iload 3 (s_iald (s_ic (2) (s_iload 3 (s_imul (s_ic (1) (s_iadd (s_iast (s_aload 0 (s_getR 12 2 (s_iload 3 (s_iald (s_istore 1 (w_Ps_turnOne_229 l D d0 B Q))))))))))))))))))))))))))))))))))))))))))))))))))))))))))))))
theorem Ps_turnOne_136 {l : Launch} {D : qD} {d0 : Nat} {B : Nat × Nat} {Q : qQ} : qI (w_Ps_turnOne_136 l D d0 B Q) (qR l D (d0 + 1, B) m_Ps_turnOne 136 Q) := sorry
def w_Ps_turnOne_46 (l : Launch) (D : qD) (d0 : Nat) (B : Nat × Nat) (Q : qQ) : qK := (s_iload 3 (s_aload 0 (s_getI 12 1 (s_icmp_ge (w_Ps_turnOne_235 l D d0 B Q) (s_aload 0 (s_getR 12 6 (s_aload 0 (s_getR 12 2 (s_iload 3 (s_iald (s_iald (s_aload 0 (s_getR 12 4 (s_iload 3 (s_iald (s_iadd (s_aload 0 (s_getR 12 6 (s_aload 0 (s_getR 12 3 (s_iload 3 (s_iald (s_iald (s_icmp_le (w_Ps_turnOne_136 l D d0 B Q) (s_aload 0 (s_getR 12 6 (s_aload 0 (s_getR 12 3 (s_iload 3 (s_iald (s_aload 0 (s_getR 12 6 (s_aload 0 (s_getR 12 2 (s_iload 3 (s_iald (s_iald (s_aload 0 (s_getR 12 4 (s_iload 3 (s_iald (s_iadd (s_iast (s_aload 0 (s_getR 12 7 (s_aload 0 (s_getR 12 3 (s_iload 3 (s_iald (s_ic (2) (s_iload 3 (s_imul (s_iast (s_aload 0 (s_getR 12 3 (s_iload 3 (s_iald (s_istore 1 (w_Ps_turnOne_136 l D d0 B Q)))))))))))))))))))))))))))))))))))))))))))))))))))))))))))
theorem Ps_turnOne_46 {l : Launch} {D : qD} {d0 : Nat} {B : Nat × Nat} {Q : qQ} : qI (w_Ps_turnOne_46 l D d0 B Q) (qR l D (d0 + 1, B) m_Ps_turnOne 46 Q) := sorry
def w_Ps_turnOne_34 (l : Launch) (D : qD) (d0 : Nat) (B : Nat × Nat) (Q : qQ) : qK := (s_iload 2 (s_aload 0 (s_getI 12 0 (s_icmp_gt (w_Ps_turnOne_248 l D d0 B Q) (s_ic (-1) (s_istore 1 (s_ic (0) (s_istore 3 (qR l D (d0 + 1, B) m_Ps_turnOne 46 Q)))))))))
theorem Ps_turnOne_34 {l : Launch} {D : qD} {d0 : Nat} {B : Nat × Nat} {Q : qQ} : qI (w_Ps_turnOne_34 l D d0 B Q) (qR l D (d0 + 1, B) m_Ps_turnOne 34 Q) := sorry
def w_Ps_turnOne_30 (l : Launch) (D : qD) (d0 : Nat) (B : Nat × Nat) (Q : qQ) : qK := (s_ic (-1) (s_istore 1 (s_ic (0) (s_istore 2 (qR l D (d0 + 1, B) m_Ps_turnOne 34 Q)))))
theorem Ps_turnOne_30 {l : Launch} {D : qD} {d0 : Nat} {B : Nat × Nat} {Q : qQ} : qI (w_Ps_turnOne_30 l D d0 B Q) (qR l D (d0 + 1, B) m_Ps_turnOne 30 Q) := sorry
def w_Ps_turnOne_2 (l : Launch) (D : qD) (d0 : Nat) (B : Nat × Nat) (Q : qQ) : qK := (s_iload 1 (s_aload 0 (s_getI 12 0 (s_icmp_ge (w_Ps_turnOne_30 l D d0 B Q) (s_aload 0 (s_getR 12 6 (s_iload 1 (s_ic (0) (s_iast (s_aload 0 (s_getR 12 7 (s_iload 1 (s_ic (-1) (s_iast (s_iinc 1 (1) (qR l D (d0 + 1, B) m_Ps_turnOne 2 Q))))))))))))))))
theorem Ps_turnOne_2 {l : Launch} {D : qD} {d0 : Nat} {B : Nat × Nat} {Q : qQ} : qI (w_Ps_turnOne_2 l D d0 B Q) (qR l D (d0 + 1, B) m_Ps_turnOne 2 Q) := sorry
def w_Ps_turnOne_0 (l : Launch) (D : qD) (d0 : Nat) (B : Nat × Nat) (Q : qQ) : qK := (s_ic (0) (s_istore 1 (qR l D (d0 + 1, B) m_Ps_turnOne 2 Q)))
theorem Ps_turnOne_0 {l : Launch} {D : qD} {d0 : Nat} {B : Nat × Nat} {Q : qQ} : qI (w_Ps_turnOne_0 l D d0 B Q) (qR l D (d0 + 1, B) m_Ps_turnOne 0 Q) := sorry
def w_Ps_turnRound_110 (l : Launch) (D : qD) (d0 : Nat) (B : Nat × Nat) (Q : qQ) : qK := (s_iadd (s_iast (s_aload 0 (s_iload 2 (s_Ps_ahead d0 (s_istore 2 (s_iload 2 (s_iload 3 (s_icmp_ne (qR l D (d0 + 1, B) m_Ps_turnRound 73 Q) (s_vret Q))))))))))
theorem Ps_turnRound_110 {l : Launch} {D : qD} {d0 : Nat} {B : Nat × Nat} {Q : qQ} : qI (w_Ps_turnRound_110 l D d0 B Q) (qR l D (d0 + 1, B) m_Ps_turnRound 110 Q) := sorry
def w_Ps_turnRound_107 (l : Launch) (D : qD) (d0 : Nat) (B : Nat × Nat) (Q : qQ) : qK := (s_iload 4 (s_ineg (w_Ps_turnRound_110 l D d0 B Q)))
theorem Ps_turnRound_107 {l : Launch} {D : qD} {d0 : Nat} {B : Nat × Nat} {Q : qQ} : qI (w_Ps_turnRound_107 l D d0 B Q) (qR l D (d0 + 1, B) m_Ps_turnRound 107 Q) := sorry
def w_Ps_turnRound_73 (l : Launch) (D : qD) (d0 : Nat) (B : Nat × Nat) (Q : qQ) : qK := (s_aload 0 (s_getR 12 7 (s_iload 2 (s_iald (s_ic (2) (s_idiv (s_istore 5 (s_aload 0 (s_getR 12 5 (s_iload 5 (s_dup2 (s_iald (s_aload 0 (s_getR 12 7 (s_iload 2 (s_iald (s_ic (2) (s_irem (s_if_ne (w_Ps_turnRound_107 l D d0 B Q) (s_iload 4 (w_Ps_turnRound_110 l D d0 B Q)))))))))))))))))))))
theorem Ps_turnRound_73 {l : Launch} {D : qD} {d0 : Nat} {B : Nat × Nat} {Q : qQ} : qI (w_Ps_turnRound_73 l D d0 B Q) (qR l D (d0 + 1, B) m_Ps_turnRound 73 Q) := sorry
def w_Ps_turnRound_62 (l : Launch) (D : qD) (d0 : Nat) (B : Nat × Nat) (Q : qQ) : qK := (s_aload 0 (s_iload 2 (s_Ps_ahead d0 (s_istore 2 (s_iload 2 (s_iload 3 (s_icmp_ne (qR l D (d0 + 1, B) m_Ps_turnRound 30 Q) (qR l D (d0 + 1, B) m_Ps_turnRound 73 Q))))))))
theorem Ps_turnRound_62 {l : Launch} {D : qD} {d0 : Nat} {B : Nat × Nat} {Q : qQ} : qI (w_Ps_turnRound_62 l D d0 B Q) (qR l D (d0 + 1, B) m_Ps_turnRound 62 Q) := sorry
def w_Ps_turnRound_30 (l : Launch) (D : qD) (d0 : Nat) (B : Nat × Nat) (Q : qQ) : qK := (s_aload 0 (s_getR 12 7 (s_iload 2 (s_iald (s_ic (2) (s_irem (s_ic (1) (s_icmp_ne (w_Ps_turnRound_62 l D d0 B Q) (s_iload 4 (s_aload 0 (s_getR 12 5 (s_aload 0 (s_getR 12 7 (s_iload 2 (s_iald (s_ic (2) (s_idiv (s_iald (s_Math_min_0 d0 (s_istore 4 (w_Ps_turnRound_62 l D d0 B Q)))))))))))))))))))))
theorem Ps_turnRound_30 {l : Launch} {D : qD} {d0 : Nat} {B : Nat × Nat} {Q : qQ} : qI (w_Ps_turnRound_30 l D d0 B Q) (qR l D (d0 + 1, B) m_Ps_turnRound 30 Q) := sorry
def w_Ps_turnRound_24 (l : Launch) (D : qD) (d0 : Nat) (B : Nat × Nat) (Q : qQ) : qK := (s_iload 2 (s_istore 3 (s_ic (2147483647) (s_istore 4 (qR l D (d0 + 1, B) m_Ps_turnRound 30 Q)))))
theorem Ps_turnRound_24 {l : Launch} {D : qD} {d0 : Nat} {B : Nat × Nat} {Q : qQ} : qI (w_Ps_turnRound_24 l D d0 B Q) (qR l D (d0 + 1, B) m_Ps_turnRound 24 Q) := sorry
def w_Ps_turnRound_4 (l : Launch) (D : qD) (d0 : Nat) (B : Nat × Nat) (Q : qQ) : qK := (s_iload 3 (s_aload 0 (s_getI 12 0 (s_icmp_ge (w_Ps_turnRound_24 l D d0 B Q) (s_aload 0 (s_iload 2 (s_Ps_ahead d0 (s_istore 2 (s_iinc 3 (1) (qR l D (d0 + 1, B) m_Ps_turnRound 4 Q))))))))))
theorem Ps_turnRound_4 {l : Launch} {D : qD} {d0 : Nat} {B : Nat × Nat} {Q : qQ} : qI (w_Ps_turnRound_4 l D d0 B Q) (qR l D (d0 + 1, B) m_Ps_turnRound 4 Q) := sorry
def w_Ps_turnRound_0 (l : Launch) (D : qD) (d0 : Nat) (B : Nat × Nat) (Q : qQ) : qK := (s_iload 1 (s_istore 2 (s_ic (0) (s_istore 3 (qR l D (d0 + 1, B) m_Ps_turnRound 4 Q)))))
theorem Ps_turnRound_0 {l : Launch} {D : qD} {d0 : Nat} {B : Nat × Nat} {Q : qQ} : qI (w_Ps_turnRound_0 l D d0 B Q) (qR l D (d0 + 1, B) m_Ps_turnRound 0 Q) := sorry
end
