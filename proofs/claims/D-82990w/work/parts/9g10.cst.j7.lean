section
/-! ===== constructors: one step of each kind ===== -/
theorem ci_obj {K : qK} {a : Int} {ls : List (Option qv)} {h : qh} (ha : 0 ≤ a) (kk : K (some (.inr (.inr a)) :: ls) [] h) : s_aload 0 (s_oinit K) (some (.inr (.inr a)) :: ls) [] h := sorry
theorem ci_arr {c t : Nat} {k len w : Int} {K : qK} {a z : Int} {ls : List (Option qv)} {n rc rs : Nat} {v : Int → Int → Int} (ha : 0 ≤ a) (hc : (q_shp a).1 = c) (hz : (n : Int) = z) (hs : q_shp z = (t, len)) (hl : 0 ≤ len ∧ len ≤ 200000) (hw : qdf (q_ae t) = w) (h1 : 1 ≤ rc) (h2 : len.toNat ≤ rs)
    (kk : K (some (.inr (.inr a)) :: ls) [] ((n + 1, rc - 1, rs - len.toNat), up2 (nw2 v z (fun _ => w)) a k z)) : s_aload 0 (s_ic len (s_newa t (s_putR c k K))) (some (.inr (.inr a)) :: ls) [] ((n, rc, rs), v) := sorry
theorem ci_int {c : Nat} {k x : Int} {K : qK} {a : Int} {ls : List (Option qv)} {n : Nat × Nat × Nat} {v : Int → Int → Int} (ha : 0 ≤ a) (hc : (q_shp a).1 = c) (kk : K (some (.inr (.inr a)) :: ls) [] (n, up2 v a k x)) : s_aload 0 (s_ic x (s_putI c k K)) (some (.inr (.inr a)) :: ls) [] (n, v) := sorry
theorem ci_new {l : Launch} {D : qD} {d0 c c0 nf kc ks : Nat} {k : Int} {K : qK} {a z : Int} {ls : List (Option qv)} {n rc rs : Nat} {v v' : Int → Int → Int} {M' : qm} (ha : 0 ≤ a) (hc : (q_shp a).1 = c0) (hz : (n : Int) = z) (hs : q_shp z = (c, 0)) (h1 : 1 ≤ rc) (h2 : nf ≤ rs)
    (call : ∀ Q : qQ, Q none ((n + 1 + kc, rc - 1 - kc, rs - nf - ks), v') → qM l D (d0, kc, ks) M' [.inr (.inr z)] ((n + 1, rc - 1, rs - nf), nw2 v z (fun j => qdf (q_ft c j.toNat))) Q)
    (kk : K (some (.inr (.inr a)) :: ls) [] ((n + 1 + kc, rc - 1 - kc, rs - nf - ks), up2 v' a k z)) : s_aload 0 (s_new c nf (s_dup (s_invI l D (d0, kc, ks) M' 0 (s_putR c0 k K)))) (some (.inr (.inr a)) :: ls) [] ((n, rc, rs), v) := sorry
/-- a new object comes into an array that lies on the stack -/
theorem ci_put {l : Launch} {D : qD} {d0 c nf kc ks : Nat} {i : Int} {K : qK} {a y z : Int} {ls : List (Option qv)} {n rc rs : Nat} {v v' : Int → Int → Int} {M' : qm} (hy : 0 ≤ y) (hc : ((q_shp y).1 = 104 ∧ c = 1) ∨ ((q_shp y).1 = 105 ∧ c = 3)) (hi : 0 ≤ i ∧ i < (q_shp y).2) (hz : (n : Int) = z) (hs : q_shp z = (c, 0)) (h1 : 1 ≤ rc) (h2 : nf ≤ rs)
    (call : ∀ Q : qQ, Q none ((n + 1 + kc, rc - 1 - kc, rs - nf - ks), v') → qM l D (d0, kc, ks) M' [.inr (.inr z)] ((n + 1, rc - 1, rs - nf), nw2 v z (fun j => qdf (q_ft c j.toNat))) Q)
    (kk : K ls [.inr (.inr y), .inr (.inr a)] ((n + 1 + kc, rc - 1 - kc, rs - nf - ks), up2 v' y i z)) : s_dup (s_ic i (s_new c nf (s_dup (s_invI l D (d0, kc, ks) M' 0 (s_aast K))))) ls [.inr (.inr y), .inr (.inr a)] ((n, rc, rs), v) := sorry
theorem ci_arr0 {t : Nat} {len w : Int} {K : qK} {a z : Int} {ls : List (Option qv)} {n rc rs : Nat} {v : Int → Int → Int} (hz : (n : Int) = z) (hs : q_shp z = (t, len)) (hl : 0 ≤ len ∧ len ≤ 200000) (hw : qdf (q_ae t) = w) (h1 : 1 ≤ rc) (h2 : len.toNat ≤ rs)
    (kk : K (some (.inr (.inr a)) :: ls) [.inr (.inr z), .inr (.inr a)] ((n + 1, rc - 1, rs - len.toNat), nw2 v z (fun _ => w))) : s_aload 0 (s_ic len (s_newa t K)) (some (.inr (.inr a)) :: ls) [] ((n, rc, rs), v) := sorry
theorem ci_fld {c : Nat} {k : Int} {K : qK} {a z : Int} {ls : List (Option qv)} {n : Nat × Nat × Nat} {v : Int → Int → Int} (ha : 0 ≤ a) (hc : (q_shp a).1 = c) (kk : K ls [] (n, up2 v a k z)) : s_putR c k K ls [.inr (.inr z), .inr (.inr a)] (n, v) := sorry
theorem ci_m1 {K : qK} {i x : Int} {a y : Int} {ls : List (Option qv)} {n : Nat × Nat × Nat} {v : Int → Int → Int} (hy : 0 ≤ y) (hs : (q_shp y).1 = 100) (hi : 0 ≤ i ∧ i < (q_shp y).2) (kk : K ls [.inr (.inr y), .inr (.inr a)] (n, up2 v y i x)) : s_dup (s_ic i (s_ic x (s_iast K))) ls [.inr (.inr y), .inr (.inr a)] (n, v) := sorry
/-- a Graph is made and laid at the first place of states -/
theorem ci_st0 {l : Launch} {D : qD} {d0 nf kc ks : Nat} {K : qK} {a y z : Int} {ls : List (Option qv)} {n rc rs : Nat} {v v' : Int → Int → Int} {M' : qm} (ha : 0 ≤ a) (hc : (q_shp a).1 = 1) (ey : v a 0 = y) (hy : 0 ≤ y) (sy : q_shp y = (105, 31)) (hz : (n : Int) = z) (hs : q_shp z = (3, 0)) (h1 : 1 ≤ rc) (h2 : nf ≤ rs)
    (call : ∀ Q : qQ, Q none ((n + 1 + kc, rc - 1 - kc, rs - nf - ks), v') → qM l D (d0, kc, ks) M' [.inr (.inr z)] ((n + 1, rc - 1, rs - nf), nw2 v z (fun j => qdf (q_ft 3 j.toNat))) Q)
    (kk : K (some (.inr (.inr a)) :: ls) [] ((n + 1 + kc, rc - 1 - kc, rs - nf - ks), up2 v' y 0 z)) : s_aload 0 (s_getR 1 0 (s_ic 0 (s_new 3 nf (s_dup (s_invI l D (d0, kc, ks) M' 0 (s_aast K)))))) (some (.inr (.inr a)) :: ls) [] ((n, rc, rs), v) := sorry
theorem ci_clr {d0 : Nat} {K : qK} {a y g : Int} {ls : List (Option qv)} {n : Nat × Nat × Nat} {v : Int → Int → Int} (ha : 0 ≤ a) (hc : (q_shp a).1 = 1) (ey : v a 0 = y) (hy : 0 ≤ y) (sy : q_shp y = (105, 31)) (eg : v y 0 = g) (hg : 0 ≤ g) (sg : (q_shp g).1 = 3) (hd : 1 ≤ d0) (he : e_Gr_clear g v) (hp : p_Gr_clear g v)
    (kk : K (some (.inr (.inr a)) :: ls) [] (n, g_Gr_clear g v)) : s_aload 0 (s_getR 1 0 (s_ic 0 (s_aald (s_Gr_clear d0 K)))) (some (.inr (.inr a)) :: ls) [] (n, v) := sorry
end
section
/-! ===== a String constant comes into an array ===== -/
def s_aastS (K : qK) : qK := fun ls st h => match st with
  | .inr (.inr z) :: .inl i :: .inr (.inr a) :: r => 0 ≤ a ∧ (q_shp a).1 = 106 ∧ (z ≤ -2 ∧ -77 < z) ∧ 0 ≤ i ∧ i < (q_shp a).2 ∧ K ls r (q_up h a i z)
  | _ => False
section OPSS
variable {l : Launch} {D : qD} {d : qd} {M : qm} {pc : Nat} {K : qK}
set_option maxRecDepth 100000 in
theorem ok_aastS {Q : qQ} (hini : Cond.initialized "java/lang/String" ∈ q_G) (hd : decode M.2.1 pc = .ok (.aastore, 1)) (k : qI K (qR l D d M (pc + 1) Q)) : qI (s_aastS K) (qR l D d M pc Q) := sorry
end OPSS
end
section
/-! printed by gen/p_ctr2.py: code of the constructors of the readers and of what they throw -/
def m_Th_init_1 : qm := (⟨"java/lang/Throwable", "<init>", "(Ljava/lang/String;Ljava/lang/Throwable;ZZ)V"⟩, prog_31_method_5_code, 5, none)
theorem cd_Th_init_1 : q_code m_Th_init_1 := sorry
def m_Ex_init : qm := (⟨"java/lang/Exception", "<init>", "(Ljava/lang/String;Ljava/lang/Throwable;ZZ)V"⟩, prog_22_method_5_code, 5, none)
theorem cd_Ex_init : q_code m_Ex_init := sorry
def m_Rt_init : qm := (⟨"java/lang/RuntimeException", "<init>", "(Ljava/lang/String;Ljava/lang/Throwable;ZZ)V"⟩, prog_26_method_5_code, 5, none)
theorem cd_Rt_init : q_code m_Rt_init := sorry
theorem nf_Th_31 : q_gF "java/lang/Throwable" 31 5 3 2 := sorry
theorem np_Th_31i : q_pF "java/lang/Throwable" 31 5 3 2 (.object "java/lang/String") false := sorry
theorem nf_Th_7 : q_gF "java/lang/Throwable" 7 5 0 2 := sorry
theorem np_Th_7i : q_pF "java/lang/Throwable" 7 5 0 2 (.object "java/lang/Throwable") false := sorry
theorem nf_Th_24 : q_gF "java/lang/Throwable" 24 5 2 2 := sorry
theorem np_Th_24i : q_pF "java/lang/Throwable" 24 5 2 2 (.object "java/util/List") false := sorry
def w_Th_init_1_41 (l : Launch) (D : qD) (d0 : Nat) (B : Nat × Nat) (Q : qQ) : qK := (s_aload 0 (s_aload 1 (s_putR 5 3 (s_aload 0 (s_aload 2 (s_putR 5 0 (s_iload 3 (s_if_ne (fun _ _ _ => False) (s_aload 0 (s_null (s_putR 5 2 (s_vret Q))))))))))))
theorem Th_init_1_41 {l : Launch} {D : qD} {d0 : Nat} {B : Nat × Nat} {Q : qQ} : qI (w_Th_init_1_41 l D d0 B Q) (qR l D (d0 + 1, B) m_Th_init_1 41 Q) := sorry
theorem nf_Th_17 : q_gF "java/lang/Throwable" 17 5 1 2 := sorry
theorem np_Th_17i : q_pF "java/lang/Throwable" 17 5 1 2 (.array (.object "java/lang/StackTraceElement")) false := sorry
def w_Th_init_1_36 (l : Launch) (D : qD) (d0 : Nat) (B : Nat × Nat) (Q : qQ) : qK := (s_aload 0 (s_null (s_putR 5 1 (w_Th_init_1_41 l D d0 B Q))))
theorem Th_init_1_36 {l : Launch} {D : qD} {d0 : Nat} {B : Nat × Nat} {Q : qQ} : qI (w_Th_init_1_36 l D d0 B Q) (qR l D (d0 + 1, B) m_Th_init_1 36 Q) := sorry
def w_Th_init_1_0 (l : Launch) (D : qD) (d0 : Nat) (B : Nat × Nat) (Q : qQ) : qK := (s_aload 0 (s_oinit (s_aload 0 (s_aload 0 (s_putR 5 0 (s_aload 0 (s_gst 2000 (s_putR 5 1 (s_aload 0 (s_gst 2001 (s_putR 5 2 (s_iload 4 (s_if_eq (w_Th_init_1_36 l D d0 B Q) (fun _ _ _ => False))))))))))))))
theorem Th_init_1_0 {l : Launch} {D : qD} {d0 : Nat} {B : Nat × Nat} {Q : qQ} : qI (w_Th_init_1_0 l D d0 B Q) (qR l D (d0 + 1, B) m_Th_init_1 0 Q) := sorry
theorem ni_Ex_16 : q_gI "java/lang/Exception" 16 4 m_Th_init_1 := sorry
def w_Ex_init_0 (l : Launch) (D : qD) (d0 : Nat) (B : Nat × Nat) (Q : qQ) : qK := (s_aload 0 (s_aload 1 (s_aload 2 (s_iload 3 (s_iload 4 (s_invI l D (d0, 0, 0) m_Th_init_1 4 (s_vret Q)))))))
theorem Ex_init_0 {l : Launch} {D : qD} {d0 : Nat} {B : Nat × Nat} {Q : qQ} : qI (w_Ex_init_0 l D d0 B Q) (qR l D (d0 + 1, B) m_Ex_init 0 Q) := sorry
theorem ni_Rt_16 : q_gI "java/lang/RuntimeException" 16 4 m_Ex_init := sorry
def w_Rt_init_0 (l : Launch) (D : qD) (d0 : Nat) (B : Nat × Nat) (Q : qQ) : qK := (s_aload 0 (s_aload 1 (s_aload 2 (s_iload 3 (s_iload 4 (s_invI l D (d0, 0, 0) m_Ex_init 4 (s_vret Q)))))))
theorem Rt_init_0 {l : Launch} {D : qD} {d0 : Nat} {B : Nat × Nat} {Q : qQ} : qI (w_Rt_init_0 l D d0 B Q) (qR l D (d0 + 1, B) m_Rt_init 0 Q) := sorry
theorem ni_Wr_1 : q_gI "DrawingHouse$Wrong" 1 4 m_Rt_init := sorry
def w_Wr_init_0 (l : Launch) (D : qD) (d0 : Nat) (B : Nat × Nat) (Q : qQ) : qK := (s_aload 0 (s_null (s_null (s_ic (0) (s_ic (0) (s_invI l D (d0, 0, 0) m_Rt_init 4 (s_vret Q)))))))
theorem Wr_init_0 {l : Launch} {D : qD} {d0 : Nat} {B : Nat × Nat} {Q : qQ} : qI (w_Wr_init_0 l D d0 B Q) (qR l D (d0 + 1, B) m_Wr_init 0 Q) := sorry
theorem nf_Re_9_4 : q_gF "DrawingHouse$Reader" 9 4 1 2 := sorry
theorem np_Re_9_4i : q_pF "DrawingHouse$Reader" 9 4 1 2 (.array (.byte)) true := sorry
theorem ni_Re_17 : q_gI "DrawingHouse$Reader" 17 0 m_Wr_init := sorry
theorem nf_Re_18_4 : q_gF "DrawingHouse$Reader" 18 4 2 2 := sorry
theorem np_Re_18_4i : q_pF "DrawingHouse$Reader" 18 4 2 2 (.object "DrawingHouse$Wrong") true := sorry
def w_Re4_init_0 (l : Launch) (D : qD) (d0 : Nat) (B : Nat × Nat) (Q : qQ) : qK := (s_aload 0 (s_oinit (s_aload 0 (s_ic (2000) (s_newa 101 (s_putR 4 1 (s_aload 0 (s_new 5 6 (s_dup (s_invI l D (d0, 0, 0) m_Wr_init 0 (s_putR 4 2 (s_vret Q))))))))))))
theorem Re4_init_0 {l : Launch} {D : qD} {d0 : Nat} {B : Nat × Nat} {Q : qQ} : qI (w_Re4_init_0 l D d0 B Q) (qR l D (d0 + 1, B) m_Re_init 0 Q) := sorry
theorem nf_Re_9_6 : q_gF "DrawingHouse$Reader" 9 6 10 2 := sorry
theorem np_Re_9_6i : q_pF "DrawingHouse$Reader" 9 6 10 2 (.array (.byte)) true := sorry
theorem nf_Re_18_6 : q_gF "DrawingHouse$Reader" 18 6 11 2 := sorry
theorem np_Re_18_6i : q_pF "DrawingHouse$Reader" 18 6 11 2 (.object "DrawingHouse$Wrong") true := sorry
def w_Re6_init_0 (l : Launch) (D : qD) (d0 : Nat) (B : Nat × Nat) (Q : qQ) : qK := (s_aload 0 (s_oinit (s_aload 0 (s_ic (2000) (s_newa 101 (s_putR 6 10 (s_aload 0 (s_new 5 6 (s_dup (s_invI l D (d0, 0, 0) m_Wr_init 0 (s_putR 6 11 (s_vret Q))))))))))))
theorem Re6_init_0 {l : Launch} {D : qD} {d0 : Nat} {B : Nat × Nat} {Q : qQ} : qI (w_Re6_init_0 l D d0 B Q) (qR l D (d0 + 1, B) m_Re_init 0 Q) := sorry
theorem ni_GR_3 : q_gI "DrawingHouse$GraphReader" 3 0 m_Re_init := sorry
theorem ni_GR_11 : q_gI "DrawingHouse$GraphReader" 11 0 m_Gr_init := sorry
theorem nf_GR_12 : q_gF "DrawingHouse$GraphReader" 12 4 0 2 := sorry
theorem np_GR_12i : q_pF "DrawingHouse$GraphReader" 12 4 0 2 (.object "DrawingHouse$Graph") true := sorry
def w_GR_init_0 (l : Launch) (D : qD) (d0 : Nat) (B : Nat × Nat) (Q : qQ) : qK := (s_aload 0 (s_invI l D (d0, 2, 2006) m_Re_init 0 (s_aload 0 (s_new 3 14 (s_dup (s_invI l D (d0, 11, 536) m_Gr_init 0 (s_putR 4 0 (s_vret Q))))))))
theorem GR_init_0 {l : Launch} {D : qD} {d0 : Nat} {B : Nat × Nat} {Q : qQ} : qI (w_GR_init_0 l D d0 B Q) (qR l D (d0 + 1, B) m_GR_init 0 Q) := sorry
theorem ni_Sy_3 : q_gI "DrawingHouse$Style" 3 0 m_Re_init := sorry
theorem nf_Sy_11 : q_gF "DrawingHouse$Style" 11 6 0 2 := sorry
theorem np_Sy_11i : q_pF "DrawingHouse$Style" 11 6 0 2 (.array (.int)) true := sorry
theorem nf_Sy_15 : q_gF "DrawingHouse$Style" 15 6 1 2 := sorry
theorem np_Sy_15i : q_pF "DrawingHouse$Style" 15 6 1 2 (.array (.int)) true := sorry
theorem nf_Sy_40 : q_gF "DrawingHouse$Style" 40 6 6 2 := sorry
theorem np_Sy_40i : q_pF "DrawingHouse$Style" 40 6 6 2 (.array (.object "java/lang/String")) true := sorry
theorem nf_Sy_60 : q_gF "DrawingHouse$Style" 60 6 7 2 := sorry
theorem np_Sy_60i : q_pF "DrawingHouse$Style" 60 6 7 2 (.array (.object "java/lang/String")) true := sorry
theorem nf_Sy_69 : q_gF "DrawingHouse$Style" 69 6 8 2 := sorry
theorem np_Sy_69i : q_pF "DrawingHouse$Style" 69 6 8 2 (.array (.object "java/lang/String")) true := sorry
theorem nf_Sy_72 : q_gF "DrawingHouse$Style" 72 6 9 2 := sorry
theorem np_Sy_72i : q_pF "DrawingHouse$Style" 72 6 9 2 (.array (.long)) true := sorry
def w_Sy_init_0 (l : Launch) (D : qD) (d0 : Nat) (B : Nat × Nat) (Q : qQ) : qK := (s_aload 0 (s_invI l D (d0, 2, 2006) m_Re_init 0 (s_aload 0 (s_ic (4000) (s_newa 100 (s_putR 6 0 (s_aload 0 (s_ic (4000) (s_newa 100 (s_putR 6 1 (s_aload 0 (s_ic (10) (s_newa 106 (s_dup (s_ic (0) (s_sc (-2) (s_aastS (s_dup (s_ic (1) (s_sc (-3) (s_aastS (s_dup (s_ic (2) (s_sc (-4) (s_aastS (s_dup (s_ic (3) (s_sc (-5) (s_aastS (s_dup (s_ic (4) (s_sc (-6) (s_aastS (s_dup (s_ic (5) (s_sc (-7) (s_aastS (s_dup (s_ic (6) (s_sc (-8) (s_aastS (s_dup (s_ic (7) (s_sc (-9) (s_aastS (s_dup (s_ic (8) (s_sc (-10) (s_aastS (s_dup (s_ic (9) (s_sc (-11) (s_aastS (s_putR 6 6 (s_aload 0 (s_ic (8) (s_newa 106 (s_dup (s_ic (0) (s_sc (-12) (s_aastS (s_dup (s_ic (1) (s_sc (-13) (s_aastS (s_dup (s_ic (2) (s_sc (-14) (s_aastS (s_dup (s_ic (3) (s_sc (-15) (s_aastS (s_dup (s_ic (4) (s_sc (-16) (s_aastS (s_dup (s_ic (5) (s_sc (-17) (s_aastS (s_dup (s_ic (6) (s_sc (-18) (s_aastS (s_dup (s_ic (7) (s_sc (-19) (s_aastS (s_putR 6 7 (s_aload 0 (s_ic (3) (s_newa 106 (s_dup (s_ic (0) (s_sc (-20) (s_aastS (s_dup (s_ic (1) (s_sc (-21) (s_aastS (s_dup (s_ic (2) (s_sc (-22) (s_aastS (s_putR 6 8 (s_aload 0 (s_ic (64) (s_newa 103 (s_putR 6 9 (s_vret Q)))))))))))))))))))))))))))))))))))))))))))))))))))))))))))))))))))))))))))))))))))))))))))))))))))))))))))))))
theorem Sy_init_0 {l : Launch} {D : qD} {d0 : Nat} {B : Nat × Nat} {Q : qQ} : qI (w_Sy_init_0 l D d0 B Q) (qR l D (d0 + 1, B) m_Sy_init 0 Q) := sorry
end
section
/-! ===== constructors of what is thrown ===== -/
/-- a Wrong as it is made: nothing stands in it -/
def wrH (a : Int) (v : Int → Int → Int) : Int → Int → Int := up2 (up2 (up2 (up2 v a 0 (-1)) a 1 (-1)) a 2 (-1)) a 3 (-1)
theorem wrH_eq (a z1 z2 : Int) (v : Int → Int → Int) : up2 (up2 (up2 (up2 (up2 (up2 (up2 v a 0 a) a 1 z1) a 2 z2) a 1 (-1)) a 3 (-1)) a 0 (-1)) a 2 (-1) = wrH a v := sorry
section CWR
variable {l : Launch} {D : qD} {d : Nat} {Q : qQ}
set_option maxRecDepth 100000 in
theorem sp_Th_init {a : Int} {h : qh} (ha : 0 ≤ a) (hs : (q_shp a).1 = 5) (k : Q none (h.1, wrH a h.2)) : qM l D (d + 1, 0, 0) m_Th_init_1 [.inr (.inr a), .inr (.inr (-1)), .inr (.inr (-1)), .inl 0, .inl 0] h Q := sorry
set_option maxRecDepth 100000 in
theorem sp_Ex_init {a : Int} {h : qh} (ha : 0 ≤ a) (hs : (q_shp a).1 = 5) (k : Q none (h.1, wrH a h.2)) : qM l D (d + 2, 0, 0) m_Ex_init [.inr (.inr a), .inr (.inr (-1)), .inr (.inr (-1)), .inl 0, .inl 0] h Q := sorry
set_option maxRecDepth 100000 in
theorem sp_Rt_init {a : Int} {h : qh} (ha : 0 ≤ a) (hs : (q_shp a).1 = 5) (k : Q none (h.1, wrH a h.2)) : qM l D (d + 3, 0, 0) m_Rt_init [.inr (.inr a), .inr (.inr (-1)), .inr (.inr (-1)), .inl 0, .inl 0] h Q := sorry
set_option maxRecDepth 100000 in
theorem sp_Wr_init {a : Int} {h : qh} (ha : 0 ≤ a) (hs : (q_shp a).1 = 5) (k : Q none (h.1, wrH a h.2)) : qM l D (d + 4, 0, 0) m_Wr_init [.inr (.inr a)] h Q := sorry
end CWR
theorem ci_sup {l : Launch} {D : qD} {d0 kc ks : Nat} {K : qK} {a : Int} {ls : List (Option qv)} {n rc rs : Nat} {v v' : Int → Int → Int} {M' : qm} (ha : 0 ≤ a)
    (call : ∀ Q : qQ, Q none ((n + kc, rc - kc, rs - ks), v') → qM l D (d0, kc, ks) M' [.inr (.inr a)] ((n, rc, rs), v) Q)
    (kk : K (some (.inr (.inr a)) :: ls) [] ((n + kc, rc - kc, rs - ks), v')) : s_aload 0 (s_invI l D (d0, kc, ks) M' 0 K) (some (.inr (.inr a)) :: ls) [] ((n, rc, rs), v) := sorry
theorem ci_str {K : qK} {i x : Int} {a y : Int} {ls : List (Option qv)} {n : Nat × Nat × Nat} {v : Int → Int → Int} (hy : 0 ≤ y) (hs : (q_shp y).1 = 106) (hx : x ≤ -2 ∧ -77 < x) (hi : 0 ≤ i ∧ i < (q_shp y).2) (kk : K ls [.inr (.inr y), .inr (.inr a)] (n, up2 v y i x)) : s_dup (s_ic i (s_sc x (s_aastS K))) ls [.inr (.inr y), .inr (.inr a)] (n, v) := sorry
end
section
/-! printed by gen/p_ctor.py: what the constructors make, at their cells -/
def mk_Dr_5 (v : Int → Int → Int) : Int → Int → Int := up2 (nw2 (up2 (nw2 (up2 (nw2 (up2 (nw2 (up2 (nw2 (up2 (nw2 (up2 (nw2 (up2 (nw2 (up2 (nw2 (up2 (nw2 (v) 6 (fun _ => 0)) 5 5 6) 7 (fun _ => 0)) 5 6 7) 8 (fun _ => 0)) 5 7 8) 9 (fun _ => 0)) 5 8 9) 10 (fun _ => 0)) 5 9 10) 11 (fun _ => 0)) 5 10 11) 12 (fun _ => 0)) 5 11 12) 13 (fun _ => 0)) 5 12 13) 14 (fun _ => 0)) 5 13 14) 15 (fun _ => 0)) 5 14 15
set_option maxRecDepth 100000 in
theorem ci_Dr_5 {l : Launch} {D : qD} {d rc rs : Nat} {v : Int → Int → Int} {Q : qQ} (h1 : 10 ≤ rc) (h2 : 2624 ≤ rs) (k : Q none ((16, rc - 10, rs - 2624), mk_Dr_5 v)) : qM l D (d + 1, 10, 2624) m_Dr_init [.inr (.inr 5)] ((6, rc, rs), v) Q := sorry
def mk_Gr_18 (v : Int → Int → Int) : Int → Int → Int := up2 (nw2 (up2 (nw2 (up2 (nw2 (up2 (nw2 (up2 (nw2 (up2 (nw2 (up2 (nw2 (up2 (nw2 (up2 (nw2 (up2 (nw2 (up2 (nw2 (up2 (v) 18 2 (1)) 19 (fun _ => 0)) 18 3 19) 20 (fun _ => 0)) 18 4 20) 21 (fun _ => 0)) 18 5 21) 22 (fun _ => 0)) 18 6 22) 23 (fun _ => 0)) 18 7 23) 24 (fun _ => 0)) 18 8 24) 25 (fun _ => 0)) 18 9 25) 26 (fun _ => 0)) 18 10 26) 27 (fun _ => 0)) 18 11 27) 28 (fun _ => 0)) 18 12 28) 29 (fun _ => 0)) 18 13 29
set_option maxRecDepth 100000 in
theorem ci_Gr_18 {l : Launch} {D : qD} {d rc rs : Nat} {v : Int → Int → Int} {Q : qQ} (h1 : 11 ≤ rc) (h2 : 536 ≤ rs) (k : Q none ((30, rc - 11, rs - 536), mk_Gr_18 v)) : qM l D (d + 1, 11, 536) m_Gr_init [.inr (.inr 18)] ((19, rc, rs), v) Q := sorry
def mk_Pl_3 (v : Int → Int → Int) : Int → Int → Int := g_Gr_clear 18 (up2 (mk_Gr_18 (nw2 (up2 (nw2 (up2 (nw2 (up2 (mk_Dr_5 (nw2 (up2 (nw2 (v) 4 (fun _ => -1)) 3 0 4) 5 (fun j => qdf (q_ft 2 j.toNat)))) 3 3 5) 16 (fun _ => 0)) 3 4 16) 17 (fun _ => 0)) 3 5 17) 18 (fun j => qdf (q_ft 3 j.toNat)))) 4 0 18)
set_option maxRecDepth 100000 in
theorem ci_Pl_3 {l : Launch} {D : qD} {d rc rs : Nat} {v : Int → Int → Int} {Q : qQ} (h1 : 26 ≤ rc) (h2 : 3436 ≤ rs) (k : Q none ((30, rc - 26, rs - 3436), mk_Pl_3 v)) : qM l D (d + 2, 26, 3436) m_Pl_init [.inr (.inr 3)] ((4, rc, rs), v) Q := sorry
def mk_Dr_32 (v : Int → Int → Int) : Int → Int → Int := up2 (nw2 (up2 (nw2 (up2 (nw2 (up2 (nw2 (up2 (nw2 (up2 (nw2 (up2 (nw2 (up2 (nw2 (up2 (nw2 (up2 (nw2 (v) 33 (fun _ => 0)) 32 5 33) 34 (fun _ => 0)) 32 6 34) 35 (fun _ => 0)) 32 7 35) 36 (fun _ => 0)) 32 8 36) 37 (fun _ => 0)) 32 9 37) 38 (fun _ => 0)) 32 10 38) 39 (fun _ => 0)) 32 11 39) 40 (fun _ => 0)) 32 12 40) 41 (fun _ => 0)) 32 13 41) 42 (fun _ => 0)) 32 14 42
set_option maxRecDepth 100000 in
theorem ci_Dr_32 {l : Launch} {D : qD} {d rc rs : Nat} {v : Int → Int → Int} {Q : qQ} (h1 : 10 ≤ rc) (h2 : 2624 ≤ rs) (k : Q none ((43, rc - 10, rs - 2624), mk_Dr_32 v)) : qM l D (d + 1, 10, 2624) m_Dr_init [.inr (.inr 32)] ((33, rc, rs), v) Q := sorry
def mk_Gr_45 (v : Int → Int → Int) : Int → Int → Int := up2 (nw2 (up2 (nw2 (up2 (nw2 (up2 (nw2 (up2 (nw2 (up2 (nw2 (up2 (nw2 (up2 (nw2 (up2 (nw2 (up2 (nw2 (up2 (nw2 (up2 (v) 45 2 (1)) 46 (fun _ => 0)) 45 3 46) 47 (fun _ => 0)) 45 4 47) 48 (fun _ => 0)) 45 5 48) 49 (fun _ => 0)) 45 6 49) 50 (fun _ => 0)) 45 7 50) 51 (fun _ => 0)) 45 8 51) 52 (fun _ => 0)) 45 9 52) 53 (fun _ => 0)) 45 10 53) 54 (fun _ => 0)) 45 11 54) 55 (fun _ => 0)) 45 12 55) 56 (fun _ => 0)) 45 13 56
set_option maxRecDepth 100000 in
theorem ci_Gr_45 {l : Launch} {D : qD} {d rc rs : Nat} {v : Int → Int → Int} {Q : qQ} (h1 : 11 ≤ rc) (h2 : 536 ≤ rs) (k : Q none ((57, rc - 11, rs - 536), mk_Gr_45 v)) : qM l D (d + 1, 11, 536) m_Gr_init [.inr (.inr 45)] ((46, rc, rs), v) Q := sorry
def mk_Pl_30 (v : Int → Int → Int) : Int → Int → Int := g_Gr_clear 45 (up2 (mk_Gr_45 (nw2 (up2 (nw2 (up2 (nw2 (up2 (mk_Dr_32 (nw2 (up2 (nw2 (v) 31 (fun _ => -1)) 30 0 31) 32 (fun j => qdf (q_ft 2 j.toNat)))) 30 3 32) 43 (fun _ => 0)) 30 4 43) 44 (fun _ => 0)) 30 5 44) 45 (fun j => qdf (q_ft 3 j.toNat)))) 31 0 45)
set_option maxRecDepth 100000 in
theorem ci_Pl_30 {l : Launch} {D : qD} {d rc rs : Nat} {v : Int → Int → Int} {Q : qQ} (h1 : 26 ≤ rc) (h2 : 3436 ≤ rs) (k : Q none ((57, rc - 26, rs - 3436), mk_Pl_30 v)) : qM l D (d + 2, 26, 3436) m_Pl_init [.inr (.inr 30)] ((31, rc, rs), v) Q := sorry
def mk_Dr_59 (v : Int → Int → Int) : Int → Int → Int := up2 (nw2 (up2 (nw2 (up2 (nw2 (up2 (nw2 (up2 (nw2 (up2 (nw2 (up2 (nw2 (up2 (nw2 (up2 (nw2 (up2 (nw2 (v) 60 (fun _ => 0)) 59 5 60) 61 (fun _ => 0)) 59 6 61) 62 (fun _ => 0)) 59 7 62) 63 (fun _ => 0)) 59 8 63) 64 (fun _ => 0)) 59 9 64) 65 (fun _ => 0)) 59 10 65) 66 (fun _ => 0)) 59 11 66) 67 (fun _ => 0)) 59 12 67) 68 (fun _ => 0)) 59 13 68) 69 (fun _ => 0)) 59 14 69
set_option maxRecDepth 100000 in
theorem ci_Dr_59 {l : Launch} {D : qD} {d rc rs : Nat} {v : Int → Int → Int} {Q : qQ} (h1 : 10 ≤ rc) (h2 : 2624 ≤ rs) (k : Q none ((70, rc - 10, rs - 2624), mk_Dr_59 v)) : qM l D (d + 1, 10, 2624) m_Dr_init [.inr (.inr 59)] ((60, rc, rs), v) Q := sorry
def mk_Gr_72 (v : Int → Int → Int) : Int → Int → Int := up2 (nw2 (up2 (nw2 (up2 (nw2 (up2 (nw2 (up2 (nw2 (up2 (nw2 (up2 (nw2 (up2 (nw2 (up2 (nw2 (up2 (nw2 (up2 (nw2 (up2 (v) 72 2 (1)) 73 (fun _ => 0)) 72 3 73) 74 (fun _ => 0)) 72 4 74) 75 (fun _ => 0)) 72 5 75) 76 (fun _ => 0)) 72 6 76) 77 (fun _ => 0)) 72 7 77) 78 (fun _ => 0)) 72 8 78) 79 (fun _ => 0)) 72 9 79) 80 (fun _ => 0)) 72 10 80) 81 (fun _ => 0)) 72 11 81) 82 (fun _ => 0)) 72 12 82) 83 (fun _ => 0)) 72 13 83
set_option maxRecDepth 100000 in
theorem ci_Gr_72 {l : Launch} {D : qD} {d rc rs : Nat} {v : Int → Int → Int} {Q : qQ} (h1 : 11 ≤ rc) (h2 : 536 ≤ rs) (k : Q none ((84, rc - 11, rs - 536), mk_Gr_72 v)) : qM l D (d + 1, 11, 536) m_Gr_init [.inr (.inr 72)] ((73, rc, rs), v) Q := sorry
def mk_Pl_57 (v : Int → Int → Int) : Int → Int → Int := g_Gr_clear 72 (up2 (mk_Gr_72 (nw2 (up2 (nw2 (up2 (nw2 (up2 (mk_Dr_59 (nw2 (up2 (nw2 (v) 58 (fun _ => -1)) 57 0 58) 59 (fun j => qdf (q_ft 2 j.toNat)))) 57 3 59) 70 (fun _ => 0)) 57 4 70) 71 (fun _ => 0)) 57 5 71) 72 (fun j => qdf (q_ft 3 j.toNat)))) 58 0 72)
set_option maxRecDepth 100000 in
theorem ci_Pl_57 {l : Launch} {D : qD} {d rc rs : Nat} {v : Int → Int → Int} {Q : qQ} (h1 : 26 ≤ rc) (h2 : 3436 ≤ rs) (k : Q none ((84, rc - 26, rs - 3436), mk_Pl_57 v)) : qM l D (d + 2, 26, 3436) m_Pl_init [.inr (.inr 57)] ((58, rc, rs), v) Q := sorry
def mk_Dr_86 (v : Int → Int → Int) : Int → Int → Int := up2 (nw2 (up2 (nw2 (up2 (nw2 (up2 (nw2 (up2 (nw2 (up2 (nw2 (up2 (nw2 (up2 (nw2 (up2 (nw2 (up2 (nw2 (v) 87 (fun _ => 0)) 86 5 87) 88 (fun _ => 0)) 86 6 88) 89 (fun _ => 0)) 86 7 89) 90 (fun _ => 0)) 86 8 90) 91 (fun _ => 0)) 86 9 91) 92 (fun _ => 0)) 86 10 92) 93 (fun _ => 0)) 86 11 93) 94 (fun _ => 0)) 86 12 94) 95 (fun _ => 0)) 86 13 95) 96 (fun _ => 0)) 86 14 96
set_option maxRecDepth 100000 in
theorem ci_Dr_86 {l : Launch} {D : qD} {d rc rs : Nat} {v : Int → Int → Int} {Q : qQ} (h1 : 10 ≤ rc) (h2 : 2624 ≤ rs) (k : Q none ((97, rc - 10, rs - 2624), mk_Dr_86 v)) : qM l D (d + 1, 10, 2624) m_Dr_init [.inr (.inr 86)] ((87, rc, rs), v) Q := sorry
def mk_Gr_99 (v : Int → Int → Int) : Int → Int → Int := up2 (nw2 (up2 (nw2 (up2 (nw2 (up2 (nw2 (up2 (nw2 (up2 (nw2 (up2 (nw2 (up2 (nw2 (up2 (nw2 (up2 (nw2 (up2 (nw2 (up2 (v) 99 2 (1)) 100 (fun _ => 0)) 99 3 100) 101 (fun _ => 0)) 99 4 101) 102 (fun _ => 0)) 99 5 102) 103 (fun _ => 0)) 99 6 103) 104 (fun _ => 0)) 99 7 104) 105 (fun _ => 0)) 99 8 105) 106 (fun _ => 0)) 99 9 106) 107 (fun _ => 0)) 99 10 107) 108 (fun _ => 0)) 99 11 108) 109 (fun _ => 0)) 99 12 109) 110 (fun _ => 0)) 99 13 110
set_option maxRecDepth 100000 in
theorem ci_Gr_99 {l : Launch} {D : qD} {d rc rs : Nat} {v : Int → Int → Int} {Q : qQ} (h1 : 11 ≤ rc) (h2 : 536 ≤ rs) (k : Q none ((111, rc - 11, rs - 536), mk_Gr_99 v)) : qM l D (d + 1, 11, 536) m_Gr_init [.inr (.inr 99)] ((100, rc, rs), v) Q := sorry
def mk_Pl_84 (v : Int → Int → Int) : Int → Int → Int := g_Gr_clear 99 (up2 (mk_Gr_99 (nw2 (up2 (nw2 (up2 (nw2 (up2 (mk_Dr_86 (nw2 (up2 (nw2 (v) 85 (fun _ => -1)) 84 0 85) 86 (fun j => qdf (q_ft 2 j.toNat)))) 84 3 86) 97 (fun _ => 0)) 84 4 97) 98 (fun _ => 0)) 84 5 98) 99 (fun j => qdf (q_ft 3 j.toNat)))) 85 0 99)
set_option maxRecDepth 100000 in
theorem ci_Pl_84 {l : Launch} {D : qD} {d rc rs : Nat} {v : Int → Int → Int} {Q : qQ} (h1 : 26 ≤ rc) (h2 : 3436 ≤ rs) (k : Q none ((111, rc - 26, rs - 3436), mk_Pl_84 v)) : qM l D (d + 2, 26, 3436) m_Pl_init [.inr (.inr 84)] ((85, rc, rs), v) Q := sorry
def mk_Re_111 (v : Int → Int → Int) : Int → Int → Int := up2 (wrH 113 (nw2 (up2 (nw2 (v) 112 (fun _ => 0)) 111 1 112) 113 (fun j => qdf (q_ft 5 j.toNat)))) 111 2 113
set_option maxRecDepth 100000 in
theorem ci_Re_111 {l : Launch} {D : qD} {d rc rs : Nat} {v : Int → Int → Int} {Q : qQ} (h1 : 2 ≤ rc) (h2 : 2006 ≤ rs) (k : Q none ((114, rc - 2, rs - 2006), mk_Re_111 v)) : qM l D (d + 5, 2, 2006) m_Re_init [.inr (.inr 111)] ((112, rc, rs), v) Q := sorry
def mk_Gr_114 (v : Int → Int → Int) : Int → Int → Int := up2 (nw2 (up2 (nw2 (up2 (nw2 (up2 (nw2 (up2 (nw2 (up2 (nw2 (up2 (nw2 (up2 (nw2 (up2 (nw2 (up2 (nw2 (up2 (nw2 (up2 (v) 114 2 (1)) 115 (fun _ => 0)) 114 3 115) 116 (fun _ => 0)) 114 4 116) 117 (fun _ => 0)) 114 5 117) 118 (fun _ => 0)) 114 6 118) 119 (fun _ => 0)) 114 7 119) 120 (fun _ => 0)) 114 8 120) 121 (fun _ => 0)) 114 9 121) 122 (fun _ => 0)) 114 10 122) 123 (fun _ => 0)) 114 11 123) 124 (fun _ => 0)) 114 12 124) 125 (fun _ => 0)) 114 13 125
set_option maxRecDepth 100000 in
theorem ci_Gr_114 {l : Launch} {D : qD} {d rc rs : Nat} {v : Int → Int → Int} {Q : qQ} (h1 : 11 ≤ rc) (h2 : 536 ≤ rs) (k : Q none ((126, rc - 11, rs - 536), mk_Gr_114 v)) : qM l D (d + 1, 11, 536) m_Gr_init [.inr (.inr 114)] ((115, rc, rs), v) Q := sorry
def mk_GR_111 (v : Int → Int → Int) : Int → Int → Int := up2 (mk_Gr_114 (nw2 (mk_Re_111 (v)) 114 (fun j => qdf (q_ft 3 j.toNat)))) 111 0 114
set_option maxRecDepth 100000 in
theorem ci_GR_111 {l : Launch} {D : qD} {d rc rs : Nat} {v : Int → Int → Int} {Q : qQ} (h1 : 14 ≤ rc) (h2 : 2556 ≤ rs) (k : Q none ((126, rc - 14, rs - 2556), mk_GR_111 v)) : qM l D (d + 6, 14, 2556) m_GR_init [.inr (.inr 111)] ((112, rc, rs), v) Q := sorry
def mk_Re_126 (v : Int → Int → Int) : Int → Int → Int := up2 (wrH 128 (nw2 (up2 (nw2 (v) 127 (fun _ => 0)) 126 10 127) 128 (fun j => qdf (q_ft 5 j.toNat)))) 126 11 128
set_option maxRecDepth 100000 in
theorem ci_Re_126 {l : Launch} {D : qD} {d rc rs : Nat} {v : Int → Int → Int} {Q : qQ} (h1 : 2 ≤ rc) (h2 : 2006 ≤ rs) (k : Q none ((129, rc - 2, rs - 2006), mk_Re_126 v)) : qM l D (d + 5, 2, 2006) m_Re_init [.inr (.inr 126)] ((127, rc, rs), v) Q := sorry
def mk_Sy_126 (v : Int → Int → Int) : Int → Int → Int := up2 (nw2 (up2 (up2 (up2 (up2 (nw2 (up2 (up2 (up2 (up2 (up2 (up2 (up2 (up2 (up2 (nw2 (up2 (up2 (up2 (up2 (up2 (up2 (up2 (up2 (up2 (up2 (up2 (nw2 (up2 (nw2 (up2 (nw2 (mk_Re_126 (v)) 129 (fun _ => 0)) 126 0 129) 130 (fun _ => 0)) 126 1 130) 131 (fun _ => -1)) 131 0 (-2)) 131 1 (-3)) 131 2 (-4)) 131 3 (-5)) 131 4 (-6)) 131 5 (-7)) 131 6 (-8)) 131 7 (-9)) 131 8 (-10)) 131 9 (-11)) 126 6 131) 132 (fun _ => -1)) 132 0 (-12)) 132 1 (-13)) 132 2 (-14)) 132 3 (-15)) 132 4 (-16)) 132 5 (-17)) 132 6 (-18)) 132 7 (-19)) 126 7 132) 133 (fun _ => -1)) 133 0 (-20)) 133 1 (-21)) 133 2 (-22)) 126 8 133) 134 (fun _ => 0)) 126 9 134
set_option maxRecDepth 100000 in
theorem ci_Sy_126 {l : Launch} {D : qD} {d rc rs : Nat} {v : Int → Int → Int} {Q : qQ} (h1 : 8 ≤ rc) (h2 : 10091 ≤ rs) (k : Q none ((135, rc - 8, rs - 10091), mk_Sy_126 v)) : qM l D (d + 6, 8, 10091) m_Sy_init [.inr (.inr 126)] ((127, rc, rs), v) Q := sorry
def mk_Sh_135 (v : Int → Int → Int) : Int → Int → Int := up2 (nw2 (up2 (nw2 (up2 (nw2 (up2 (nw2 (up2 (nw2 (up2 (nw2 (up2 (nw2 (up2 (nw2 (up2 (nw2 (v) 136 (fun _ => 0)) 135 0 136) 137 (fun _ => 0)) 135 1 137) 138 (fun _ => 0)) 135 2 138) 139 (fun _ => 0)) 135 3 139) 140 (fun _ => 0)) 135 4 140) 141 (fun _ => 0)) 135 5 141) 142 (fun _ => 0)) 135 9 142) 143 (fun _ => 0)) 135 10 143) 144 (fun _ => 0)) 135 11 144
set_option maxRecDepth 100000 in
theorem ci_Sh_135 {l : Launch} {D : qD} {d rc rs : Nat} {v : Int → Int → Int} {Q : qQ} (h1 : 9 ≤ rc) (h2 : 264 ≤ rs) (k : Q none ((145, rc - 9, rs - 264), mk_Sh_135 v)) : qM l D (d + 1, 9, 264) m_Sh_init [.inr (.inr 135)] ((136, rc, rs), v) Q := sorry
def mk_Li_145 (v : Int → Int → Int) : Int → Int → Int := up2 (nw2 (up2 (nw2 (up2 (nw2 (up2 (nw2 (up2 (up2 (nw2 (up2 (nw2 (v) 146 (fun _ => 0)) 145 0 146) 147 (fun _ => 0)) 145 1 147) 145 2 (-1)) 148 (fun _ => 0)) 145 5 148) 149 (fun _ => 0)) 145 6 149) 150 (fun _ => 0)) 145 7 150) 151 (fun _ => 0)) 145 8 151
set_option maxRecDepth 100000 in
theorem ci_Li_145 {l : Launch} {D : qD} {d rc rs : Nat} {v : Int → Int → Int} {Q : qQ} (h1 : 6 ≤ rc) (h2 : 1248 ≤ rs) (k : Q none ((152, rc - 6, rs - 1248), mk_Li_145 v)) : qM l D (d + 1, 6, 1248) m_Li_init [.inr (.inr 145)] ((146, rc, rs), v) Q := sorry
def mk_Em_152 (v : Int → Int → Int) : Int → Int → Int := up2 (nw2 (up2 (nw2 (up2 (nw2 (up2 (nw2 (up2 (nw2 (up2 (nw2 (up2 (nw2 (up2 (nw2 (up2 (nw2 (up2 (nw2 (up2 (nw2 (up2 (nw2 (up2 (nw2 (v) 153 (fun _ => 0)) 152 0 153) 154 (fun _ => 0)) 152 1 154) 155 (fun _ => 0)) 152 4 155) 156 (fun _ => 0)) 152 6 156) 157 (fun _ => 0)) 152 9 157) 158 (fun _ => 0)) 152 10 158) 159 (fun _ => 0)) 152 11 159) 160 (fun _ => 0)) 152 12 160) 161 (fun _ => 0)) 152 13 161) 162 (fun _ => 0)) 152 15 162) 163 (fun _ => 0)) 152 16 163) 164 (fun _ => 0)) 152 18 164) 165 (fun _ => 0)) 152 19 165
set_option maxRecDepth 100000 in
theorem ci_Em_152 {l : Launch} {D : qD} {d rc rs : Nat} {v : Int → Int → Int} {Q : qQ} (h1 : 13 ≤ rc) (h2 : 2477 ≤ rs) (k : Q none ((166, rc - 13, rs - 2477), mk_Em_152 v)) : qM l D (d + 1, 13, 2477) m_Em_init [.inr (.inr 152)] ((153, rc, rs), v) Q := sorry
def mk_We_166 (v : Int → Int → Int) : Int → Int → Int := up2 (nw2 (up2 (nw2 (up2 (nw2 (up2 (nw2 (up2 (nw2 (up2 (nw2 (up2 (nw2 (up2 (nw2 (v) 167 (fun _ => 0)) 166 3 167) 168 (fun _ => 0)) 166 4 168) 169 (fun _ => 0)) 166 5 169) 170 (fun _ => 0)) 166 6 170) 171 (fun _ => 0)) 166 7 171) 172 (fun _ => 0)) 166 8 172) 173 (fun _ => 0)) 166 9 173) 174 (fun _ => 0)) 166 10 174
set_option maxRecDepth 100000 in
theorem ci_We_166 {l : Launch} {D : qD} {d rc rs : Nat} {v : Int → Int → Int} {Q : qQ} (h1 : 8 ≤ rc) (h2 : 10772 ≤ rs) (k : Q none ((175, rc - 8, rs - 10772), mk_We_166 v)) : qM l D (d + 1, 8, 10772) m_We_init [.inr (.inr 166)] ((167, rc, rs), v) Q := sorry
def mk_Gr_175 (v : Int → Int → Int) : Int → Int → Int := up2 (nw2 (up2 (nw2 (up2 (nw2 (up2 (nw2 (up2 (nw2 (up2 (nw2 (up2 (nw2 (up2 (nw2 (up2 (nw2 (up2 (nw2 (up2 (nw2 (up2 (v) 175 2 (1)) 176 (fun _ => 0)) 175 3 176) 177 (fun _ => 0)) 175 4 177) 178 (fun _ => 0)) 175 5 178) 179 (fun _ => 0)) 175 6 179) 180 (fun _ => 0)) 175 7 180) 181 (fun _ => 0)) 175 8 181) 182 (fun _ => 0)) 175 9 182) 183 (fun _ => 0)) 175 10 183) 184 (fun _ => 0)) 175 11 184) 185 (fun _ => 0)) 175 12 185) 186 (fun _ => 0)) 175 13 186
set_option maxRecDepth 100000 in
theorem ci_Gr_175 {l : Launch} {D : qD} {d rc rs : Nat} {v : Int → Int → Int} {Q : qQ} (h1 : 11 ≤ rc) (h2 : 536 ≤ rs) (k : Q none ((187, rc - 11, rs - 536), mk_Gr_175 v)) : qM l D (d + 1, 11, 536) m_Gr_init [.inr (.inr 175)] ((176, rc, rs), v) Q := sorry
def mk_Sh_187 (v : Int → Int → Int) : Int → Int → Int := up2 (nw2 (up2 (nw2 (up2 (nw2 (up2 (nw2 (up2 (nw2 (up2 (nw2 (up2 (nw2 (up2 (nw2 (up2 (nw2 (v) 188 (fun _ => 0)) 187 0 188) 189 (fun _ => 0)) 187 1 189) 190 (fun _ => 0)) 187 2 190) 191 (fun _ => 0)) 187 3 191) 192 (fun _ => 0)) 187 4 192) 193 (fun _ => 0)) 187 5 193) 194 (fun _ => 0)) 187 9 194) 195 (fun _ => 0)) 187 10 195) 196 (fun _ => 0)) 187 11 196
set_option maxRecDepth 100000 in
theorem ci_Sh_187 {l : Launch} {D : qD} {d rc rs : Nat} {v : Int → Int → Int} {Q : qQ} (h1 : 9 ≤ rc) (h2 : 264 ≤ rs) (k : Q none ((197, rc - 9, rs - 264), mk_Sh_187 v)) : qM l D (d + 1, 9, 264) m_Sh_init [.inr (.inr 187)] ((188, rc, rs), v) Q := sorry
def mk_Dr_198 (v : Int → Int → Int) : Int → Int → Int := up2 (nw2 (up2 (nw2 (up2 (nw2 (up2 (nw2 (up2 (nw2 (up2 (nw2 (up2 (nw2 (up2 (nw2 (up2 (nw2 (up2 (nw2 (v) 199 (fun _ => 0)) 198 5 199) 200 (fun _ => 0)) 198 6 200) 201 (fun _ => 0)) 198 7 201) 202 (fun _ => 0)) 198 8 202) 203 (fun _ => 0)) 198 9 203) 204 (fun _ => 0)) 198 10 204) 205 (fun _ => 0)) 198 11 205) 206 (fun _ => 0)) 198 12 206) 207 (fun _ => 0)) 198 13 207) 208 (fun _ => 0)) 198 14 208
set_option maxRecDepth 100000 in
theorem ci_Dr_198 {l : Launch} {D : qD} {d rc rs : Nat} {v : Int → Int → Int} {Q : qQ} (h1 : 10 ≤ rc) (h2 : 2624 ≤ rs) (k : Q none ((209, rc - 10, rs - 2624), mk_Dr_198 v)) : qM l D (d + 1, 10, 2624) m_Dr_init [.inr (.inr 198)] ((199, rc, rs), v) Q := sorry
def mk_Ps_210 (v : Int → Int → Int) : Int → Int → Int := up2 (nw2 (up2 (nw2 (up2 (nw2 (up2 (nw2 (up2 (nw2 (up2 (nw2 (v) 211 (fun _ => 0)) 210 2 211) 212 (fun _ => 0)) 210 3 212) 213 (fun _ => 0)) 210 4 213) 214 (fun _ => 0)) 210 5 214) 215 (fun _ => 0)) 210 6 215) 216 (fun _ => 0)) 210 7 216
set_option maxRecDepth 100000 in
theorem ci_Ps_210 {l : Launch} {D : qD} {d rc rs : Nat} {v : Int → Int → Int} {Q : qQ} (h1 : 6 ≤ rc) (h2 : 2120 ≤ rs) (k : Q none ((217, rc - 6, rs - 2120), mk_Ps_210 v)) : qM l D (d + 1, 6, 2120) m_Ps_init [.inr (.inr 210)] ((211, rc, rs), v) Q := sorry
def mk_La_209 (v : Int → Int → Int) : Int → Int → Int := up2 (nw2 (up2 (nw2 (up2 (nw2 (up2 (nw2 (up2 (nw2 (up2 (nw2 (up2 (nw2 (up2 (nw2 (up2 (nw2 (up2 (nw2 (up2 (nw2 (up2 (nw2 (up2 (nw2 (up2 (nw2 (up2 (nw2 (up2 (nw2 (up2 (nw2 (up2 (nw2 (up2 (nw2 (up2 (nw2 (up2 (nw2 (up2 (mk_Ps_210 (nw2 (v) 210 (fun j => qdf (q_ft 12 j.toNat)))) 209 0 210) 217 (fun _ => 0)) 209 3 217) 218 (fun _ => 0)) 209 4 218) 219 (fun _ => 0)) 209 5 219) 220 (fun _ => 0)) 209 6 220) 221 (fun _ => 0)) 209 7 221) 222 (fun _ => 0)) 209 8 222) 223 (fun _ => 0)) 209 9 223) 224 (fun _ => 0)) 209 10 224) 225 (fun _ => 0)) 209 11 225) 226 (fun _ => 0)) 209 14 226) 227 (fun _ => 0)) 209 15 227) 228 (fun _ => 0)) 209 16 228) 229 (fun _ => 0)) 209 18 229) 230 (fun _ => 0)) 209 19 230) 231 (fun _ => 0)) 209 20 231) 232 (fun _ => 0)) 209 21 232) 233 (fun _ => 0)) 209 22 233) 234 (fun _ => 0)) 209 23 234) 235 (fun _ => 0)) 209 24 235) 236 (fun _ => 0)) 209 25 236) 237 (fun _ => 0)) 209 26 237
set_option maxRecDepth 100000 in
theorem ci_La_209 {l : Launch} {D : qD} {d rc rs : Nat} {v : Int → Int → Int} {Q : qQ} (h1 : 28 ≤ rc) (h2 : 26391 ≤ rs) (k : Q none ((238, rc - 28, rs - 26391), mk_La_209 v)) : qM l D (d + 2, 28, 26391) m_La_init [.inr (.inr 209)] ((210, rc, rs), v) Q := sorry
def mk_Gd_238 (v : Int → Int → Int) : Int → Int → Int := up2 (nw2 (up2 (nw2 (up2 (nw2 (up2 (nw2 (up2 (nw2 (up2 (nw2 (up2 (nw2 (v) 239 (fun _ => 0)) 238 0 239) 240 (fun _ => 0)) 238 1 240) 241 (fun _ => 0)) 238 2 241) 242 (fun _ => 0)) 238 3 242) 243 (fun _ => 0)) 238 4 243) 244 (fun _ => 0)) 238 5 244) 245 (fun _ => 0)) 238 6 245
set_option maxRecDepth 100000 in
theorem ci_Gd_238 {l : Launch} {D : qD} {d rc rs : Nat} {v : Int → Int → Int} {Q : qQ} (h1 : 7 ≤ rc) (h2 : 169 ≤ rs) (k : Q none ((246, rc - 7, rs - 169), mk_Gd_238 v)) : qM l D (d + 1, 7, 169) m_Gd_init [.inr (.inr 238)] ((239, rc, rs), v) Q := sorry
def mk_Ba_246 (v : Int → Int → Int) : Int → Int → Int := up2 (nw2 (up2 (nw2 (up2 (nw2 (up2 (nw2 (up2 (nw2 (up2 (nw2 (v) 247 (fun _ => 0)) 246 0 247) 248 (fun _ => 0)) 246 1 248) 249 (fun _ => 0)) 246 2 249) 250 (fun _ => 0)) 246 3 250) 251 (fun _ => 0)) 246 4 251) 252 (fun _ => 0)) 246 5 252
set_option maxRecDepth 100000 in
theorem ci_Ba_246 {l : Launch} {D : qD} {d rc rs : Nat} {v : Int → Int → Int} {Q : qQ} (h1 : 6 ≤ rc) (h2 : 180 ≤ rs) (k : Q none ((253, rc - 6, rs - 180), mk_Ba_246 v)) : qM l D (d + 1, 6, 180) m_Ba_init [.inr (.inr 246)] ((247, rc, rs), v) Q := sorry
def mk_Pn_253 (v : Int → Int → Int) : Int → Int → Int := up2 (nw2 (up2 (nw2 (up2 (nw2 (up2 (nw2 (up2 (nw2 (up2 (nw2 (up2 (nw2 (up2 (nw2 (up2 (nw2 (up2 (nw2 (up2 (nw2 (up2 (nw2 (up2 (nw2 (v) 254 (fun _ => 0)) 253 3 254) 255 (fun _ => 0)) 253 4 255) 256 (fun _ => 0)) 253 5 256) 257 (fun _ => 0)) 253 6 257) 258 (fun _ => 0)) 253 7 258) 259 (fun _ => 0)) 253 8 259) 260 (fun _ => 0)) 253 9 260) 261 (fun _ => 0)) 253 10 261) 262 (fun _ => 0)) 253 11 262) 263 (fun _ => 0)) 253 12 263) 264 (fun _ => 0)) 253 13 264) 265 (fun _ => 0)) 253 14 265) 266 (fun _ => 0)) 253 15 266
set_option maxRecDepth 100000 in
theorem ci_Pn_253 {l : Launch} {D : qD} {d rc rs : Nat} {v : Int → Int → Int} {Q : qQ} (h1 : 13 ≤ rc) (h2 : 1432 ≤ rs) (k : Q none ((267, rc - 13, rs - 1432), mk_Pn_253 v)) : qM l D (d + 1, 13, 1432) m_Pn_init [.inr (.inr 253)] ((254, rc, rs), v) Q := sorry
def mk_Ro_267 (v : Int → Int → Int) : Int → Int → Int := up2 (nw2 (up2 (nw2 (up2 (nw2 (up2 (nw2 (v) 268 (fun _ => 0)) 267 0 268) 269 (fun _ => 0)) 267 1 269) 270 (fun _ => 0)) 267 6 270) 271 (fun _ => 0)) 267 7 271
set_option maxRecDepth 100000 in
theorem ci_Ro_267 {l : Launch} {D : qD} {d rc rs : Nat} {v : Int → Int → Int} {Q : qQ} (h1 : 4 ≤ rc) (h2 : 30048 ≤ rs) (k : Q none ((272, rc - 4, rs - 30048), mk_Ro_267 v)) : qM l D (d + 1, 4, 30048) m_Ro_init [.inr (.inr 267)] ((268, rc, rs), v) Q := sorry
def mk_Ju_272 (v : Int → Int → Int) : Int → Int → Int := v
set_option maxRecDepth 100000 in
theorem ci_Ju_272 {l : Launch} {D : qD} {d rc rs : Nat} {v : Int → Int → Int} {Q : qQ} (h1 : 0 ≤ rc) (h2 : 0 ≤ rs) (k : Q none ((273, rc - 0, rs - 0), mk_Ju_272 v)) : qM l D (d + 1, 0, 0) m_Ju_init [.inr (.inr 272)] ((273, rc, rs), v) Q := sorry
def mk_DH_0 (v : Int → Int → Int) : Int → Int → Int := up2 (nw2 (up2 (nw2 (up2 (nw2 (up2 (nw2 (up2 (nw2 (up2 (nw2 (up2 (nw2 (up2 (mk_Ju_272 (nw2 (up2 (mk_Ro_267 (nw2 (up2 (mk_Pn_253 (nw2 (up2 (mk_Ba_246 (nw2 (up2 (mk_Gd_238 (nw2 (up2 (mk_La_209 (nw2 (up2 (mk_Dr_198 (nw2 (up2 (nw2 (up2 (mk_Sh_187 (nw2 (up2 (mk_Gr_175 (nw2 (up2 (up2 (mk_We_166 (nw2 (up2 (mk_Em_152 (nw2 (up2 (mk_Li_145 (nw2 (up2 (up2 (mk_Sh_135 (nw2 (up2 (mk_Sy_126 (nw2 (up2 (mk_GR_111 (nw2 (up2 (up2 (mk_Pl_84 (nw2 (up2 (mk_Pl_57 (nw2 (up2 (mk_Pl_30 (nw2 (up2 (mk_Pl_3 (nw2 (nw2 (up2 (nw2 (v) 1 (fun _ => 0)) 0 0 1) 2 (fun _ => -1)) 3 (fun j => qdf (q_ft 1 j.toNat)))) 2 0 3) 30 (fun j => qdf (q_ft 1 j.toNat)))) 2 1 30) 57 (fun j => qdf (q_ft 1 j.toNat)))) 2 2 57) 84 (fun j => qdf (q_ft 1 j.toNat)))) 2 3 84) 0 2 2) 111 (fun j => qdf (q_ft 4 j.toNat)))) 0 3 111) 126 (fun j => qdf (q_ft 6 j.toNat)))) 0 4 126) 135 (fun j => qdf (q_ft 7 j.toNat)))) 0 7 135) 0 8 (-1)) 145 (fun j => qdf (q_ft 8 j.toNat)))) 0 9 145) 152 (fun j => qdf (q_ft 9 j.toNat)))) 0 10 152) 166 (fun j => qdf (q_ft 10 j.toNat)))) 0 11 166) 0 12 (-1)) 175 (fun j => qdf (q_ft 3 j.toNat)))) 0 14 175) 187 (fun j => qdf (q_ft 7 j.toNat)))) 0 15 187) 197 (fun _ => 0)) 0 16 197) 198 (fun j => qdf (q_ft 2 j.toNat)))) 0 19 198) 209 (fun j => qdf (q_ft 11 j.toNat)))) 0 20 209) 238 (fun j => qdf (q_ft 13 j.toNat)))) 0 21 238) 246 (fun j => qdf (q_ft 14 j.toNat)))) 0 22 246) 253 (fun j => qdf (q_ft 15 j.toNat)))) 0 23 253) 267 (fun j => qdf (q_ft 16 j.toNat)))) 0 24 267) 272 (fun j => qdf (q_ft 17 j.toNat)))) 0 25 272) 273 (fun _ => 0)) 0 26 273) 274 (fun _ => 0)) 0 27 274) 275 (fun _ => 0)) 0 30 275) 276 (fun _ => 0)) 0 31 276) 277 (fun _ => 0)) 0 34 277) 278 (fun _ => 0)) 0 35 278) 279 (fun _ => 0)) 0 36 279
set_option maxRecDepth 100000 in
theorem ci_DH_0 {l : Launch} {D : qD} {d rc rs : Nat} {v : Int → Int → Int} {Q : qQ} (h1 : 279 ≤ rc) (h2 : 117367 ≤ rs) (k : Q none ((280, rc - 279, rs - 117367), mk_DH_0 v)) : qM l D (d + 7, 279, 117367) m_DH_init [.inr (.inr 0)] ((1, rc, rs), v) Q := sorry
def mk_Mo_280 (v : Int → Int → Int) : Int → Int → Int := up2 (nw2 (up2 (nw2 (up2 (nw2 (up2 (nw2 (up2 (nw2 (up2 (nw2 (up2 (nw2 (up2 (nw2 (up2 (nw2 (up2 (nw2 (up2 (nw2 (up2 (nw2 (up2 (nw2 (up2 (nw2 (up2 (nw2 (up2 (nw2 (up2 (nw2 (up2 (nw2 (up2 (nw2 (up2 (nw2 (up2 (nw2 (up2 (nw2 (up2 (nw2 (up2 (nw2 (up2 (nw2 (up2 (nw2 (up2 (nw2 (up2 (nw2 (up2 (nw2 (up2 (nw2 (up2 (nw2 (up2 (nw2 (up2 (nw2 (up2 (nw2 (up2 (nw2 (up2 (nw2 (up2 (nw2 (up2 (nw2 (up2 (nw2 (up2 (nw2 (up2 (nw2 (up2 (nw2 (up2 (nw2 (up2 (nw2 (up2 (nw2 (up2 (nw2 (up2 (nw2 (up2 (nw2 (up2 (nw2 (up2 (nw2 (up2 (nw2 (up2 (nw2 (up2 (nw2 (up2 (nw2 (up2 (nw2 (up2 (nw2 (up2 (nw2 (up2 (nw2 (up2 (nw2 (up2 (nw2 (up2 (nw2 (up2 (nw2 (up2 (nw2 (up2 (nw2 (up2 (nw2 (up2 (nw2 (up2 (nw2 (up2 (nw2 (up2 (nw2 (up2 (nw2 (up2 (nw2 (up2 (nw2 (up2 (nw2 (up2 (nw2 (up2 (nw2 (up2 (nw2 (up2 (nw2 (up2 (nw2 (up2 (nw2 (up2 (nw2 (up2 (nw2 (up2 (nw2 (up2 (up2 (up2 (up2 (up2 (nw2 (up2 (nw2 (up2 (nw2 (up2 (nw2 (up2 (nw2 (up2 (nw2 (up2 (nw2 (up2 (nw2 (up2 (nw2 (up2 (nw2 (up2 (nw2 (up2 (nw2 (up2 (nw2 (up2 (nw2 (up2 (nw2 (up2 (nw2 (up2 (nw2 (up2 (nw2 (up2 (nw2 (up2 (nw2 (up2 (nw2 (up2 (nw2 (up2 (nw2 (up2 (nw2 (up2 (nw2 (up2 (nw2 (up2 (nw2 (up2 (nw2 (up2 (nw2 (up2 (nw2 (up2 (nw2 (up2 (nw2 (up2 (nw2 (up2 (nw2 (up2 (nw2 (up2 (nw2 (v) 281 (fun _ => 0)) 280 1 281) 282 (fun _ => 0)) 280 2 282) 283 (fun _ => 0)) 280 3 283) 284 (fun _ => 0)) 280 4 284) 285 (fun _ => 0)) 280 6 285) 286 (fun _ => 0)) 280 16 286) 287 (fun _ => 0)) 280 17 287) 288 (fun _ => 0)) 280 18 288) 289 (fun _ => 0)) 280 19 289) 290 (fun _ => 0)) 280 20 290) 291 (fun _ => 0)) 280 21 291) 292 (fun _ => 0)) 280 22 292) 293 (fun _ => 0)) 280 23 293) 294 (fun _ => 0)) 280 24 294) 295 (fun _ => 0)) 280 33 295) 296 (fun _ => 0)) 280 34 296) 297 (fun _ => 0)) 280 35 297) 298 (fun _ => 0)) 280 36 298) 299 (fun _ => 0)) 280 37 299) 300 (fun _ => 0)) 280 38 300) 301 (fun _ => 0)) 280 40 301) 302 (fun _ => 0)) 280 41 302) 303 (fun _ => 0)) 280 42 303) 304 (fun _ => 0)) 280 43 304) 305 (fun _ => 0)) 280 44 305) 306 (fun _ => 0)) 280 46 306) 307 (fun _ => 0)) 280 48 307) 308 (fun _ => 0)) 280 50 308) 309 (fun _ => 0)) 280 51 309) 310 (fun _ => 0)) 280 52 310) 311 (fun _ => 0)) 280 54 311) 312 (fun _ => 0)) 280 55 312) 313 (fun _ => 0)) 280 56 313) 314 (fun _ => 0)) 280 57 314) 315 (fun _ => 0)) 280 60 315) 316 (fun _ => 0)) 316 0 (-1)) 316 1 (-1)) 316 2 (-1)) 316 3 (-1)) 280 61 316) 317 (fun _ => 0)) 280 62 317) 318 (fun _ => 0)) 280 63 318) 319 (fun _ => 0)) 280 64 319) 320 (fun _ => 0)) 280 65 320) 321 (fun _ => 0)) 280 66 321) 322 (fun _ => 0)) 280 67 322) 323 (fun _ => 0)) 280 68 323) 324 (fun _ => 0)) 280 69 324) 325 (fun _ => 0)) 280 70 325) 326 (fun _ => 0)) 280 71 326) 327 (fun _ => 0)) 280 72 327) 328 (fun _ => 0)) 280 73 328) 329 (fun _ => 0)) 280 74 329) 330 (fun _ => 0)) 280 75 330) 331 (fun _ => 0)) 280 76 331) 332 (fun _ => 0)) 280 77 332) 333 (fun _ => 0)) 280 78 333) 334 (fun _ => 0)) 280 82 334) 335 (fun _ => 0)) 280 83 335) 336 (fun _ => 0)) 280 84 336) 337 (fun _ => 0)) 280 85 337) 338 (fun _ => 0)) 280 86 338) 339 (fun _ => 0)) 280 87 339) 340 (fun _ => 0)) 280 88 340) 341 (fun _ => 0)) 280 89 341) 342 (fun _ => 0)) 280 90 342) 343 (fun _ => 0)) 280 91 343) 344 (fun _ => 0)) 280 92 344) 345 (fun _ => 0)) 280 93 345) 346 (fun _ => 0)) 280 95 346) 347 (fun _ => 0)) 280 96 347) 348 (fun _ => 0)) 280 97 348) 349 (fun _ => 0)) 280 98 349) 350 (fun _ => 0)) 280 102 350) 351 (fun _ => 0)) 280 103 351) 352 (fun _ => 0)) 280 104 352) 353 (fun _ => 0)) 280 105 353) 354 (fun _ => 0)) 280 106 354) 355 (fun _ => 0)) 280 108 355) 356 (fun _ => 0)) 280 109 356) 357 (fun _ => 0)) 280 110 357) 358 (fun _ => 0)) 280 111 358) 359 (fun _ => 0)) 280 112 359) 360 (fun _ => 0)) 280 113 360) 361 (fun _ => 0)) 280 114 361) 362 (fun _ => 0)) 280 115 362) 363 (fun _ => 0)) 280 116 363) 364 (fun _ => 0)) 280 117 364) 365 (fun _ => 0)) 280 118 365) 366 (fun _ => 0)) 280 119 366) 367 (fun _ => 0)) 280 120 367) 368 (fun _ => 0)) 280 122 368) 369 (fun _ => 0)) 280 123 369) 370 (fun _ => 0)) 280 124 370) 371 (fun _ => 0)) 280 126 371) 372 (fun _ => 0)) 280 127 372) 373 (fun _ => 0)) 280 128 373) 374 (fun _ => 0)) 280 129 374) 375 (fun _ => 0)) 280 130 375) 376 (fun _ => 0)) 280 131 376) 377 (fun _ => 0)) 280 135 377) 378 (fun _ => 0)) 280 136 378) 379 (fun _ => 0)) 280 137 379) 380 (fun _ => 0)) 280 138 380) 381 (fun _ => 0)) 280 140 381) 382 (fun _ => 0)) 280 141 382) 383 (fun _ => 0)) 280 142 383) 384 (fun _ => 0)) 280 143 384) 385 (fun _ => 0)) 280 148 385) 386 (fun _ => 0)) 280 149 386) 387 (fun _ => 0)) 280 151 387) 388 (fun _ => 0)) 280 152 388) 389 (fun _ => 0)) 280 160 389) 390 (fun _ => 0)) 280 161 390) 391 (fun _ => 0)) 280 162 391) 392 (fun _ => 0)) 280 163 392) 393 (fun _ => 0)) 280 166 393) 394 (fun _ => 0)) 280 167 394) 395 (fun _ => 0)) 280 168 395) 396 (fun _ => 0)) 280 171 396) 397 (fun _ => 0)) 280 172 397) 398 (fun _ => 0)) 280 175 398
set_option maxRecDepth 100000 in
theorem ci_Mo_280 {l : Launch} {D : qD} {d rc rs : Nat} {v : Int → Int → Int} {Q : qQ} (h1 : 118 ≤ rc) (h2 : 322933 ≤ rs) (k : qR l D (d + 1, 118, 322933) m_Mo_init 1001 (fun r h' => Q r ((h'.1.1, rc - 118, rs - 322933), h'.2)) [some (.inr (.inr 280)), some (.inl 0)] [] ((399, 0, 0), mk_Mo_280 v)) : qM l D (d + 1, 118, 322933) m_Mo_init [.inr (.inr 280)] ((281, rc, rs), v) Q := sorry
end
section
/-! ===== both constructors: what holds at the start ===== -/
def iniA : Int → Int → Int := mk_DH_0 (nw2 (fun _ _ => 0) 0 (fun j => qdf (q_ft 0 j.toNat)))
def ini0 : Int → Int → Int := mk_Mo_280 (nw2 iniA 280 (fun j => qdf (q_ft 18 j.toNat)))
set_option maxRecDepth 100000 in
theorem ini_tw : TW ini0 := sorry
/-- what a place holds at the start -/
def INP (v : Int → Int → Int) (A : Int) : Prop := (v (3 + A) 1 = 0 ∧ v (3 + A) 2 = 0) ∧ (v (4 + A) 0 = 18 + A ∧ ∀ k : Int, k ≠ 0 → v (4 + A) k = -1) ∧ v (5 + A) 0 = 0 ∧ ((∀ k : Int, v (16 + A) k = 0) ∧ ∀ k : Int, v (17 + A) k = 0) ∧
  GA v (18 + A) ∧ (v (18 + A) 0 = 0 ∧ v (18 + A) 1 = 0 ∧ v (18 + A) 2 = 1) ∧ (v (18 + A + 10) 0 = -1 ∧ ∀ k : Int, k ≠ 0 → v (18 + A + 10) k = 0) ∧ v (18 + A + 11) 0 = 0
set_option maxRecDepth 100000 in
theorem inp_0 : INP ini0 0 := sorry
set_option maxRecDepth 100000 in
theorem inp_27 : INP ini0 27 := sorry
set_option maxRecDepth 100000 in
theorem inp_54 : INP ini0 54 := sorry
set_option maxRecDepth 100000 in
theorem inp_81 : INP ini0 81 := sorry
set_option maxRecDepth 100000 in
theorem ini_one : (ini0 0 1 = 0 ∧ ini0 0 5 = 0 ∧ ini0 0 6 = 0 ∧ ini0 0 8 = -1 ∧ ini0 0 12 = -1 ∧ ini0 0 28 = 0 ∧ ini0 0 32 = 0 ∧ ini0 0 33 = 0) ∧ (ini0 280 0 = 0 ∧ ini0 280 7 = 0 ∧ ini0 280 25 = 0 ∧ ini0 280 30 = 0 ∧ ini0 280 169 = 0 ∧ ini0 280 173 = 0 ∧ ini0 280 174 = 0) ∧ (ini0 145 2 = -1 ∧ ini0 145 3 = 0) ∧ (ini0 316 0 = -1 ∧ ini0 316 1 = -1 ∧ ini0 316 2 = -1 ∧ ini0 316 3 = -1) := sorry
set_option maxRecDepth 100000 in
theorem ini_zero : (∀ k : Int, ini0 124 k = 0) ∧ (∀ k : Int, ini0 283 k = 0) ∧ (∀ k : Int, ini0 284 k = 0) ∧ ∀ k : Int, ini0 328 k = 0 := sorry
end
section
/-! ===== the relation holds at the start ===== -/
set_option maxRecDepth 100000 in
theorem ini_hw : HW ini0 := sorry
theorem m_282 {a : Int} (h : a ∉ ([282, 347, 357, 358, 359] : List Int)) : a ∉ ([282] : List Int) ∧ a ∉ ([347, 357, 358, 359] : List Int) := sorry
set_option maxRecDepth 100000 in
theorem ini_mo {l : Launch} {D : qD} {d rc rs : Nat} {Q : qQ} (h1 : 118 ≤ rc) (h2 : 322933 ≤ rs)
    (k : ∀ v, FW [282, 347, 357, 358, 359] [] ini0 v → PRM v → (∀ gi : Int, 0 ≤ gi → gi < 4 → ∀ j : Int, 0 ≤ j → j < 539 → v 282 (539 * (31 * gi) + j) = R0 j) → Q none ((399, rc - 118, rs - 322933), v)) :
    qM l D (d + 3, 118, 322933) m_Mo_init [.inr (.inr 280)] ((281, rc, rs), nw2 iniA 280 (fun j => qdf (q_ft 18 j.toNat))) Q := sorry
/-- the cells that both constructors leave as they made them -/
def inzL : List Int := [282, 347, 357, 358, 359]
theorem INP.cg {v : Int → Int → Int} {A : Int} (h : INP ini0 A) (e : ∀ a : Int, a ∉ inzL → v a = ini0 a) (hA : 0 ≤ A ∧ A ≤ 81) : INP v A := sorry
theorem ini_plc {v : Int → Int → Int} {gi : Int} (hg : 0 ≤ gi ∧ gi < 4) (h : INP v (27 * gi)) (z3 : ∀ k : Int, v 283 k = 0) (z4 : ∀ k : Int, v 284 k = 0) (hr : ∀ j : Int, 0 ≤ j → j < 539 → v 282 (539 * (31 * gi) + j) = R0 j) : PLC 399 v gi := sorry
theorem ini_rel {v : Int → Int → Int} (kv : FW [282, 347, 357, 358, 359] [] ini0 v) (pv : PRM v) (hr : ∀ gi : Int, 0 ≤ gi → gi < 4 → ∀ j : Int, 0 ≤ j → j < 539 → v 282 (539 * (31 * gi) + j) = R0 j) : REL 399 v := sorry
/-- what the law wants of both constructors -/
theorem lini {l : Launch} {D : qD} : LINI REL l D := sorry
theorem REL.nc {nc : Int} {v : Int → Int → Int} (h : REL nc v) : 399 ≤ nc := sorry
theorem OP0.l {l : Launch} {D : qD} {dd : Nat} {mc mt : qm} {as : List qv} (h : OP0 l D dd mc mt as) : OPL REL l D dd 0 0 mc mt as := sorry
end
