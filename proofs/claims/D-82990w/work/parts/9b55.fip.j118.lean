section
/-! ===== boxes lie in their group's, plain ===== -/
theorem ROW_in {sz : Int → Int} {n : Int} {B : Int → Int → Int} (hz : ∀ k : Int, 0 ≤ k → k < n → 0 < sz k) : ∀ (N : Nat) (x y w h left fr : Int), ROW sz n B N x y w h left fr → 0 ≤ fr → fr ≤ n → left = su sz n - su sz fr → 0 ≤ w → 0 ≤ h → ∀ k : Int, fr ≤ k → k < n → (x ≤ B k 0 ∧ 0 ≤ B k 2 ∧ B k 0 + B k 2 ≤ x + w) ∧ (y ≤ B k 1 ∧ 0 ≤ B k 3 ∧ B k 1 + B k 3 ≤ y + h) := sorry
theorem inG_cg {A A' : Int → Int} (hA : ∀ k : Int, 0 < k → k < 8 → A k < k) (e : ∀ k : Int, 0 < k → k < 8 → A k = A' k) : ∀ (n : Nat) (k i : Int), k < 8 → inG A n k i = inG A' n k i := sorry
/-- k lies in g -/
def nst (ar : Int → Int) (k g : Int) : Prop := inG ar 8 k g = 1
theorem inG_up {A : Int → Int} (hA : ∀ k : Int, 0 < k → k < 8 → A k < k) : ∀ (n : Nat) (k i : Int), k < n → k < 8 → inG A n k i = inG A 8 k i := sorry
theorem nst_rf {ar : Int → Int} {g : Int} : nst ar g g := sorry
theorem nst_st {ar : Int → Int} (hA : ∀ k : Int, 0 < k → k < 8 → ar k < k) {k g : Int} (k0 : 0 < k) (k8 : k < 8) : nst ar k g ↔ k = g ∨ nst ar (ar k) g := sorry
theorem nst_le {ar : Int → Int} (hA : ∀ k : Int, 0 < k → k < 8 → ar k < k) {k g : Int} (k8 : k < 8) (h : nst ar k g) : g ≤ k := sorry
/-- what lies in g is g, or lies in one of its own -/
theorem nst_ch {ar : Int → Int} (hA : ∀ k : Int, 0 < k → k < 8 → ar k < k) {g : Int} (g0 : 0 ≤ g) : ∀ (N : Nat) (k : Int), k < N → k < 8 → nst ar k g → k = g ∨ ∃ c : Int, 0 < c ∧ c ≤ k ∧ ar c = g ∧ nst ar k c := sorry
theorem nst_two {ar : Int → Int} (hA : ∀ k : Int, 0 < k → k < 8 → ar k < k) {k c c' g : Int} (k8 : k < 8) (c0 : 0 < c) (c0' : 0 < c') (ec : ar c = g) (ec' : ar c' = g) (h : nst ar k c) (h' : nst ar k c') : c = c' := sorry
/-- the boxes of what is in g -/
def BOX (n : Nat) (G : Int) (ar gr sn : Int → Int) (v : Int → Int → Int) (g : Int) : Prop := ∃ (gi gs it sz : Int → Int) (B : Int → Int → Int) (N m : Nat), (m : Int) = cG n G ar gr sn g G + cN gr g n ∧ GTH n G ar gr sn g gi gs ∧ SRT gi gs m it sz ∧ ROW sz m B N (v 207 (4 * g)) (v 207 (4 * g + 1)) (v 207 (4 * g + 2)) (v 207 (4 * g + 3)) (su sz m) 0 ∧ ∀ q j : Int, 0 ≤ q → q < m → 0 ≤ j → j < 4 → v (itc (it q)) (4 * itn (it q) + j) = B q j
theorem GTH_r {n : Nat} {G g : Int} {ar gr sn gi gs : Int → Int} (hv : GRV n G ar gr sn) (h : GTH n G ar gr sn g gi gs) : (∀ u : Int, 0 ≤ u → u < cG n G ar gr sn g G + cN gr g n → (0 ≤ gi u ∧ gi u < 32) ∧ (0 < gs u ∧ gs u ≤ 2376)) ∧ (∀ a b : Int, 0 ≤ a → a < b → b < cG n G ar gr sn g G + cN gr g n → gi a ≠ gi b) := sorry
end
section
/-! ===== fill: the component's ===== -/
theorem nst_tr {ar : Int → Int} (hA : ∀ k : Int, 0 < k → k < 8 → ar k < k) {b c : Int} (h : nst ar b c) (b0 : 0 ≤ b) : ∀ (N : Nat) (a : Int), a < N → a < 8 → nst ar a b → nst ar a c := sorry
theorem gsm_iff {n : Nat} {G : Int} {ar gr sn : Int → Int} (hv : GRV n G ar gr sn) {k : Int} : gsm n ar gr sn k ≠ 0 ↔ ∃ i, blw n i ∧ nst ar (gr i) k := sorry
theorem SRT_1 {gi gs : Int → Int} : SRT gi gs 1 gi gs := sorry
def FIE (n : Nat) (G : Int) (ar gr sn : Int → Int) (g0 : Int) (v : Int → Int → Int) : Prop := HW v ∧ v 253 0 = g0 ∧ v 253 2 = 198 ∧ (isG g0 ∧ (g0 + 11 < 187 ∨ 399 ≤ g0)) ∧ GA v g0 ∧ v g0 0 = n ∧ v g0 2 = G ∧ (∀ i, blw n i → v (g0 + 4) i = sn i ∧ v (g0 + 5) i = gr i) ∧ v (g0 + 10) = ar
theorem FIE.fw {n : Nat} {G : Int} {ar gr sn : Int → Int} {g0 : Int} {v v' : Int → Int → Int} (h : FIE n G ar gr sn g0 v) (k : FW [206, 207, 259, 260] [] v v') : FIE n G ar gr sn g0 v' := sorry
theorem Gr_sum_c {l : Launch} {D : qD} {d n : Nat} {G : Int} {ar gr sn : Int → Int} {g0 k : Int} {h : qh} {Q : qQ} (hv : GRV n G ar gr sn) (he : FIE n G ar gr sn g0 h.2) (hq : Q (some (.inl (gsm n ar gr sn k))) h) : qM l D (d + 2, 0, 0) m_Gr_sum [.inr (.inr g0), .inl k] h Q := sorry
def VB (v : Int → Int → Int) (g : Int) : Prop := (0 ≤ v 207 (4 * g) ∧ 0 ≤ v 207 (4 * g + 2) ∧ v 207 (4 * g) + v 207 (4 * g + 2) ≤ 512) ∧ (0 ≤ v 207 (4 * g + 1) ∧ 0 ≤ v 207 (4 * g + 3) ∧ v 207 (4 * g + 1) + v 207 (4 * g + 3) ≤ 512)
def FIW (n : Nat) (G : Int) (ar gr sn : Int → Int) (g : Int) (v v' : Int → Int → Int) : Prop := FW [206, 207, 259, 260] [] v v' ∧ (∀ k j : Int, 0 ≤ k → k < 8 → 0 ≤ j → j < 4 → ¬ (nst ar k g ∧ k ≠ g ∧ k < G ∧ gsm n ar gr sn k ≠ 0) → v' 207 (4 * k + j) = v 207 (4 * k + j)) ∧ (∀ i j : Int, blw n i → 0 ≤ j → j < 4 → ¬ nst ar (gr i) g → v' 206 (4 * i + j) = v 206 (4 * i + j))
theorem FIW.tr {n : Nat} {G : Int} {ar gr sn : Int → Int} {g : Int} {v v' v'' : Int → Int → Int} (h : FIW n G ar gr sn g v v') (h' : FIW n G ar gr sn g v' v'') : FIW n G ar gr sn g v v'' := sorry
theorem FIW.k {n : Nat} {G : Int} {ar gr sn : Int → Int} {g k : Int} {v v' : Int → Int → Int} (hv : GRV n G ar gr sn) (g0 : 0 ≤ g) (k0 : 0 < k) (kG : k < G) (ek : ar k = g) (h : FIW n G ar gr sn k v v') : FIW n G ar gr sn g v v' := sorry
theorem BOX_fr {n : Nat} {G : Int} {ar gr sn : Int → Int} {x k : Int} {v v' : Int → Int → Int} (hv : GRV n G ar gr sn) (x0 : 0 ≤ x) (x8 : x < 8) (nx : ¬ nst ar x k) (h : FIW n G ar gr sn k v v') (b : BOX n G ar gr sn v x) : BOX n G ar gr sn v' x := sorry
def FILC (l : Launch) (D : qD) (n : Nat) (G : Int) (ar gr sn : Int → Int) (g0 : Int) (d N : Nat) : Prop := ∀ (g : Int) (h : qh) (Q : qQ), (0 ≤ g ∧ g < G) → 8 - g ≤ N → FIE n G ar gr sn g0 h.2 → VB h.2 g → (∀ v, FIW n G ar gr sn g h.2 v → (∀ k : Int, 0 ≤ k → k < G → nst ar k g → (gsm n ar gr sn k ≠ 0 ∨ k = g) → BOX n G ar gr sn v k) → Q none (h.1, v)) → qM l D (d + N + 5, 0, 0) m_Pn_fill [.inr (.inr 253), .inl g] h Q
set_option maxRecDepth 100000 in
theorem sp_Pn_fill {l : Launch} {D : qD} {d n : Nat} {G : Int} {ar gr sn : Int → Int} {g0 : Int} (hv : GRV n G ar gr sn) : ∀ N : Nat, FILC l D n G ar gr sn g0 d N := sorry
end
section
/-! ===== areas: the component's ===== -/
/-- all boxes -/
def ARE (n : Nat) (G : Int) (ar gr sn : Int → Int) (a : Int) (v : Int → Int → Int) : Prop := (v 207 0 = 0 ∧ v 207 1 = 0 ∧ v 207 2 = a ∧ v 207 3 = a) ∧ (∀ k : Int, 0 ≤ k → k < G → (gsm n ar gr sn k ≠ 0 ∨ k = 0) → BOX n G ar gr sn v k) ∧ ∀ k j : Int, 1 ≤ k → k < 8 → 0 ≤ j → j < 4 → ¬ (k < G ∧ gsm n ar gr sn k ≠ 0) → v 207 (4 * k + j) = 0
theorem nst_0 {ar : Int → Int} {G : Int} (hA : ∀ k : Int, 0 < k → k < 8 → ar k < k) (G8 : G ≤ 8) (hA0 : ∀ k : Int, 0 < k → k < G → 0 ≤ ar k) : ∀ (N : Nat) (k : Int), 0 ≤ k → k < N → k < G → nst ar k 0 := sorry
/-- a node's box is within -/
theorem BOX_in {n : Nat} {G : Int} {ar gr sn : Int → Int} {v : Int → Int → Int} {g : Int} (hv : GRV n G ar gr sn) (b : BOX n G ar gr sn v g) (vb : VB v g) : (∀ c : Int, chG n G ar gr sn g c → VB v c) ∧ ∀ i, blw n i → gr i = g → (0 ≤ v 206 (4 * i) ∧ 0 ≤ v 206 (4 * i + 2) ∧ v 206 (4 * i) + v 206 (4 * i + 2) ≤ 512) ∧ (0 ≤ v 206 (4 * i + 1) ∧ 0 ≤ v 206 (4 * i + 3) ∧ v 206 (4 * i + 1) + v 206 (4 * i + 3) ≤ 512) := sorry
/-- all of them are within -/
theorem ARE_in {n : Nat} {G : Int} {ar gr sn : Int → Int} {a : Int} {v : Int → Int → Int} (hv : GRV n G ar gr sn) (a0 : 0 ≤ a ∧ a ≤ 512) (h : ARE n G ar gr sn a v) : ∀ (N : Nat) (k : Int), 0 ≤ k → k < N → k < G → (gsm n ar gr sn k ≠ 0 ∨ k = 0) → VB v k := sorry
set_option maxRecDepth 100000 in
theorem sp_Pn_areas {l : Launch} {D : qD} {d n : Nat} {G : Int} {ar gr sn : Int → Int} {g0 a : Int} {h : qh} {Q : qQ} (hv : GRV n G ar gr sn) (he : FIE n G ar gr sn g0 h.2) (a0 : 8 ≤ a ∧ a ≤ 512)
    (hq : ∀ v, FW [199, 200, 206, 207, 259, 260] [] h.2 v → ARE n G ar gr sn a v → (∀ i, blw n i → v 199 i = v 206 (4 * i) + v 206 (4 * i + 2) / 2 ∧ v 200 i = v 206 (4 * i + 1) + v 206 (4 * i + 3) / 2) → Q none (h.1, v)) :
    qM l D (d + 14, 0, 0) m_Pn_areas [.inr (.inr 253), .inl a] h Q := sorry
end
section
/-! ===== the worst of a row: the twin's way ===== -/
theorem SRT_dec {gi gs : Int → Int} : ∀ {k : Nat} {it sz : Int → Int}, SRT gi gs k it sz → ∀ a b : Int, 0 ≤ a → a ≤ b → b < k → sz b ≤ sz a := sorry
theorem fr_lelt {p q r s t u : Int} (s0 : 0 < s) (q0 : 0 < q) (u0 : 0 < u) (h1 : p * s ≤ r * q) (h2 : r * u < t * s) : p * u < t * q := sorry
theorem fr_ltle {p q r s t u : Int} (s0 : 0 < s) (q0 : 0 < q) (u0 : 0 < u) (h1 : p * s < r * q) (h2 : r * u ≤ t * s) : p * u < t * q := sorry
/-- A / B is the greater of af / b and b / al -/
def MXR (af al b A B : Int) : Prop := (0 < A ∧ 0 < B) ∧ af * B ≤ A * b ∧ b * B ≤ A * al ∧ (A * b ≤ af * B ∨ A * al ≤ b * B)
theorem MXR_lt {af al b A B at' b' A' B' : Int} (f0 : 0 < af) (l0 : 0 < al) (b0 : 0 < b) (t0 : 0 < at') (b0' : 0 < b') (h : MXR af al b A B) (h' : MXR af at' b' A' B') : A * B' < A' * B ↔ (af * b' < af * b ∧ b * b' < af * al) ∨ (af * at' < b' * b ∧ b * at' < b' * al) := sorry
/-- the greatest of max (f j) b / min (f j) b so far -/
def WST (f : Int → Int) (b fr k A B : Int) : Prop := (k = fr ∧ A = 0 ∧ B = 1) ∨ (fr < k ∧ (∃ j : Int, fr ≤ j ∧ j < k ∧ A = max (f j) b ∧ B = min (f j) b) ∧ ∀ j : Int, fr ≤ j → j < k → max (f j) b * B ≤ A * min (f j) b)
theorem WST_s {f : Int → Int} {b fr k A B A' B' : Int} (k0 : fr ≤ k) (b0 : 0 < b) (hf : ∀ j : Int, fr ≤ j → j ≤ k → 0 < f j) (h : WST f b fr k A B) (h1 : A * min (f k) b < max (f k) b * B → A' = max (f k) b ∧ B' = min (f k) b) (h0 : ¬ A * min (f k) b < max (f k) b * B → A' = A ∧ B' = B) : WST f b fr (k + 1) A' B' := sorry
theorem WST_M {f : Int → Int} {b fr to A B : Int} (ft : fr < to) (b0 : 0 < b) (hf : ∀ j : Int, fr ≤ j → j < to → 0 < f j) (hd : ∀ i j : Int, fr ≤ i → i ≤ j → j < to → f j ≤ f i) (h : WST f b fr to A B) : MXR (f fr) (f (to - 1)) b A B := sorry
end
section
/-! ===== rows of boxes: the twin's ===== -/
def tw (it : Int) : Int := if it < 24 then it else it + 76
def itT (it : Int) : Int := if it < 24 then 326 else 327
def bsT (g it : Int) : Int := if it < 24 then 4 * (24 * g + it) else 4 * (8 * g + (it - 24))
theorem bsT_n {g a b : Int} (ha : 0 ≤ a ∧ a < 32) (hb : 0 ≤ b ∧ b < 32) (h : a ≠ b) : itT a ≠ itT b ∨ bsT g a + 4 ≤ bsT g b ∨ bsT g b + 4 ≤ bsT g a := sorry
def RTE (m : Int) (it sz : Int → Int) (v : Int → Int → Int) : Prop := TW v ∧ v 280 132 = m ∧ (∀ k : Int, 0 ≤ k → k < m → v 375 k = tw (it k) ∧ v 376 k = sz k)
theorem RTE.fw {m : Int} {it sz : Int → Int} {v v' : Int → Int → Int} (h : RTE m it sz v) (k : FW [326, 327] [(280, 133), (280, 134)] v v') : RTE m it sz v' := sorry
def RBT (g : Int) (it : Int → Int) (B : Int → Int → Int) (k : Int) (v v' : Int → Int → Int) : Prop := FW [326, 327] [(280, 133), (280, 134)] v v' ∧ (∀ q j : Int, 0 ≤ q → q < k → 0 ≤ j → j < 4 → v' (itT (it q)) (bsT g (it q) + j) = B q j) ∧ ∀ c i : Int, (c = 326 ∨ c = 327) → (∀ q : Int, 0 ≤ q → q < k → ¬ (c = itT (it q) ∧ bsT g (it q) ≤ i ∧ i < bsT g (it q) + 4)) → v' c i = v c i
theorem RBT_s {g n k : Int} {it : Int → Int} {B : Int → Int → Int} {v v' : Int → Int → Int} {a b c e : Int} (hi : ∀ k : Int, 0 ≤ k → k < n → 0 ≤ it k ∧ it k < 32) (hd : ∀ j k : Int, 0 ≤ j → j < k → k < n → it j ≠ it k) (k0 : 0 ≤ k) (k1 : k < n) (h : RBT g it B k v v') (e0 : B k 0 = a) (e1 : B k 1 = b) (e2 : B k 2 = c) (e3 : B k 3 = e) :
    RBT g it B (k + 1) v (up2 (up2 (up2 (up2 v' (itT (it k)) (bsT g (it k)) a) (itT (it k)) (bsT g (it k) + 1) b) (itT (it k)) (bsT g (it k) + 2) c) (itT (it k)) (bsT g (it k) + 3) e) := sorry
set_option maxRecDepth 100000 in
theorem Mo_sq_256 {l : Launch} {D : qD} {d : Nat} {g n y2 y3 y4 y5 x y w hh left fr L1 ac to sum th : Int} {it sz : Int → Int} {B : Int → Int → Int} {h : qh} {v0 : Int → Int → Int} {Q : qQ} (g0 : 0 ≤ g) (g1 : g < 4) (n32 : 0 ≤ n ∧ n ≤ 32) (hi : ∀ k : Int, 0 ≤ k → k < n → 0 ≤ it k ∧ it k < 32) (hd : ∀ j k : Int, 0 ≤ j → j < k → k < n → it j ≠ it k) (hz : ∀ k : Int, 0 ≤ k → k < n → 0 < sz k ∧ sz k ≤ 2376) (hs : su sz n ≤ 2376) (f0 : 0 ≤ fr) (ft : fr < to) (tn : to ≤ n) (es : sum = su sz to - su sz fr) (hw : 0 ≤ w ∧ w ≤ 512) (hh' : 0 ≤ hh ∧ hh ≤ 512) (hx : 0 ≤ x ∧ x ≤ 512) (hy : 0 ≤ y ∧ y ≤ 512) (hth : 0 ≤ th ∧ th ≤ 512) (hL : (w ≤ hh ∧ L1 = 1) ∨ (¬ w ≤ hh ∧ L1 = 0)) (he : RTE n it sz v0)
    (hB : ∀ k j : Int, fr ≤ k → k < to → 0 ≤ j → j < 4 → B k j = rwB sz fr to x y w hh th k j)
    (hq : ∀ v, RBT g it B to v0 v → ∀ (z18 z19 z21 z22 : Option qv), w_Mo_squares_388 l D (d + 3) (0, 0) (fun r h' => Q r ((h'.1.1, h.1.2.1, h.1.2.2), h'.2)) [some (.inr (.inr (280))), some (.inl (g)), some (.inl (y2)), some (.inl (y3)), some (.inl (y4)), some (.inl (y5)), some (.inl (x)), some (.inl (y)), some (.inl (w)), some (.inl (hh)), some (.inl (left)), some (.inl (fr)), some (.inl (L1)), some (.inl (if w ≤ hh then w else hh)), some (.inl (ac)), some (.inl (to)), some (.inl (sum)), some (.inl (th)), z18, z19, some (.inl (to)), z21, z22] [] ((h.1.1, 0, 0), v)) :
    ∀ k : Int, k ≤ to → ∀ (v : Int → Int → Int) (z21 z22 : Option qv), fr ≤ k → RBT g it B k v0 v → qR l D (d + 4, 0, 0) m_Mo_squares 256 (fun r h' => Q r ((h'.1.1, h.1.2.1, h.1.2.2), h'.2)) [some (.inr (.inr (280))), some (.inl (g)), some (.inl (y2)), some (.inl (y3)), some (.inl (y4)), some (.inl (y5)), some (.inl (x)), some (.inl (y)), some (.inl (w)), some (.inl (hh)), some (.inl (left)), some (.inl (fr)), some (.inl (L1)), some (.inl (if w ≤ hh then w else hh)), some (.inl (ac)), some (.inl (to)), some (.inl (sum)), some (.inl (th)), some (.inl ((if w ≤ hh then w else hh) * (su sz k - su sz fr) / sum)), some (.inl (su sz k - su sz fr)), some (.inl (k)), z21, z22] [] ((h.1.1, 0, 0), v) := sorry
end
section
/-! ===== a group's content: the twin's ===== -/
def TGG (v : Int → Int → Int) (r : Int) (n : Nat) (G : Int) (ar gr sn : Int → Int) : Prop := TW v ∧ v 280 5 = r ∧ (0 ≤ r ∧ r ≤ 66297) ∧ v 282 r = n ∧ v 282 (r + 2) = G ∧ (∀ i, blw n i → v 282 (r + 243 + i) = gr i ∧ v 282 (r + 219 + i) = sn i) ∧ ∀ k : Int, 0 ≤ k → k < 8 → v 282 (r + 531 + k) = ar k
theorem TGG.fw {C : List Int} {P : List (Int × Int)} {v v' : Int → Int → Int} {r : Int} {n : Nat} {G : Int} {ar gr sn : Int → Int} (h : TGG v r n G ar gr sn) (k : FW C P v v') (h0 : (280 : Int) ∉ C) (hk : twr.all (fun j => decide (((280 : Int), j) ∉ P)) = true) (h5 : ((280 : Int), (5 : Int)) ∉ P) (h2 : (282 : Int) ∉ C) (hp : P.all (fun p => decide (p.1 ≠ 282)) = true) : TGG v' r n G ar gr sn := sorry
set_option maxRecDepth 100000 in
theorem sp_Mo_isWithin {l : Launch} {D : qD} {d n : Nat} {r G i g : Int} {ar gr sn : Int → Int} {h : qh} {Q : qQ} (hA : ∀ k : Int, 0 < k → k < 8 → ar k < k) (he : TGG h.2 r n G ar gr sn) (i8 : i < 8) (hq : Q (some (.inl (inG ar 8 i g))) h) :
    qM l D (d + 1, 0, 0) m_Mo_isWithin [.inr (.inr 280), .inl i, .inl g] h Q := sorry
set_option maxRecDepth 100000 in
theorem sp_Mo_sizeOfGroup {l : Launch} {D : qD} {d n : Nat} {r G g : Int} {ar gr sn : Int → Int} {h : qh} {Q : qQ} (hv : GRV n G ar gr sn) (he : TGG h.2 r n G ar gr sn) (hq : Q (some (.inl (gsm n ar gr sn g))) h) :
    qM l D (d + 2, 0, 0) m_Mo_sizeOfGroup [.inr (.inr 280), .inl g] h Q := sorry
set_option maxRecDepth 100000 in
theorem sp_Mo_gatherOne {l : Launch} {D : qD} {d m : Nat} {it sz gi gs : Int → Int} {item size : Int} {h : qh} {Q : qQ} (hT : TW h.2) (m32 : m < 32) (em : h.2 280 132 = m) (hs : SRT gi gs m it sz) (hh : ∀ k : Int, 0 ≤ k → k < m → h.2 375 k = tw (it k) ∧ h.2 376 k = sz k) (e1 : tw (gi m) = item) (e2 : gs m = size)
    (hq : ∀ v it' sz', FW [375, 376] [(280, 132)] h.2 v → v 280 132 = (m : Int) + 1 → SRT gi gs (m + 1) it' sz' → (∀ k : Int, 0 ≤ k → k < (m : Int) + 1 → v 375 k = tw (it' k) ∧ v 376 k = sz' k) → Q none (h.1, v)) :
    qM l D (d + 1, 0, 0) m_Mo_gatherOne [.inr (.inr 280), .inl item, .inl size] h Q := sorry
end
section
/-! ===== gather: the twin's ===== -/
theorem cG_mono {n : Nat} {G g : Int} {ar gr sn : Int → Int} {a b : Int} (a0 : 0 ≤ a) (ab : a < b) (z : chG n G ar gr sn g a) : cG n G ar gr sn g a < cG n G ar gr sn g b := sorry
theorem cN_mono {gr : Int → Int} {g a b : Int} (a0 : 0 ≤ a) (ab : a < b) (z : gr a = g) : cN gr g a < cN gr g b := sorry
theorem GTH_ex {n : Nat} {G g : Int} {ar gr sn : Int → Int} : ∃ gi gs, GTH n G ar gr sn g gi gs := sorry
set_option maxRecDepth 100000 in
theorem sp_Mo_gather {l : Launch} {D : qD} {d n : Nat} {r G g : Int} {ar gr sn gi gs : Int → Int} {h : qh} {Q : qQ} (hv : GRV n G ar gr sn) (he : TGG h.2 r n G ar gr sn) (hg : GTH n G ar gr sn g gi gs)
    (hq : ∀ v it sz (m : Nat), FW [375, 376] [(280, 132)] h.2 v → (m : Int) = cG n G ar gr sn g G + cN gr g n → v 280 132 = m → SRT gi gs m it sz → (∀ k : Int, 0 ≤ k → k < m → v 375 k = tw (it k) ∧ v 376 k = sz k) → Q none (h.1, v)) :
    qM l D (d + 3, 0, 0) m_Mo_gather [.inr (.inr 280), .inl g] h Q := sorry
end
section
/-! ===== the worst of a row: the twin's walk ===== -/
theorem s_lmul_ap (K : qK) (ls : List (Option qv)) (x y : Int) (r : List qv) (h : qh) : s_lmul K ls (.inr (.inl y) :: .inr (.inl x) :: r) h = K ls (.inr (.inl (w64 (x * y))) :: r) h := sorry
set_option maxRecDepth 100000 in
theorem wo_96 {l : Launch} {D : qD} {d : Nat} {fr to sum total al ac L O k a b g s A B gB sA : Int} {y18 y19 : Option qv} {v : Int → Int → Int} {h : qh} {Q : qQ} (kr : 0 ≤ k ∧ k < 100) (u3 : w64 (g * B) = gB) (u4 : w64 (A * s) = sA) (xA : v 280 133 = A) (xB : v 280 134 = B)
    (s1 : sA < gB → ∀ y12 y13 y14 y15 y16 y17 y18 y19, qR l D (d + 2, 0, 0) m_Mo_worst 31 (fun r h' => Q r ((h'.1.1, h.1.2.1, h.1.2.2), h'.2)) [some (.inr (.inr (280))), some (.inl (fr)), some (.inl (to)), some (.inl (sum)), some (.inl (total)), some (.inl (al)), some (.inl (ac)), some (.inr (.inl (L))), none, some (.inr (.inl (O))), none, some (.inl (k + 1)), y12, y13, y14, y15, y16, y17, y18, y19] [] ((h.1.1, 0, 0), up2 (up2 v 280 133 g) 280 134 s))
    (s0 : ¬ sA < gB → ∀ y12 y13 y14 y15 y16 y17 y18 y19, qR l D (d + 2, 0, 0) m_Mo_worst 31 (fun r h' => Q r ((h'.1.1, h.1.2.1, h.1.2.2), h'.2)) [some (.inr (.inr (280))), some (.inl (fr)), some (.inl (to)), some (.inl (sum)), some (.inl (total)), some (.inl (al)), some (.inl (ac)), some (.inr (.inl (L))), none, some (.inr (.inl (O))), none, some (.inl (k + 1)), y12, y13, y14, y15, y16, y17, y18, y19] [] ((h.1.1, 0, 0), v)) :
    w_Mo_worst_96 l D (d + 1) (0, 0) (fun r h' => Q r ((h'.1.1, h.1.2.1, h.1.2.2), h'.2)) [some (.inr (.inr (280))), some (.inl (fr)), some (.inl (to)), some (.inl (sum)), some (.inl (total)), some (.inl (al)), some (.inl (ac)), some (.inr (.inl (L))), none, some (.inr (.inl (O))), none, some (.inl (k)), some (.inr (.inl (a))), none, some (.inr (.inl (b))), none, some (.inr (.inl (g))), none, y18, y19] [.inr (.inl (s))] ((h.1.1, 0, 0), v) := sorry
set_option maxRecDepth 100000 in
theorem wo_79 {l : Launch} {D : qD} {d : Nat} {fr to sum total al ac L O k a b g : Int} {y16 y17 y18 y19 : Option qv} {v : Int → Int → Int} {h : qh} {Q : qQ}
    (s1 : b < a → w_Mo_worst_96 l D (d + 1) (0, 0) (fun r h' => Q r ((h'.1.1, h.1.2.1, h.1.2.2), h'.2)) [some (.inr (.inr (280))), some (.inl (fr)), some (.inl (to)), some (.inl (sum)), some (.inl (total)), some (.inl (al)), some (.inl (ac)), some (.inr (.inl (L))), none, some (.inr (.inl (O))), none, some (.inl (k)), some (.inr (.inl (a))), none, some (.inr (.inl (b))), none, some (.inr (.inl (g))), none, y18, y19] [.inr (.inl (b))] ((h.1.1, 0, 0), v))
    (s0 : ¬ b < a → w_Mo_worst_96 l D (d + 1) (0, 0) (fun r h' => Q r ((h'.1.1, h.1.2.1, h.1.2.2), h'.2)) [some (.inr (.inr (280))), some (.inl (fr)), some (.inl (to)), some (.inl (sum)), some (.inl (total)), some (.inl (al)), some (.inl (ac)), some (.inr (.inl (L))), none, some (.inr (.inl (O))), none, some (.inl (k)), some (.inr (.inl (a))), none, some (.inr (.inl (b))), none, some (.inr (.inl (g))), none, y18, y19] [.inr (.inl (a))] ((h.1.1, 0, 0), v)) :
    w_Mo_worst_79 l D (d + 1) (0, 0) (fun r h' => Q r ((h'.1.1, h.1.2.1, h.1.2.2), h'.2)) [some (.inr (.inr (280))), some (.inl (fr)), some (.inl (to)), some (.inl (sum)), some (.inl (total)), some (.inl (al)), some (.inl (ac)), some (.inr (.inl (L))), none, some (.inr (.inl (O))), none, some (.inl (k)), some (.inr (.inl (a))), none, some (.inr (.inl (b))), none, y16, y17, y18, y19] [.inr (.inl (g))] ((h.1.1, 0, 0), v) := sorry
set_option maxRecDepth 100000 in
theorem wo_31 {l : Launch} {D : qD} {d : Nat} {fr to sum total al ac L O k a b Z Lz Os : Int} {y12 y13 y14 y15 y16 y17 y18 y19 : Option qv} {v : Int → Int → Int} {h : qh} {Q : qQ} (kr : 0 ≤ k ∧ k < to) (t40 : to ≤ 32) (x1 : v 280 131 = 376) (x2 : v 376 k = Z) (u1 : w64 (L * Z) = Lz) (u2 : w64 (Lz * total) = a) (w1 : w64 (O * sum) = Os) (w2 : w64 (Os * sum) = b)
    (s1 : b < a → w_Mo_worst_96 l D (d + 1) (0, 0) (fun r h' => Q r ((h'.1.1, h.1.2.1, h.1.2.2), h'.2)) [some (.inr (.inr (280))), some (.inl (fr)), some (.inl (to)), some (.inl (sum)), some (.inl (total)), some (.inl (al)), some (.inl (ac)), some (.inr (.inl (L))), none, some (.inr (.inl (O))), none, some (.inl (k)), some (.inr (.inl (a))), none, some (.inr (.inl (b))), none, some (.inr (.inl (a))), none, y18, y19] [.inr (.inl (b))] ((h.1.1, 0, 0), v))
    (s0 : ¬ b < a → w_Mo_worst_96 l D (d + 1) (0, 0) (fun r h' => Q r ((h'.1.1, h.1.2.1, h.1.2.2), h'.2)) [some (.inr (.inr (280))), some (.inl (fr)), some (.inl (to)), some (.inl (sum)), some (.inl (total)), some (.inl (al)), some (.inl (ac)), some (.inr (.inl (L))), none, some (.inr (.inl (O))), none, some (.inl (k)), some (.inr (.inl (a))), none, some (.inr (.inl (b))), none, some (.inr (.inl (b))), none, y18, y19] [.inr (.inl (a))] ((h.1.1, 0, 0), v)) :
    qR l D (d + 2, 0, 0) m_Mo_worst 31 (fun r h' => Q r ((h'.1.1, h.1.2.1, h.1.2.2), h'.2)) [some (.inr (.inr (280))), some (.inl (fr)), some (.inl (to)), some (.inl (sum)), some (.inl (total)), some (.inl (al)), some (.inl (ac)), some (.inr (.inl (L))), none, some (.inr (.inl (O))), none, some (.inl (k)), y12, y13, y14, y15, y16, y17, y18, y19] [] ((h.1.1, 0, 0), v) := sorry
set_option maxRecDepth 100000 in
theorem sp_Mo_worst {l : Launch} {D : qD} {d : Nat} {fr to sum total al ac : Int} {sz : Int → Int} {h : qh} {Q : qQ} (e131 : h.2 280 131 = 376) (f0 : 0 ≤ fr) (ft : fr < to) (t40 : to ≤ 32) (hz : ∀ k : Int, fr ≤ k → k < to → h.2 376 k = sz k ∧ (0 < sz k ∧ sz k ≤ 2376)) (hsum : 0 < sum ∧ sum ≤ 2376) (htot : 0 < total ∧ total ≤ 2376) (hal : 0 ≤ al ∧ al ≤ 512) (hac : 0 ≤ ac ∧ ac ≤ 512)
    (hq : ∀ A B, WST (fun k => sz k * (max 1 al * total)) (sum * sum * max 1 ac) fr to A B → Q none (h.1, up2 (up2 h.2 280 133 A) 280 134 B)) :
    qM l D (d + 2, 0, 0) m_Mo_worst [.inr (.inr 280), .inl fr, .inl to, .inl sum, .inl total, .inl al, .inl ac] h Q := sorry
end
section
set_option maxRecDepth 100000 in
theorem sp_Mo_squares {l : Launch} {D : qD} {d : Nat} {g n x0 y0 w0 h0 : Int} {it sz : Int → Int} {h : qh} {Q : qQ} (g0 : 0 ≤ g) (g1 : g < 4) (n32 : 0 ≤ n ∧ n ≤ 32) (hi : ∀ k : Int, 0 ≤ k → k < n → 0 ≤ it k ∧ it k < 32) (hd : ∀ j k : Int, 0 ≤ j → j < k → k < n → it j ≠ it k) (hz : ∀ k : Int, 0 ≤ k → k < n → 0 < sz k ∧ sz k ≤ 2376) (hdec : ∀ i j : Int, 0 ≤ i → i ≤ j → j < n → sz j ≤ sz i) (hs : su sz n ≤ 2376) (hw : 0 ≤ w0 ∧ x0 + w0 ≤ 512) (hh : 0 ≤ h0 ∧ y0 + h0 ≤ 512) (hx : 0 ≤ x0) (hy : 0 ≤ y0) (he : RTE n it sz h.2)
    (hq : ∀ v B N, RBT g it B n h.2 v → ROW sz n B N x0 y0 w0 h0 (su sz n) 0 → Q none (h.1, v)) :
    qM l D (d + 4, 0, 0) m_Mo_squares [.inr (.inr 280), .inl g, .inl x0, .inl y0, .inl w0, .inl h0] h Q := sorry
end
section
/-! ===== areas: the twin's ===== -/
/-- the twin's boxes as the component holds them -/
def vw (v : Int → Int → Int) (g : Int) (c i : Int) : Int := if c = 207 then v 327 (32 * g + i) else if c = 206 then v 326 (96 * g + i) else 0
theorem vw_7 {v : Int → Int → Int} {g i : Int} : vw v g 207 i = v 327 (32 * g + i) := sorry
theorem vw_6 {v : Int → Int → Int} {g i : Int} : vw v g 206 i = v 326 (96 * g + i) := sorry
theorem vw_it {v : Int → Int → Int} {g it j : Int} (hi : 0 ≤ it ∧ it < 32) : vw v g (itc it) (4 * itn it + j) = v (itT it) (bsT g it + j) := sorry
theorem BOX_cg {n : Nat} {G : Int} {ar gr sn : Int → Int} {x : Int} {v v' : Int → Int → Int} (hv : GRV n G ar gr sn) (h1 : ∀ j : Int, 0 ≤ j → j < 4 → v' 207 (4 * x + j) = v 207 (4 * x + j)) (h2 : ∀ c j : Int, chG n G ar gr sn x c → 0 ≤ j → j < 4 → v' 207 (4 * c + j) = v 207 (4 * c + j)) (h3 : ∀ i j : Int, blw n i → gr i = x → 0 ≤ j → j < 4 → v' 206 (4 * i + j) = v 206 (4 * i + j)) (b : BOX n G ar gr sn v x) : BOX n G ar gr sn v' x := sorry
/-- both sides' boxes are the same -/
theorem BOX_un {n : Nat} {G : Int} {ar gr sn : Int → Int} {x : Int} {v v' : Int → Int → Int} (hv : GRV n G ar gr sn) (h1 : ∀ j : Int, 0 ≤ j → j < 4 → v 207 (4 * x + j) = v' 207 (4 * x + j)) (b : BOX n G ar gr sn v x) (b' : BOX n G ar gr sn v' x) : (∀ c j : Int, chG n G ar gr sn x c → 0 ≤ j → j < 4 → v 207 (4 * c + j) = v' 207 (4 * c + j)) ∧ ∀ i j : Int, blw n i → gr i = x → 0 ≤ j → j < 4 → v 206 (4 * i + j) = v' 206 (4 * i + j) := sorry
theorem ARE_un {n : Nat} {G : Int} {ar gr sn : Int → Int} {a : Int} {v v' : Int → Int → Int} (hv : GRV n G ar gr sn) (h : ARE n G ar gr sn a v) (h' : ARE n G ar gr sn a v') : (∀ k j : Int, 0 ≤ k → k < 8 → 0 ≤ j → j < 4 → v 207 (4 * k + j) = v' 207 (4 * k + j)) ∧ ∀ i j : Int, blw n i → 0 ≤ j → j < 4 → v 206 (4 * i + j) = v' 206 (4 * i + j) := sorry
/-- what a place's areas may change -/
def TAW (g : Int) (v v' : Int → Int → Int) : Prop := FW [326, 327, 375, 376] [(280, 132), (280, 133), (280, 134)] v v' ∧ (∀ i : Int, ¬ (32 * g ≤ i ∧ i < 32 * g + 32) → v' 327 i = v 327 i) ∧ ∀ i : Int, ¬ (96 * g ≤ i ∧ i < 96 * g + 96) → v' 326 i = v 326 i
set_option maxRecDepth 100000 in
theorem sp_Mo_areas {l : Launch} {D : qD} {d n : Nat} {r G g a : Int} {ar gr sn : Int → Int} {h : qh} {Q : qQ} (hv : GRV n G ar gr sn) (he : TGG h.2 r n G ar gr sn) (g0 : 0 ≤ g) (g1 : g < 4)
    (hno : ¬ (8 ≤ a ∧ a ≤ 512) → Q (some (.inl (-2))) h)
    (hq : (8 ≤ a ∧ a ≤ 512) → ∀ v v1, TAW g h.2 v1 → FW [329, 330] [] v1 v → ARE n G ar gr sn a (vw v1 g) → (∀ i, blw n i → v 329 i = vw v1 g 206 (4 * i) + vw v1 g 206 (4 * i + 2) / 2 ∧ v 330 i = vw v1 g 206 (4 * i + 1) + vw v1 g 206 (4 * i + 3) / 2) → Q (some (.inl 0)) (h.1, v)) :
    qM l D (d + 5, 0, 0) m_Mo_areas [.inr (.inr 280), .inl g, .inl a] h Q := sorry
end
section
/-! ===== the tree: the component refuses ===== -/
set_option maxRecDepth 100000 in
theorem sp_Pn_tree0 {l : Launch} {D : qD} {d n m q : Nat} {par : Int → Int} {g sc a : Int} {h : qh} {Q : qQ} (n24 : n ≤ 24) (m48 : m ≤ 48) (qn : q ≤ n) (he : LYE n par g sc h.2) (em : h.2 g 1 = m) (eq6 : h.2 sc 6 = q) (no : ¬ ((a = -1 ∨ blw n a) ∧ (m : Int) = n - q)) (hq : Q (some (.inl 0)) h) :
    qM l D (d + 27, 0, 0) m_Pn_tree [.inr (.inr 253), .inl a] h Q := sorry
/-! ===== the bit count of a node's row = its edges ===== -/
theorem cntz {P : Int → Prop} : ∀ {n : Nat}, (∀ x : Int, 0 ≤ x → x < n → ¬ P x) → cnt P n = 0 := sorry
theorem cnto {P : Int → Prop} {a : Int} : ∀ {n : Nat}, 0 ≤ a → a < n → (∀ x : Int, 0 ≤ x → x < n → (P x ↔ x = a)) → cnt P n = 1 := sorry
/-- the neighbours of i by its first k edges -/
theorem near_cnt {n : Nat} {t hd : Int → Int} {i : Int} : ∀ {m : Nat}, (∀ e, blw m e → blw n (t e) ∧ blw n (hd e)) → nlp t hd (blw m) → smp t hd (blw m) → ((cnt (fun x => aj t hd (blw m) i x) n : Nat) : Int) = smz (fun e => if t e = i ∨ hd e = i then 1 else 0) m := sorry
end
section
/-! ===== bars: new nodes come into the row, the component's ===== -/
def soA (ia ib : Int) : Int := if ia < ib then ia + 1 else ia
def soI (r wy : Int → Int) (ia ib n k : Int) : Int := if k < soA ia ib then r k else if k < soA ia ib + n then (if ia < ib then wy (k - soA ia ib) else wy (n - 1 - (k - soA ia ib))) else r (k - n)
set_option maxRecDepth 100000 in
theorem sp_Ba_add {l : Launch} {D : qD} {d : Nat} {fr to n s ia ib : Int} {r wy : Int → Int} {h : qh} {Q : qQ} (hw : HW h.2) (es : h.2 246 6 = s) (n1 : 1 ≤ n) (sn : s + n ≤ 24) (hr : ∀ k : Int, 0 ≤ k → k < s → h.2 247 k = r k) (hy : ∀ k : Int, 0 ≤ k → k < n → h.2 252 k = wy k) (a0 : 0 ≤ ia) (a1 : ia < s) (ea : r ia = fr) (na : ∀ k : Int, 0 ≤ k → k < ia → r k ≠ fr) (b0 : 0 ≤ ib) (b1 : ib < s) (eb : r ib = to) (nb : ∀ k : Int, 0 ≤ k → k < ib → r k ≠ to)
    (hq : ∀ v, FW [247] [(246, 6)] h.2 v → v 246 6 = s + n → (∀ k : Int, 0 ≤ k → k < s + n → v 247 k = soI r wy ia ib n k) → Q none (h.1, v)) :
    qM l D (d + 1, 0, 0) m_Ba_add [.inr (.inr 246), .inl fr, .inl to, .inl n] h Q := sorry
end
section
/-! ===== bars: new nodes come into the row, the twin's ===== -/
set_option maxRecDepth 100000 in
theorem sp_Mo_rowPlace {l : Launch} {D : qD} {d : Nat} {x s i : Int} {r : Int → Int} {h : qh} {Q : qQ} (hT : TW h.2) (s24 : s ≤ 24) (hr : ∀ k : Int, 0 ≤ k → k < s → h.2 364 k = r k) (a0 : 0 ≤ i) (a1 : i < s) (ea : r i = x) (na : ∀ k : Int, 0 ≤ k → k < i → r k ≠ x) (hq : Q (some (.inl i)) h) :
    qM l D (d + 1, 0, 0) m_Mo_rowPlace [.inr (.inr 280), .inl x] h Q := sorry
set_option maxRecDepth 100000 in
theorem sp_Mo_insert {l : Launch} {D : qD} {d : Nat} {fr to n s ia ib : Int} {r wy : Int → Int} {h : qh} {Q : qQ} (hT : TW h.2) (es : h.2 280 125 = s) (n1 : 1 ≤ n) (sn : s + n ≤ 24) (hr : ∀ k : Int, 0 ≤ k → k < s → h.2 364 k = r k) (w0 : h.2 310 0 = fr) (wn : h.2 310 (n + 1) = to) (hy : ∀ k : Int, 0 ≤ k → k < n → h.2 310 (1 + k) = wy k) (a0 : 0 ≤ ia) (a1 : ia < s) (ea : r ia = fr) (na : ∀ k : Int, 0 ≤ k → k < ia → r k ≠ fr) (b0 : 0 ≤ ib) (b1 : ib < s) (eb : r ib = to) (nb : ∀ k : Int, 0 ≤ k → k < ib → r k ≠ to)
    (hq : ∀ v, FW [364] [(280, 125)] h.2 v → v 280 125 = s + n → (∀ k : Int, 0 ≤ k → k < s + n → v 364 k = soI r wy ia ib n k) → Q none (h.1, v)) :
    qM l D (d + 2, 0, 0) m_Mo_insert [.inr (.inr 280), .inl (n + 2)] h Q := sorry
end
section
/-! ===== bars: the row, way by way (plain) ===== -/
/-- a step of a way over new nodes -/
def bwE (T H : Int → Int) (M : Nat) (In : Int → Prop) (a i j : Int) : Prop := jq T H (blw M) i j ∧ ¬ (In i ∧ In j) ∧ j ≠ a
def bwG (In : Int → Prop) (a j : Int) : Prop := In j ∧ j ≠ a
/-- one way comes into the row -/
def SOs (T H : Int → Int) (M : Nat) (R R' : List Int) : Prop := ∃ (a : Int) (W : List Int) (y : Int), a ∈ R ∧ (∀ a' : Int, a' ∈ R → a' < a → ∀ W', ¬ pw (bwE T H M (· ∈ R) a') (bwG (· ∈ R) a') a' W') ∧ LSw (bwE T H M (· ∈ R) a) (bwG (· ∈ R) a) a (W ++ [y]) ∧ ∃ P S, R = P ++ a :: S ∧ ((y ∈ S ∧ R' = P ++ a :: (W ++ S)) ∨ (y ∈ P ∧ R' = P ++ (W.reverse ++ a :: S)))
def SOn (T H : Int → Int) (M : Nat) : Nat → List Int → Prop
  | 0, R => R = [T 0, H 0]
  | k + 1, R => ∃ R0, SOn T H M k R0 ∧ SOs T H M R0 R
theorem li_snoc : ∀ l : List Int, l = [] ∨ ∃ L b, l = L ++ [b] := sorry
theorem nd_spl {a : Int} : ∀ {P P' S S' : List Int}, (P ++ a :: S).Nodup → P ++ a :: S = P' ++ a :: S' → P = P' ∧ S = S' := sorry
theorem SOs_un {T H : Int → Int} {M : Nat} {R R1 R2 : List Int} (hn : R.Nodup) (q1 : SOs T H M R R1) (q2 : SOs T H M R R2) : R1 = R2 := sorry
theorem chn_pred {E : Int → Int → Prop} {w : Int} : ∀ {A : List Int} {a : Int}, chn E (a :: A ++ [w]) → ∃ u, u ∈ a :: A ∧ E u w := sorry
theorem chn_succ {E : Int → Int → Prop} {w y : Int} {B : List Int} (q : chn E (w :: B ++ [y])) : ∃ u, u ∈ B ++ [y] ∧ E w u := sorry
theorem sub2 {A B : List Int} {u w : Int} (hu : u ∈ A) : [u, w].Sublist (A ++ w :: B) := sorry
theorem sub2r {A B : List Int} {u w : Int} (hu : u ∈ B) : [w, u].Sublist (A ++ w :: B) := sorry
/-- what the row is -/
abbrev SOI (T H : Int → Int) (M N : Nat) (R : List Int) : Prop := R.Nodup ∧ (∀ v, v ∈ R → blw N v) ∧ (∃ R0, R = T 0 :: R0 ++ [H 0]) ∧ ∀ v, v ∈ R → (v ≠ T 0 → ∃ u, [u, v].Sublist R ∧ jq T H (blw M) u v) ∧ (v ≠ H 0 → ∃ u, [v, u].Sublist R ∧ jq T H (blw M) v u)
/-- what a way is: new nodes, at least one, then another one of the row -/
theorem LSw_row {T H : Int → Int} {M : Nat} {R W : List Int} {a y : Int} (ha : a ∈ R) (q : LSw (bwE T H M (· ∈ R) a) (bwG (· ∈ R) a) a (W ++ [y])) : W ≠ [] ∧ W.Nodup ∧ (∀ v, v ∈ W → v ∉ R) ∧ y ∈ R ∧ y ≠ a ∧ chn (jq T H (blw M)) (a :: W ++ [y]) := sorry
theorem SOI_st {T H : Int → Int} {M N : Nat} {R R' : List Int} (hr : ∀ e, blw M e → blw N (T e) ∧ blw N (H e)) (I : SOI T H M N R) (q : SOs T H M R R') : SOI T H M N R' ∧ R.length < R'.length := sorry
theorem SOI_0 {T H : Int → Int} {M N : Nat} (hr : ∀ e, blw M e → blw N (T e) ∧ blw N (H e)) (hl : nlp T H (blw M)) (m0 : 0 < M) : SOI T H M N [T 0, H 0] := sorry
theorem SOn_I {T H : Int → Int} {M N : Nat} (hr : ∀ e, blw M e → blw N (T e) ∧ blw N (H e)) (hl : nlp T H (blw M)) (m0 : 0 < M) : ∀ {k : Nat} {R : List Int}, SOn T H M k R → SOI T H M N R := sorry
theorem SOI_len {T H : Int → Int} {M N : Nat} {R : List Int} (I : SOI T H M N R) : R.length ≤ N := sorry
theorem SOn_un {T H : Int → Int} {M N : Nat} (hr : ∀ e, blw M e → blw N (T e) ∧ blw N (H e)) (hl : nlp T H (blw M)) (m0 : 0 < M) {k k' : Nat} {R R' : List Int} (q : SOn T H M k R) (q' : SOn T H M k' R') (e : R.length = N) (e' : R'.length = N) : R = R' := sorry
theorem fst_of {P : Int → Prop} : ∀ {l : List Int}, (∃ v, v ∈ l ∧ P v) → ∃ l1 y l2, l = l1 ++ y :: l2 ∧ P y ∧ ∀ v, v ∈ l1 → ¬ P v := sorry
theorem lst_of {P : Int → Prop} {l : List Int} (h : ∃ v, v ∈ l ∧ P v) : ∃ l1 y l2, l = l1 ++ y :: l2 ∧ P y ∧ ∀ v, v ∈ l2 → ¬ P v := sorry
theorem pw_new {T H : Int → Int} {M : Nat} {R : List Int} {a y : Int} (ha : a ∈ R) (hy : y ∈ R) (ya : y ≠ a) : ∀ {W : List Int} {i : Int}, chn (jq T H (blw M)) (i :: W ++ [y]) → (i ∉ R ∨ W ≠ []) → (∀ v, v ∈ W → v ∉ R) → pw (bwE T H M (· ∈ R) a) (bwG (· ∈ R) a) i (W ++ [y]) := sorry
/-- in one block there is a way from some node of the row -/
theorem SO_ex {T H : Int → Int} {M N : Nat} (hs : smp T H (blw M)) (hl : nlp T H (blw M)) (m0 : 0 < M) (hbk : ∀ e, blw M e → bk T H (blw M) 0 e) (ht : ∀ v, blw N v → tch T H (blw M) v) {R : List Int} (I : SOI T H M N R) (lt : R.length < N) : ∃ (a : Int) (W : List Int), a ∈ R ∧ pw (bwE T H M (· ∈ R) a) (bwG (· ∈ R) a) a W := sorry
/-- the row with the way in it, by places -/
theorem SO_ins {T H : Int → Int} {M : Nat} {R W : List Int} {a y : Int} (hn : R.Nodup) (ha : a ∈ R) (least : ∀ a' : Int, a' ∈ R → a' < a → ∀ W', ¬ pw (bwE T H M (· ∈ R) a') (bwG (· ∈ R) a') a' W') (q : LSw (bwE T H M (· ∈ R) a) (bwG (· ∈ R) a) a (W ++ [y])) :
    ∃ (ia ib : Int) (R' : List Int), (0 ≤ ia ∧ ia < R.length) ∧ li R ia = a ∧ (∀ k : Int, 0 ≤ k → k < ia → li R k ≠ a) ∧ (0 ≤ ib ∧ ib < R.length) ∧ li R ib = y ∧ (∀ k : Int, 0 ≤ k → k < ib → li R k ≠ y) ∧ SOs T H M R R' ∧ R'.length = R.length + W.length ∧ ∀ k : Int, 0 ≤ k → k < R'.length → li R' k = soI (li R) (li W) ia ib W.length k := sorry
end
section
/-! ===== bars: the component's way ===== -/
/-- the best one so far -/
def bst (Ok : Int → Prop) (lt : Int → Int → Prop) (o : Int → Int) (k nx : Int) : Prop := (nx = -1 ∧ ∀ q : Int, 0 ≤ q → q < k → ¬ Ok (o q)) ∨ (0 ≤ nx ∧ (∃ q : Int, (0 ≤ q ∧ q < k) ∧ o q = nx) ∧ Ok nx ∧ ∀ q : Int, 0 ≤ q → q < k → Ok (o q) → ¬ lt (o q) nx)
theorem bst_0 {Ok : Int → Prop} {lt : Int → Int → Prop} {o : Int → Int} : bst Ok lt o 0 (-1) := sorry
theorem bst_no {Ok : Int → Prop} {lt : Int → Int → Prop} {o : Int → Int} {k nx : Int} (b : bst Ok lt o k nx) (z : ¬ Ok (o k)) : bst Ok lt o (k + 1) nx := sorry
theorem bst_up {Ok : Int → Prop} {lt : Int → Int → Prop} {o : Int → Int} {k nx : Int} (tr : ∀ a b c : Int, lt a b → lt b c → lt a c) (ir : ∀ a : Int, ¬ lt a a) (k0 : 0 ≤ k) (b : bst Ok lt o k nx) (z : Ok (o k)) (o0 : 0 ≤ o k) (w : nx = -1 ∨ lt (o k) nx) : bst Ok lt o (k + 1) (o k) := sorry
theorem bst_kp {Ok : Int → Prop} {lt : Int → Int → Prop} {o : Int → Int} {k nx : Int} (b : bst Ok lt o k nx) (n : nx ≠ -1) (w : ¬ lt (o k) nx) : bst Ok lt o (k + 1) nx := sorry
theorem nr_Ba {a b c : Int} (v : Int → Int → Int) (a0 : 0 ≤ a ∧ a < 24) :
    (f_Ba_nearer a b c v = 1 ∧ g_Ba_nearer a b c v = up2 v 251 a (v 251 b + 1) ∧ ¬ bt c a ∧ v 251 b + 1 < v 251 a) ∨
    (f_Ba_nearer a b c v = 0 ∧ g_Ba_nearer a b c v = v ∧ ¬ (¬ bt c a ∧ v 251 b + 1 < v 251 a)) := sorry
set_option maxRecDepth 100000 in
theorem sp_Ba_way {l : Launch} {D : qD} {d N M : Nat} {fr ib : Int} {T H : Int → Int} {rot : Int → List Int} {In : Int → Prop} {h : qh} {Q : qQ} (hw : HW h.2) (n0 : N ≤ 24) (m0 : M ≤ 80) (en : h.2 166 0 = N) (em : h.2 166 1 = M) (eT : ∀ e, blw M e → h.2 167 e = T e ∧ h.2 168 e = H e) (wb : WB T H M N rot) (rc : rowC h.2 N rot) (f0 : 0 ≤ fr ∧ fr < N) (hin : ∀ j, blw N j → (bt ib j ↔ In j)) (hfr : In fr)
    (hq1 : ∀ v W y, FW [251, 252] [] h.2 v → LSw (bwE T H M In fr) (bwG In fr) fr (W ++ [y]) → (∀ k : Int, 0 ≤ k → k < W.length → v 252 k = li W k) → v 252 W.length = y → Q (some (.inl (W.length : Int))) (h.1, v)) (hq0 : ∀ v, FW [251, 252] [] h.2 v → (∀ W, ¬ pw (bwE T H M In fr) (bwG In fr) fr W) → Q (some (.inl (-1))) (h.1, v)) :
    qM l D (d + 2, 0, 0) m_Ba_way [.inr (.inr 246), .inr (.inr 166), .inl fr, .inl ib] h Q := sorry
end
section
/-! ===== bars: the component's row ===== -/
def WEr (v : Int → Int → Int) (T H : Int → Int) (N M : Nat) (rot : Int → List Int) : Prop := v 166 0 = N ∧ v 166 1 = M ∧ (∀ e, blw M e → v 167 e = T e ∧ v 168 e = H e) ∧ rowC v N rot
theorem WEr.fw {C : List Int} {P : List (Int × Int)} {v v' : Int → Int → Int} {T H : Int → Int} {N M : Nat} {rot : Int → List Int} (w : WEr v T H N M rot) (k : FW C P v v') (h1 : [166, 167, 168, 169, 170].all (fun c : Int => decide (c ∉ C)) = true) (h2 : P.all (fun p => decide (p.1 < 166 ∨ 170 < p.1)) = true) : WEr v' T H N M rot := sorry
theorem u247_246 {v : Int → Int → Int} {k z : Int} : up2 v 247 k z 246 = v 246 := sorry
theorem u247_166 {v : Int → Int → Int} {k z : Int} : up2 v 247 k z 166 = v 166 := sorry
theorem u247_168 {v : Int → Int → Int} {k z : Int} : up2 v 247 k z 168 = v 168 := sorry
set_option maxRecDepth 100000 in
theorem sp_Ba_order {l : Launch} {D : qD} {d N M : Nat} {T H : Int → Int} {rot : Int → List Int} {h : qh} {Q : qQ} (hw : HW h.2) (n2 : 2 ≤ N) (n0 : N ≤ 24) (m1 : 0 < M) (m0 : M ≤ 80) (we : WEr h.2 T H N M rot) (wb : WB T H M N rot) (hbk : ∀ e, blw M e → bk T H (blw M) 0 e) (ht : ∀ v, blw N v → tch T H (blw M) v)
    (hq : ∀ v R j, FW [247, 248, 251, 252] [(246, 6)] h.2 v → SOn T H M j R → R.length = N → v 246 6 = N → (∀ k : Int, 0 ≤ k → k < N → v 247 k = li R k ∧ v 248 (li R k) = k) → Q none (h.1, v)) :
    qM l D (d + 3, 0, 0) m_Ba_order [.inr (.inr 246), .inr (.inr 166)] h Q := sorry
end
section
/-! ===== bars: the best of the ways to all goals (plain) ===== -/
theorem lexq_at : ∀ {l l' : List Int} {k : Int}, l.length = l'.length → 0 ≤ k → k < l.length → (∀ q : Int, 0 ≤ q → q < k → li l q = li l' q) → li l k < li l' k → lex l l' := sorry
theorem lex_tl {a : Int} {l l' : List Int} (h : lex (a :: l) (a :: l')) : lex l l' := sorry
def tB (E : Int → Int → Prop) (N : Int → Prop) (b i j : Int) : Prop := E i j ∧ (j = b ∨ N j)
/-- the best of the ways to the goals below b -/
def soB (E : Int → Int → Prop) (G N : Int → Prop) (a b best : Int) (bw : Int → Int) : Prop :=
  (∀ b' : Int, 0 ≤ b' → b' < b → G b' → (∃ W, LSw (tB E N b') (· = b') a W) ∨ ∀ W, ¬ pw (tB E N b') (· = b') a W) ∧
  ((best = 0 ∧ ∀ b' : Int, 0 ≤ b' → b' < b → G b' → ∀ W, ¬ pw (tB E N b') (· = b') a W) ∨
   (∃ b0 W0, G b0 ∧ LSw (tB E N b0) (· = b0) a W0 ∧ best = W0.length + 1 ∧ (∀ j : Int, 0 ≤ j → j < best → bw j = li (a :: W0) j) ∧ ∀ b' W', 0 ≤ b' → b' < b → G b' → LSw (tB E N b') (· = b') a W' → W0.length ≤ W'.length ∧ (W'.length = W0.length → lex W0 W')))
theorem soB_0 {E : Int → Int → Prop} {G N : Int → Prop} {a : Int} {bw : Int → Int} : soB E G N a 0 0 bw := sorry
theorem soB_bw {E : Int → Int → Prop} {G N : Int → Prop} {a b best : Int} {bw bw' : Int → Int} (q : soB E G N a b best bw) (e : ∀ j : Int, 0 ≤ j → j < best → bw' j = bw j) : soB E G N a b best bw' := sorry
theorem soB_skip {E : Int → Int → Prop} {G N : Int → Prop} {a b best : Int} {bw : Int → Int} (q : soB E G N a b best bw) (g : ¬ G b) : soB E G N a (b + 1) best bw := sorry
theorem soB_none {E : Int → Int → Prop} {G N : Int → Prop} {a b best : Int} {bw : Int → Int} (q : soB E G N a b best bw) (g : ∀ W, ¬ pw (tB E N b) (· = b) a W) : soB E G N a (b + 1) best bw := sorry
/-- the new one is better -/
theorem soB_new {E : Int → Int → Prop} {G N : Int → Prop} {a b best : Int} {bw bw' : Int → Int} {W : List Int} (q : soB E G N a b best bw) (g : G b) (L : LSw (tB E N b) (· = b) a W) (c : best = 0 ∨ (W.length : Int) + 1 < best ∨ (best = W.length + 1 ∧ ∃ k : Int, (0 ≤ k ∧ k < best) ∧ (∀ q : Int, 0 ≤ q → q < k → li (a :: W) q = bw q) ∧ li (a :: W) k < bw k)) (e : ∀ j : Int, 0 ≤ j → j < W.length + 1 → bw' j = li (a :: W) j) : soB E G N a (b + 1) (W.length + 1) bw' := sorry
/-- the new one is not better -/
theorem soB_keep {E : Int → Int → Prop} {G N : Int → Prop} {a b best : Int} {bw : Int → Int} {W : List Int} (q : soB E G N a b best bw) (L : LSw (tB E N b) (· = b) a W) (n0 : best ≠ 0) (c : best < (W.length : Int) + 1 ∨ (best = W.length + 1 ∧ ((∀ q : Int, 0 ≤ q → q < best → li (a :: W) q = bw q) ∨ ∃ k : Int, (0 ≤ k ∧ k < best) ∧ (∀ q : Int, 0 ≤ q → q < k → li (a :: W) q = bw q) ∧ bw k < li (a :: W) k))) : soB E G N a (b + 1) best bw := sorry
theorem pw_fst {E : Int → Int → Prop} {G N : Int → Prop} (hE : ∀ a j, E a j → G j ∨ N j) : ∀ {W : List Int} {a : Int}, pw E G a W → ∃ b W', G b ∧ pw (tB E N b) (· = b) a W' := sorry
theorem pw_tB {E : Int → Int → Prop} {G N : Int → Prop} {b : Int} (hb : G b) : ∀ {W : List Int} {a : Int}, pw (tB E N b) (· = b) a W → pw E G a W := sorry
theorem soB_end {E : Int → Int → Prop} {G N : Int → Prop} {a best : Int} {n : Nat} {bw : Int → Int} (hE : ∀ a j, E a j → G j ∨ N j) (hGN : ∀ j, G j → ¬ N j) (hG : ∀ j, G j → blw n j) (q : soB E G N a n best bw) : (best = 0 ∧ ∀ W, ¬ pw E G a W) ∨ ∃ W, LSw E G a W ∧ best = W.length + 1 ∧ ∀ j : Int, 0 ≤ j → j < best → bw j = li (a :: W) j := sorry
theorem SOn_cg {T H T' H' : Int → Int} {M : Nat} (m1 : 0 < M) (q : agr T H T' H' (blw M)) : ∀ {k : Nat} {R : List Int}, SOn T H M k R → SOn T' H' M k R := sorry
end
section
/-! ===== bars: the twin's row ===== -/
set_option maxRecDepth 100000 in
theorem sp_Mo_stOrder {l : Launch} {D : qD} {d N M : Nat} {T H : Int → Int} {h : qh} {Q : qQ} (hT : TW h.2) (hal : ∀ e, blw M e → h.2 297 e = 1) (en : h.2 280 31 = N) (em : h.2 280 32 = M) (eT : h.2 295 = T) (eH : h.2 296 = H) (n2 : 2 ≤ N) (n0 : N ≤ 24) (m1 : 0 < M) (m0 : M ≤ 80) (hs : smp T H (blw M)) (hl : nlp T H (blw M)) (hr : ∀ e, blw M e → blw N (T e) ∧ blw N (H e)) (hbk : ∀ e, blw M e → bk T H (blw M) 0 e) (ht : ∀ v, blw N v → tch T H (blw M) v)
    (hq : ∀ v R j, FW [303, 304, 306, 307, 310, 364, 370] [(280, 45), (280, 49), (280, 125)] h.2 v → SOn T H M j R → R.length = N → (∀ k : Int, 0 ≤ k → k < N → v 370 (li R k) = k) → Q none (h.1, v)) :
    qM l D (d + 4, 0, 0) m_Mo_stOrder [.inr (.inr 280)] h Q := sorry
end
section
/-! ===== longest chains (plain) ===== -/
/-- a chain of k arcs that begins in S and ends at f; arcs e lead from la e to ra e -/
def chS (S : Int → Prop) (la ra : Int → Int) (e0 m : Int) : Nat → Int → Prop
  | 0, f => S f
  | k + 1, f => ∃ e, (e0 ≤ e ∧ e < m) ∧ ra e = f ∧ chS S la ra e0 m k (la e)
def LPX (S : Int → Prop) (la ra : Int → Int) (e0 m : Int) (n : Nat) (X : Int → Int) : Prop := ∀ f, blw n f → (∃ k : Nat, X f = k ∧ chS S la ra e0 m k f) ∧ ∀ k : Nat, chS S la ra e0 m k f → (k : Int) ≤ X f
theorem LPX_un {S : Int → Prop} {la ra : Int → Int} {e0 m : Int} {n : Nat} {X X' : Int → Int} (q : LPX S la ra e0 m n X) (q' : LPX S la ra e0 m n X') : ∀ f, blw n f → X f = X' f := sorry
/-- at rest -/
theorem LPX_of {S : Int → Prop} {la ra : Int → Int} {e0 m : Int} {n : Nat} {X : Int → Int} (hS : ∀ f, S f) (hr : ∀ e, e0 ≤ e → e < m → blw n (la e) ∧ blw n (ra e)) (h1 : ∀ f, blw n f → ∃ k : Nat, X f = k ∧ chS S la ra e0 m k f) (h2 : ∀ e, e0 ≤ e → e < m → X (la e) + 1 ≤ X (ra e)) : LPX S la ra e0 m n X := sorry
/-- the rounds: r are done, in the next one the arcs below e -/
def rnd (S : Int → Prop) (la ra : Int → Int) (e0 m : Int) (n r : Nat) (e : Int) (X : Int → Int) : Prop :=
  (∀ f, blw n f → X f < 0 ∨ ∃ k : Nat, X f = k ∧ chS S la ra e0 m k f) ∧ (∀ f (k : Nat), blw n f → k ≤ r → chS S la ra e0 m k f → (k : Int) ≤ X f) ∧ ∀ e' (k : Nat), e0 ≤ e' → e' < e → k ≤ r → chS S la ra e0 m k (la e') → (k : Int) + 1 ≤ X (ra e')
theorem rnd_st {S : Int → Prop} {la ra : Int → Int} {e0 m : Int} {n r : Nat} {e : Int} {X X' : Int → Int} (hr : ∀ e, e0 ≤ e → e < m → blw n (la e) ∧ blw n (ra e)) (b0 : e0 ≤ e) (b1 : e < m) (q : rnd S la ra e0 m n r e X) (h1 : X' (ra e) = if 0 ≤ X (la e) then max (X (ra e)) (X (la e) + 1) else X (ra e)) (h2 : ∀ f, f ≠ ra e → X' f = X f) : rnd S la ra e0 m n r (e + 1) X' := sorry
theorem rnd_nx {S : Int → Prop} {la ra : Int → Int} {e0 m : Int} {n r : Nat} {X : Int → Int} (q : rnd S la ra e0 m n r m X) : rnd S la ra e0 m n (r + 1) e0 X := sorry
theorem rnd_0 {S : Int → Prop} {la ra : Int → Int} {e0 m : Int} {n : Nat} {X : Int → Int} (h1 : ∀ f, blw n f → S f → X f = 0) (h2 : ∀ f, blw n f → ¬ S f → X f < 0) : rnd S la ra e0 m n 0 e0 X := sorry
/-- after as many rounds as there are nodes -/
theorem rnd_end {S : Int → Prop} {la ra : Int → Int} {e0 m : Int} {n : Nat} {X : Int → Int} (hb : ∀ f (k : Nat), blw n f → chS S la ra e0 m k f → k < n) (hx : ∀ f, blw n f → ∃ k, chS S la ra e0 m k f) (q : rnd S la ra e0 m n n e0 X) : LPX S la ra e0 m n X := sorry
/-- where there is no way back, chains are short -/
theorem ch_li {S : Int → Prop} {la ra : Int → Int} {e0 m : Int} {n : Nat} (hr : ∀ e, e0 ≤ e → e < m → blw n (la e) ∧ blw n (ra e)) : ∀ {k : Nat} {f : Int}, blw n f → chS S la ra e0 m k f → ∃ L : List Int, L.length = k ∧ (∀ x, x ∈ L ++ [f] → blw n x) ∧ chn (fun a b => ∃ e, (e0 ≤ e ∧ e < m) ∧ la e = a ∧ ra e = b) (L ++ [f]) := sorry
theorem nd_of : ∀ {l : List Int}, (∀ W1 W2 W3 j, l ≠ W1 ++ j :: (W2 ++ j :: W3)) → l.Nodup := sorry
theorem ch_bd {S : Int → Prop} {la ra : Int → Int} {e0 m : Int} {n : Nat} (hr : ∀ e, e0 ≤ e → e < m → blw n (la e) ∧ blw n (ra e)) (nc : ∀ x L, ¬ chn (fun a b => ∃ e, (e0 ≤ e ∧ e < m) ∧ la e = a ∧ ra e = b) (x :: L ++ [x])) : ∀ f (k : Nat), blw n f → chS S la ra e0 m k f → k < n := sorry
/-- one node alone has no arc to it: all chains begin there -/
theorem ch_reach {la ra : Int → Int} {e0 m : Int} {n : Nat} {f1 : Int} (hr : ∀ e, e0 ≤ e → e < m → blw n (la e) ∧ blw n (ra e)) (hb : ∀ f (k : Nat), blw n f → chS (fun _ => True) la ra e0 m k f → k < n) (hin : ∀ f, blw n f → f ≠ f1 → ∃ e, (e0 ≤ e ∧ e < m) ∧ ra e = f) : ∀ f, blw n f → ∃ k, chS (· = f1) la ra e0 m k f := sorry
theorem ch_one {la ra : Int → Int} {e0 m : Int} {n : Nat} {f1 : Int} (hr : ∀ e, e0 ≤ e → e < m → blw n (la e) ∧ blw n (ra e)) (hb : ∀ f (k : Nat), blw n f → chS (fun _ => True) la ra e0 m k f → k < n) (hin : ∀ f, blw n f → f ≠ f1 → ∃ e, (e0 ≤ e ∧ e < m) ∧ ra e = f) {X : Int → Int} (q : LPX (· = f1) la ra e0 m n X) : LPX (fun _ => True) la ra e0 m n X := sorry
theorem ch_rk {la ra : Int → Int} {e0 m : Int} {n : Nat} {nu : Int → Int} (hr : ∀ e, e0 ≤ e → e < m → blw n (la e) ∧ blw n (ra e)) (hn : ∀ f, blw n f → 0 ≤ nu f ∧ nu f < n) (hlt : ∀ e, e0 ≤ e → e < m → nu (la e) < nu (ra e)) : ∀ f (k : Nat), blw n f → chS (fun _ => True) la ra e0 m k f → k < n := sorry
end
section
/-! ===== bars: from face to face there is no way back, by darts (plain) ===== -/
theorem sub_spl {u v : Int} : ∀ {R : List Int}, [u, v].Sublist R → ∃ A B, R = A ++ v :: B ∧ u ∈ A := sorry
/-- the numbers grow from s to t -/
def STn (T H : Int → Int) (M N : Nat) (nu : Int → Int) : Prop := (∀ v, blw N v → 0 ≤ nu v ∧ nu v < N) ∧ (∀ u v, blw N u → blw N v → nu u = nu v → u = v) ∧ nu (T 0) = 0 ∧ nu (H 0) = N - 1 ∧ (∀ v, blw N v → v ≠ T 0 → ∃ u, nu u < nu v ∧ jq T H (blw M) u v) ∧ ∀ v, blw N v → v ≠ H 0 → ∃ u, nu v < nu u ∧ jq T H (blw M) v u
theorem SO_all {R : List Int} {N : Nat} (hn : R.Nodup) (hb : ∀ v, v ∈ R → blw N v) (e : R.length = N) : ∀ v, blw N v → v ∈ R := sorry
theorem SO_st {T H : Int → Int} {M N : Nat} {R : List Int} {nu : Int → Int} (I : SOI T H M N R) (e : R.length = N) (hnu : ∀ k : Int, 0 ≤ k → k < N → nu (li R k) = k) : STn T H M N nu := sorry
def loE (nu T H : Int → Int) (e : Int) : Int := if nu (T e) < nu (H e) then T e else H e
def hiE (nu T H : Int → Int) (e : Int) : Int := if nu (T e) < nu (H e) then H e else T e
def dUp (nu T H : Int → Int) (e : Int) : Int := 2 * e + if nu (T e) < nu (H e) then 0 else 1
def dDn (nu T H : Int → Int) (e : Int) : Int := 2 * e + if nu (T e) < nu (H e) then 1 else 0
theorem dUp_ft {nu T H : Int → Int} {e : Int} : frD T H (dUp nu T H e) = loE nu T H e ∧ toD T H (dUp nu T H e) = hiE nu T H e ∧ frD T H (dDn nu T H e) = hiE nu T H e ∧ toD T H (dDn nu T H e) = loE nu T H e := sorry
theorem dUp_r {nu T H : Int → Int} {M : Nat} {e : Int} (he : blw M e) : (0 ≤ dUp nu T H e ∧ dUp nu T H e < 2 * (M : Int)) ∧ (0 ≤ dDn nu T H e ∧ dDn nu T H e < 2 * (M : Int)) := sorry
/-- one block: its own order round a node -/
theorem ROT_1 {T H : Int → Int} {M : Nat} (m1 : 0 < M) (hbk : ∀ e, blw M e → bk T H (blw M) 0 e) {i : Int} {L : List Int} (q : ROT T H M i L) : BR T H (blw M) i L := sorry
theorem oth_to {T H : Int → Int} {x : Int} (hl : T (x / 2) ≠ H (x / 2)) : oth T H (x / 2) (toD T H x) = frD T H x := sorry
theorem bar_ac {T H : Int → Int} {M N : Nat} {rot : Int → List Int} {nf : Nat} {W : Nat → List Int} {fo nu : Int → Int} (hs : smp T H (blw M)) (hl : nlp T H (blw M)) (hr : ∀ e, blw M e → blw N (T e) ∧ blw N (H e)) (hbk : ∀ e, blw M e → bk T H (blw M) 0 e) (m1 : 1 < M) (rt : ∀ i, ROT T H M i (rot i)) (F : FS T H M rot nf W) (hfo : ∀ (f : Nat) x, f < nf → x ∈ W f → fo x = f) (st : STn T H M N nu) :
    ∀ x L, ¬ chn (fun a b => ∃ e, (1 ≤ e ∧ e < (M : Int)) ∧ fo (dUp nu T H e) = a ∧ fo (dDn nu T H e) = b) (x :: L ++ [x]) := sorry
theorem li_max {g : Int → Int} : ∀ {L : List Int}, L ≠ [] → ∃ d, d ∈ L ∧ ∀ d', d' ∈ L → g d' ≤ g d := sorry
/-- every face but the first one has an arc to it -/
theorem bar_in {T H : Int → Int} {M N : Nat} {rot : Int → List Int} {nf : Nat} {W : Nat → List Int} {fo nu : Int → Int} (wb : WB T H M N rot) (F : FS T H M rot nf W) (hfo : ∀ (f : Nat) x, f < nf → x ∈ W f → fo x = f) (hi : ∀ u v, blw N u → blw N v → nu u = nu v → u = v) : ∀ f, blw nf f → f ≠ fo (dDn nu T H 0) → ∃ e, (1 ≤ e ∧ e < (M : Int)) ∧ fo (dDn nu T H e) = f := sorry
end
section
/-! ===== bars: an edge's lower end, the faces on both sides (the component's) ===== -/
def BLW (v : Int → Int → Int) (T H nu : Int → Int) (N M : Nat) : Prop := (∀ e, blw M e → v 167 e = T e ∧ v 168 e = H e) ∧ ∀ x, blw N x → v 248 x = nu x
theorem mkU {v : Int → Int → Int} {nu T H : Int → Int} {e : Int} : mkC v (dUp nu T H e) = (if nu (T e) < nu (H e) then v 173 e else v 174 e) ∧ mkC v (dDn nu T H e) = (if nu (T e) < nu (H e) then v 174 e else v 173 e) := sorry
set_option maxRecDepth 100000 in
theorem sp_Ba_low {l : Launch} {D : qD} {d N M : Nat} {e : Int} {T H nu : Int → Int} {h : qh} {Q : qQ} (hw : HW h.2) (n0 : N ≤ 24) (m0 : M ≤ 80) (hr : ∀ e, blw M e → blw N (T e) ∧ blw N (H e)) (bl : BLW h.2 T H nu N M) (he : blw M e) (hq : Q (some (.inl (loE nu T H e))) h) :
    qM l D (d + 1, 0, 0) m_Ba_low [.inr (.inr 246), .inr (.inr 166), .inl e] h Q := sorry
set_option maxRecDepth 100000 in
theorem sp_Ba_left {l : Launch} {D : qD} {d N M : Nat} {e : Int} {T H nu : Int → Int} {h : qh} {Q : qQ} (hw : HW h.2) (n0 : N ≤ 24) (m0 : M ≤ 80) (hr : ∀ e, blw M e → blw N (T e) ∧ blw N (H e)) (hl : nlp T H (blw M)) (bl : BLW h.2 T H nu N M) (he : blw M e) (hq : Q (some (.inl (mkC h.2 (dUp nu T H e)))) h) :
    qM l D (d + 2, 0, 0) m_Ba_left [.inr (.inr 246), .inr (.inr 166), .inl e] h Q := sorry
set_option maxRecDepth 100000 in
theorem sp_Ba_right {l : Launch} {D : qD} {d N M : Nat} {e : Int} {T H nu : Int → Int} {h : qh} {Q : qQ} (hw : HW h.2) (n0 : N ≤ 24) (m0 : M ≤ 80) (hr : ∀ e, blw M e → blw N (T e) ∧ blw N (H e)) (hl : nlp T H (blw M)) (bl : BLW h.2 T H nu N M) (he : blw M e) (hq : Q (some (.inl (mkC h.2 (dDn nu T H e)))) h) :
    qM l D (d + 2, 0, 0) m_Ba_right [.inr (.inr 246), .inr (.inr 166), .inl e] h Q := sorry
/-- where an edge's line stands -/
def xoE (fo nu T H FX : Int → Int) (e : Int) : Int := if e = 0 then -1 else FX (fo (dUp nu T H e))
set_option maxRecDepth 100000 in
theorem sp_Ba_xOf {l : Launch} {D : qD} {d N M : Nat} {e : Int} {T H nu : Int → Int} {h : qh} {Q : qQ} (hw : HW h.2) (n0 : N ≤ 24) (m0 : M ≤ 80) (hr : ∀ e, blw M e → blw N (T e) ∧ blw N (H e)) (hl : nlp T H (blw M)) (bl : BLW h.2 T H nu N M) (he : blw M e) (f0 : 0 ≤ mkC h.2 (dUp nu T H e) ∧ mkC h.2 (dUp nu T H e) < 60) (hq : Q (some (.inl (xoE (mkC h.2) nu T H (h.2 250) e))) h) :
    qM l D (d + 3, 0, 0) m_Ba_xOf [.inr (.inr 246), .inr (.inr 166), .inl e] h Q := sorry
end
section
/-! ===== bars: the component's drawing, the places (from the faces on) ===== -/
/-- the middle of what is spanned -/
def MIDp (P : Int → Prop) (xo : Int → Int) (x : Int) : Prop := ∃ a b, (∃ e, P e ∧ xo e = a) ∧ (∀ e, P e → a ≤ xo e) ∧ (∃ e, P e ∧ xo e = b) ∧ (∀ e, P e → xo e ≤ b) ∧ x = (a + b) / 2
theorem MIDp_un {P : Int → Prop} {xo : Int → Int} {x x' : Int} (q : MIDp P xo x) (q' : MIDp P xo x') : x = x' := sorry
theorem bend_pr {v : Int → Int → Int} {e x y k : Int} (hb : v 201 e = k) : FW [201, 202, 203] [] v (g_Dr_bend 198 e x y v) ∧ g_Dr_bend 198 e x y v 201 e = k + 1 ∧ (∀ j, j ≠ e → g_Dr_bend 198 e x y v 201 j = v 201 j) ∧ g_Dr_bend 198 e x y v 202 (24 * e + k) = x ∧ (∀ j, j ≠ 24 * e + k → g_Dr_bend 198 e x y v 202 j = v 202 j) ∧ g_Dr_bend 198 e x y v 203 (24 * e + k) = y ∧ ∀ j, j ≠ 24 * e + k → g_Dr_bend 198 e x y v 203 j = v 203 j := sorry
set_option maxRecDepth 100000 in
theorem Ba_dr_tail {l : Launch} {D : qD} {d N M : Nat} {T H nu fo FX Lv : Int → Int} {rot : Int → List Int} {h : qh} {Q : qQ} {v0 : Int → Int → Int} (hw : HW v0) (n0 : N ≤ 24) (m0 : M ≤ 48) (we : WEr v0 T H N M rot) (wb : WB T H M N rot) (bl : BLW v0 T H nu N M) (hfo : ∀ x : Int, 0 ≤ x → x < 2 * (M : Int) → mkC v0 x = fo x ∧ 0 ≤ fo x ∧ fo x < 60) (hlv : ∀ i, blw N i → v0 249 i = Lv i ∧ 0 ≤ Lv i ∧ Lv i < 24) (hfx : ∀ x : Int, 0 ≤ x → x < 2 * (M : Int) → v0 250 (fo x) = FX (fo x) ∧ 0 ≤ FX (fo x) ∧ FX (fo x) < 60) (hrt : ∀ i, blw N i → 0 < (rot i).length)
    (hq : ∀ v, FW [199, 200, 201, 202, 203, 205] [] v0 v → (∀ i, blw N i → MIDp (fun e => blw M e ∧ inc T H e i) (xoE fo nu T H FX) (v 199 i) ∧ v 200 i = 3 * Lv i ∧ v 205 i = nu i) → (∀ e, blw M e → v 201 e = 2 ∧ v 202 (24 * e) = xoE fo nu T H FX e ∧ v 202 (24 * e + 1) = xoE fo nu T H FX e ∧ v 203 (24 * e) = 3 * Lv (T e) ∧ v 203 (24 * e + 1) = 3 * Lv (H e)) → (∀ e : Int, M ≤ e → e < 48 → v 201 e = 0) → Q none (h.1, v)) (x3 : Int) (x4 x5 x6 x7 x8 : Option qv) :
    w_Ba_draw_241 l D (d + 4) (0, 0) (fun r h' => Q r ((h'.1.1, h.1.2.1, h.1.2.2), h'.2)) [some (.inr (.inr (246))), some (.inr (.inr (166))), some (.inr (.inr (198))), some (.inl (x3)), x4, x5, x6, x7, x8] [] ((h.1.1, 0, 0), v0) := sorry
end
section
/-! ===== bars: the component's drawing ===== -/
/-- the whole of what bars tells -/
def BDR (T H : Int → Int) (N M : Nat) (rot : Int → List Int) (nu xo Lv : Int → Int) : Prop := ∃ (R : List Int) (j nf : Nat) (W : Nat → List Int) (fo FX : Int → Int), SOn T H M j R ∧ R.length = N ∧ (∀ k : Int, 0 ≤ k → k < N → nu (li R k) = k) ∧ FS T H M rot nf W ∧ (∀ (f : Nat) x, f < nf → x ∈ W f → fo x = f) ∧ LPX (fun _ => True) (loE nu T H) (hiE nu T H) 0 M N Lv ∧ LPX (fun _ => True) (fun e => fo (dUp nu T H e)) (fun e => fo (dDn nu T H e)) 1 M nf FX ∧ ∀ e, blw M e → xo e = xoE fo nu T H FX e
theorem lh_r {nu T H : Int → Int} {N M : Nat} (hr : ∀ e, blw M e → blw N (T e) ∧ blw N (H e)) : ∀ e : Int, 0 ≤ e → e < M → blw N (loE nu T H e) ∧ blw N (hiE nu T H e) := sorry
theorem lh_lt {nu T H : Int → Int} {N M : Nat} (hr : ∀ e, blw M e → blw N (T e) ∧ blw N (H e)) (hl : nlp T H (blw M)) (hi : ∀ u v, blw N u → blw N v → nu u = nu v → u = v) : ∀ e : Int, 0 ≤ e → e < M → nu (loE nu T H e) < nu (hiE nu T H e) := sorry
theorem fo_r {T H fo nu : Int → Int} {M nf : Nat} {rot : Int → List Int} {W : Nat → List Int} (F : FS T H M rot nf W) (hfo : ∀ (f : Nat) x, f < nf → x ∈ W f → fo x = f) : (∀ x : Int, 0 ≤ x → x < 2 * (M : Int) → blw nf (fo x)) ∧ ∀ e : Int, 1 ≤ e → e < M → blw nf (fo (dUp nu T H e)) ∧ blw nf (fo (dDn nu T H e)) := sorry
set_option maxRecDepth 100000 in
theorem sp_Ba_draw {l : Launch} {D : qD} {d N M : Nat} {T H : Int → Int} {rot : Int → List Int} {h : qh} {Q : qQ} (hw : HW h.2) (n3 : 3 ≤ N) (n0 : N ≤ 24) (m1 : 1 < M) (m0 : M ≤ 48) (hs : smp T H (blw M)) (hl : nlp T H (blw M)) (hr : ∀ e, blw M e → blw N (T e) ∧ blw N (H e)) (we : WEr h.2 T H N M rot) (rt : ∀ i, ROT T H M i (rot i)) (hbk : ∀ e, blw M e → bk T H (blw M) 0 e) (ht : ∀ v, blw N v → tch T H (blw M) v)
    (hq : ∀ v nu xo Lv, FW [171, 172, 173, 174, 199, 200, 201, 202, 203, 205, 247, 248, 249, 250, 251, 252] [(246, 6), (166, 2)] h.2 v → BDR T H N M rot nu xo Lv → (∀ i, blw N i → MIDp (fun e => blw M e ∧ inc T H e i) xo (v 199 i) ∧ v 200 i = 3 * Lv i ∧ v 205 i = nu i) → (∀ e, blw M e → v 201 e = 2 ∧ v 202 (24 * e) = xo e ∧ v 202 (24 * e + 1) = xo e ∧ v 203 (24 * e) = 3 * Lv (T e) ∧ v 203 (24 * e + 1) = 3 * Lv (H e)) → (∀ e : Int, M ≤ e → e < 48 → v 201 e = 0) → Q none (h.1, v)) :
    qM l D (d + 5, 0, 0) m_Ba_draw [.inr (.inr 246), .inr (.inr 166), .inr (.inr 198)] h Q := sorry
end
section
/-! ===== bars: there is but one drawing (plain) ===== -/
theorem chS_cg {S : Int → Prop} {la ra la' ra' : Int → Int} {e0 m : Int} (h : ∀ e, e0 ≤ e → e < m → la' e = la e ∧ ra' e = ra e) : ∀ {k : Nat} {f : Int}, chS S la ra e0 m k f → chS S la' ra' e0 m k f := sorry
theorem LPX_cg {S : Int → Prop} {la ra la' ra' : Int → Int} {e0 m : Int} {n : Nat} {X : Int → Int} (h : ∀ e, e0 ≤ e → e < m → la' e = la e ∧ ra' e = ra e) (q : LPX S la ra e0 m n X) : LPX S la' ra' e0 m n X := sorry
theorem lh_cg {nu nu' T H T' H' : Int → Int} {e : Int} (hT : T' e = T e) (hH : H' e = H e) (h1 : nu' (T e) = nu (T e)) (h2 : nu' (H e) = nu (H e)) : loE nu' T' H' e = loE nu T H e ∧ hiE nu' T' H' e = hiE nu T H e ∧ dUp nu' T' H' e = dUp nu T H e ∧ dDn nu' T' H' e = dDn nu T H e := sorry
theorem BDR_un {T H : Int → Int} {N M : Nat} {rot : Int → List Int} {nu xo Lv nu' xo' Lv' : Int → Int} (hs : smp T H (blw M)) (hl : nlp T H (blw M)) (hr : ∀ e, blw M e → blw N (T e) ∧ blw N (H e)) (m1 : 0 < M) (rt : ∀ i, ROT T H M i (rot i)) (q : BDR T H N M rot nu xo Lv) (q' : BDR T H N M rot nu' xo' Lv') : (∀ i, blw N i → nu i = nu' i ∧ Lv i = Lv' i) ∧ ∀ e, blw M e → xo e = xo' e := sorry
theorem BDR_cg {T H T' H' : Int → Int} {N M : Nat} {rot : Int → List Int} {nu xo Lv : Int → Int} (m1 : 0 < M) (hm : ∀ i e, e ∈ rot i → blw M e) (ag : agr T H T' H' (blw M)) (q : BDR T H N M rot nu xo Lv) : BDR T' H' N M rot nu xo Lv := sorry
/-- one block -/
theorem blk_1 {T H : Int → Int} {M : Nat} (m1 : 0 < M) : nums (bk T H (blw M)) M = 1 ↔ ∀ e, blw M e → bk T H (blw M) 0 e := sorry
theorem xor_1 {x : Int} (h0 : 0 ≤ x) (h1 : x < 160) : z_ixor x 1 = if x % 2 = 0 then x + 1 else x - 1 := sorry
theorem dUp_x {nu T H : Int → Int} {e : Int} (h0 : 0 ≤ e) (h1 : e < 80) : z_ixor (dUp nu T H e) 1 = dDn nu T H e := sorry
theorem dart_up {v : Int → Int → Int} {e : Int} (hl : v 295 e ≠ v 296 e) : f_Mo_low e v = loE (v 370) (v 295) (v 296) e ∧ f_Mo_dart e v = dUp (v 370) (v 295) (v 296) e ∧ f_Mo_across_0 e (f_Mo_low e v) v = hiE (v 370) (v 295) (v 296) e := sorry
theorem barX_eq {v : Int → Int → Int} {e : Int} (hl : v 295 e ≠ v 296 e) : f_Mo_barX e v = xoE (v 311) (v 370) (v 295) (v 296) (v 290) e := sorry
end
section
/-! ===== bars: the twin's middle ===== -/
theorem mmn {a b : Int} {v : Int → Int → Int} : f_Mo_min a b v = min a b := sorry
theorem mmx {a b : Int} {v : Int → Int → Int} : f_Mo_max a b v = max a b := sorry
set_option maxRecDepth 100000 in
theorem sp_Mo_middle {l : Launch} {D : qD} {d M : Nat} {i : Int} {xo : Int → Int} {h : qh} {Q : qQ} (hT : TW h.2) (em : h.2 280 32 = M) (m0 : M ≤ 80) (hal : ∀ e, blw M e → h.2 297 e = 1) (hl : ∀ e, blw M e → h.2 295 e ≠ h.2 296 e) (hr : ∀ e, blw M e → (0 ≤ h.2 295 e ∧ h.2 295 e < 26) ∧ (0 ≤ h.2 296 e ∧ h.2 296 e < 26)) (hfo : ∀ x : Int, 0 ≤ x → x < 2 * (M : Int) → 0 ≤ h.2 311 x ∧ h.2 311 x < 100) (hx : ∀ e, blw M e → f_Mo_barX e h.2 = xo e ∧ -1 ≤ xo e ∧ xo e < 100) (hi : 0 ≤ i ∧ i < 26) (he : ∃ e, blw M e ∧ inc (h.2 295) (h.2 296) e i) (hq : ∀ x, MIDp (fun e => blw M e ∧ inc (h.2 295) (h.2 296) e i) xo x → Q none (h.1, up2 h.2 329 i x)) :
    qM l D (d + 4, 0, 0) m_Mo_middle [.inr (.inr 280), .inl i] h Q := sorry
end
section
/-! ===== bars: the twin's drawing, from the faces on ===== -/
theorem bl331 {v : Int → Int → Int} {e k z : Int} : f_Mo_low e (up2 v 331 k z) = f_Mo_low e v ∧ f_Mo_dart e (up2 v 331 k z) = f_Mo_dart e v ∧ f_Mo_barX e (up2 v 331 k z) = f_Mo_barX e v := sorry
theorem bl332 {v : Int → Int → Int} {e k z : Int} : f_Mo_low e (up2 v 332 k z) = f_Mo_low e v ∧ f_Mo_dart e (up2 v 332 k z) = f_Mo_dart e v ∧ f_Mo_barX e (up2 v 332 k z) = f_Mo_barX e v := sorry
set_option maxRecDepth 100000 in
theorem Mo_ba_tail {l : Launch} {D : qD} {d N M : Nat} {g : Int} {T H nu fo FX Lv : Int → Int} {h : qh} {Q : qQ} {v0 : Int → Int → Int} (hT : TW v0) (em : v0 280 32 = M) (eT : v0 295 = T) (eH : v0 296 = H) (enu : v0 370 = nu) (hal : ∀ e, blw M e → v0 297 e = 1) (tl : ∀ e, blw M e → v0 282 (v0 280 5 + 267 + e) = T e ∧ v0 282 (v0 280 5 + 315 + e) = H e) (g5 : 0 ≤ v0 280 5 ∧ v0 280 5 ≤ 66297) (n0 : N ≤ 24) (m0 : M ≤ 48) (hl : nlp T H (blw M)) (hr : ∀ e, blw M e → blw N (T e) ∧ blw N (H e)) (ht : ∀ i, blw N i → ∃ e, blw M e ∧ inc T H e i) (g0 : 0 ≤ g ∧ g < 4) (hfo : v0 311 = fo) (rfo : ∀ x : Int, 0 ≤ x → x < 2 * (M : Int) → 0 ≤ fo x ∧ fo x < 100) (hlv : ∀ i, blw N i → v0 330 i = Lv i ∧ 0 ≤ Lv i ∧ Lv i < 24) (hfx : v0 290 = FX) (rfx : ∀ x : Int, 0 ≤ x → x < 2 * (M : Int) → 0 ≤ FX (fo x) ∧ FX (fo x) < 100) (htn : ∀ i, blw N i → v0 371 i = nu i)
    (hq : ∀ v, FW [324, 329, 330, 331, 332, 333] [] v0 v → (∀ i, blw N i → MIDp (fun e => blw M e ∧ inc T H e i) (xoE fo nu T H FX) (v 329 i) ∧ v 330 i = 3 * Lv i ∧ v 324 (24 * g + i) = nu i) → (∀ e, blw M e → v 331 e = 2 ∧ v 332 (24 * e) = xoE fo nu T H FX e ∧ v 332 (24 * e + 1) = xoE fo nu T H FX e ∧ v 333 (24 * e) = 3 * Lv (T e) ∧ v 333 (24 * e + 1) = 3 * Lv (H e)) → (∀ k : Int, ¬ (24 * g ≤ k ∧ k < 24 * g + N) → v 324 k = v0 324 k) → Q (some (.inl 0)) (h.1, v)) (x3 : Int) (x4 x5 x6 x7 : Option qv) :
    w_Mo_bars_319 l D (d + 4) (0, 0) (fun r h' => Q r ((h'.1.1, h.1.2.1, h.1.2.2), h'.2)) [some (.inr (.inr (280))), some (.inl (g)), some (.inl ((N : Int))), some (.inl (x3)), x4, x5, x6, x7] [] ((h.1.1, 0, 0), v0) := sorry
end
section
/-! ===== bars: the twin's drawing, levels and faces ===== -/
theorem bl330 {v : Int → Int → Int} {e k z : Int} : f_Mo_low e (up2 v 330 k z) = f_Mo_low e v := sorry
set_option maxRecDepth 100000 in
theorem Mo_ba_63 {l : Launch} {D : qD} {d N M nf : Nat} {g : Int} {T H nu : Int → Int} {rot : Int → List Int} {R : List Int} {j : Nat} {W : Nat → List Int} {h : qh} {Q : qQ} {v0 : Int → Int → Int} (hT : TW v0) (em : v0 280 32 = M) (eT : v0 295 = T) (eH : v0 296 = H) (enu : v0 370 = nu) (hal : ∀ e, blw M e → v0 297 e = 1) (tl : ∀ e, blw M e → v0 282 (v0 280 5 + 267 + e) = T e ∧ v0 282 (v0 280 5 + 315 + e) = H e) (g5 : 0 ≤ v0 280 5 ∧ v0 280 5 ≤ 66297) (n3 : 3 ≤ N) (n0 : N ≤ 24) (m1 : 1 < M) (m0 : M ≤ 48) (hs : smp T H (blw M)) (hl : nlp T H (blw M)) (hr : ∀ e, blw M e → blw N (T e) ∧ blw N (H e)) (rt : ∀ i, ROT T H M i (rot i)) (hbk : ∀ e, blw M e → bk T H (blw M) 0 e) (ht : ∀ i, blw N i → ∃ e, blw M e ∧ inc T H e i) (g0 : 0 ≤ g ∧ g < 4) (so : SOn T H M j R) (eN : R.length = N) (hnu : ∀ k : Int, 0 ≤ k → k < N → nu (li R k) = k) (F : FS T H M rot nf W) (e53 : v0 280 53 = nf) (hmk : ∀ (f : Nat) x, f < nf → x ∈ W f → v0 311 x = f) (n60 : nf ≤ 60)
    (hq : ∀ v xo Lv, FW [290, 324, 329, 330, 331, 332, 333, 371] [] v0 v → BDR T H N M rot nu xo Lv → (∀ i, blw N i → MIDp (fun e => blw M e ∧ inc T H e i) xo (v 329 i) ∧ v 330 i = 3 * Lv i ∧ v 324 (24 * g + i) = nu i) → (∀ e, blw M e → v 331 e = 2 ∧ v 332 (24 * e) = xo e ∧ v 332 (24 * e + 1) = xo e ∧ v 333 (24 * e) = 3 * Lv (T e) ∧ v 333 (24 * e + 1) = 3 * Lv (H e)) → (∀ k : Int, ¬ (24 * g ≤ k ∧ k < 24 * g + N) → v 324 k = v0 324 k) → Q (some (.inl 0)) (h.1, v)) (x4 x5 x6 x7 : Option qv) :
    qR l D (d + 5, 0, 0) m_Mo_bars 63 (fun r h' => Q r ((h'.1.1, h.1.2.1, h.1.2.2), h'.2)) [some (.inr (.inr (280))), some (.inl (g)), some (.inl ((N : Int))), some (.inl (0)), x4, x5, x6, x7] [] ((h.1.1, 0, 0), v0) := sorry
end
section
/-! ===== bars: the twin's, whole ===== -/
set_option maxRecDepth 100000 in
theorem sp_Mo_bars {l : Launch} {D : qD} {d N M : Nat} {g : Int} {T H : Int → Int} {h : qh} {Q : qQ} (hT : TW h.2) (hok : tok h.2) (en : tn h.2 = N) (em : tm h.2 = M) (eT : tT h.2 = T) (eH : tH h.2 = H) (hs : smp T H (blw M)) (g0 : 0 ≤ g ∧ g < 4)
    (q2 : ¬ (3 ≤ N ∧ PL T H (blw M) ∧ nums (bk T H (blw M)) M = 1 ∧ ∀ i, blw N i → ∃ e, blw M e ∧ inc T H e i) → ∀ v, FW [287, 290, 295, 296, 297, 298, 299, 300, 301, 302, 303, 304, 305, 306, 307, 308, 309, 310, 311, 313, 314, 324, 329, 330, 331, 332, 333, 364, 370, 371] [(280, 31), (280, 32), (280, 39), (280, 45), (280, 49), (280, 53), (280, 125)] h.2 v → (∀ k, v 324 k = h.2 324 k) → Q (some (.inl (-2))) (h.1, v))
    (q0 : 3 ≤ N → PL T H (blw M) → nums (bk T H (blw M)) M = 1 → (∀ i, blw N i → ∃ e, blw M e ∧ inc T H e i) → ∀ v rot nu xo Lv, FW [287, 290, 295, 296, 297, 298, 299, 300, 301, 302, 303, 304, 305, 306, 307, 308, 309, 310, 311, 313, 314, 324, 329, 330, 331, 332, 333, 364, 370, 371] [(280, 31), (280, 32), (280, 39), (280, 45), (280, 49), (280, 53), (280, 125)] h.2 v → (∀ i, ROT T H M i (rot i)) → BDR T H N M rot nu xo Lv → (∀ i, blw N i → MIDp (fun e => blw M e ∧ inc T H e i) xo (v 329 i) ∧ v 330 i = 3 * Lv i ∧ v 324 (24 * g + i) = nu i) → (∀ e, blw M e → v 331 e = 2 ∧ v 332 (24 * e) = xo e ∧ v 332 (24 * e + 1) = xo e ∧ v 333 (24 * e) = 3 * Lv (T e) ∧ v 333 (24 * e + 1) = 3 * Lv (H e)) → (∀ k : Int, ¬ (24 * g ≤ k ∧ k < 24 * g + N) → v 324 k = h.2 324 k) → Q (some (.inl 0)) (h.1, v)) :
    qM l D (d + 8, 0, 0) m_Mo_bars [.inr (.inr 280), .inl g] h Q := sorry
end
section
/-! ===== turning edges: the weight back of an order (plain) ===== -/
noncomputable def swt (P : Int → Prop) (w : Int → Int) : Nat → Int
  | 0 => 0
  | n + 1 => swt P w n + @ite Int (P n) (Classical.propDecidable _) (w n) 0
theorem swt_y {P : Int → Prop} {w : Int → Int} {n : Nat} (h : P n) : swt P w (n + 1) = swt P w n + w n := sorry
theorem swt_n {P : Int → Prop} {w : Int → Int} {n : Nat} (h : ¬ P n) : swt P w (n + 1) = swt P w n := sorry
theorem swt_cg {P P' : Int → Prop} {w : Int → Int} : ∀ {n : Nat}, (∀ e, blw n e → (P e ↔ P' e)) → swt P w n = swt P' w n := sorry
theorem swt_b {P : Int → Prop} {w : Int → Int} : ∀ {n : Nat}, (∀ e, blw n e → 1 ≤ w e ∧ w e ≤ 9) → 0 ≤ swt P w n ∧ swt P w n ≤ 9 * n := sorry
theorem swt_0 {P : Int → Prop} {w : Int → Int} : ∀ {n : Nat}, (∀ e, blw n e → 1 ≤ w e ∧ w e ≤ 9) → (swt P w n = 0 ↔ ∀ e, blw n e → ¬ P e) := sorry
/-- weights of what leads from a set to one -/
noncomputable def inW (T H w : Int → Int) (M : Nat) (S : Int → Prop) (a : Int) : Int := swt (fun e => H e = a ∧ S (T e)) w M
noncomputable def ouW (T H w : Int → Int) (M : Nat) (S : Int → Prop) (a : Int) : Int := swt (fun e => T e = a ∧ S (H e)) w M
/-- what leads back in an order -/
noncomputable def bkW (T H w : Int → Int) (M : Nat) : List Int → Int
  | [] => 0
  | a :: l => inW T H w M (· ∈ l) a + bkW T H w M l
theorem inW_pm {T H w : Int → Int} {M : Nat} {a : Int} {l l' : List Int} (h : l.Perm l') : inW T H w M (· ∈ l) a = inW T H w M (· ∈ l') a := sorry
theorem bkW_b {T H w : Int → Int} {M : Nat} (hb : ∀ e, blw M e → 1 ≤ w e ∧ w e ≤ 9) : ∀ l : List Int, 0 ≤ bkW T H w M l ∧ bkW T H w M l ≤ 9 * M * l.length := sorry
/-! subsets by bits -/
def sbl (f : Int → Int) (x : Int) : Nat → List Int
  | 0 => []
  | n + 1 => sbl f x n ++ (if z_iand (z_ishr x n) 1 = 1 then [f n] else [])
theorem sbl_mem {f : Int → Int} {x v : Int} : ∀ {n : Nat}, n ≤ 32 → (v ∈ sbl f x n ↔ ∃ k : Int, (0 ≤ k ∧ k < n) ∧ bt x k ∧ f k = v) := sorry
theorem sbl_up {f : Int → Int} {x : Int} : ∀ {n : Nat}, n ≤ 32 → (∀ i j : Int, 0 ≤ i → i < j → j < n → f i < f j) → (sbl f x n).Pairwise (· < ·) := sorry
theorem pw_nd {l : List Int} (h : l.Pairwise (· < ·)) : l.Nodup := sorry
theorem nd_pm : ∀ {l l' : List Int}, l.Nodup → l'.Nodup → (∀ x, x ∈ l ↔ x ∈ l') → l.Perm l' := sorry
/-- bits without one of them -/
def wo (x j : Int) : Int := z_iand x (z_ixor (z_ishl 1 j) (-1))
theorem wo_bt {x j k : Int} (j0 : 0 ≤ j) (j1 : j < 32) (k0 : 0 ≤ k) (k1 : k < 32) : bt (wo x j) k ↔ bt x k ∧ k ≠ j := sorry
theorem wo_lt {x j : Int} (x0 : 0 ≤ x) (x1 : x < 128) (j0 : 0 ≤ j) (j1 : j < 7) (h : z_iand (z_ishr x j) 1 = 1) : 0 ≤ wo x j ∧ wo x j < x := sorry
theorem bit_ex {x : Int} {n : Nat} (n7 : n ≤ 7) (x0 : 0 < x) (x1 : x < z_ishl 1 n) : ∃ j : Int, (0 ≤ j ∧ j < n) ∧ z_iand (z_ishr x j) 1 = 1 := sorry
theorem ishl_b {n : Nat} (n7 : n ≤ 7) : 1 ≤ z_ishl 1 n ∧ z_ishl 1 n ≤ 128 := sorry
theorem sbl_wo {f : Int → Int} {x j : Int} {n : Nat} (n32 : n ≤ 32) (hf : ∀ i j : Int, 0 ≤ i → i < j → j < n → f i < f j) (j0 : 0 ≤ j) (j1 : j < n) (h : bt x j) : (f j :: sbl f (wo x j) n).Perm (sbl f x n) := sorry
/-- the step by what is left -/
theorem FB_sb {f : Int → Int} {x : Int} {n : Nat} {T H w : Int → Int} {M : Nat} (n7 : n ≤ 7) (hf : ∀ i j : Int, 0 ≤ i → i < j → j < n → f i < f j) (B : Int → List Int) (hB : ∀ j : Int, 0 ≤ j → j < n → bt x j → FB (sbl f (wo x j) n) (bkW T H w M) (B j)) {j : Int} (j0 : 0 ≤ j) (j1 : j < n) (hj : bt x j) (hmin : ∀ k : Int, 0 ≤ k → k < n → bt x k → inW T H w M (· ∈ sbl f (wo x j) n) (f j) + bkW T H w M (B j) ≤ inW T H w M (· ∈ sbl f (wo x k) n) (f k) + bkW T H w M (B k)) (hfst : ∀ k : Int, 0 ≤ k → k < j → bt x k → inW T H w M (· ∈ sbl f (wo x k) n) (f k) + bkW T H w M (B k) ≠ inW T H w M (· ∈ sbl f (wo x j) n) (f j) + bkW T H w M (B j)) : FB (sbl f x n) (bkW T H w M) (f j :: B j) := sorry
end
section
/-! ===== turning edges: what leads into a node (the component's) ===== -/
theorem CG_gp {v : Int → Int → Int} {g : Int} {n m : Nat} {t hd w : Int → Int} (hg : CG v g n m t hd w) : 0 < g := sorry
set_option maxRecDepth 100000 in
theorem sp_La_into {l : Launch} {D : qD} {d n m : Nat} {g i st : Int} {t hd w : Int → Int} {S : Int → Prop} {h : qh} {Q : qQ} (eg : h.2 209 1 = g) (hg : CG h.2 g n m t hd w) (hv : GV n m t hd w) (hS : ∀ x, blw n x → (bt st x ↔ S x)) (hq : Q (some (.inl (inW t hd w m S i))) h) :
    qM l D (d + 1, 0, 0) m_La_into [.inr (.inr 209), .inl i, .inl st] h Q := sorry
set_option maxRecDepth 100000 in
theorem sp_La_outOf {l : Launch} {D : qD} {d n m : Nat} {g i st : Int} {t hd w : Int → Int} {S : Int → Prop} {h : qh} {Q : qQ} (eg : h.2 209 1 = g) (hg : CG h.2 g n m t hd w) (hv : GV n m t hd w) (hS : ∀ x, blw n x → (bt st x ↔ S x)) (hq : Q (some (.inl (ouW t hd w m S i))) h) :
    qM l D (d + 1, 0, 0) m_La_outOf [.inr (.inr 209), .inl i, .inl st] h Q := sorry
set_option maxRecDepth 100000 in
theorem sp_La_with {l : Launch} {D : qD} {d n m k : Nat} {g lf j : Int} {f t hd w : Int → Int} {h : qh} {Q : qQ} (hw : HW h.2) (eg : h.2 209 1 = g) (hg : CG h.2 g n m t hd w) (hv : GV n m t hd w) (k7 : k ≤ 7) (hf : ∀ i : Int, 0 ≤ i → i < k → h.2 232 i = f i ∧ blw n (f i)) (j0 : 0 ≤ j) (j1 : j < k) (x0 : 0 ≤ wo lf j) (x1 : wo lf j < 128) (lb : 0 ≤ h.2 229 (wo lf j) ∧ h.2 229 (wo lf j) ≤ 100000) (hq : Q (some (.inl (inW t hd w m (· ∈ sbl f (wo lf j) k) (f j) + h.2 229 (wo lf j)))) h) :
    qM l D (d + 2, 0, 0) m_La_with [.inr (.inr 209), .inr (.inr 232), .inl lf, .inl j, .inl (k : Int)] h Q := sorry
end
section
/-! ===== turning edges: the best order by what is left (the component's) ===== -/
theorem FB_pm {L L' : List Int} {C : List Int → Int} {b : List Int} (h : L.Perm L') (q : FB L C b) : FB L' C b := sorry
theorem FB_nil {C : List Int → Int} : FB [] C [] := sorry
theorem li_up {L : List Int} (h : L.Pairwise (· < ·)) : ∀ i j : Int, 0 ≤ i → i < j → j < L.length → li L i < li L j := sorry
theorem sbl_0 {f : Int → Int} {k : Nat} (k32 : k ≤ 32) : sbl f 0 k = [] := sorry
theorem sbl_full {L : List Int} {k : Nat} (k24 : k ≤ 24) (e : L.length = k) (h : L.Pairwise (· < ·)) : (sbl (li L) (z_ishl 1 k - 1) k).Perm L := sorry
set_option maxRecDepth 100000 in
theorem sp_La_exact {l : Launch} {D : qD} {d n m k : Nat} {g st : Int} {L : List Int} {t hd w : Int → Int} {h : qh} {Q : qQ} (hw : HW h.2) (eg : h.2 209 1 = g) (hg : CG h.2 g n m t hd w) (hv : GV n m t hd w) (hL : L.Pairwise (· < ·)) (hLb : ∀ x, x ∈ L → blw n x) (eL : L.length = k) (k7 : k ≤ 7) (hS : ∀ x, blw n x → (bt st x ↔ x ∈ L))
    (hq : ∀ v best, FW [218, 229, 232] [] h.2 v → FB L (bkW t hd w m) best → (∀ p : Int, 0 ≤ p → p < k → v 218 (li best p) = p) → (∀ x, x ∉ L → v 218 x = h.2 218 x) → Q none (h.1, v)) :
    qM l D (d + 3, 0, 0) m_La_exact [.inr (.inr 209), .inl st, .inl (k : Int)] h Q := sorry
end
section
/-! ===== turning edges: the best of all orders (the twin's) ===== -/
theorem swt_or {P P' : Int → Prop} {w : Int → Int} : ∀ {n : Nat}, (∀ e, blw n e → P e → ¬ P' e) → swt (fun e => P e ∨ P' e) w n = swt P w n + swt P' w n := sorry
/-- an edge that leads back -/
def BKp (T H : Int → Int) : List Int → Int → Prop
  | [], _ => False
  | a :: l, e => (H e = a ∧ T e ∈ l) ∨ BKp T H l e
theorem BKp_mem {T H : Int → Int} : ∀ {l : List Int} {e : Int}, BKp T H l e → H e ∈ l ∧ T e ∈ l := sorry
theorem bkW_sw {T H w : Int → Int} {M : Nat} : ∀ {l : List Int}, l.Nodup → bkW T H w M l = swt (BKp T H l) w M := sorry
theorem BKp_li {T H : Int → Int} {l : List Int} (hn : l.Nodup) {e : Int} : BKp T H l e ↔ ∃ i j : Int, (0 ≤ i ∧ i < j ∧ j < l.length) ∧ li l i = H e ∧ li l j = T e := sorry
set_option maxRecDepth 100000 in
theorem sp_Mo_isMember {l : Launch} {D : qD} {d k : Nat} {x : Int} {L : List Int} {h : qh} {Q : qQ} (hT : TW h.2) (e99 : h.2 280 99 = k) (eL : L.length = k) (k26 : k ≤ 26) (hm : ∀ q : Int, 0 ≤ q → q < k → h.2 349 q = li L q) (h1 : x ∈ L → Q (some (.inl 1)) h) (h0 : x ∉ L → Q (some (.inl 0)) h) :
    qM l D (d + 1, 0, 0) m_Mo_isMember [.inr (.inr 280), .inl x] h Q := sorry
set_option maxRecDepth 100000 in
theorem sp_Mo_placeIn {l : Launch} {D : qD} {d k : Nat} {x p : Int} {b : List Int} {h : qh} {Q : qQ} (hT : TW h.2) (e99 : h.2 280 99 = k) (eb : b.length = k) (k26 : k ≤ 26) (hn : b.Nodup) (hm : ∀ q : Int, 0 ≤ q → q < k → h.2 348 q = li b q) (p0 : 0 ≤ p ∧ p < k) (px : li b p = x) (hq : Q (some (.inl p)) h) :
    qM l D (d + 1, 0, 0) m_Mo_placeIn [.inr (.inr 280), .inl x] h Q := sorry
set_option maxRecDepth 100000 in
theorem sp_Mo_bestOrder {l : Launch} {D : qD} {d n m k : Nat} {r : Int} {L : List Int} {t hd w : Int → Int} {h : qh} {Q : qQ} (hT : TW h.2) (hg : TG h.2 r n m t hd w) (hv : GV n m t hd w) (e99 : h.2 280 99 = k) (eL : L.length = k) (k7 : k ≤ 7) (hL : L.Pairwise (· < ·)) (hLb : ∀ x, x ∈ L → blw n x) (hm : ∀ q : Int, 0 ≤ q → q < k → h.2 349 q = li L q)
    (hq : ∀ v best, FW [347, 348] [] h.2 v → FB L (bkW t hd w m) best → (∀ q : Int, 0 ≤ q → q < k → v 348 q = li best q) → Q none (h.1, v)) :
    qM l D (d + 2, 0, 0) m_Mo_bestOrder [.inr (.inr 280)] h Q := sorry
end
section
/-! ===== turning edges: the order for many (the component's) ===== -/
theorem ne_li {l : List Int} {i p : Int} (h : i ∉ l) (p0 : 0 ≤ p) (p1 : p < l.length) : li l p ≠ i := sorry
theorem ne_mem {l : List Int} {x i : Int} (h : x ∉ l) (hi : i ∈ l) : x ≠ i := sorry
/-- who comes next: the last that leads nowhere, else the first that nothing leads to, else the first that leads out most -/
def GPK (S : Int → Prop) (ou iN : Int → Int) (i : Int) (sk : Prop) : Prop :=
  (sk ∧ S i ∧ ou i = 0 ∧ ∀ j : Int, i < j → S j → ou j ≠ 0) ∨ (¬ sk ∧ (∀ j, S j → ou j ≠ 0) ∧ ((S i ∧ iN i = 0 ∧ ∀ j : Int, j < i → S j → iN j ≠ 0) ∨ ((∀ j, S j → iN j ≠ 0) ∧ S i ∧ ∀ j : Int, S j → ou j - iN j ≤ ou i - iN i ∧ (j < i → ou j - iN j < ou i - iN i))))
theorem GPK_un {S : Int → Prop} {ou iN : Int → Int} {i i' : Int} {sk sk' : Prop} (q : GPK S ou iN i sk) (q' : GPK S ou iN i' sk') : i = i' ∧ (sk ↔ sk') := sorry
/-- what is not yet placed -/
def gLf (L A B : List Int) (x : Int) : Prop := x ∈ L ∧ x ∉ A ∧ x ∉ B
def GRs (T H w : Int → Int) (M : Nat) (L A B A' B' : List Int) : Prop := ∃ i sk, GPK (gLf L A B) (ouW T H w M (gLf L A B)) (inW T H w M (gLf L A B)) i sk ∧ ((sk ∧ A' = A ∧ B' = i :: B) ∨ (¬ sk ∧ A' = A ++ [i] ∧ B' = B))
def GRn (T H w : Int → Int) (M : Nat) (L : List Int) : Nat → List Int → List Int → Prop
  | 0, A, B => A = [] ∧ B = []
  | k + 1, A, B => ∃ A0 B0, GRn T H w M L k A0 B0 ∧ GRs T H w M L A0 B0 A B
theorem GPK_S {S : Int → Prop} {ou iN : Int → Int} {i : Int} {sk : Prop} (q : GPK S ou iN i sk) : S i := sorry
theorem GRn_I {T H w : Int → Int} {M : Nat} {L : List Int} (hL : L.Nodup) : ∀ {k : Nat} {A B : List Int}, GRn T H w M L k A B → A.length + B.length = k ∧ (A ++ B).Nodup ∧ ∀ x, x ∈ A ++ B → x ∈ L := sorry
theorem GRn_un {T H w : Int → Int} {M : Nat} {L : List Int} : ∀ {k : Nat} {A B A' B' : List Int}, GRn T H w M L k A B → GRn T H w M L k A' B' → A = A' ∧ B = B' := sorry
set_option maxRecDepth 100000 in
theorem sp_La_greedy {l : Launch} {D : qD} {d n m : Nat} {g st : Int} {L : List Int} {t hd w : Int → Int} {h : qh} {Q : qQ} (hw : HW h.2) (eg : h.2 209 1 = g) (hg : CG h.2 g n m t hd w) (hv : GV n m t hd w) (hL : L.Nodup) (hLb : ∀ x, x ∈ L → blw n x) (i32s : i32 st) (hS : ∀ x : Int, 0 ≤ x → x < 32 → (bt st x ↔ x ∈ L))
    (hq : ∀ v A B, FW [218] [] h.2 v → GRn t hd w m L L.length A B → (∀ p : Int, 0 ≤ p → p < A.length → v 218 (li A p) = p) → (∀ p : Int, 0 ≤ p → p < B.length → v 218 (li B p) = 24 - B.length + p) → (∀ x, x ∉ L → v 218 x = h.2 218 x) → Q none (h.1, v)) :
    qM l D (d + 2, 0, 0) m_La_greedy [.inr (.inr 209), .inl st] h Q := sorry
end
section
/-! ===== turning edges: the order for many (the twin's) ===== -/
theorem swt_cnt {P : Int → Prop} {w : Int → Int} {n : Nat} (hb : ∀ e, blw n e → 1 ≤ w e ∧ w e ≤ 9) : cnt P n = 0 ↔ swt P w n = 0 := sorry
set_option maxRecDepth 100000 in
theorem sp_Mo_greedyOrder {l : Launch} {D : qD} {d n m k : Nat} {r : Int} {L : List Int} {t hd w : Int → Int} {h : qh} {Q : qQ} (hT : TW h.2) (hg : TG h.2 r n m t hd w) (hv : GV n m t hd w) (e99 : h.2 280 99 = k) (eL : L.length = k) (hL : L.Nodup) (hLb : ∀ x, x ∈ L → blw n x) (hm : ∀ q : Int, 0 ≤ q → q < k → h.2 349 q = li L q)
    (hq : ∀ v A B, FW [292, 348] [] h.2 v → GRn t hd w m L L.length A B → (∀ q : Int, 0 ≤ q → q < k → v 348 q = li (A ++ B) q) → Q none (h.1, v)) :
    qM l D (d + 2, 0, 0) m_Mo_greedyOrder [.inr (.inr 280)] h Q := sorry
end
section
/-! ===== turning edges: the component's ===== -/
theorem bt_1 {k : Int} (k0 : 0 ≤ k) (k1 : k < 32) : bt 1 k ↔ k = 0 := sorry
theorem and1_b {x : Int} : z_iand x 1 = 1 ↔ bt x 0 := sorry
theorem and2_b {x a b : Int} (a0 : 0 ≤ a) (a1 : a < 32) (b0 : 0 ≤ b) (b1 : b < 32) : z_iand (z_iand (z_ishr x a) (z_ishr x b)) 1 = 1 ↔ bt x a ∧ bt x b := sorry
theorem CG.fwx {C : List Int} {P : List (Int × Int)} {v v' : Int → Int → Int} {g : Int} {n m : Nat} {t hd w : Int → Int} (h : CG v g n m t hd w) (k : FW C P v v') (hC : ∀ c ∈ C, c < g ∨ g + 11 < c) (hP : ∀ p ∈ P, p.1 < g ∨ g + 11 < p.1) : CG v' g n m t hd w := sorry
/-- a step along an edge -/
def dgE (t hd : Int → Int) (m : Nat) (x y : Int) : Prop := ∃ e, blw m e ∧ t e = x ∧ hd e = y
/-- the members of a part, by number -/
def mbl (N : Int → Int) (n : Nat) (p : Int) : List Int := (lst (fun x => x) n).filter (fun x => decide (N x = p))
theorem mbl_mem {N : Int → Int} {n : Nat} {p x : Int} : x ∈ mbl N n p ↔ blw n x ∧ N x = p := sorry
theorem mbl_up {N : Int → Int} {n : Nat} {p : Int} : (mbl N n p).Pairwise (· < ·) := sorry
/-- the order of a part -/
def ORD (t hd w : Int → Int) (m : Nat) (L best : List Int) : Prop := (L.length ≤ 7 ∧ FB L (bkW t hd w m) best) ∨ (7 < L.length ∧ ∃ A B, GRn t hd w m L L.length A B ∧ best = A ++ B)
theorem ORD_un {t hd w : Int → Int} {m : Nat} {L b b' : List Int} (q : ORD t hd w m L b) (q' : ORD t hd w m L b') : b = b' := sorry
/-- which edges are turned -/
def TRN (n m : Nat) (t hd w tu : Int → Int) : Prop := ∃ N, num (sE (dgE t hd m)) n N ∧ ∀ e, blw m e → (tu e = 0 ∨ tu e = 1) ∧ (tu e = 1 ↔ (N (t e) = N (hd e) ∧ ∃ best, ORD t hd w m (mbl N n (N (t e))) best ∧ BKp t hd best e))
theorem TRN_un {n m : Nat} {t hd w tu tu' : Int → Int} (hr : ∀ e, blw m e → blw n (t e) ∧ blw n (hd e)) (q : TRN n m t hd w tu) (q' : TRN n m t hd w tu') : ∀ e, blw m e → tu e = tu' e := sorry
/-- an order's numbers tell what leads back -/
theorem BKp_nu {t hd : Int → Int} {b : List Int} (hn : b.Nodup) {f : Int → Int} (hf : ∀ i j : Int, 0 ≤ i → i < j → j < b.length → f (li b i) < f (li b j)) {e : Int} (ht : t e ∈ b) (hh : hd e ∈ b) : BKp t hd b e ↔ f (hd e) < f (t e) := sorry
end
section
/-! ===== turning edges: the component's walk ===== -/
set_option maxRecDepth 100000 in
theorem sp_La_turn {l : Launch} {D : qD} {d n m : Nat} {g an : Int} {t hd w : Int → Int} {h : qh} {Q : qQ} (hw : HW h.2) (hg : CG h.2 g n m t hd w) (hv : GV n m t hd w) (ap : aprt g 135) (e15 : h.2 135 15 = g) (han : an = 208 ∨ an = 273)
    (hq : ∀ v tu, FW [138, 141, 217, 218, 229, 232, an] [(209, 1), (135, 8)] h.2 v → TRN n m t hd w tu → (∀ e, blw m e → v 217 e = tu e) → (∀ e : Int, 0 ≤ e → e < 48 → v an e = v 217 e) → v 209 1 = g → num (sE (dR v g 0)) n (v 138) → v 135 8 = nums (sE (dR v g 0)) n → Q none (h.1, v)) :
    qM l D (d + 4, 0, 0) m_La_turn [.inr (.inr 209), .inr (.inr g), .inr (.inr 135), .inr (.inr an)] h Q := sorry
end
section
/-! ===== turning edges: the twin's ===== -/
set_option maxRecDepth 100000 in
theorem sp_Mo_turnEdges {l : Launch} {D : qD} {d n m : Nat} {r : Int} {t hd w : Int → Int} {h : qh} {Q : qQ} (hT : TW h.2) (hok : tok h.2) (hg : TG h.2 r n m t hd w) (hv : GV n m t hd w)
    (hq : ∀ v tu, FW [288, 291, 292, 346, 347, 348, 349] [(280, 99)] h.2 v → TRN n m t hd w tu → (∀ e, blw m e → v 346 e = tu e) → Q none (h.1, v)) :
    qM l D (d + 4, 0, 0) m_Mo_turnEdges [.inr (.inr 280)] h Q := sorry
end
section
/-! ===== layers: there is an order, edges as they are turned do not go round (plain) ===== -/
theorem li_min {g : Int → Int} : ∀ {L : List Int}, L ≠ [] → ∃ a, a ∈ L ∧ ∀ b, b ∈ L → g a < g b ∨ (g a = g b ∧ a ≤ b) := sorry
theorem FB_ex {T H w : Int → Int} {M : Nat} : ∀ (k : Nat) (L : List Int), L.length = k → ∃ b, FB L (bkW T H w M) b := sorry
theorem GPK_ex {S : Int → Prop} {ou iN : Int → Int} {L : List Int} (hS : ∀ x, S x → x ∈ L) (hx : ∃ x, S x) : ∃ i sk, GPK S ou iN i sk := sorry
theorem GRn_pm {T H w : Int → Int} {M : Nat} {L A B : List Int} (hL : L.Nodup) (q : GRn T H w M L L.length A B) : (A ++ B).Perm L := sorry
theorem GRn_ex {T H w : Int → Int} {M : Nat} {L : List Int} (hL : L.Nodup) : ∀ k : Nat, k ≤ L.length → ∃ A B, GRn T H w M L k A B := sorry
theorem ORD_ex {T H w : Int → Int} {M : Nat} {L : List Int} (hL : L.Nodup) : ∃ b, ORD T H w M L b ∧ b.Perm L := sorry
def frT (t hd tu : Int → Int) (e : Int) : Int := if tu e = 1 then hd e else t e
def toT (t hd tu : Int → Int) (e : Int) : Int := if tu e = 1 then t e else hd e
theorem chn_rch {R R' : Int → Int → Prop} (h : ∀ a b, R a b → rchs R' a b) : ∀ {L : List Int} {x y : Int}, chn R (x :: L ++ [y]) → rchs R' x y := sorry
/-- turned, the edges do not go round -/
theorem TRN_ac {n m : Nat} {t hd w tu : Int → Int} (hr : ∀ e, blw m e → blw n (t e) ∧ blw n (hd e)) (hl : nlp t hd (blw m)) (q : TRN n m t hd w tu) : ∀ x L, ¬ chn (fun a b => ∃ e, (0 ≤ e ∧ e < (m : Int)) ∧ frT t hd tu e = a ∧ toT t hd tu e = b) (x :: L ++ [x]) := sorry
/-- numbers along the turned edges -/
theorem TRN_tau {n m : Nat} {t hd w tu : Int → Int} (hr : ∀ e, blw m e → blw n (t e) ∧ blw n (hd e)) (hl : nlp t hd (blw m)) (q : TRN n m t hd w tu) : ∃ τ : Int → Int, (∀ e, blw m e → τ (frT t hd tu e) < τ (toT t hd tu e)) ∧ ∀ i, blw n i → 0 ≤ τ i ∧ τ i < n := sorry
end
section
/-! ===== layers: the least places are there; no layer is empty (plain) ===== -/
theorem lopt_ex {n K A : Nat} {ca cb cw cp aa bb dd : Int → Int} (hw : ∀ k : Int, 0 ≤ k → k < K → 0 ≤ cw k) {y0 : Int → Int} (f0 : fea A aa bb dd y0) (p0 : ∀ i : Int, 0 ≤ i → i < n → 0 ≤ y0 i) (hB : ∀ z, fea A aa bb dd z → (∀ i : Int, 0 ≤ i → i < n → 0 ≤ z i) → 0 ≤ fco K ca cb cw cp z) : ∃ y, lopt n (fea A aa bb dd) (fco K ca cb cw cp) y := sorry
/-- no layer is empty: there are at most as many as nodes -/
theorem lay_b {n m : Nat} {a b w y : Int → Int} (hin : ∀ e : Int, 0 ≤ e → e < m → blw n (a e) ∧ blw n (b e)) (hw : ∀ e : Int, 0 ≤ e → e < m → 0 ≤ w e) (L : lopt n (fea m a b (fun _ => 1)) (cst m a b w) y) : ∀ i, blw n i → 0 ≤ y i ∧ y i < n := sorry
end
section
/-! ===== layers: joints (the component's) ===== -/
def JN (n : Nat) (sp : Int → Int) (e : Int) : Int := n + sof (fun e => sp e - 1) e.toNat
def PN (sp : Int → Int) (e : Int) : Int := sof sp e.toNat
theorem JN_s {n : Nat} {sp : Int → Int} {e : Int} (h : 0 ≤ e) : JN n sp (e + 1) = JN n sp e + sp e - 1 := sorry
theorem PN_s {sp : Int → Int} {e : Int} (h : 0 ≤ e) : PN sp (e + 1) = PN sp e + sp e := sorry
theorem JN_0 {n : Nat} {sp : Int → Int} : JN n sp 0 = n := sorry
theorem PN_0 {sp : Int → Int} : PN sp 0 = 0 := sorry
/-- how heavy a piece is -/
def hvf (k s : Int) : Int := if s = 1 then 1 else if k = 1 ∨ k = s then 2 else 8
/-- the joints and pieces of an edge -/
def ITE (n : Nat) (sp y fr to w : Int → Int) (e : Int) (lay edg up dn hv : Int → Int) : Prop :=
  (∀ k : Int, 1 ≤ k → k < sp e → lay (JN n sp e + k - 1) = y (fr e) + k ∧ edg (JN n sp e + k - 1) = e) ∧
  (∀ k : Int, 1 ≤ k → k ≤ sp e → up (PN sp e + k - 1) = (if k = 1 then fr e else JN n sp e + k - 2) ∧ dn (PN sp e + k - 1) = (if k = sp e then to e else JN n sp e + k - 1) ∧ hv (PN sp e + k - 1) = w e * hvf k (sp e))
set_option maxRecDepth 100000 in
theorem sp_La_joints {l : Launch} {D : qD} {d n m : Nat} {g e : Int} {t hd w tu sp y : Int → Int} {h : qh} {Q : qQ} (hw : HW h.2) (eg : h.2 209 1 = g) (hg : CG h.2 g n m t hd w) (hv : GV n m t hd w) (be : blw m e) (htu : h.2 217 e = tu e) (tu01 : tu e = 0 ∨ tu e = 1) (e12 : h.2 209 12 = JN n sp e) (e17 : h.2 209 17 = PN sp e) (hy : ∀ i, blw n i → h.2 219 i = y i ∧ h.2 220 i = -1 ∧ 0 ≤ y i ∧ y i < 24) (jn : n ≤ JN n sp e) (pn : 0 ≤ PN sp e) (s1 : 1 ≤ sp e) (s24 : sp e ≤ 24) (j72 : JN n sp e + sp e - 1 ≤ 72) (p120 : PN sp e + sp e ≤ 120)
    (hq : ∀ v, FW [219, 220, 226, 227, 228] [(209, 12), (209, 17)] h.2 v → v 209 12 = JN n sp (e + 1) → v 209 17 = PN sp (e + 1) → (∀ i : Int, i < JN n sp e → v 219 i = h.2 219 i ∧ v 220 i = h.2 220 i) → (∀ i : Int, i < PN sp e → v 226 i = h.2 226 i ∧ v 227 i = h.2 227 i ∧ v 228 i = h.2 228 i) → ITE n sp y (frT t hd tu) (toT t hd tu) w e (v 219) (v 220) (v 226) (v 227) (v 228) → Q none (h.1, v)) :
    qM l D (d + 2, 0, 0) m_La_joints [.inr (.inr 209), .inl e, .inl (sp e)] h Q := sorry
end
section
/-! ===== layers: what each layer holds (the component's) ===== -/
def fsm (O : Int → List Int) (k : Int) : Int := sof (fun l => ((O l).length : Int)) k.toNat
theorem fsm_0 {O : Int → List Int} : fsm O 0 = 0 := sorry
theorem fsm_s {O : Int → List Int} {k : Int} (h : 0 ≤ k) : fsm O (k + 1) = fsm O k + (O k).length := sorry
theorem fsm_nn {O : Int → List Int} {k : Int} : 0 ≤ fsm O k := sorry
theorem fsm_cg {O O' : Int → List Int} {k : Int} (h : ∀ l : Int, 0 ≤ l → l < k → (O l).length = (O' l).length) : fsm O k = fsm O' k := sorry
theorem fsm_le {O : Int → List Int} {a b : Int} (a0 : 0 ≤ a) (ab : a ≤ b) : fsm O a ≤ fsm O b := sorry
theorem mbl_len {N : Int → Int} {n : Nat} {p : Int} : (mbl N n p).length = cnt (fun x => N x = p) n := sorry
theorem fsm_cnt {lay : Int → Int} {n : Nat} : ∀ k : Nat, fsm (mbl lay n) k = cnt (fun x => 0 ≤ lay x ∧ lay x < k) n := sorry
/-- rows of layers, as they are kept -/
def RWS (lm : Int) (O : Int → List Int) (fi mn ro : Int → Int) : Prop := ∀ k : Int, 0 ≤ k → k < lm → fi k = fsm O k ∧ mn k = (O k).length ∧ ∀ j : Int, 0 ≤ j → j < (O k).length → ro (fsm O k + j) = li (O k) j
set_option maxRecDepth 100000 in
theorem sp_La_list {l : Launch} {D : qD} {d : Nat} {N lm : Nat} {lay : Int → Int} {h : qh} {Q : qQ} (hw : HW h.2) (n72 : N ≤ 72) (l24 : lm ≤ 24) (e12 : h.2 209 12 = N) (e13 : h.2 209 13 = lm) (hl : ∀ i, blw N i → h.2 219 i = lay i)
    (hq : ∀ v, FW [221, 222, 223] [] h.2 v → RWS lm (mbl lay N) (v 221) (v 222) (v 223) → v 221 lm = fsm (mbl lay N) lm → Q none (h.1, v)) :
    qM l D (d + 1, 0, 0) m_La_list [.inr (.inr 209)] h Q := sorry
/-- an item's place in its layer -/
def plO (lm : Int) (O : Int → List Int) (pl : Int → Int) : Prop := ∀ k j : Int, 0 ≤ k → k < lm → 0 ≤ j → j < (O k).length → pl (li (O k) j) = j
set_option maxRecDepth 100000 in
theorem sp_La_number {l : Launch} {D : qD} {d : Nat} {N lm : Nat} {O : Int → List Int} {h : qh} {Q : qQ} (hw : HW h.2) (n72 : N ≤ 72) (l24 : lm ≤ 24) (e13 : h.2 209 13 = lm) (hO : RWS lm O (h.2 221) (h.2 222) (h.2 223)) (ON : fsm O lm ≤ N) (Ob : ∀ k x : Int, 0 ≤ k → k < lm → x ∈ O k → blw N x) (On : ∀ k : Int, 0 ≤ k → k < lm → (O k).Nodup) (Od : ∀ k k' x : Int, 0 ≤ k → k < lm → 0 ≤ k' → k' < lm → x ∈ O k → x ∈ O k' → k = k')
    (hq : ∀ v, FW [225] [] h.2 v → plO lm O (v 225) → Q none (h.1, v)) :
    qM l D (d + 1, 0, 0) m_La_number [.inr (.inr 209)] h Q := sorry
end
section
/-! ===== layers: crossings (the component's) ===== -/
def crQ (lay up dn pl : Int → Int) (p q : Int) : Int := if lay (up p) = lay (up q) ∧ ((pl (up p) - pl (up q) < 0 ∧ 0 < pl (dn p) - pl (dn q)) ∨ (0 < pl (up p) - pl (up q) ∧ pl (dn p) - pl (dn q) < 0)) then 1 else 0
def crS (lay up dn pl : Int → Int) (p : Int) : Int := sof (crQ lay up dn pl p) p.toNat
def crP (lay up dn pl : Int → Int) (P : Nat) : Int := sof (crS lay up dn pl) P
theorem crQ_b {lay up dn pl : Int → Int} {p q : Int} : 0 ≤ crQ lay up dn pl p q ∧ crQ lay up dn pl p q ≤ 1 := sorry
theorem sofq_b {F : Int → Int} {c : Int} : ∀ {n : Nat}, (∀ k : Int, 0 ≤ k → k < n → 0 ≤ F k ∧ F k ≤ c) → 0 ≤ sof F n ∧ sof F n ≤ n * c := sorry
theorem crS_b {lay up dn pl : Int → Int} {p : Int} (h0 : 0 ≤ p) (h1 : p ≤ 120) : 0 ≤ crS lay up dn pl p ∧ crS lay up dn pl p ≤ 120 := sorry
theorem crP_b {lay up dn pl : Int → Int} {P : Nat} (h : P ≤ 120) : 0 ≤ crP lay up dn pl P ∧ crP lay up dn pl P ≤ 14400 := sorry
set_option maxRecDepth 100000 in
theorem sp_La_crossings {l : Launch} {D : qD} {d : Nat} {N lm P : Nat} {O : Int → List Int} {lay up dn : Int → Int} {h : qh} {Q : qQ} (hw : HW h.2) (n72 : N ≤ 72) (l24 : lm ≤ 24) (p120 : P ≤ 120) (e13 : h.2 209 13 = lm) (e17 : h.2 209 17 = P) (hl : ∀ i, blw N i → h.2 219 i = lay i) (hu : ∀ p, blw P p → (h.2 226 p = up p ∧ h.2 227 p = dn p) ∧ blw N (up p) ∧ blw N (dn p)) (hO : RWS lm O (h.2 221) (h.2 222) (h.2 223)) (ON : fsm O lm ≤ N) (Ob : ∀ k x : Int, 0 ≤ k → k < lm → x ∈ O k → blw N x) (On : ∀ k : Int, 0 ≤ k → k < lm → (O k).Nodup) (Od : ∀ k k' x : Int, 0 ≤ k → k < lm → 0 ≤ k' → k' < lm → x ∈ O k → x ∈ O k' → k = k') (Oa : ∀ x, blw N x → ∃ k : Int, (0 ≤ k ∧ k < lm) ∧ x ∈ O k)
    (hq : ∀ v pl, FW [225] [] h.2 v → plO lm O pl → Q (some (.inl (crP lay up dn pl P))) (h.1, v)) :
    qM l D (d + 2, 0, 0) m_La_crossings [.inr (.inr 209)] h Q := sorry
end
section
/-! ===== layers: crossings (the twin's) ===== -/
def RWT (lm : Int) (O : Int → List Int) (sz it : Int → Int) : Prop := ∀ k : Int, 0 ≤ k → k < lm → sz k = (O k).length ∧ ∀ j : Int, 0 ≤ j → j < (O k).length → it (76 * k + j) = li (O k) j
set_option maxRecDepth 100000 in
theorem sp_Mo_placeOf {l : Launch} {D : qD} {d : Nat} {x k j : Int} {L : List Int} {h : qh} {Q : qQ} (hT : TW h.2) (x0 : 0 ≤ x ∧ x < 76) (k0 : 0 ≤ k ∧ k < 76) (hl : h.2 350 x = k) (hL : ∀ q : Int, 0 ≤ q → q < L.length → h.2 354 (76 * k + q) = li L q) (l76 : L.length ≤ 76) (hn : L.Nodup) (j0 : 0 ≤ j ∧ j < L.length) (jx : li L j = x) (hq : Q (some (.inl j)) h) :
    qM l D (d + 1, 0, 0) m_Mo_placeOf [.inr (.inr 280), .inl x] h Q := sorry
set_option maxRecDepth 100000 in
theorem sp_Mo_crossings {l : Launch} {D : qD} {d : Nat} {N lm P : Nat} {O : Int → List Int} {lay up dn pl : Int → Int} {h : qh} {Q : qQ} (hT : TW h.2) (n72 : N ≤ 72) (l24 : lm ≤ 24) (p120 : P ≤ 120) (e107 : h.2 280 107 = P) (hl : ∀ i, blw N i → h.2 350 i = lay i) (hu : ∀ p, blw P p → (h.2 355 p = up p ∧ h.2 356 p = dn p) ∧ blw N (up p) ∧ blw N (dn p)) (hO : RWT lm O (h.2 353) (h.2 354)) (Ol : ∀ k : Int, 0 ≤ k → k < lm → (O k).length ≤ 72) (On : ∀ k : Int, 0 ≤ k → k < lm → (O k).Nodup) (Oa : ∀ x, blw N x → (0 ≤ lay x ∧ lay x < lm) ∧ x ∈ O (lay x)) (hp : plO lm O pl)
    (hq : Q (some (.inl (crP lay up dn pl P))) h) :
    qM l D (d + 2, 0, 0) m_Mo_crossings [.inr (.inr 280)] h Q := sorry
set_option maxRecDepth 100000 in
theorem sp_Mo_isSmall {l : Launch} {D : qD} {d lm : Nat} {O : Int → List Int} {h : qh} {Q : qQ} (hT : TW h.2) (l24 : lm ≤ 24) (e101 : h.2 280 101 = lm) (hO : ∀ k : Int, 0 ≤ k → k < lm → h.2 353 k = (O k).length) (h1 : (∀ k : Int, 0 ≤ k → k < lm → (O k).length ≤ 6) → Q (some (.inl 1)) h) (h0 : (∃ k : Int, (0 ≤ k ∧ k < lm) ∧ 6 < (O k).length) → Q (some (.inl 0)) h) :
    qM l D (d + 1, 0, 0) m_Mo_isSmall [.inr (.inr 280)] h Q := sorry
end
section
/-! ===== layers: what each layer holds (the twin's) ===== -/
theorem PN_JN {n : Nat} {sp : Int → Int} : ∀ e : Nat, PN sp e = JN n sp e - n + e := sorry
theorem JN_le {n : Nat} {sp : Int → Int} {m : Nat} (h : ∀ e, blw m e → 1 ≤ sp e) {a b : Int} (a0 : 0 ≤ a) (ab : a ≤ b) (bm : b ≤ m) : JN n sp a ≤ JN n sp b := sorry
theorem PN_le {sp : Int → Int} {m : Nat} (h : ∀ e, blw m e → 1 ≤ sp e) {a b : Int} (a0 : 0 ≤ a) (ab : a ≤ b) (bm : b ≤ m) : PN sp a ≤ PN sp b := sorry
/-- the joints and pieces of an edge, without their weights -/
def ITT (n : Nat) (sp y fr to : Int → Int) (e : Int) (lay edg up dn : Int → Int) : Prop :=
  (∀ k : Int, 1 ≤ k → k < sp e → lay (JN n sp e + k - 1) = y (fr e) + k ∧ edg (JN n sp e + k - 1) = e) ∧
  (∀ k : Int, 1 ≤ k → k ≤ sp e → up (PN sp e + k - 1) = (if k = 1 then fr e else JN n sp e + k - 2) ∧ dn (PN sp e + k - 1) = (if k = sp e then to e else JN n sp e + k - 1))
theorem ITE.t {n : Nat} {sp y fr to w : Int → Int} {e : Int} {lay edg up dn hv : Int → Int} (q : ITE n sp y fr to w e lay edg up dn hv) : ITT n sp y fr to e lay edg up dn := sorry
/-- as many layers as are met -/
def LMX (N : Int) (lay : Int → Int) (lm : Int) : Prop := (∀ i : Int, 0 ≤ i → i < N → lay i < lm) ∧ (lm = 0 ∨ ∃ i : Int, (0 ≤ i ∧ i < N) ∧ lay i = lm - 1)
set_option maxRecDepth 100000 in
theorem sp_Mo_list {l : Launch} {D : qD} {d n m : Nat} {r : Int} {t hd w tu sp y : Int → Int} {h : qh} {Q : qQ} (hT : TW h.2) (hg : TG h.2 r n m t hd w) (hv : GV n m t hd w) (htu : ∀ e, blw m e → h.2 346 e = tu e ∧ (tu e = 0 ∨ tu e = 1)) (hy : ∀ i, blw n i → h.2 350 i = y i ∧ 0 ≤ y i ∧ y i < 24) (hsp : ∀ e, blw m e → sp e = y (toT t hd tu e) - y (frT t hd tu e) ∧ 1 ≤ sp e) (j72 : JN n sp m ≤ 72)
    (hq : ∀ v (N lm : Nat) (lay : Int → Int), FW [350, 351, 352, 353, 354, 355, 356] [(280, 100), (280, 101), (280, 107)] h.2 v → (N : Int) = JN n sp m → v 280 100 = N → v 280 107 = PN sp m → (∀ i, v 350 i = lay i) → (∀ i, blw n i → lay i = y i) → (∀ e, blw m e → ITT n sp y (frT t hd tu) (toT t hd tu) e lay (v 351) (v 355) (v 356) ∧ v 352 e = JN n sp e) → lm ≤ 24 → v 280 101 = lm → LMX N lay lm → RWT lm (mbl lay N) (v 353) (v 354) → Q none (h.1, v)) :
    qM l D (d + 4, 0, 0) m_Mo_list [.inr (.inr 280), .inl (n : Int)] h Q := sorry
end
section
/-! ===== layers: a layer by means (the component's) ===== -/
def insR (gt : Int → Int → Prop) (L : List Int) (x : Int) (L' : List Int) : Prop := ∃ L1 L2, L = L1 ++ L2 ∧ L' = L1 ++ x :: L2 ∧ (∀ y, y ∈ L2 → gt y x) ∧ ∀ L0 y, L1 = L0 ++ [y] → ¬ gt y x
theorem insR_un {gt : Int → Int → Prop} {L L' L'' : List Int} {x : Int} (q : insR gt L x L') (q' : insR gt L x L'') : L' = L'' := sorry
/-- one after the other comes in -/
def isN (gt : Int → Int → Prop) (f : Int → Int) : Nat → List Int → Prop
  | 0, L => L = []
  | k + 1, L => ∃ L0, isN gt f k L0 ∧ insR gt L0 (f k) L
theorem isN_un {gt : Int → Int → Prop} {f : Int → Int} : ∀ {k : Nat} {L L' : List Int}, isN gt f k L → isN gt f k L' → L = L' := sorry
theorem isN_pm {gt : Int → Int → Prop} {f : Int → Int} : ∀ {k : Nat} {L : List Int}, isN gt f k L → L.Perm (lst f k) := sorry
theorem isN_cg {gt gt' : Int → Int → Prop} {f f' : Int → Int} : ∀ {k : Nat} {L : List Int}, (∀ j : Int, 0 ≤ j → j < k → f j = f' j) → (∀ i j : Int, 0 ≤ i → i < k → 0 ≤ j → j < k → (gt (f i) (f j) ↔ gt' (f i) (f j))) → isN gt f k L → isN gt' f' k L := sorry
/-- sum and number of the places that an item is joined to, or its own -/
noncomputable def mnA (cu ot pl : Int → Int) (P : Nat) (x k : Int) : Int := if cnt (fun p => cu p = x) P = 0 then k else swt (fun p => cu p = x) (fun p => pl (ot p)) P
noncomputable def mnB (cu : Int → Int) (P : Nat) (x : Int) : Int := if cnt (fun p => cu p = x) P = 0 then 1 else cnt (fun p => cu p = x) P
/-- greater by means: places k of x, its own, told by kp -/
def gtM (A B : Int → Int) (y x : Int) : Prop := A y * B x > A x * B y
theorem swt_bb {P : Int → Prop} {w : Int → Int} {c : Int} (c0 : 0 ≤ c) : ∀ {n : Nat}, (∀ e, blw n e → 0 ≤ w e ∧ w e ≤ c) → 0 ≤ swt P w n ∧ swt P w n ≤ c * n := sorry
end
section
/-! ===== layers: a layer by means, the component's walk ===== -/
def updO (O : Int → List Int) (k : Int) (L : List Int) (j : Int) : List Int := if j = k then L else O j
theorem fsm_up {O : Int → List Int} {k : Int} {L : List Int} (h : L.length = (O k).length) (j : Int) : fsm (updO O k L) j = fsm O j := sorry
set_option maxRecDepth 100000 in
theorem sp_La_sort {l : Launch} {D : qD} {d : Nat} {N lm P : Nat} {lv ab : Int} {O : Int → List Int} {up dn : Int → Int} {h : qh} {Q : qQ} (hw : HW h.2) (n72 : N ≤ 72) (l24 : lm ≤ 24) (p120 : P ≤ 120) (e13 : h.2 209 13 = lm) (e17 : h.2 209 17 = P) (hu : ∀ p, blw P p → (h.2 226 p = up p ∧ h.2 227 p = dn p) ∧ blw N (up p) ∧ blw N (dn p)) (hO : RWS lm O (h.2 221) (h.2 222) (h.2 223)) (ON : fsm O lm ≤ N) (Ob : ∀ k x : Int, 0 ≤ k → k < lm → x ∈ O k → blw N x) (On : ∀ k : Int, 0 ≤ k → k < lm → (O k).Nodup) (Od : ∀ k k' x : Int, 0 ≤ k → k < lm → 0 ≤ k' → k' < lm → x ∈ O k → x ∈ O k' → k = k') (Oa : ∀ x, blw N x → ∃ k : Int, (0 ≤ k ∧ k < lm) ∧ x ∈ O k) (lv0 : 0 ≤ lv ∧ lv < lm) (ab01 : ab = 0 ∨ ab = 1)
    (hq : ∀ v pl L, FW [223, 225, 230, 231] [] h.2 v → plO lm O pl → isN (gtM (fun x => mnA (if ab = 0 then up else dn) (if ab = 0 then dn else up) pl P x (pl x)) (fun x => mnB (if ab = 0 then up else dn) P x)) (li (O lv)) (O lv).length L → RWS lm (updO O lv L) (v 221) (v 222) (v 223) → Q none (h.1, v)) :
    qM l D (d + 2, 0, 0) m_La_sort [.inr (.inr 209), .inl lv, .inl ab] h Q := sorry
end
section
/-! ===== layers: an order by its number (the component's) ===== -/
theorem sbl_spl {f : Int → Int} {x : Int} {j : Nat} (hb : z_iand (z_ishr x j) 1 = 1) : ∀ n : Nat, j < n → n ≤ 32 → ∃ B, sbl f x n = sbl f x j ++ f j :: B ∧ sbl f (wo x j) n = sbl f x j ++ B := sorry
theorem sbl_len {f : Int → Int} {x : Int} : ∀ n : Nat, (sbl f x (n + 1)).length = (sbl f x n).length + (if z_iand (z_ishr x n) 1 = 1 then 1 else 0) := sorry
theorem sbl_lm {f : Int → Int} {x : Int} {a b : Nat} (h : a ≤ b) : (sbl f x a).length ≤ (sbl f x b).length := sorry
theorem fcl_b : ∀ n : Nat, n ≤ 6 → fcl n ≤ 720 := sorry
set_option maxRecDepth 100000 in
theorem sp_La_placeIn {l : Launch} {D : qD} {d n o : Nat} {k : Int} {h : qh} {Q : qQ} (n6 : n ≤ 6) (on : o < fcl n) (k0 : 0 ≤ k ∧ k < n) (hq : Q (some (.inl (li (dec n (lst (fun x => x) n) o) k))) h) :
    qM l D (d + 1, 0, 0) m_La_placeIn [.inl (o : Int), .inl (n : Int), .inl k] h Q := sorry
end
section
/-! ===== layers: all orders (the component's) ===== -/
theorem sbl_fl {n : Nat} (n6 : n ≤ 24) : sbl (fun x => x) (z_ishl 1 (n : Int) - 1) n = lst (fun x => x) n := sorry
/-- the rows of all orders of n -/
def ORW (n : Nat) (T : Nat) (ro : Int → Int) : Prop := ∀ o : Nat, o < T → ∀ k : Int, 0 ≤ k → k < n → ro (6 * o + k) = li (dec n (lst (fun x => x) n) o) k
set_option maxRecDepth 100000 in
theorem sp_La_ordersOf {l : Launch} {D : qD} {d n : Nat} {h : qh} {Q : qQ} (hw : HW h.2) (n6 : n ≤ 6) (hq : ∀ v, FW [233] [] h.2 v → ORW n (fcl n) (v 233) → Q (some (.inl (fcl n : Int))) (h.1, v)) :
    qM l D (d + 1, 0, 0) m_La_ordersOf [.inr (.inr 209), .inl (n : Int)] h Q := sorry
end
section
/-! ===== layers: two in a row change over (the twin's) ===== -/
set_option maxRecDepth 100000 in
theorem Mo_by_sw {l : Launch} {D : qD} {d : Nat} {lv ab nn k j AX AY BX BY x y : Int} {v' : Int → Int → Int} {h : qh} {Q : qQ} (x6 x7 x8 x9 x10 : Option qv) (y117 : v' 280 117 = 364) (y119 : v' 280 119 = 366) (y120 : v' 280 120 = 367) (jb : 1 ≤ j ∧ j < 72) (a1 : v' 366 (j - 1) = AY) (a2 : v' 367 (j - 1) = BY) (a3 : v' 366 j = AX) (a4 : v' 367 j = BX) (rj : v' 364 j = x) (rj1 : v' 364 (j - 1) = y) (p1 : 0 ≤ AY * BX ∧ AY * BX ≤ 1036800) (p2 : 0 ≤ AX * BY ∧ AX * BY ≤ 1036800) (k0 : 0 ≤ k ∧ k < 100)
    (s1 : AY * BX > AX * BY → ∀ (x6 x7 x8 x9 x10 : Option qv), qR l D (d + 2, 0, 0) m_Mo_byMeans 190 (fun r h' => Q r ((h'.1.1, h.1.2.1, h.1.2.2), h'.2)) [some (.inr (.inr (280))), some (.inl (lv)), some (.inl (ab)), some (.inl (nn)), some (.inl (k)), some (.inl (j + -1)), x6, x7, x8, x9, x10] [] ((h.1.1, 0, 0), up2 (up2 (up2 (up2 (up2 (up2 v' 366 j AY) 366 (j - 1) AX) 367 j BY) 367 (j - 1) BX) 364 j y) 364 (j - 1) x))
    (s0 : ¬ AY * BX > AX * BY → qR l D (d + 2, 0, 0) m_Mo_byMeans 180 (fun r h' => Q r ((h'.1.1, h.1.2.1, h.1.2.2), h'.2)) [some (.inr (.inr (280))), some (.inl (lv)), some (.inl (ab)), some (.inl (nn)), some (.inl (k + 1)), some (.inl (j)), x6, x7, x8, x9, x10] [] ((h.1.1, 0, 0), v')) :
    qR l D (d + 2, 0, 0) m_Mo_byMeans 190 (fun r h' => Q r ((h'.1.1, h.1.2.1, h.1.2.2), h'.2)) [some (.inr (.inr (280))), some (.inl (lv)), some (.inl (ab)), some (.inl (nn)), some (.inl (k)), some (.inl (j)), x6, x7, x8, x9, x10] [] ((h.1.1, 0, 0), v') := sorry
end
section
/-! ===== layers: the means of one, its parts (the twin's) ===== -/
set_option maxRecDepth 100000 in
theorem Mo_by_e {l : Launch} {D : qD} {d : Nat} {lv ab nn k x SW CN P : Int} {v : Int → Int → Int} {h : qh} {Q : qQ} (y107 : v 280 107 = P) (y117 : v 280 117 = 364) (y119 : v 280 119 = 366) (y120 : v 280 120 = 367) (k0 : 0 ≤ k ∧ k < 72) (c0 : 0 ≤ CN) 
    (n1 : ¬ CN = 0 → ∀ (x6 x7 x8 x9 x10 : Option qv), qR l D (d + 2, 0, 0) m_Mo_byMeans 10 (fun r h' => Q r ((h'.1.1, h.1.2.1, h.1.2.2), h'.2)) [some (.inr (.inr (280))), some (.inl (lv)), some (.inl (ab)), some (.inl (nn)), some (.inl (k + 1)), some (.inl (x)), x6, x7, x8, x9, x10] [] ((h.1.1, 0, 0), up2 (up2 (up2 v 366 k SW) 367 k CN) 364 k x))
    (n0 : CN = 0 → ∀ (x6 x7 x8 x9 x10 : Option qv), qR l D (d + 2, 0, 0) m_Mo_byMeans 10 (fun r h' => Q r ((h'.1.1, h.1.2.1, h.1.2.2), h'.2)) [some (.inr (.inr (280))), some (.inl (lv)), some (.inl (ab)), some (.inl (nn)), some (.inl (k + 1)), some (.inl (x)), x6, x7, x8, x9, x10] [] ((h.1.1, 0, 0), up2 (up2 (up2 v 366 k k) 367 k 1) 364 k x)) :
    qR l D (d + 2, 0, 0) m_Mo_byMeans 39 (fun r h' => Q r ((h'.1.1, h.1.2.1, h.1.2.2), h'.2)) [some (.inr (.inr (280))), some (.inl (lv)), some (.inl (ab)), some (.inl (nn)), some (.inl (k)), some (.inl (x)), some (.inr (.inl (SW))), none, some (.inr (.inl (CN))), none, some (.inl (P))] [] ((h.1.1, 0, 0), v) := sorry
theorem s_ladd_ap (K : qK) (ls : List (Option qv)) (x y : Int) (r : List qv) (h : qh) : s_ladd K ls (.inr (.inl y) :: .inr (.inl x) :: r) h = K ls (.inr (.inl (w64 (x + y))) :: r) h := sorry
set_option maxRecDepth 100000 in
theorem Mo_by_s {l : Launch} {D : qD} {d : Nat} {lv ab nn k x SW CN PO CP OP p P : Int} {v : Int → Int → Int} {h : qh} {Q : qQ} (y107 : v 280 107 = P) (y108 : v 280 108 = 355) (y109 : v 280 109 = 356) (pb : 0 ≤ p ∧ p < P ∧ P ≤ 120) (ab01 : ab = 0 ∨ ab = 1) (u1 : v 355 p = (if ab = 0 then CP else OP)) (u2 : v 356 p = (if ab = 0 then OP else CP)) (call : ∀ Q' : qQ, Q' (some (.inl PO)) ((h.1.1, 0, 0), v) → qM l D (d + 1, 0, 0) m_Mo_placeOf [.inr (.inr 280), .inl OP] ((h.1.1, 0, 0), v) Q') (b1 : 0 ≤ SW ∧ SW ≤ 100000) (b2 : 0 ≤ CN ∧ CN ≤ 1000) (b3 : 0 ≤ PO ∧ PO ≤ 1000)
    (sy : CP = x → qR l D (d + 2, 0, 0) m_Mo_byMeans 39 (fun r h' => Q r ((h'.1.1, h.1.2.1, h.1.2.2), h'.2)) [some (.inr (.inr (280))), some (.inl (lv)), some (.inl (ab)), some (.inl (nn)), some (.inl (k)), some (.inl (x)), some (.inr (.inl (SW + PO))), none, some (.inr (.inl (CN + 1))), none, some (.inl (p + 1))] [] ((h.1.1, 0, 0), v))
    (sn : CP ≠ x → qR l D (d + 2, 0, 0) m_Mo_byMeans 39 (fun r h' => Q r ((h'.1.1, h.1.2.1, h.1.2.2), h'.2)) [some (.inr (.inr (280))), some (.inl (lv)), some (.inl (ab)), some (.inl (nn)), some (.inl (k)), some (.inl (x)), some (.inr (.inl (SW))), none, some (.inr (.inl (CN))), none, some (.inl (p + 1))] [] ((h.1.1, 0, 0), v)) :
    qR l D (d + 2, 0, 0) m_Mo_byMeans 39 (fun r h' => Q r ((h'.1.1, h.1.2.1, h.1.2.2), h'.2)) [some (.inr (.inr (280))), some (.inl (lv)), some (.inl (ab)), some (.inl (nn)), some (.inl (k)), some (.inl (x)), some (.inr (.inl (SW))), none, some (.inr (.inl (CN))), none, some (.inl (p))] [] ((h.1.1, 0, 0), v) := sorry
end
section
/-! ===== layers: a layer by means, the twin's walk ===== -/
set_option maxRecDepth 100000 in
theorem sp_Mo_byMeans {l : Launch} {D : qD} {d : Nat} {N lm P : Nat} {lv ab : Int} {O : Int → List Int} {lay up dn pl : Int → Int} {h : qh} {Q : qQ} (hT : TW h.2) (n72 : N ≤ 72) (l24 : lm ≤ 24) (p120 : P ≤ 120) (e107 : h.2 280 107 = P) (hl : ∀ i, blw N i → h.2 350 i = lay i) (hu : ∀ p, blw P p → (h.2 355 p = up p ∧ h.2 356 p = dn p) ∧ blw N (up p) ∧ blw N (dn p)) (hO : RWT lm O (h.2 353) (h.2 354)) (Ol : ∀ k : Int, 0 ≤ k → k < lm → (O k).length ≤ 72) (Ob : ∀ k x : Int, 0 ≤ k → k < lm → x ∈ O k → blw N x) (On : ∀ k : Int, 0 ≤ k → k < lm → (O k).Nodup) (Oa : ∀ x, blw N x → (0 ≤ lay x ∧ lay x < lm) ∧ x ∈ O (lay x)) (hp : plO lm O pl) (lv0 : 0 ≤ lv ∧ lv < lm) (ab01 : ab = 0 ∨ ab = 1)
    (hq : ∀ v L, FW [354, 364, 366, 367] [] h.2 v → isN (gtM (fun x => mnA (if ab = 0 then up else dn) (if ab = 0 then dn else up) pl P x (pl x)) (fun x => mnB (if ab = 0 then up else dn) P x)) (li (O lv)) (O lv).length L → RWT lm (updO O lv L) (v 353) (v 354) → Q none (h.1, v)) :
    qM l D (d + 2, 0, 0) m_Mo_byMeans [.inr (.inr 280), .inl lv, .inl ab] h Q := sorry
end
section
/-! ===== layers: sweeps (plain) ===== -/
/-- the rows are rows of all items, each in one -/
def ROK (N lm : Nat) (lay : Int → Int) (O : Int → List Int) : Prop := (∀ k x : Int, 0 ≤ k → k < lm → x ∈ O k → blw N x ∧ lay x = k) ∧ (∀ k : Int, 0 ≤ k → k < lm → (O k).Nodup) ∧ ∀ x, blw N x → (0 ≤ lay x ∧ lay x < lm) ∧ x ∈ O (lay x)
theorem ROK_mbl {N lm : Nat} {lay : Int → Int} (h : ∀ x, blw N x → 0 ≤ lay x ∧ lay x < lm) : ROK N lm lay (mbl lay N) := sorry
theorem ROK_up {N lm : Nat} {lay : Int → Int} {O : Int → List Int} {l : Int} {L : List Int} (r : ROK N lm lay O) (pm : L.Perm (O l)) : ROK N lm lay (updO O l L) := sorry
theorem ROK_len {N lm : Nat} {lay : Int → Int} {O : Int → List Int} (r : ROK N lm lay O) {k : Int} (k0 : 0 ≤ k) (k1 : k < lm) : (O k).length = (mbl lay N k).length := sorry
theorem ROK_fsm {N lm : Nat} {lay : Int → Int} {O : Int → List Int} (r : ROK N lm lay O) : fsm O lm ≤ N ∧ ∀ k : Int, 0 ≤ k → k < lm → (O k).length ≤ N := sorry
theorem plO_un {N lm : Nat} {lay : Int → Int} {O : Int → List Int} {pl pl' : Int → Int} (r : ROK N lm lay O) (q : plO lm O pl) (q' : plO lm O pl') : ∀ x, blw N x → pl x = pl' x := sorry
theorem plO_ex {N lm : Nat} {lay : Int → Int} {O : Int → List Int} (r : ROK N lm lay O) : ∃ pl, plO lm O pl := sorry
/-- one layer is put in order -/
def SR1 (up dn : Int → Int) (P lm : Nat) (ab l : Int) (O O' : Int → List Int) : Prop := ∃ pl L, plO lm O pl ∧ isN (gtM (fun x => mnA (if ab = 0 then up else dn) (if ab = 0 then dn else up) pl P x (pl x)) (fun x => mnB (if ab = 0 then up else dn) P x)) (li (O l)) (O l).length L ∧ O' = updO O l L
theorem SR1_un {N lm P : Nat} {lay up dn : Int → Int} {O O1 O2 : Int → List Int} {ab l : Int} (r : ROK N lm lay O) (hu : ∀ p, blw P p → blw N (up p) ∧ blw N (dn p)) (l0 : 0 ≤ l ∧ l < lm) (q : SR1 up dn P lm ab l O O1) (q' : SR1 up dn P lm ab l O O2) : O1 = O2 := sorry
theorem SR1_ok {N lm P : Nat} {lay up dn : Int → Int} {O O1 : Int → List Int} {ab l : Int} (r : ROK N lm lay O) (q : SR1 up dn P lm ab l O O1) : ROK N lm lay O1 := sorry
/-- layer after layer, from l on -/
def SWU (up dn : Int → Int) (P lm : Nat) : Nat → Int → (Int → List Int) → (Int → List Int) → Prop
  | 0, _, O, O' => O' = O
  | s + 1, l, O, O' => ∃ O1, SR1 up dn P lm 1 l O O1 ∧ SWU up dn P lm s (l + 1) O1 O'
/-- layer after layer, down to 0 -/
def SWD (up dn : Int → Int) (P lm : Nat) : Nat → (Int → List Int) → (Int → List Int) → Prop
  | 0, O, O' => O' = O
  | s + 1, O, O' => ∃ O1, SR1 up dn P lm 0 s O O1 ∧ SWD up dn P lm s O1 O'
/-- so many sweeps: the rows, the best ones, how often they cross -/
def SWP (lay up dn : Int → Int) (P lm : Nat) (O0 : Int → List Int) : Nat → (Int → List Int) → (Int → List Int) → Int → Prop
  | 0, O, B, f => O = O0 ∧ B = O0 ∧ ∃ pl, plO lm O0 pl ∧ f = crP lay up dn pl P
  | s + 1, O, B, f => ∃ O1 B1 f1, SWP lay up dn P lm O0 s O1 B1 f1 ∧ (if s % 2 = 0 then SWU up dn P lm (lm - 1) 1 O1 O else SWD up dn P lm (lm - 1) O1 O) ∧ ∃ pl, plO lm O pl ∧ ((crP lay up dn pl P < f1 ∧ B = O ∧ f = crP lay up dn pl P) ∨ (¬ crP lay up dn pl P < f1 ∧ B = B1 ∧ f = f1))
theorem SWU_ok {N lm P : Nat} {lay up dn : Int → Int} (hu : ∀ p, blw P p → blw N (up p) ∧ blw N (dn p)) : ∀ {s : Nat} {l : Int} {O O1 O2 : Int → List Int}, ROK N lm lay O → 0 ≤ l → l + s ≤ lm → SWU up dn P lm s l O O1 → ROK N lm lay O1 ∧ (SWU up dn P lm s l O O2 → O1 = O2) := sorry
theorem SWD_ok {N lm P : Nat} {lay up dn : Int → Int} (hu : ∀ p, blw P p → blw N (up p) ∧ blw N (dn p)) : ∀ {s : Nat} {O O1 O2 : Int → List Int}, ROK N lm lay O → s ≤ lm → SWD up dn P lm s O O1 → ROK N lm lay O1 ∧ (SWD up dn P lm s O O2 → O1 = O2) := sorry
theorem crP_cg {lay up dn pl pl' : Int → Int} {N P : Nat} (hu : ∀ p, blw P p → blw N (up p) ∧ blw N (dn p)) (h : ∀ x, blw N x → pl x = pl' x) : crP lay up dn pl P = crP lay up dn pl' P := sorry
theorem SWP_ok {N lm P : Nat} {lay up dn : Int → Int} {O0 : Int → List Int} (l1 : 1 ≤ lm) (r0 : ROK N lm lay O0) (hu : ∀ p, blw P p → blw N (up p) ∧ blw N (dn p)) : ∀ {s : Nat} {O B O' B' : Int → List Int} {f f' : Int}, SWP lay up dn P lm O0 s O B f → (ROK N lm lay O ∧ ROK N lm lay B) ∧ (SWP lay up dn P lm O0 s O' B' f' → O = O' ∧ B = B' ∧ f = f') := sorry
end
section
/-! ===== layers: sweeps (the component's) ===== -/
theorem cp2_o {v : Int → Int → Int} {a0 a n b : Int} (h : b ≠ a) : cp2 v a0 a 0 0 n b = v b := sorry
theorem cp2_i {v : Int → Int → Int} {a0 a n j : Int} (j0 : 0 ≤ j) (j1 : j < n) : cp2 v a0 a 0 0 n a j = v a0 j := sorry
theorem FW.cp {C : List Int} {P : List (Int × Int)} {v v' : Int → Int → Int} {a0 a n : Int} (h : FW C P v v') (ha : a ∈ C) : FW C P v (cp2 v' a0 a 0 0 n) := sorry
set_option maxRecDepth 100000 in
theorem sp_La_sweep {l : Launch} {D : qD} {d : Nat} {N lm P : Nat} {O0 : Int → List Int} {lay up dn : Int → Int} {h : qh} {Q : qQ} (hw : HW h.2) (n72 : N ≤ 72) (l1 : 1 ≤ lm) (l24 : lm ≤ 24) (p120 : P ≤ 120) (e2 : h.2 209 2 = 198) (e12 : h.2 209 12 = N) (e13 : h.2 209 13 = lm) (e17 : h.2 209 17 = P) (hl : ∀ i, blw N i → h.2 219 i = lay i) (hu : ∀ p, blw P p → (h.2 226 p = up p ∧ h.2 227 p = dn p) ∧ blw N (up p) ∧ blw N (dn p)) (hO : RWS lm O0 (h.2 221) (h.2 222) (h.2 223)) (rok : ROK N lm lay O0)
    (hq : ∀ v O B f, FW [223, 224, 225, 230, 231] [(198, 2)] h.2 v → SWP lay up dn P lm O0 10 O B f → v 198 2 = f → RWS lm B (v 221) (v 222) (v 223) → Q none (h.1, v)) :
    qM l D (d + 3, 0, 0) m_La_sweep [.inr (.inr 209)] h Q := sorry
end
section
/-! ===== layers: sweeps (the twin's) ===== -/
set_option maxRecDepth 100000 in
theorem sp_Mo_sweeps {l : Launch} {D : qD} {d : Nat} {N lm P : Nat} {O0 : Int → List Int} {lay up dn : Int → Int} {h : qh} {Q : qQ} (hT : TW h.2) (n72 : N ≤ 72) (l1 : 1 ≤ lm) (l24 : lm ≤ 24) (p120 : P ≤ 120) (e101 : h.2 280 101 = lm) (e107 : h.2 280 107 = P) (hl : ∀ i, blw N i → h.2 350 i = lay i) (hu : ∀ p, blw P p → (h.2 355 p = up p ∧ h.2 356 p = dn p) ∧ blw N (up p) ∧ blw N (dn p)) (hO : RWT lm O0 (h.2 353) (h.2 354)) (rok : ROK N lm lay O0)
    (hq : ∀ v O B f, FW [354, 364, 365, 366, 367] [] h.2 v → SWP lay up dn P lm O0 10 O B f → RWT lm B (v 353) (v 354) → Q (some (.inl f)) (h.1, v)) :
    qM l D (d + 3, 0, 0) m_Mo_sweeps [.inr (.inr 280)] h Q := sorry
end
section
/-! ===== layers: orders that cross least (plain) ===== -/
theorem sof_add {F G : Int → Int} : ∀ n : Nat, sof (fun k => F k + G k) n = sof F n + sof G n := sorry
theorem sof_z {F : Int → Int} : ∀ {n : Nat}, (∀ k : Int, 0 ≤ k → k < n → F k = 0) → sof F n = 0 := sorry
theorem sof_one {F : Int → Int} {p : Int} : ∀ {n : Nat}, 0 ≤ p → p < n → (∀ k : Int, 0 ≤ k → k < n → k ≠ p → F k = 0) → sof F n = F p := sorry
theorem sof_cm {F : Int → Int → Int} {m : Nat} : ∀ n : Nat, sof (fun a => sof (fun b => F a b) m) n = sof (fun b => sof (fun a => F a b) n) m := sorry
/-- what stands ahead of what in a row -/
def tri (T : Int → Int → Int) (ol : Int → Int) (n : Nat) : Int := sof (fun i => sof (fun j => if i < j then T (ol i) (ol j) else 0) n) n
theorem tri_sof {F : Int → Int → Int → Int} {ol : Int → Int} {n : Nat} : ∀ P : Nat, tri (fun x y => sof (fun a => F a x y) P) ol n = sof (fun a => tri (fun x y => F a x y) ol n) P := sorry
theorem tri_one {c : Prop} [Decidable c] {ol : Int → Int} {n : Nat} {p r x0 y0 : Int} (oi : ∀ i j : Int, 0 ≤ i → i < n → 0 ≤ j → j < n → ol i = ol j → i = j) (p0 : 0 ≤ p ∧ p < n) (r0 : 0 ≤ r ∧ r < n) (ep : ol p = x0) (er : ol r = y0) : tri (fun x y => if c ∧ x0 = x ∧ y0 = y then 1 else 0) ol n = if c ∧ p < r then 1 else 0 := sorry
theorem tri_z {T : Int → Int → Int} {ol : Int → Int} {n : Nat} (h : ∀ x y, T x y = 0) : tri T ol n = 0 := sorry
/-- a place in a row -/
def plc : List Int → Int → Int
  | [], _ => 0
  | a :: l, x => if x = a then 0 else plc l x + 1
theorem plc_nn : ∀ {l : List Int} {x : Int}, 0 ≤ plc l x := sorry
theorem li_plc : ∀ {l : List Int} {x : Int}, x ∈ l → (0 ≤ plc l x ∧ plc l x < l.length) ∧ li l (plc l x) = x := sorry
theorem plc_li {l : List Int} {k : Int} (hn : l.Nodup) (k0 : 0 ≤ k) (k1 : k < l.length) : plc l (li l k) = k := sorry
/-- order number o of so many places -/
def pd (n o : Nat) : List Int := dec n (lst (fun x => x) n) o
theorem pd_ok {n o : Nat} (ho : o < fcl n) : (pd n o).length = n ∧ (pd n o).Nodup ∧ ∀ x, x ∈ pd n o ↔ 0 ≤ x ∧ x < n := sorry
theorem pd_li {n o : Nat} (ho : o < fcl n) {k : Int} (k0 : 0 ≤ k) (k1 : k < n) : 0 ≤ li (pd n o) k ∧ li (pd n o) k < n := sorry
theorem pd_inj {n o : Nat} (ho : o < fcl n) : ∀ i j : Int, 0 ≤ i → i < n → 0 ≤ j → j < n → li (pd n o) i = li (pd n o) j → i = j := sorry
/-- the items in order o -/
def oit (L : List Int) (o : Nat) : List Int := lst (fun k => li L (li (pd L.length o) k)) L.length
theorem oit_pm {L : List Int} {o : Nat} (hn : L.Nodup) (ho : o < fcl L.length) : (oit L o).Perm L := sorry
/-- an item's place in order o -/
def pit (L : List Int) (o : Nat) (x : Int) : Int := plc (pd L.length o) (plc L x)
theorem pit_b {L : List Int} {o : Nat} {x : Int} (ho : o < fcl L.length) (hx : x ∈ L) : (0 ≤ pit L o x ∧ pit L o x < L.length) ∧ li (pd L.length o) (pit L o x) = plc L x := sorry
theorem pit_li {L : List Int} {o : Nat} {k : Int} (hn : L.Nodup) (ho : o < fcl L.length) (k0 : 0 ≤ k) (k1 : k < L.length) : pit L o (li L (li (pd L.length o) k)) = k := sorry
/-- crossings of the pieces below a layer -/
def xCr (lay up dn : Int → Int) (P : Nat) (l : Int) (pu pw : Int → Int) : Int := sof (fun a => sof (fun b => if ((lay (up a) = l ∧ lay (up b) = l) ∧ pw (dn b) < pw (dn a)) ∧ pu (up a) < pu (up b) then 1 else 0) P) P
theorem xCr_b {lay up dn : Int → Int} {P : Nat} {l : Int} {pu pw : Int → Int} (h : P ≤ 120) : 0 ≤ xCr lay up dn P l pu pw ∧ xCr lay up dn P l pu pw ≤ 14400 := sorry
/-- a table of pairs, read in an order -/
theorem tri_X {C : Int → Int → Prop} [∀ a b, Decidable (C a b)] {f : Int → Int} {P n o : Nat} (ho : o < fcl n) (hf : ∀ a b, blw P a → blw P b → C a b → (0 ≤ f a ∧ f a < n) ∧ (0 ≤ f b ∧ f b < n)) : tri (fun x y => sof (fun a => sof (fun b => if C a b ∧ f a = x ∧ f b = y then 1 else 0) P) P) (li (pd n o)) n = sof (fun a => sof (fun b => if C a b ∧ plc (pd n o) (f a) < plc (pd n o) (f b) then 1 else 0) P) P := sorry
/-- the least crossings from a layer on -/
def CST (lm : Nat) (nl : Int → Nat) (X : Int → Nat → Nat → Int) (R : Int → Nat → Int) (l0 : Int) : Prop := ∀ (l : Int) (o : Nat), l0 ≤ l → l < lm → o < fcl (nl l) → (l = lm - 1 → R l o = 0) ∧ (l < lm - 1 → (∃ q, q < fcl (nl (l + 1)) ∧ R l o = R (l + 1) q + X l o q) ∧ ∀ q, q < fcl (nl (l + 1)) → R l o ≤ R (l + 1) q + X l o q)
theorem CST_un {lm : Nat} {nl : Int → Nat} {X : Int → Nat → Nat → Int} {R R' : Int → Nat → Int} {l0 : Int} (q : CST lm nl X R l0) (q' : CST lm nl X R' l0) : ∀ (s : Nat) (l : Int) (o : Nat), l + s = lm - 1 → l0 ≤ l → o < fcl (nl l) → R l o = R' l o := sorry
theorem CST_b {lm : Nat} {nl : Int → Nat} {X : Int → Nat → Nat → Int} {R : Int → Nat → Int} {l0 : Int} (hX : ∀ l o q, 0 ≤ X l o q ∧ X l o q ≤ 14400) (q : CST lm nl X R l0) : ∀ (s : Nat) (l : Int) (o : Nat), l + s = lm - 1 → l0 ≤ l → o < fcl (nl l) → 0 ≤ R l o ∧ R l o ≤ 14400 * s := sorry
/-- the first order below that gives them -/
def fstq (nl : Int → Nat) (X : Int → Nat → Nat → Int) (R : Int → Nat → Int) (l : Int) (o q : Nat) : Prop := q < fcl (nl (l + 1)) ∧ R l o = R (l + 1) q + X l o q ∧ ∀ q', q' < q → R l o ≠ R (l + 1) q' + X l o q'
/-- the orders chosen -/
def CHO (lm : Nat) (nl : Int → Nat) (X : Int → Nat → Nat → Int) (R : Int → Nat → Int) (O : Int → Nat) : Prop := (O 0 < fcl (nl 0) ∧ ∀ q, q < fcl (nl 0) → R 0 (O 0) ≤ R 0 q ∧ (q < O 0 → R 0 (O 0) < R 0 q)) ∧ ∀ l : Int, 0 ≤ l → l + 1 < lm → fstq nl X R l (O l) (O (l + 1))
theorem CHO_b {lm : Nat} {nl : Int → Nat} {X : Int → Nat → Nat → Int} {R : Int → Nat → Int} {O : Int → Nat} (c : CHO lm nl X R O) {l : Int} (l0 : 0 ≤ l) (l1 : l < lm) : O l < fcl (nl l) := sorry
theorem CHO_un {lm : Nat} {nl : Int → Nat} {X : Int → Nat → Nat → Int} {R R' : Int → Nat → Int} {O O' : Int → Nat} (q : CST lm nl X R 0) (q' : CST lm nl X R' 0) (c : CHO lm nl X R O) (c' : CHO lm nl X R' O') : ∀ k : Nat, k < lm → O k = O' k := sorry
/-- the rows with the least crossings -/
def XRO (lay up dn : Int → Int) (P lm : Nat) (L B : Int → List Int) (f : Int) : Prop := ∃ R O, CST lm (fun l => (L l).length) (fun l o q => xCr lay up dn P l (pit (L l) o) (pit (L (l + 1)) q)) R 0 ∧ CHO lm (fun l => (L l).length) (fun l o q => xCr lay up dn P l (pit (L l) o) (pit (L (l + 1)) q)) R O ∧ f = R 0 (O 0) ∧ ∀ l : Int, 0 ≤ l → l < lm → B l = oit (L l) (O l)
theorem XRO_un {lay up dn : Int → Int} {P lm : Nat} {L B B' : Int → List Int} {f f' : Int} (l1 : 1 ≤ lm) (q : XRO lay up dn P lm L B f) (q' : XRO lay up dn P lm L B' f') : f = f' ∧ ∀ l : Int, 0 ≤ l → l < lm → B l = B' l := sorry
theorem XRO_ok {lay up dn : Int → Int} {N P lm : Nat} {L B : Int → List Int} {f : Int} (r : ROK N lm lay L) (q : XRO lay up dn P lm L B f) : ∀ l : Int, 0 ≤ l → l < lm → (B l).Perm (L l) := sorry
end
section
/-! ===== layers: where an item stands in its row (the component's) ===== -/
theorem plc_ne {l : List Int} {x j : Int} (hn : l.Nodup) (j0 : 0 ≤ j) (j1 : j < plc l x) (j2 : j < l.length) : li l j ≠ x := sorry
set_option maxRecDepth 100000 in
theorem sp_La_listed {l : Launch} {D : qD} {d : Nat} {N lm : Nat} {O : Int → List Int} {lay : Int → Int} {x : Int} {h : qh} {Q : qQ} (hw : HW h.2) (n72 : N ≤ 72) (l24 : lm ≤ 24) (hl : ∀ i, blw N i → h.2 219 i = lay i) (hO : RWS lm O (h.2 221) (h.2 222) (h.2 223)) (rok : ROK N lm lay O) (hx : blw N x)
    (hq : Q (some (.inl (plc (O (lay x)) x))) h) :
    qM l D (d + 1, 0, 0) m_La_listed [.inr (.inr 209), .inl x] h Q := sorry
end
section
/-! ===== layers: what a layer's orders cost with one of the next (the component's) ===== -/
theorem tri_cg {T T' : Int → Int → Int} {ol : Int → Int} {n : Nat} (h : ∀ i j : Int, 0 ≤ i → i < n → 0 ≤ j → j < n → T (ol i) (ol j) = T' (ol i) (ol j)) : tri T ol n = tri T' ol n := sorry
def mtG (T : Int → Int → Int) (ol : Int → Int) (i j : Int) : Int := if i < j then T (ol i) (ol j) else 0
theorem mtG_b {T : Int → Int → Int} {nn o : Nat} (n6 : nn ≤ 6) (ho : o < fcl nn) (hT : ∀ x y : Int, 0 ≤ x → x < 6 → 0 ≤ y → y < 6 → 0 ≤ T x y ∧ T x y ≤ 14400) {i j : Int} (i0 : 0 ≤ i) (i1 : i < nn) (j0 : 0 ≤ j) (j1 : j < nn) : 0 ≤ mtG T (li (pd nn o)) i j ∧ mtG T (li (pd nn o)) i j ≤ 14400 := sorry
theorem mtS_b {T : Int → Int → Int} {nn o : Nat} (n6 : nn ≤ 6) (ho : o < fcl nn) (hT : ∀ x y : Int, 0 ≤ x → x < 6 → 0 ≤ y → y < 6 → 0 ≤ T x y ∧ T x y ≤ 14400) {i : Int} (i0 : 0 ≤ i) (i1 : i < nn) {k : Nat} (hk : k ≤ nn) : 0 ≤ sof (mtG T (li (pd nn o)) i) k ∧ sof (mtG T (li (pd nn o)) i) k ≤ 86400 := sorry
theorem mtR_b {T : Int → Int → Int} {nn o : Nat} (n6 : nn ≤ 6) (ho : o < fcl nn) (hT : ∀ x y : Int, 0 ≤ x → x < 6 → 0 ≤ y → y < 6 → 0 ≤ T x y ∧ T x y ≤ 14400) {k : Nat} (hk : k ≤ nn) : 0 ≤ sof (fun i => sof (mtG T (li (pd nn o)) i) nn) k ∧ sof (fun i => sof (mtG T (li (pd nn o)) i) nn) k ≤ 518400 := sorry
theorem mtG_0 {T : Int → Int → Int} {ol : Int → Int} {i : Int} (k : Nat) (hk : (k : Int) ≤ i + 1) : sof (mtG T ol i) k = 0 := sorry
/-- an order's cost is bettered, or not -/
def MEE (lv q : Int) (c : Nat → Int) (v0 v : Int → Int → Int) (o : Nat) : Prop := (c o < v0 234 o ∧ v 234 o = c o ∧ v 236 (720 * lv + o) = q) ∨ (¬ c o < v0 234 o ∧ v 234 o = v0 234 o ∧ v 236 (720 * lv + o) = v0 236 (720 * lv + o))
set_option maxRecDepth 100000 in
theorem La_mt_c {l : Launch} {D : qD} {d nn q : Nat} {lv m : Int} {T : Int → Int → Int} {v0 : Int → Int → Int} {h : qh} {Q : qQ} (hw : HW v0) (n6 : nn ≤ 6) (lb : 0 ≤ lv ∧ lv < 24) (qb : q < 720) (e8 : v0 222 lv = nn) (ho : ORW nn (fcl nn) (v0 233)) (hT : ∀ x y : Int, 0 ≤ x → x < 6 → 0 ≤ y → y < 6 → v0 237 (6 * x + y) = T x y ∧ 0 ≤ T x y ∧ T x y ≤ 14400) (cb : 0 ≤ v0 235 q ∧ v0 235 q ≤ 400000)
    (hq : ∀ v, FW [234, 236] [] v0 v → (∀ o : Nat, o < fcl nn → MEE lv q (fun o => v0 235 q + tri T (li (pd nn o)) nn) v0 v o) → (∀ i : Int, i < 720 * lv ∨ 720 * lv + fcl nn ≤ i → v 236 i = v0 236 i) → Q none (h.1, v)) :
    ∀ (s o : Nat) v (x6 x7 x8 : Option qv), o + s = fcl nn → FW [234, 236] [] v0 v → (∀ o' : Nat, o' < o → MEE lv q (fun o => v0 235 q + tri T (li (pd nn o)) nn) v0 v o') → (∀ o' : Nat, o ≤ o' → v 234 o' = v0 234 o') → (∀ i : Int, i < 720 * lv ∨ 720 * lv + o ≤ i → v 236 i = v0 236 i) → qR l D (d + 2, 0, 0) m_La_meet 215 (fun r h' => Q r ((h'.1.1, h.1.2.1, h.1.2.2), h'.2)) [some (.inr (.inr (209))), some (.inl (lv)), some (.inl ((q : Int))), some (.inl ((fcl nn : Int))), some (.inl (m)), some (.inl ((o : Int))), x6, x7, x8] [] ((h.1.1, 0, 0), v) := sorry
end
section
/-! ===== layers: pieces that cross, by where they begin (the component's) ===== -/
def mtW (lay up dn f pw : Int → Int) (l x y a b : Int) : Int := if ((lay (up a) = l ∧ lay (up b) = l) ∧ pw (dn b) < pw (dn a)) ∧ f a = x ∧ f b = y then 1 else 0
theorem mtW_b {lay up dn f pw : Int → Int} {l x y a b : Int} : 0 ≤ mtW lay up dn f pw l x y a b ∧ mtW lay up dn f pw l x y a b ≤ 1 := sorry
def mtT (lay up dn f pw : Int → Int) (l : Int) (P : Nat) (x y : Int) : Int := sof (fun a => sof (mtW lay up dn f pw l x y a) P) P
theorem mtT_s {lay up dn f pw : Int → Int} {l x y a : Int} {P k : Nat} (hk : k ≤ P) (h : P ≤ 120) : 0 ≤ sof (mtW lay up dn f pw l x y a) k ∧ sof (mtW lay up dn f pw l x y a) k ≤ 120 := sorry
theorem mtT_r {lay up dn f pw : Int → Int} {l x y : Int} {P k : Nat} (hk : k ≤ P) (h : P ≤ 120) : 0 ≤ sof (fun a => sof (mtW lay up dn f pw l x y a) P) k ∧ sof (fun a => sof (mtW lay up dn f pw l x y a) P) k ≤ 14400 := sorry
set_option maxRecDepth 100000 in
theorem La_mt_p {l : Launch} {D : qD} {d : Nat} {N lm P : Nat} {O : Int → List Int} {lay up dn pw : Int → Int} {lv q n m : Int} {v0 : Int → Int → Int} {h : qh} {Q : qQ} (hw : HW v0) (n72 : N ≤ 72) (l24 : lm ≤ 24) (p120 : P ≤ 120) (e17 : v0 209 17 = P) (hl : ∀ i, blw N i → v0 219 i = lay i) (hu : ∀ p, blw P p → (v0 226 p = up p ∧ v0 227 p = dn p) ∧ blw N (up p) ∧ blw N (dn p)) (hd : ∀ p, blw P p → lay (dn p) = lay (up p) + 1) (hO : RWS lm O (v0 221) (v0 222) (v0 223)) (rok : ROK N lm lay O) (lb : 0 ≤ lv ∧ lv < lm) (o6 : (O lv).length ≤ 6) (hp : ∀ x, blw N x → lay x = lv + 1 → v0 225 x = pw x)
    (h0 : ∀ x y : Int, 0 ≤ x → x < 6 → 0 ≤ y → y < 6 → v0 237 (6 * x + y) = 0)
    (hq : ∀ v (x6 x7 x8 : Option qv), FW [237] [] v0 v → (∀ x y : Int, 0 ≤ x → x < 6 → 0 ≤ y → y < 6 → v 237 (6 * x + y) = mtT lay up dn (fun a => plc (O lv) (up a)) pw lv P x y) → qR l D (d + 2, 0, 0) m_La_meet 215 (fun r h' => Q r ((h'.1.1, h.1.2.1, h.1.2.2), h'.2)) [some (.inr (.inr (209))), some (.inl (lv)), some (.inl (q)), some (.inl (n)), some (.inl (m)), some (.inl (0)), x6, x7, x8] [] ((h.1.1, 0, 0), v)) :
    ∀ (x6 x7 x8 : Option qv), qR l D (d + 2, 0, 0) m_La_meet 82 (fun r h' => Q r ((h'.1.1, h.1.2.1, h.1.2.2), h'.2)) [some (.inr (.inr (209))), some (.inl (lv)), some (.inl (q)), some (.inl (n)), some (.inl (m)), some (.inl (0)), x6, x7, x8] [] ((h.1.1, 0, 0), v0) := sorry
set_option maxRecDepth 100000 in
theorem sp_La_meet {l : Launch} {D : qD} {d : Nat} {N lm P q : Nat} {O : Int → List Int} {lay up dn : Int → Int} {lv : Int} {h : qh} {Q : qQ} (hw : HW h.2) (n72 : N ≤ 72) (l24 : lm ≤ 24) (p120 : P ≤ 120) (e17 : h.2 209 17 = P) (hl : ∀ i, blw N i → h.2 219 i = lay i) (hu : ∀ p, blw P p → (h.2 226 p = up p ∧ h.2 227 p = dn p) ∧ blw N (up p) ∧ blw N (dn p)) (hd : ∀ p, blw P p → lay (dn p) = lay (up p) + 1) (hO : RWS lm O (h.2 221) (h.2 222) (h.2 223)) (rok : ROK N lm lay O) (lb : 0 ≤ lv ∧ lv + 1 < lm) (o6 : (O lv).length ≤ 6) (o7 : (O (lv + 1)).length ≤ 6) (qb : q < fcl (O (lv + 1)).length) (ho : ORW (O lv).length (fcl (O lv).length) (h.2 233)) (cb : 0 ≤ h.2 235 q ∧ h.2 235 q ≤ 400000)
    (hq : ∀ v, FW [225, 234, 236, 237] [] h.2 v → (∀ o : Nat, o < fcl (O lv).length → MEE lv q (fun o => h.2 235 q + xCr lay up dn P lv (pit (O lv) o) (pit (O (lv + 1)) q)) h.2 v o) → (∀ i : Int, i < 720 * lv ∨ 720 * lv + fcl (O lv).length ≤ i → v 236 i = h.2 236 i) → Q none (h.1, v)) :
    qM l D (d + 2, 0, 0) m_La_meet [.inr (.inr 209), .inl lv, .inl (q : Int), .inl (fcl (O lv).length : Int)] h Q := sorry
end
section
/-! ===== layers: the orders are chosen (the component's) ===== -/
theorem oit_len {L : List Int} {o : Nat} : (oit L o).length = L.length := sorry
theorem li_oit {L : List Int} {o : Nat} {k : Int} (k0 : 0 ≤ k) (k1 : k < L.length) : li (oit L o) k = li L (li (pd L.length o) k) := sorry
def chq (t : Int → Int) (o0 : Nat) : Nat → Nat
  | 0 => o0
  | k + 1 => (t (720 * (k : Int) + (chq t o0 k : Nat))).toNat
set_option maxRecDepth 100000 in
theorem sp_La_choose {l : Launch} {D : qD} {d : Nat} {N lm : Nat} {O : Int → List Int} {lay : Int → Int} {X : Int → Nat → Nat → Int} {R : Int → Nat → Int} {h : qh} {Q : qQ} (hw : HW h.2) (n72 : N ≤ 72) (l1 : 1 ≤ lm) (l24 : lm ≤ 24) (e2 : h.2 209 2 = 198) (e12 : h.2 209 12 = N) (e13 : h.2 209 13 = lm) (hO : RWS lm O (h.2 221) (h.2 222) (h.2 223)) (rok : ROK N lm lay O) (o6 : ∀ k : Int, 0 ≤ k → k < lm → 1 ≤ (O k).length ∧ (O k).length ≤ 6) (hc : ∀ o : Nat, o < fcl (O 0).length → h.2 234 o = R 0 o) (ht : ∀ (k : Int) (o : Nat), 0 ≤ k → k + 1 < lm → o < fcl (O k).length → ∃ q : Nat, h.2 236 (720 * k + o) = q ∧ fstq (fun k => (O k).length) X R k o q)
    (hq : ∀ v O', FW [223, 224] [(198, 2)] h.2 v → CHO lm (fun k => (O k).length) X R O' → v 198 2 = R 0 (O' 0) → RWS lm (fun k => oit (O k) (O' k)) (v 221) (v 222) (v 223) → Q none (h.1, v)) :
    qM l D (d + 2, 0, 0) m_La_choose [.inr (.inr 209)] h Q := sorry
end
section
/-! ===== layers: orders that cross least (the component's) ===== -/
theorem lst_mn {f : Nat → Int} : ∀ n : Nat, 0 < n → ∃ q, q < n ∧ ∀ q', q' < n → f q ≤ f q' := sorry
theorem CST_ex {lm : Nat} {nl : Int → Nat} {X : Int → Nat → Nat → Int} : ∃ R, CST lm nl X R 0 := sorry
/-- the best so far -/
def BSF (A : Nat → Int) (q0 : Nat) (c t : Int) : Prop := (q0 = 0 ∧ c = 2147483647) ∨ ∃ q : Nat, q < q0 ∧ t = q ∧ c = A q ∧ (∀ q', q' < q0 → c ≤ A q') ∧ ∀ q', q' < q → c ≠ A q'
theorem BSF_s {A : Nat → Int} {q0 : Nat} {c t c' t' : Int} (m : BSF A q0 c t) (hA : A q0 < 2147483647) (e : (A q0 < c ∧ c' = A q0 ∧ t' = q0) ∨ (¬ A q0 < c ∧ c' = c ∧ t' = t)) : BSF A (q0 + 1) c' t' := sorry
set_option maxRecDepth 100000 in
theorem sp_La_crossLeast {l : Launch} {D : qD} {d : Nat} {N lm P : Nat} {O : Int → List Int} {lay up dn : Int → Int} {h : qh} {Q : qQ} (hw : HW h.2) (n72 : N ≤ 72) (l1 : 1 ≤ lm) (l24 : lm ≤ 24) (p120 : P ≤ 120) (e2 : h.2 209 2 = 198) (e12 : h.2 209 12 = N) (e13 : h.2 209 13 = lm) (e17 : h.2 209 17 = P) (hl : ∀ i, blw N i → h.2 219 i = lay i) (hu : ∀ p, blw P p → (h.2 226 p = up p ∧ h.2 227 p = dn p) ∧ blw N (up p) ∧ blw N (dn p)) (hd : ∀ p, blw P p → lay (dn p) = lay (up p) + 1) (hO : RWS lm O (h.2 221) (h.2 222) (h.2 223)) (rok : ROK N lm lay O) (o6 : ∀ k : Int, 0 ≤ k → k < lm → 1 ≤ (O k).length ∧ (O k).length ≤ 6)
    (hq : ∀ v B f, FW [223, 224, 225, 233, 234, 235, 236, 237] [(198, 2)] h.2 v → XRO lay up dn P lm O B f → v 198 2 = f → RWS lm B (v 221) (v 222) (v 223) → Q none (h.1, v)) :
    qM l D (d + 3, 0, 0) m_La_crossLeast [.inr (.inr 209)] h Q := sorry
end
section
/-! ===== layers: the twin's tables of orders, and what they weigh ===== -/
/-- all orders of up to six, one behind the other -/
def PRM (v : Int → Int → Int) : Prop := ∀ n : Nat, n ≤ 6 → v 357 n = (fcl n : Int) - 1 ∧ v 358 n = fcl n ∧ ∀ o : Nat, o < fcl n → ∀ k : Int, 0 ≤ k → k < n → v 359 ((fcl n : Int) - 1 + (n : Int) * o + k) = li (pd n o) k
theorem PRM.fw {C : List Int} {P : List (Int × Int)} {v v' : Int → Int → Int} (q : PRM v) (k : FW C P v v') (h : (357 : Int) ∉ C ∧ (358 : Int) ∉ C ∧ (359 : Int) ∉ C) (hp : (P.all (fun p => decide (p.1 ≠ 357)) = true ∧ P.all (fun p => decide (p.1 ≠ 358)) = true) ∧ P.all (fun p => decide (p.1 ≠ 359)) = true) : PRM v' := sorry
theorem fcl_m {n o : Nat} (n6 : n ≤ 6) (ho : o < fcl n) : 0 ≤ (n : Int) * o ∧ (n : Int) * o + n ≤ 4320 := sorry
set_option maxRecDepth 100000 in
theorem sp_Mo_weighed {l : Launch} {D : qD} {d m q : Nat} {T : Int → Int → Int} {h : qh} {Q : qQ} (hT : TW h.2) (prm : PRM h.2) (m6 : m ≤ 6) (qb : q < fcl m) (ht : ∀ x y : Int, 0 ≤ x → x < 6 → 0 ≤ y → y < 6 → h.2 361 (6 * x + y) = T x y ∧ 0 ≤ T x y ∧ T x y ≤ 14400)
    (hq : Q (some (.inl (tri T (li (pd m q)) m))) h) :
    qM l D (d + 1, 0, 0) m_Mo_weighed [.inr (.inr 280), .inl (m : Int), .inl (q : Int)] h Q := sorry
set_option maxRecDepth 100000 in
theorem sp_Mo_setOrder {l : Launch} {D : qD} {d n p : Nat} {lv : Int} {L : List Int} {h : qh} {Q : qQ} (hT : TW h.2) (prm : PRM h.2) (en : L.length = n) (n6 : n ≤ 6) (pb : p < fcl n) (lb : 0 ≤ lv ∧ lv < 76) (e53 : h.2 353 lv = n) (hr : ∀ j : Int, 0 ≤ j → j < n → h.2 354 (76 * lv + j) = li L j)
    (hq : ∀ v, FW [354, 364] [] h.2 v → (∀ j : Int, 0 ≤ j → j < n → v 354 (76 * lv + j) = li (oit L p) j) → (∀ i : Int, i < 76 * lv ∨ 76 * lv + n ≤ i → v 354 i = h.2 354 i) → Q none (h.1, v)) :
    qM l D (d + 1, 0, 0) m_Mo_setOrder [.inr (.inr 280), .inl lv, .inl (p : Int)] h Q := sorry
end
section
/-! ===== layers: pieces that cross, by where they end (the twin's) ===== -/
set_option maxRecDepth 100000 in
theorem sp_Mo_weigh {l : Launch} {D : qD} {d : Nat} {N lm P p : Nat} {O : Int → List Int} {lay up dn : Int → Int} {lv : Int} {h : qh} {Q : qQ} (hT : TW h.2) (n72 : N ≤ 72) (l24 : lm ≤ 24) (p120 : P ≤ 120) (e107 : h.2 280 107 = P) (hl : ∀ i, blw N i → h.2 350 i = lay i) (hu : ∀ p, blw P p → (h.2 355 p = up p ∧ h.2 356 p = dn p) ∧ blw N (up p) ∧ blw N (dn p)) (hd : ∀ p, blw P p → lay (dn p) = lay (up p) + 1) (rok : ROK N lm lay O) (prm : PRM h.2) (hli : ∀ x, blw N x → h.2 362 x = plc (O (lay x)) x) (lb : 0 ≤ lv ∧ lv + 1 < lm) (e53 : h.2 353 lv = (O lv).length) (o6 : (O lv).length ≤ 6) (o7 : (O (lv + 1)).length ≤ 6) (pb : p < fcl (O lv).length)
    (hq : ∀ v, FW [361, 363] [] h.2 v → (∀ x y : Int, 0 ≤ x → x < 6 → 0 ≤ y → y < 6 → v 361 (6 * x + y) = mtT lay up up (fun a => plc (O (lv + 1)) (dn a)) (pit (O lv) p) lv P x y) → Q none (h.1, v)) :
    qM l D (d + 1, 0, 0) m_Mo_weigh [.inr (.inr 280), .inl lv, .inl (p : Int)] h Q := sorry
end
section
/-! ===== layers: orders that cross least (the twin's) ===== -/
theorem fst_ex {p : Nat → Prop} : ∀ n : Nat, (∃ q, q < n ∧ p q) → ∃ q, q < n ∧ p q ∧ ∀ q', q' < q → ¬ p q' := sorry
theorem fstq_un {nl : Int → Nat} {X : Int → Nat → Nat → Int} {R : Int → Nat → Int} {l : Int} {o q q' : Nat} (a : fstq nl X R l o q) (b : fstq nl X R l o q') : q = q' := sorry
def chN (nq : Int → Nat → Nat) (o0 : Nat) : Nat → Nat
  | 0 => o0
  | k + 1 => nq k (chN nq o0 k)
theorem CHO_mk {lm : Nat} {nl : Int → Nat} {X : Int → Nat → Nat → Int} {R : Int → Nat → Int} {o0 : Nat} (cst : CST lm nl X R 0) (hb : o0 < fcl (nl 0) ∧ ∀ q, q < fcl (nl 0) → R 0 o0 ≤ R 0 q ∧ (q < o0 → R 0 o0 < R 0 q)) : ∃ O' : Int → Nat, O' 0 = o0 ∧ CHO lm nl X R O' := sorry
/-- weighed from below or from above: the same crossings -/
theorem xCr_w {N lm P p q : Nat} {lay up dn : Int → Int} {O : Int → List Int} {l : Int} (rok : ROK N lm lay O) (hu : ∀ p, blw P p → blw N (up p) ∧ blw N (dn p)) (hd : ∀ p, blw P p → lay (dn p) = lay (up p) + 1) (qb : q < fcl (O (l + 1)).length) : tri (mtT lay up up (fun a => plc (O (l + 1)) (dn a)) (pit (O l) p) l P) (li (pd (O (l + 1)).length q)) (O (l + 1)).length = xCr lay up dn P l (pit (O l) p) (pit (O (l + 1)) q) := sorry
/-- the least so far -/
def LQ (A : Nat → Int) (q0 : Nat) (c : Int) : Prop := (∀ q, q < q0 → c ≤ A q) ∧ (c = 1000000 ∨ ∃ q, q < q0 ∧ c = A q)
theorem LQ_s {A : Nat → Int} {q0 : Nat} {c c' : Int} (m : LQ A q0 c) (h : (c' ≤ c ∧ c' ≤ A q0) ∧ (c' = c ∨ c' = A q0)) : LQ A (q0 + 1) c' := sorry
set_option maxRecDepth 100000 in
theorem sp_Mo_exactOrders {l : Launch} {D : qD} {d : Nat} {N lm P : Nat} {O : Int → List Int} {lay up dn : Int → Int} {h : qh} {Q : qQ} (hT : TW h.2) (n72 : N ≤ 72) (l1 : 1 ≤ lm) (l24 : lm ≤ 24) (p120 : P ≤ 120) (e100 : h.2 280 100 = N) (e101 : h.2 280 101 = lm) (e107 : h.2 280 107 = P) (hl : ∀ i, blw N i → h.2 350 i = lay i) (hu : ∀ p, blw P p → (h.2 355 p = up p ∧ h.2 356 p = dn p) ∧ blw N (up p) ∧ blw N (dn p)) (hd : ∀ p, blw P p → lay (dn p) = lay (up p) + 1) (hO : RWT lm O (h.2 353) (h.2 354)) (rok : ROK N lm lay O) (o6 : ∀ k : Int, 0 ≤ k → k < lm → 1 ≤ (O k).length ∧ (O k).length ≤ 6) (prm : PRM h.2)
    (hq : ∀ v B f, FW [354, 360, 361, 362, 363, 364] [] h.2 v → XRO lay up dn P lm O B f → RWT lm B (v 353) (v 354) → Q (some (.inl f)) (h.1, v)) :
    qM l D (d + 2, 0, 0) m_Mo_exactOrders [.inr (.inr 280)] h Q := sorry
end
section
/-! ===== layers: places across (plain) ===== -/
/-- neighbours in a layer keep apart -/
def OGP (lm : Int) (O : Int → List Int) (hf y : Int → Int) : Prop := ∀ l k : Int, 0 ≤ l → l < lm → 1 ≤ k → k < (O l).length → y (li (O l) (k - 1)) + (hf (li (O l) (k - 1)) + hf (li (O l) k) + 2) ≤ y (li (O l) k)
/-- the least places across -/
def ACR (N P : Nat) (lm : Int) (O : Int → List Int) (hf up dn hv x : Int → Int) : Prop := lopt N (OGP lm O hf) (fco P up dn hv (fun _ => 0)) x
theorem ACR_un {N P : Nat} {lm : Int} {O : Int → List Int} {hf up dn hv x x' : Int → Int} (q : ACR N P lm O hf up dn hv x) (q' : ACR N P lm O hf up dn hv x') : ∀ i, blw N i → x i = x' i := sorry
theorem lopt_cg {n : Nat} {F F' : (Int → Int) → Prop} {C C' : (Int → Int) → Int} {y : Int → Int} (hF : ∀ z, F z ↔ F' z) (hC : ∀ z, C z = C' z) (h : lopt n F C y) : lopt n F' C' y := sorry
def gps (O : Int → List Int) (l : Int) : Int := sof (fun l => ((O l).length : Int) - 1) l.toNat
theorem gps_0 {O : Int → List Int} : gps O 0 = 0 := sorry
theorem gps_s {O : Int → List Int} {l : Int} (h : 0 ≤ l) : gps O (l + 1) = gps O l + ((O l).length - 1) := sorry
theorem gps_f {O : Int → List Int} : ∀ k : Nat, gps O k = fsm O k - k := sorry
theorem gps_le {O : Int → List Int} {lm : Nat} (ne : ∀ l : Int, 0 ≤ l → l < lm → 1 ≤ (O l).length) {a b : Int} (a0 : 0 ≤ a) (ab : a ≤ b) (bm : b ≤ lm) : gps O a ≤ gps O b := sorry
theorem gps_ex {O : Int → List Int} : ∀ lm : Nat, (∀ l : Int, 0 ≤ l → l < lm → 1 ≤ (O l).length) → ∀ j : Int, 0 ≤ j → j < gps O lm → ∃ l k : Int, (0 ≤ l ∧ l < lm) ∧ (1 ≤ k ∧ k < (O l).length) ∧ j = gps O l + k - 1 := sorry
/-- a pair of neighbours, as it is kept -/
def PRA (O : Int → List Int) (hf a b d : Int → Int) (l k : Int) : Prop := a (gps O l + k - 1) = li (O l) (k - 1) ∧ b (gps O l + k - 1) = li (O l) k ∧ d (gps O l + k - 1) = hf (li (O l) (k - 1)) + hf (li (O l) k) + 2
theorem fea_OGP {lm R : Nat} {O : Int → List Int} {hf a b d y : Int → Int} (ne : ∀ l : Int, 0 ≤ l → l < lm → 1 ≤ (O l).length) (eR : (R : Int) = gps O lm) (h : ∀ l k : Int, 0 ≤ l → l < lm → 1 ≤ k → k < (O l).length → PRA O hf a b d l k) : fea R a b d y ↔ OGP lm O hf y := sorry
theorem fco_cg {K : Nat} {ca cb cw cp cp' x : Int → Int} (h : ∀ k : Int, 0 ≤ k → k < K → cp k ≠ 1 ∧ cp' k ≠ 1) : fco K ca cb cw cp x = fco K ca cb cw cp' x := sorry
theorem fco_nn {K : Nat} {ca cb cw cp x : Int → Int} (hw : ∀ k : Int, 0 ≤ k → k < K → 0 ≤ cw k) (h : ∀ k : Int, 0 ≤ k → k < K → cp k ≠ 1) : 0 ≤ fco K ca cb cw cp x := sorry
/-- the least places are not far out -/
theorem lopt_300 {n A K : Nat} {aa bb dd ca cb cw cp y : Int → Int} (hin : ∀ k : Int, 0 ≤ k → k < A → blw n (aa k) ∧ blw n (bb k)) (hd : ∀ k : Int, 0 ≤ k → k < A → dd k ≤ 300) (hw : ∀ k : Int, 0 ≤ k → k < K → 0 ≤ cw k) (hp : ∀ k : Int, 0 ≤ k → k < K → cp k ≠ 1) (L : lopt n (fea A aa bb dd) (fco K ca cb cw cp) y) : ∀ i, blw n i → 0 ≤ y i ∧ y i < 300 * n := sorry
theorem PRA_in {N lm R : Nat} {lay : Int → Int} {O : Int → List Int} {hf a b d : Int → Int} (rok : ROK N lm lay O) (hh : ∀ x, blw N x → 0 ≤ hf x ∧ hf x ≤ 140) (ne : ∀ l : Int, 0 ≤ l → l < lm → 1 ≤ (O l).length) (eR : (R : Int) = gps O lm) (h : ∀ l k : Int, 0 ≤ l → l < lm → 1 ≤ k → k < (O l).length → PRA O hf a b d l k) : ∀ j : Int, 0 ≤ j → j < R → (blw N (a j) ∧ blw N (b j)) ∧ (2 ≤ d j ∧ d j ≤ 300) ∧ plc (O (lay (a j))) (a j) + 1 = plc (O (lay (b j))) (b j) := sorry
/-- places across that are feasible -/
theorem fea_y0 {N lm R : Nat} {lay : Int → Int} {O : Int → List Int} {hf a b d : Int → Int} (rok : ROK N lm lay O) (hh : ∀ x, blw N x → 0 ≤ hf x ∧ hf x ≤ 140) (ne : ∀ l : Int, 0 ≤ l → l < lm → 1 ≤ (O l).length) (eR : (R : Int) = gps O lm) (h : ∀ l k : Int, 0 ≤ l → l < lm → 1 ≤ k → k < (O l).length → PRA O hf a b d l k) : fea R a b d (fun x => 300 * plc (O (lay x)) x) := sorry
end
section
/-! ===== layers: both systems of places across (plain) ===== -/
theorem sm_bd {f : Int → Int} {c : Int} : ∀ {n : Nat}, (∀ k : Int, 0 ≤ k → k < n → 0 ≤ f k ∧ f k ≤ c) → 0 ≤ sm f n ∧ sm f n ≤ n * c := sorry
theorem acr_of {N P lm R : Nat} {lay : Int → Int} {O : Int → List Int} {hf a b d w up dn hv : Int → Int} (rok : ROK N lm lay O) (n72 : N ≤ 72) (p120 : P ≤ 120) (r72 : R ≤ 72) (hh : ∀ x, blw N x → 0 ≤ hf x ∧ hf x ≤ 140) (ne : ∀ l : Int, 0 ≤ l → l < lm → 1 ≤ (O l).length) (eR : (R : Int) = gps O lm) (h1 : ∀ l k : Int, 0 ≤ l → l < lm → 1 ≤ k → k < (O l).length → PRA O hf a b d l k) (hw0 : ∀ j : Int, 0 ≤ j → j < R → w j = 0)
    (hp : ∀ p : Int, 0 ≤ p → p < P → (a (R + 2 * p) = N + p ∧ b (R + 2 * p) = up p ∧ w (R + 2 * p) = hv p) ∧ (a (R + 2 * p + 1) = N + p ∧ b (R + 2 * p + 1) = dn p ∧ w (R + 2 * p + 1) = hv p)) (hd : ∀ p : Int, 0 ≤ p → p < P → d (R + 2 * p) = 0 ∧ d (R + 2 * p + 1) = 0) (hu : ∀ p, blw P p → blw N (up p) ∧ blw N (dn p)) (hv0 : ∀ p, blw P p → 0 ≤ hv p ∧ hv p ≤ 100) :
    (∀ j : Int, 0 ≤ j → j < ((R + 2 * P : Nat) : Int) → 0 ≤ w j) ∧ sm w (R + 2 * P) ≤ 1000000000 ∧ (∃ τ : Int → Int, ∀ j : Int, 0 ≤ j → j < ((R + 2 * P : Nat) : Int) → τ (a j) < τ (b j)) ∧ (∀ j : Int, 0 ≤ j → j < ((R + 2 * P : Nat) : Int) → (0 ≤ a j ∧ a j < ((N + P : Nat) : Int)) ∧ (0 ≤ b j ∧ b j < ((N + P : Nat) : Int))) ∧ (∀ j : Int, 0 ≤ j → j < ((R + 2 * P : Nat) : Int) → -10000 ≤ d j ∧ d j ≤ 10000) ∧ (∃ y0, fea (R + 2 * P) a b d y0) ∧ ∀ y, lopt (N + P) (fea (R + 2 * P) a b d) (cst (R + 2 * P) a b w) y → ACR N P lm O hf up dn hv y := sorry
theorem acr_tw {N P lm R : Nat} {lay : Int → Int} {O : Int → List Int} {hf a b d ca cb cw cp up dn hv : Int → Int} (rok : ROK N lm lay O) (hh : ∀ x, blw N x → 0 ≤ hf x ∧ hf x ≤ 140) (ne : ∀ l : Int, 0 ≤ l → l < lm → 1 ≤ (O l).length) (eR : (R : Int) = gps O lm) (h1 : ∀ l k : Int, 0 ≤ l → l < lm → 1 ≤ k → k < (O l).length → PRA O hf a b d l k) (hv0 : ∀ p, blw P p → 0 ≤ hv p ∧ hv p ≤ 100) (hc : ∀ p : Int, 0 ≤ p → p < P → ca p = up p ∧ cb p = dn p ∧ cw p = hv p ∧ cp p = 0) :
    ∃ y, lopt N (fea R a b d) (fco P ca cb cw cp) y ∧ (∀ i, blw N i → 0 ≤ y i ∧ y i < 300 * N) ∧ ACR N P lm O hf up dn hv y := sorry
/-! ===== where joints and pieces are (plain) ===== -/
theorem JN_in {n : Nat} {sp : Int → Int} : ∀ m : Nat, (∀ e, blw m e → 1 ≤ sp e) → ∀ i : Int, n ≤ i → i < JN n sp m → ∃ e, blw m e ∧ JN n sp e ≤ i ∧ i < JN n sp (e + 1) := sorry
theorem PN_in {sp : Int → Int} : ∀ m : Nat, (∀ e, blw m e → 1 ≤ sp e) → ∀ p : Int, 0 ≤ p → p < PN sp m → ∃ e k : Int, blw m e ∧ (1 ≤ k ∧ k ≤ sp e) ∧ p = PN sp e + k - 1 := sorry
/-- whose joint an item is -/
theorem edg_iff {n m : Nat} {sp y fr to lay edg up dn : Int → Int} (hs : ∀ e, blw m e → 1 ≤ sp e) (h : ∀ e, blw m e → ITT n sp y fr to e lay edg up dn) : ∀ e, blw m e → ∀ i : Int, n ≤ i → i < JN n sp m → (edg i = e ↔ JN n sp e ≤ i ∧ i < JN n sp (e + 1)) := sorry
/-- the bends as they are told -/
def TLB (n m : Nat) (sp tu lay x bm bx bY : Int → Int) : Prop := ∀ e, blw m e → bm e = sp e - 1 ∧ ∀ k : Int, 0 ≤ k → k < sp e - 1 → bx (24 * e + k) = x (JN n sp e + (if tu e = 1 then sp e - 2 - k else k)) ∧ bY (24 * e + k) = 5 * lay (JN n sp e + (if tu e = 1 then sp e - 2 - k else k))
end
section
/-! ===== layers: the bends are told (the component's) ===== -/
theorem bend_r {v : Int → Int → Int} {a b c C : Int} (hC : v 201 a = C) : (∀ i, g_Dr_bend 198 a b c v 202 i = if i = 24 * a + C then b else v 202 i) ∧ (∀ i, g_Dr_bend 198 a b c v 203 i = if i = 24 * a + C then c else v 203 i) ∧ (∀ i, g_Dr_bend 198 a b c v 201 i = if i = a then C + 1 else v 201 i) ∧ FW [201, 202, 203] [] v (g_Dr_bend 198 a b c v) := sorry
def TLe (n : Nat) (sp tu lay x : Int → Int) (v : Int → Int → Int) (e : Int) : Prop := v 201 e = sp e - 1 ∧ ∀ k : Int, 0 ≤ k → k < sp e - 1 → v 202 (24 * e + k) = x (JN n sp e + (if tu e = 1 then sp e - 2 - k else k)) ∧ v 203 (24 * e + k) = 5 * lay (JN n sp e + (if tu e = 1 then sp e - 2 - k else k))
set_option maxRecDepth 100000 in
theorem La_te_b {l : Launch} {D : qD} {d n m N : Nat} {g : Int} {t hd w tu sp lay x : Int → Int} {v0 : Int → Int → Int} {h : qh} {Q : qQ} (hw : HW v0) (eg : v0 209 1 = g) (e2 : v0 209 2 = 198) (hg : CG v0 g n m t hd w) (gv : GV n m t hd w) (htu : ∀ e, blw m e → v0 217 e = tu e ∧ (tu e = 0 ∨ tu e = 1)) (eN : (N : Int) = JN n sp m) (n72 : N ≤ 72) (e12 : v0 209 12 = N) (s1 : ∀ e, blw m e → 1 ≤ sp e ∧ sp e ≤ 24) (hl : ∀ i, blw N i → v0 219 i = lay i ∧ 0 ≤ lay i ∧ lay i < 24) (hed : ∀ e, blw m e → ∀ i : Int, n ≤ i → i < N → (v0 220 i = e ↔ JN n sp e ≤ i ∧ i < JN n sp (e + 1))) (hx : ∀ i, blw N i → v0 215 i = x i) (hb : ∀ e : Int, 0 ≤ e → e < 48 → v0 201 e = 0)
    (hq : ∀ v, FW [201, 202, 203] [] v0 v → TLB n m sp tu lay x (v 201) (v 202) (v 203) → Q none (h.1, v)) :
    ∀ (x2 x3 x4 : Option qv), qR l D (d + 5, 0, 0) m_La_tell 244 (fun r h' => Q r ((h'.1.1, h.1.2.1, h.1.2.2), h'.2)) [some (.inr (.inr (209))), some (.inl (0)), x2, x3, x4] [] ((h.1.1, 0, 0), v0) := sorry
end
section
/-! ===== layers: places across, and what is told (the component's) ===== -/
theorem pair_r {v : Int → Int → Int} {a b c e C : Int} (hC : v 210 1 = C) : (∀ i, g_Ps_pair a b c e v 211 i = if i = C then a else v 211 i) ∧ (∀ i, g_Ps_pair a b c e v 212 i = if i = C then b else v 212 i) ∧ (∀ i, g_Ps_pair a b c e v 213 i = if i = C then c else v 213 i) ∧ (∀ i, g_Ps_pair a b c e v 214 i = if i = C then e else v 214 i) ∧ g_Ps_pair a b c e v 210 1 = C + 1 ∧ g_Ps_pair a b c e v 210 0 = v 210 0 ∧ FW [211, 212, 213, 214] [(210, 0), (210, 1)] v (g_Ps_pair a b c e v) := sorry
set_option maxRecDepth 100000 in
theorem sp_La_tell {l : Launch} {D : qD} {d n m N lm P : Nat} {g : Int} {t hd w tu sp nm lay up dn hv : Int → Int} {O : Int → List Int} {h : qh} {Q : qQ} (hw : HW h.2) (eg : h.2 209 1 = g) (e2 : h.2 209 2 = 198) (hg : CG h.2 g n m t hd w) (gv : GV n m t hd w) (hnm : ∀ i, blw n i → h.2 (g + 3) i = nm i ∧ 0 ≤ nm i ∧ nm i ≤ 100) (htu : ∀ e, blw m e → h.2 217 e = tu e ∧ (tu e = 0 ∨ tu e = 1)) (eN : (N : Int) = JN n sp m) (n72 : N ≤ 72) (l24 : lm ≤ 24) (p120 : P ≤ 120) (e12 : h.2 209 12 = N) (e13 : h.2 209 13 = lm) (e17 : h.2 209 17 = P) (s1 : ∀ e, blw m e → 1 ≤ sp e ∧ sp e ≤ 24) (nN : n ≤ N) (hl : ∀ i, blw N i → h.2 219 i = lay i ∧ 0 ≤ lay i ∧ lay i < 24) (hen : ∀ i, blw n i → h.2 220 i = -1) (hej : ∀ i : Int, n ≤ i → i < N → h.2 220 i ≠ -1) (hed : ∀ e, blw m e → ∀ i : Int, n ≤ i → i < N → (h.2 220 i = e ↔ JN n sp e ≤ i ∧ i < JN n sp (e + 1))) (hu : ∀ p, blw P p → (h.2 226 p = up p ∧ h.2 227 p = dn p ∧ h.2 228 p = hv p) ∧ blw N (up p) ∧ blw N (dn p)) (hv0 : ∀ p, blw P p → 0 ≤ hv p ∧ hv p ≤ 100) (hO : RWS lm O (h.2 221) (h.2 222) (h.2 223)) (rok : ROK N lm lay O) (ne : ∀ l : Int, 0 ≤ l → l < lm → 1 ≤ (O l).length)
    (hq : ∀ v x, FW [199, 200, 201, 202, 203, 211, 212, 213, 214, 215, 216] [(210, 0), (210, 1)] h.2 v → ACR N P lm O (fun i => if i < n then nm i + 1 else 0) up dn hv x → (∀ i, blw n i → v 199 i = x i ∧ v 200 i = 5 * lay i) → TLB n m sp tu lay x (v 201) (v 202) (v 203) → Q none (h.1, v)) :
    qM l D (d + 5, 0, 0) m_La_tell [.inr (.inr 209)] h Q := sorry
end
section
/-! ===== layers: places across (the twin's) ===== -/
theorem cost_r {v : Int → Int → Int} {a b c e C : Int} (hC : v 280 80 = C) : (∀ i, g_Mo_cost a b c e v 335 i = if i = C then a else v 335 i) ∧ (∀ i, g_Mo_cost a b c e v 336 i = if i = C then b else v 336 i) ∧ (∀ i, g_Mo_cost a b c e v 337 i = if i = C then c else v 337 i) ∧ (∀ i, g_Mo_cost a b c e v 338 i = if i = C then e else v 338 i) ∧ g_Mo_cost a b c e v 280 80 = C + 1 ∧ g_Mo_cost a b c e v 280 79 = v 280 79 ∧ g_Mo_cost a b c e v 280 81 = v 280 81 ∧ FW [335, 336, 337, 338, 339, 340, 341] [(280, 79), (280, 80), (280, 81)] v (g_Mo_cost a b c e v) := sorry
theorem apart_r {v : Int → Int → Int} {a b c C : Int} (hC : v 280 81 = C) : (∀ i, g_Mo_apart a b c v 339 i = if i = C then a else v 339 i) ∧ (∀ i, g_Mo_apart a b c v 340 i = if i = C then b else v 340 i) ∧ (∀ i, g_Mo_apart a b c v 341 i = if i = C then c else v 341 i) ∧ g_Mo_apart a b c v 280 81 = C + 1 ∧ g_Mo_apart a b c v 280 79 = v 280 79 ∧ g_Mo_apart a b c v 280 80 = v 280 80 ∧ FW [339, 340, 341] [(280, 81)] v (g_Mo_apart a b c v) := sorry
theorem enb_ex {t hd : Int → Int} {m : Nat} : ∃ en, enb t hd m en := sorry
set_option maxRecDepth 100000 in
theorem Mo_ac_s {l : Launch} {D : qD} {d n : Nat} {r p e UP DP HP WE PP : Int} {v v1 : Int → Int → Int} {h : qh} {Q : qQ} (y2 : v 280 2 = 282) (y83 : v 280 83 = 335) (y84 : v 280 84 = 336) (y85 : v 280 85 = 337) (y86 : v 280 86 = 338) (y103 : v 280 103 = 351) (y107 : v 280 107 = PP) (y108 : v 280 108 = 355) (y109 : v 280 109 = 356) (t5 : v 280 5 = r) (t5b : 0 ≤ r ∧ r ≤ 66297) (t0 : v 282 r = n) (we : v 282 (r + 363 + e) = WE) (wb : 1 ≤ WE ∧ WE ≤ 9) (eb : 0 ≤ e ∧ e < 48) (pb : 0 ≤ p ∧ p < PP ∧ PP ≤ 120) (u1 : v 355 p = UP) (u2 : v 356 p = DP) (ub : (0 ≤ UP ∧ UP < 72) ∧ 0 ≤ DP ∧ DP < 72) (c80 : v 280 80 = p) (ev1 : g_Mo_cost UP DP HP 0 v = v1) (ehv : HP = WE * (if n ≤ UP ∧ n ≤ DP then 8 else if n ≤ UP ∨ n ≤ DP then 2 else 1)) (i1 : (n : Int) ≤ UP → v 351 UP = e) (i2 : ¬ (n : Int) ≤ UP → (n : Int) ≤ DP → v 351 DP = e) (call : ¬ (n : Int) ≤ UP → ¬ (n : Int) ≤ DP → ∀ Q' : qQ, Q' (some (.inl e)) ((h.1.1, 0, 0), v) → qM l D (d + 4, 0, 0) m_Mo_between [.inr (.inr 280), .inl UP, .inl DP] ((h.1.1, 0, 0), v) Q')
    (st : ∀ (x2 x3 x4 : Option qv), qR l D (d + 5, 0, 0) m_Mo_across_1 20 (fun r h' => Q r ((h'.1.1, h.1.2.1, h.1.2.2), h'.2)) [some (.inr (.inr (280))), some (.inl (p + 1)), x2, x3, x4] [] ((h.1.1, 0, 0), v1)) :
    ∀ (x2 x3 x4 : Option qv), qR l D (d + 5, 0, 0) m_Mo_across_1 20 (fun r h' => Q r ((h'.1.1, h.1.2.1, h.1.2.2), h'.2)) [some (.inr (.inr (280))), some (.inl (p)), x2, x3, x4] [] ((h.1.1, 0, 0), v) := sorry
set_option maxRecDepth 100000 in
theorem sp_Mo_across {l : Launch} {D : qD} {d n m N lm P : Nat} {r : Int} {t hd w nm lay up dn hv : Int → Int} {O : Int → List Int} {h : qh} {Q : qQ} (hT : TW h.2) (hg : TG h.2 r n m t hd w) (gv : GV n m t hd w) (hnm : ∀ i, blw n i → h.2 282 (r + 195 + i) = nm i ∧ 0 ≤ nm i ∧ nm i ≤ 100) (n72 : N ≤ 72) (l24 : lm ≤ 24) (p120 : P ≤ 120) (e100 : h.2 280 100 = N) (e101 : h.2 280 101 = lm) (e107 : h.2 280 107 = P) (nN : n ≤ N) (hu : ∀ p, blw P p → (h.2 355 p = up p ∧ h.2 356 p = dn p) ∧ blw N (up p) ∧ blw N (dn p)) (hhv : ∀ p, blw P p → ∃ e, blw m e ∧ hv p = w e * (if n ≤ up p ∧ n ≤ dn p then 8 else if n ≤ up p ∨ n ≤ dn p then 2 else 1) ∧ (n ≤ up p → h.2 351 (up p) = e) ∧ (¬ n ≤ up p → n ≤ dn p → h.2 351 (dn p) = e) ∧ (¬ n ≤ up p → ¬ n ≤ dn p → jn1 t hd e (up p) (dn p))) (hO : RWT lm O (h.2 353) (h.2 354)) (rok : ROK N lm lay O) (ne : ∀ l : Int, 0 ≤ l → l < lm → 1 ≤ (O l).length)
    (hq : ∀ v x, FW [334, 335, 336, 337, 338, 339, 340, 341, 342, 343, 344, 345] [(280, 79), (280, 80), (280, 81), (280, 94)] h.2 v → ACR N P lm O (fun i => if i < n then nm i + 1 else 0) up dn hv x → (∀ i, blw N i → v 334 i = x i) → Q none (h.1, v)) :
    qM l D (d + 5, 0, 0) m_Mo_across_1 [.inr (.inr 280)] h Q := sorry
end
section
/-! ===== layers: all of it (plain) ===== -/
def nrm (n : Nat) (f : Int → Int) (i : Int) : Int := if 0 ≤ i ∧ i < n then f i else 0
theorem nrm_i {n : Nat} {f : Int → Int} {i : Int} (h : blw n i) : nrm n f i = f i := sorry
theorem nrm_o {n : Nat} {f : Int → Int} {i : Int} (h : ¬ blw n i) : nrm n f i = 0 := sorry
theorem nrm_eq {n : Nat} {f g : Int → Int} (h : ∀ i, blw n i → f i = g i) : nrm n f = nrm n g := sorry
theorem mbl_cg {N N' : Int → Int} {n : Nat} (h : ∀ i, blw n i → N i = N' i) : mbl N n = mbl N' n := sorry
/-- every layer under a node's has a node -/
theorem lay_occ {n m : Nat} {a b w y : Int → Int} (hin : ∀ e : Int, 0 ≤ e → e < m → blw n (a e) ∧ blw n (b e)) (hw : ∀ e : Int, 0 ≤ e → e < m → 0 ≤ w e) (L : lopt n (fea m a b (fun _ => 1)) (cst m a b w) y) : ∀ i, blw n i → ∀ k : Int, 0 ≤ k → k < y i → ∃ j, blw n j ∧ y j = k := sorry
/-- a piece: whose it is, and where -/
theorem ITE_pc {n m N P : Nat} {sp y fr to w lay edg up dn hv : Int → Int} (hs : ∀ e, blw m e → 1 ≤ sp e ∧ sp e = y (to e) - y (fr e)) (hr : ∀ e, blw m e → blw n (fr e) ∧ blw n (to e)) (eN : (N : Int) = JN n sp m) (eP : (P : Int) = PN sp m) (hy : ∀ i, blw n i → lay i = y i) (h : ∀ e, blw m e → ITE n sp y fr to w e lay edg up dn hv) : ∀ p, blw P p → ∃ e k : Int, blw m e ∧ (1 ≤ k ∧ k ≤ sp e) ∧ (up p = (if k = 1 then fr e else JN n sp e + k - 2) ∧ dn p = (if k = sp e then to e else JN n sp e + k - 1) ∧ hv p = w e * hvf k (sp e)) ∧ (blw N (up p) ∧ blw N (dn p)) ∧ (lay (up p) = y (fr e) + k - 1 ∧ lay (dn p) = y (fr e) + k) ∧ (k ≠ 1 → n ≤ up p ∧ edg (up p) = e) ∧ (k ≠ sp e → n ≤ dn p ∧ edg (dn p) = e) ∧ (k = 1 → up p = fr e ∧ up p < n) ∧ (k = sp e → dn p = to e ∧ dn p < n) := sorry
theorem ITE_hv {n m N P : Nat} {sp y t hd tu w lay edg up dn hv : Int → Int} (hs : ∀ e, blw m e → 1 ≤ sp e ∧ sp e = y (toT t hd tu e) - y (frT t hd tu e)) (hr : ∀ e, blw m e → blw n (frT t hd tu e) ∧ blw n (toT t hd tu e)) (eN : (N : Int) = JN n sp m) (eP : (P : Int) = PN sp m) (hy : ∀ i, blw n i → lay i = y i) (h : ∀ e, blw m e → ITE n sp y (frT t hd tu) (toT t hd tu) w e lay edg up dn hv) : ∀ p, blw P p → ∃ e, blw m e ∧ hv p = w e * (if n ≤ up p ∧ n ≤ dn p then 8 else if n ≤ up p ∨ n ≤ dn p then 2 else 1) ∧ (n ≤ up p → edg (up p) = e) ∧ (¬ n ≤ up p → n ≤ dn p → edg (dn p) = e) ∧ (¬ n ≤ up p → ¬ n ≤ dn p → jn1 t hd e (up p) (dn p)) := sorry
/-- a weight for each piece -/
theorem ITE_ex {n m : Nat} {sp y fr to w lay edg up dn : Int → Int} (sp1 : ∀ e, blw m e → 1 ≤ sp e) (h : ∀ e, blw m e → ITT n sp y fr to e lay edg up dn) : ∃ hv, ∀ e, blw m e → ITE n sp y fr to w e lay edg up dn hv := sorry
/-- layers of all items; none is empty -/
theorem lay_all {n m N lm : Nat} {sp y fr to w lay edg up dn hv : Int → Int} (hs : ∀ e, blw m e → 1 ≤ sp e ∧ sp e = y (to e) - y (fr e)) (hr : ∀ e, blw m e → blw n (fr e) ∧ blw n (to e)) (hw : ∀ e, blw m e → 0 ≤ w e) (eN : (N : Int) = JN n sp m) (hy : ∀ i, blw n i → lay i = y i) (h : ∀ e, blw m e → ITT n sp y fr to e lay edg up dn) (L : lopt n (fea m fr to (fun _ => 1)) (cst m fr to w) y) (lmx : LMX N lay lm) : (∀ i, blw N i → 0 ≤ lay i ∧ lay i < lm) ∧ ROK N lm lay (mbl lay N) ∧ ∀ k : Int, 0 ≤ k → k < lm → 1 ≤ (mbl lay N k).length := sorry
theorem ROK_pm {N lm : Nat} {lay : Int → Int} {O B : Int → List Int} (r : ROK N lm lay O) (h : ∀ l : Int, 0 ≤ l → l < lm → (B l).Perm (O l)) : ROK N lm lay B := sorry
/-- the rows of all layers, as they are put in order -/
def ORR (lay up dn : Int → Int) (N P lm : Nat) (B : Int → List Int) (f : Int) : Prop := ((∀ k : Int, 0 ≤ k → k < lm → (mbl lay N k).length ≤ 6) ∧ XRO lay up dn P lm (mbl lay N) B f) ∨ ((∃ k : Int, (0 ≤ k ∧ k < lm) ∧ 6 < (mbl lay N k).length) ∧ ∃ O', SWP lay up dn P lm (mbl lay N) 10 O' B f)
theorem ORR_un {lay up dn : Int → Int} {N P lm : Nat} {B B' : Int → List Int} {f f' : Int} (l1 : 1 ≤ lm) (rok : ROK N lm lay (mbl lay N)) (hu : ∀ p, blw P p → blw N (up p) ∧ blw N (dn p)) (q : ORR lay up dn N P lm B f) (q' : ORR lay up dn N P lm B' f') : f = f' ∧ ∀ l : Int, 0 ≤ l → l < lm → B l = B' l := sorry
theorem ORR_ok {lay up dn : Int → Int} {N P lm : Nat} {B : Int → List Int} {f : Int} (l1 : 1 ≤ lm) (rok : ROK N lm lay (mbl lay N)) (hu : ∀ p, blw P p → blw N (up p) ∧ blw N (dn p)) (q : ORR lay up dn N P lm B f) : ROK N lm lay B := sorry
end
section
/-! ===== layers: what is told (the twin's) ===== -/
theorem ft_of {v : Int → Int → Int} {r e : Int} {n m : Nat} {t hd w tu : Int → Int} (tg : TG v r n m t hd w) (he : blw m e) (t1 : v 346 e = tu e) (t01 : tu e = 0 ∨ tu e = 1) : f_Mo_from e v = frT t hd tu e ∧ f_Mo_to e v = toT t hd tu e := sorry
/-- only the rows of one place are told anew -/
def TLO (g : Int) (v0 v : Int → Int → Int) : Prop := (∀ i : Int, i ≠ g → v 322 i = v0 322 i ∧ v 323 i = v0 323 i) ∧ (∀ i : Int, i < 24 * g ∨ 24 * g + 24 ≤ i → v 324 i = v0 324 i) ∧ ∀ i : Int, i < 48 * g ∨ 48 * g + 48 ≤ i → v 325 i = v0 325 i
set_option maxRecDepth 100000 in
theorem Mo_ly_e {l : Launch} {D : qD} {d n m N : Nat} {r g f s4 j3 : Int} {t hd w tu sp lay x : Int → Int} {v0 : Int → Int → Int} {h : qh} {Q : qQ} (hT : TW v0) (hg : TG v0 r n m t hd w) (gv : GV n m t hd w) (g4 : 0 ≤ g ∧ g < 4) (htu : ∀ e, blw m e → v0 346 e = tu e ∧ (tu e = 0 ∨ tu e = 1)) (eN : (N : Int) = JN n sp m) (n72 : N ≤ 72) (s1 : ∀ e, blw m e → (1 ≤ sp e ∧ sp e ≤ 24) ∧ sp e = lay (toT t hd tu e) - lay (frT t hd tu e)) (hl : ∀ i, blw N i → v0 350 i = lay i ∧ 0 ≤ lay i ∧ lay i < 24) (hj : ∀ e, blw m e → v0 352 e = JN n sp e) (hx : ∀ i, blw N i → v0 334 i = x i)
    (hq : ∀ v, FW [322, 323, 324, 325, 329, 330, 331, 332, 333] [] v0 v → (∀ i, blw n i → v 329 i = x i ∧ v 330 i = 5 * lay i ∧ v 324 (24 * g + i) = lay i) → TLB n m sp tu lay x (v 331) (v 332) (v 333) → (∀ e, blw m e → v 325 (48 * g + e) = tu e) → v 322 g = f → v 323 g = s4 → TLO g v0 v → Q (some (.inl 0)) (h.1, v)) :
    ∀ (x7 x8 x9 : Option qv), qR l D (d + 6, 0, 0) m_Mo_layers 223 (fun r h' => Q r ((h'.1.1, h.1.2.1, h.1.2.2), h'.2)) [some (.inr (.inr (280))), some (.inl (g)), some (.inl ((n : Int))), some (.inl (j3)), some (.inl (s4)), some (.inl (f)), some (.inl (0)), x7, x8, x9] [] ((h.1.1, 0, 0), v0) := sorry
end
section
/-! ===== layers: what both sides tell (plain) ===== -/
def LY1 (n m : Nat) (t hd w tu y sp : Int → Int) : Prop := TRN n m t hd w tu ∧ lopt n (fea m (frT t hd tu) (toT t hd tu) (fun _ => 1)) (cst m (frT t hd tu) (toT t hd tu) w) y ∧ ∀ e, blw m e → sp e = y (toT t hd tu e) - y (frT t hd tu e)
theorem ft_in {n m : Nat} {t hd w tu : Int → Int} (gv : GV n m t hd w) : ∀ e, blw m e → blw n (frT t hd tu e) ∧ blw n (toT t hd tu e) := sorry
theorem LY1_b {n m : Nat} {t hd w tu y sp : Int → Int} (gv : GV n m t hd w) (q : LY1 n m t hd w tu y sp) : (∀ e, blw m e → 1 ≤ sp e ∧ sp e ≤ 24) ∧ ∀ i, blw n i → 0 ≤ y i ∧ y i < n := sorry
theorem LY1_un {n m : Nat} {t hd w tu y sp tu' y' sp' : Int → Int} (gv : GV n m t hd w) (q : LY1 n m t hd w tu y sp) (q' : LY1 n m t hd w tu' y' sp') : (∀ e, blw m e → tu e = tu' e) ∧ (∀ i, blw n i → y i = y' i) ∧ ∀ e, blw m e → sp e = sp' e := sorry
theorem JN_cg {n : Nat} {sp sp' : Int → Int} {m : Nat} (h : ∀ e, blw m e → sp e = sp' e) {e : Int} (e0 : 0 ≤ e) (e1 : e ≤ m) : JN n sp e = JN n sp' e ∧ PN sp e = PN sp' e := sorry
theorem LMX_un {N : Nat} {lay : Int → Int} {a b : Nat} (h : ∀ i : Int, 0 ≤ i → i < N → 0 ≤ lay i) (q : LMX N lay a) (q' : LMX N lay b) : a = b := sorry
/-- a drawing in layers -/
def LYR (n m : Nat) (t hd w nm tu y sp : Int → Int) (N lm P : Nat) (lay up dn hv : Int → Int) (B : Int → List Int) (f : Int) (x : Int → Int) : Prop :=
  LY1 n m t hd w tu y sp ∧ ((N : Int) = JN n sp m ∧ N ≤ 72 ∧ (P : Int) = PN sp m) ∧ (∀ i, blw n i → lay i = y i) ∧ (∃ edg, ∀ e, blw m e → ITE n sp y (frT t hd tu) (toT t hd tu) w e lay edg up dn hv) ∧ (lay = nrm N lay ∧ up = nrm P up ∧ dn = nrm P dn ∧ hv = nrm P hv) ∧ LMX N lay lm ∧ ORR lay up dn N P lm B f ∧ ACR N P lm B (fun i => if i < n then nm i + 1 else 0) up dn hv x
theorem LYR_un {n m : Nat} {t hd w nm tu y sp tu' y' sp' : Int → Int} {N lm P N' lm' P' : Nat} {lay up dn hv lay' up' dn' hv' x x' : Int → Int} {B B' : Int → List Int} {f f' : Int} (gv : GV n m t hd w) (n1 : 1 ≤ n) (q : LYR n m t hd w nm tu y sp N lm P lay up dn hv B f x) (q' : LYR n m t hd w nm tu' y' sp' N' lm' P' lay' up' dn' hv' B' f' x') : ((∀ e, blw m e → tu e = tu' e) ∧ (∀ i, blw n i → y i = y' i) ∧ ∀ e, blw m e → sp e = sp' e) ∧ N = N' ∧ lay = lay' ∧ f = f' ∧ ∀ i, blw N i → x i = x' i := sorry
theorem ITE_nr {n m N P : Nat} {sp y fr to w lay edg up dn hv : Int → Int} (sp1 : ∀ e, blw m e → 1 ≤ sp e) (eN : (N : Int) = JN n sp m) (eP : (P : Int) = PN sp m) (h : ∀ e, blw m e → ITE n sp y fr to w e lay edg up dn hv) : ∀ e, blw m e → ITE n sp y fr to w e (nrm N lay) edg (nrm P up) (nrm P dn) (nrm P hv) := sorry
theorem nrm_nr {n : Nat} {f : Int → Int} : nrm n f = nrm n (nrm n f) := sorry
theorem LMX_cg {N lm : Nat} {lay lay' : Int → Int} (h : ∀ i, blw N i → lay i = lay' i) (q : LMX N lay lm) : LMX N lay' lm := sorry
/-- the twin's system of layers has its least places -/
theorem ly_tw {n m : Nat} {t hd w tu ca cb cw cp aa bb dd : Int → Int} (gv : GV n m t hd w) (q : TRN n m t hd w tu) (h : ∀ e : Int, 0 ≤ e → e < m → (ca e = frT t hd tu e ∧ cb e = toT t hd tu e ∧ cw e = w e ∧ cp e = 1) ∧ aa e = frT t hd tu e ∧ bb e = toT t hd tu e ∧ dd e = 1) : ∃ y, lopt n (fea m aa bb dd) (fco m ca cb cw cp) y ∧ lopt n (fea m (frT t hd tu) (toT t hd tu) (fun _ => 1)) (cst m (frT t hd tu) (toT t hd tu) w) y := sorry
end
section
/-! ===== layers: all of it (the twin's) ===== -/
theorem sof_wb {w sp : Int → Int} {m : Nat} (m48 : m ≤ 48) (h : ∀ e, blw m e → (0 ≤ w e ∧ w e ≤ 9) ∧ 0 ≤ sp e ∧ sp e ≤ 24) {k : Nat} (hk : k ≤ m) : 0 ≤ sof (fun e => w e * sp e) k ∧ sof (fun e => w e * sp e) k ≤ 10368 := sorry
set_option maxRecDepth 100000 in
theorem Mo_ly_c {l : Launch} {D : qD} {d n m N lm P : Nat} {r g f s4 j3 : Int} {t hd w nm tu sp lay up dn hv : Int → Int} {B : Int → List Int} {v0 : Int → Int → Int} {h : qh} {Q : qQ} (hT : TW v0) (hg : TG v0 r n m t hd w) (gv : GV n m t hd w) (g4 : 0 ≤ g ∧ g < 4) (hnm : ∀ i, blw n i → v0 282 (r + 195 + i) = nm i ∧ 0 ≤ nm i ∧ nm i ≤ 100) (htu : ∀ e, blw m e → v0 346 e = tu e ∧ (tu e = 0 ∨ tu e = 1)) (eN : (N : Int) = JN n sp m) (n72 : N ≤ 72) (l24 : lm ≤ 24) (p120 : P ≤ 120) (e100 : v0 280 100 = N) (e101 : v0 280 101 = lm) (e107 : v0 280 107 = P) (nN : n ≤ N) (s1 : ∀ e, blw m e → (1 ≤ sp e ∧ sp e ≤ 24) ∧ sp e = lay (toT t hd tu e) - lay (frT t hd tu e)) (hl : ∀ i, blw N i → v0 350 i = lay i ∧ 0 ≤ lay i ∧ lay i < 24) (hj : ∀ e, blw m e → v0 352 e = JN n sp e) (hu : ∀ p, blw P p → (v0 355 p = up p ∧ v0 356 p = dn p) ∧ blw N (up p) ∧ blw N (dn p)) (hhv : ∀ p, blw P p → ∃ e, blw m e ∧ hv p = w e * (if n ≤ up p ∧ n ≤ dn p then 8 else if n ≤ up p ∨ n ≤ dn p then 2 else 1) ∧ (n ≤ up p → v0 351 (up p) = e) ∧ (¬ n ≤ up p → n ≤ dn p → v0 351 (dn p) = e) ∧ (¬ n ≤ up p → ¬ n ≤ dn p → jn1 t hd e (up p) (dn p))) (hO : RWT lm B (v0 353) (v0 354)) (rok : ROK N lm lay B) (ne : ∀ l : Int, 0 ≤ l → l < lm → 1 ≤ (B l).length)
    (hq : ∀ v x, FW [322, 323, 324, 325, 329, 330, 331, 332, 333, 334, 335, 336, 337, 338, 339, 340, 341, 342, 343, 344, 345] [(280, 79), (280, 80), (280, 81), (280, 94)] v0 v → ACR N P lm B (fun i => if i < n then nm i + 1 else 0) up dn hv x → (∀ i, blw n i → v 329 i = x i ∧ v 330 i = 5 * lay i ∧ v 324 (24 * g + i) = lay i) → TLB n m sp tu lay x (v 331) (v 332) (v 333) → (∀ e, blw m e → v 325 (48 * g + e) = tu e) → v 322 g = f → v 323 g = s4 → TLO g v0 v → Q (some (.inl 0)) (h.1, v)) :
    ∀ (x5 x6 x7 x8 x9 : Option qv), w_Mo_layers_214 l D (d + 5) (0, 0) (fun r h' => Q r ((h'.1.1, h.1.2.1, h.1.2.2), h'.2)) [some (.inr (.inr (280))), some (.inl (g)), some (.inl ((n : Int))), some (.inl (j3)), some (.inl (s4)), x5, x6, x7, x8, x9] [.inl (f)] ((h.1.1, 0, 0), v0) := sorry
set_option maxRecDepth 100000 in
theorem Mo_ly_l {l : Launch} {D : qD} {d n m : Nat} {r g : Int} {t hd w nm tu y sp : Int → Int} {v0 : Int → Int → Int} {h : qh} {Q : qQ} (hT : TW v0) (hg : TG v0 r n m t hd w) (gv : GV n m t hd w) (n1 : 1 ≤ n) (g4 : 0 ≤ g ∧ g < 4) (hnm : ∀ i, blw n i → v0 282 (r + 195 + i) = nm i ∧ 0 ≤ nm i ∧ nm i ≤ 100) (prm : PRM v0) (htu : ∀ e, blw m e → v0 346 e = tu e ∧ (tu e = 0 ∨ tu e = 1)) (ly : LY1 n m t hd w tu y sp) (h350 : ∀ i, blw n i → v0 350 i = y i) (j72 : JN n sp m ≤ 72)
    (hq : ∀ v N lm P lay up dn hv B f x, FW [322, 323, 324, 325, 329, 330, 331, 332, 333, 334, 335, 336, 337, 338, 339, 340, 341, 342, 343, 344, 345, 350, 351, 352, 353, 354, 355, 356, 360, 361, 362, 363, 364, 365, 366, 367] [(280, 79), (280, 80), (280, 81), (280, 94), (280, 100), (280, 101), (280, 107)] v0 v → LYR n m t hd w nm tu y sp N lm P lay up dn hv B f x → (∀ i, blw n i → v 329 i = x i ∧ v 330 i = 5 * lay i ∧ v 324 (24 * g + i) = lay i) → TLB n m sp tu lay x (v 331) (v 332) (v 333) → (∀ e, blw m e → v 325 (48 * g + e) = tu e) → v 322 g = f → v 323 g = sof (fun e => w e * sp e) m → TLO g v0 v → Q (some (.inl 0)) (h.1, v)) :
    ∀ (j3 : Int) (x5 x6 x7 x8 x9 : Option qv), w_Mo_layers_191 l D (d + 5) (0, 0) (fun r h' => Q r ((h'.1.1, h.1.2.1, h.1.2.2), h'.2)) [some (.inr (.inr (280))), some (.inl (g)), some (.inl ((n : Int))), some (.inl (j3)), some (.inl (sof (fun e => w e * sp e) m)), x5, x6, x7, x8, x9] [] ((h.1.1, 0, 0), v0) := sorry
set_option maxRecDepth 100000 in
theorem sp_Mo_layers {l : Launch} {D : qD} {d n m : Nat} {r g : Int} {t hd w nm : Int → Int} {h : qh} {Q : qQ} (hT : TW h.2) (hok : tok h.2) (hg : TG h.2 r n m t hd w) (gv : GV n m t hd w) (n1 : 1 ≤ n) (g4 : 0 ≤ g ∧ g < 4) (hnm : ∀ i, blw n i → h.2 282 (r + 195 + i) = nm i ∧ 0 ≤ nm i ∧ nm i ≤ 100) (prm : PRM h.2)
    (hq0 : ∀ v tu y sp, FW [288, 291, 292, 334, 335, 336, 337, 338, 339, 340, 341, 342, 343, 344, 345, 346, 347, 348, 349, 350] [(280, 79), (280, 80), (280, 81), (280, 94), (280, 99)] h.2 v → LY1 n m t hd w tu y sp → 72 < JN n sp m → Q (some (.inl (-2))) (h.1, v))
    (hq1 : ∀ v tu y sp N lm P lay up dn hv B f x, FW [288, 291, 292, 322, 323, 324, 325, 329, 330, 331, 332, 333, 334, 335, 336, 337, 338, 339, 340, 341, 342, 343, 344, 345, 346, 347, 348, 349, 350, 351, 352, 353, 354, 355, 356, 360, 361, 362, 363, 364, 365, 366, 367] [(280, 79), (280, 80), (280, 81), (280, 94), (280, 99), (280, 100), (280, 101), (280, 107)] h.2 v → LYR n m t hd w nm tu y sp N lm P lay up dn hv B f x → (∀ i, blw n i → v 329 i = x i ∧ v 330 i = 5 * lay i ∧ v 324 (24 * g + i) = lay i) → TLB n m sp tu lay x (v 331) (v 332) (v 333) → (∀ e, blw m e → v 325 (48 * g + e) = tu e) → v 322 g = f → v 323 g = sof (fun e => w e * sp e) m → TLO g h.2 v → Q (some (.inl 0)) (h.1, v)) :
    qM l D (d + 6, 0, 0) m_Mo_layers [.inr (.inr 280), .inl g] h Q := sorry
end
section
/-! ===== layers: from the items on (the component's) ===== -/
theorem LMX_all {n m N lm : Nat} {sp y fr to lay edg up dn : Int → Int} (hs : ∀ e, blw m e → 1 ≤ sp e ∧ sp e = y (to e) - y (fr e)) (hr : ∀ e, blw m e → blw n (fr e) ∧ blw n (to e)) (eN : (N : Int) = JN n sp m) (hy : ∀ i, blw n i → lay i = y i) (h : ∀ e, blw m e → ITT n sp y fr to e lay edg up dn) (q : LMX n y lm) : LMX N lay lm := sorry
set_option maxRecDepth 100000 in
theorem La_dr_e {l : Launch} {D : qD} {d n m N P lm : Nat} {g : Int} {t hd w nm tu y sp : Int → Int} {v0 : Int → Int → Int} {h : qh} {Q : qQ} (hw : HW v0) (eg : v0 209 1 = g) (e2 : v0 209 2 = 198) (hg : CG v0 g n m t hd w) (gv : GV n m t hd w) (n1 : 1 ≤ n) (hnm : ∀ i, blw n i → v0 (g + 3) i = nm i ∧ 0 ≤ nm i ∧ nm i ≤ 100) (htu : ∀ e, blw m e → v0 217 e = tu e ∧ (tu e = 0 ∨ tu e = 1)) (ly : LY1 n m t hd w tu y sp) (eN : (N : Int) = JN n sp m) (n72 : N ≤ 72) (eP : (P : Int) = PN sp m) (e12 : v0 209 12 = N) (e13 : v0 209 13 = lm) (e17 : v0 209 17 = P) (l24 : lm ≤ 24) (mx : LMX n y lm) (hy : ∀ i, blw n i → v0 219 i = y i ∧ v0 220 i = -1) (hit : ∀ e, blw m e → ITE n sp y (frT t hd tu) (toT t hd tu) w e (v0 219) (v0 220) (v0 226) (v0 227) (v0 228))
    (hq : ∀ v lay up dn hv B f x, FW [199, 200, 201, 202, 203, 211, 212, 213, 214, 215, 216, 221, 222, 223, 224, 225, 230, 231, 233, 234, 235, 236, 237] [(198, 2), (210, 0), (210, 1)] v0 v → LYR n m t hd w nm tu y sp N lm P lay up dn hv B f x → (∀ i, blw n i → v 199 i = x i ∧ v 200 i = 5 * lay i) → TLB n m sp tu lay x (v 201) (v 202) (v 203) → v 198 2 = f → Q (some (.inl 1)) (h.1, v)) :
    ∀ (x4 x5 : Option qv), w_La_draw_264 l D (d + 5) (0, 0) (fun r h' => Q r ((h'.1.1, h.1.2.1, h.1.2.2), h'.2)) [some (.inr (.inr (209))), some (.inr (.inr (g))), some (.inr (.inr (135))), some (.inr (.inr (198))), x4, x5] [] ((h.1.1, 0, 0), v0) := sorry
end
section
/-! ===== layers: all of it (the component's) ===== -/
theorem LMX_s {i : Int} {y : Int → Int} {L : Int} (i0 : 0 ≤ i) (y0 : 0 ≤ y i) (q : LMX i y L) (L0 : 0 ≤ L) : LMX (i + 1) y (max L (y i + 1)) := sorry
/-- the component's system of layers -/
theorem ly_co {n m : Nat} {t hd w tu a b d f : Int → Int} (gv : GV n m t hd w) (q : TRN n m t hd w tu) (h : ∀ e : Int, 0 ≤ e → e < m → a e = frT t hd tu e ∧ b e = toT t hd tu e ∧ d e = 1 ∧ f e = w e) : (∀ j : Int, 0 ≤ j → j < m → 0 ≤ f j) ∧ sm f m ≤ 1000000000 ∧ (∃ τ : Int → Int, ∀ j : Int, 0 ≤ j → j < m → τ (a j) < τ (b j)) ∧ (∀ j : Int, 0 ≤ j → j < m → (0 ≤ a j ∧ a j < n) ∧ (0 ≤ b j ∧ b j < n)) ∧ (∀ j : Int, 0 ≤ j → j < m → -10000 ≤ d j ∧ d j ≤ 10000) ∧ (∃ y0, fea m a b d y0) ∧ ∀ y, lopt n (fea m a b d) (cst m a b f) y → lopt n (fea m (frT t hd tu) (toT t hd tu) (fun _ => 1)) (cst m (frT t hd tu) (toT t hd tu) w) y := sorry
theorem lf_of {v : Int → Int → Int} {g e : Int} {n m : Nat} {t hd w tu : Int → Int} (cg : CG v g n m t hd w) (e1 : v 209 1 = g) (he : blw m e) (t1 : v 217 e = tu e) (t01 : tu e = 0 ∨ tu e = 1) : f_La_from e v = frT t hd tu e ∧ f_La_to e v = toT t hd tu e := sorry
theorem ITE_cg {n m : Nat} {sp y fr to w lay edg up dn hv lay' edg' up' dn' hv' : Int → Int} {e e' : Int} (sp1 : ∀ e, blw m e → 1 ≤ sp e) (eb : blw m e') (ee : e' < e) (em : e ≤ m) (h1 : ∀ i : Int, i < JN n sp e → lay' i = lay i ∧ edg' i = edg i) (h2 : ∀ i : Int, i < PN sp e → up' i = up i ∧ dn' i = dn i ∧ hv' i = hv i) (q : ITE n sp y fr to w e' lay edg up dn hv) : ITE n sp y fr to w e' lay' edg' up' dn' hv' := sorry
/-- what the shape learns -/
def SHt (g : Int) (n : Nat) (v0 v : Int → Int → Int) : Prop := ∃ v1, FW [138, 141, 217, 218, 229, 232, 208] [(209, 1), (135, 8)] v0 v1 ∧ num (sE (dR v1 g 0)) n (v1 138) ∧ v1 135 8 = nums (sE (dR v1 g 0)) n ∧ v 138 = v1 138 ∧ v 135 8 = v1 135 8
set_option maxRecDepth 100000 in
theorem La_dr_m {l : Launch} {D : qD} {d n m : Nat} {g : Int} {t hd w nm tu y sp : Int → Int} {v1 : Int → Int → Int} {h : qh} {Q : qQ} (hw : HW v1) (eg : v1 209 1 = g) (hg : CG v1 g n m t hd w) (gv : GV n m t hd w) (n1 : 1 ≤ n) (hnm : ∀ i, blw n i → v1 (g + 3) i = nm i ∧ 0 ≤ nm i ∧ nm i ≤ 100) (htu : ∀ e, blw m e → v1 217 e = tu e ∧ (tu e = 0 ∨ tu e = 1)) (ly : LY1 n m t hd w tu y sp)
    (hq0 : ∀ v, FW [204, 211, 212, 213, 214, 215, 216, 219, 220, 226, 227, 228] [(198, 3), (209, 2), (209, 12), (209, 13), (209, 17), (210, 0), (210, 1)] v1 v → 72 < JN n sp m → Q (some (.inl 0)) (h.1, v))
    (hq1 : ∀ v N lm P lay up dn hv B f x, FW [199, 200, 201, 202, 203, 204, 211, 212, 213, 214, 215, 216, 219, 220, 221, 222, 223, 224, 225, 226, 227, 228, 230, 231, 233, 234, 235, 236, 237] [(198, 2), (198, 3), (209, 2), (209, 12), (209, 13), (209, 17), (210, 0), (210, 1)] v1 v → LYR n m t hd w nm tu y sp N lm P lay up dn hv B f x → (∀ i, blw n i → v 199 i = x i ∧ v 200 i = 5 * lay i ∧ v 204 i = lay i) → TLB n m sp tu lay x (v 201) (v 202) (v 203) → v 198 2 = f → v 198 3 = sof (fun e => w e * sp e) m → Q (some (.inl 1)) (h.1, v)) :
    ∀ v0 (x5 : Option qv), FW [211, 212, 213, 214, 215, 216] [(198, 3), (209, 2), (209, 12), (209, 13), (210, 0), (210, 1)] v1 v0 → (∀ i, blw n i → v0 215 i = y i) → v0 209 2 = 198 → v0 209 12 = n → v0 209 13 = 0 → v0 198 3 = 0 → qR l D (d + 6, 0, 0) m_La_draw 99 (fun r h' => Q r ((h'.1.1, h.1.2.1, h.1.2.2), h'.2)) [some (.inr (.inr (209))), some (.inr (.inr (g))), some (.inr (.inr (135))), some (.inr (.inr (198))), some (.inl (0)), x5] [] ((h.1.1, 0, 0), v0) := sorry
set_option maxRecDepth 100000 in
theorem sp_La_draw {l : Launch} {D : qD} {d n m : Nat} {g : Int} {t hd w nm : Int → Int} {h : qh} {Q : qQ} (hw : HW h.2) (hg : CG h.2 g n m t hd w) (gv : GV n m t hd w) (n1 : 1 ≤ n) (ap : aprt g 135) (e15 : h.2 135 15 = g) (hnm : ∀ i, blw n i → h.2 (g + 3) i = nm i ∧ 0 ≤ nm i ∧ nm i ≤ 100)
    (hq0 : ∀ v tu y sp, FW [138, 141, 204, 208, 211, 212, 213, 214, 215, 216, 217, 218, 219, 220, 226, 227, 228, 229, 232] [(135, 8), (198, 3), (209, 1), (209, 2), (209, 12), (209, 13), (209, 17), (210, 0), (210, 1)] h.2 v → SHt g n h.2 v → LY1 n m t hd w tu y sp → 72 < JN n sp m → Q (some (.inl 0)) (h.1, v))
    (hq1 : ∀ v tu y sp N lm P lay up dn hv B f x, FW [138, 141, 199, 200, 201, 202, 203, 204, 208, 211, 212, 213, 214, 215, 216, 217, 218, 219, 220, 221, 222, 223, 224, 225, 226, 227, 228, 229, 230, 231, 232, 233, 234, 235, 236, 237] [(135, 8), (198, 2), (198, 3), (209, 1), (209, 2), (209, 12), (209, 13), (209, 17), (210, 0), (210, 1)] h.2 v → SHt g n h.2 v → LYR n m t hd w nm tu y sp N lm P lay up dn hv B f x → (∀ i, blw n i → v 199 i = x i ∧ v 200 i = 5 * lay i ∧ v 204 i = lay i) → TLB n m sp tu lay x (v 201) (v 202) (v 203) → (∀ e, blw m e → v 208 e = tu e) → v 198 2 = f → v 198 3 = sof (fun e => w e * sp e) m → Q (some (.inl 1)) (h.1, v)) :
    qM l D (d + 6, 0, 0) m_La_draw [.inr (.inr 209), .inr (.inr g), .inr (.inr 135), .inr (.inr 198)] h Q := sorry
end
section
/-! ===== the twin's tables of orders ===== -/
theorem i2b_s {x : Int} (x0 : 0 ≤ x) (x1 : x < 6) : z_i2b x = x := sorry
theorem fcl_s {n : Nat} : (fcl (n + 1) : Int) = (fcl n : Int) + (n : Int) * fcl n := sorry
theorem pd_next {n o : Nat} {i j : Int} (ho : o < fcl n) (i0 : 0 ≤ i) (ij : i < j) (jn : j < n) (hd : ∀ k, i < k → k + 1 < n → li (pd n o) (k + 1) < li (pd n o) k) (hj : li (pd n o) i < li (pd n o) j) (h2 : ∀ k, j < k → k < n → li (pd n o) k < li (pd n o) i) : o + 1 < fcl n ∧ lst (nxv (li (pd n o)) n i j) n = pd n (o + 1) := sorry
theorem pd_last {n o : Nat} (ho : o < fcl n) (hd : ∀ k : Int, 0 ≤ k → k + 1 < n → li (pd n o) (k + 1) < li (pd n o) k) : o + 1 = fcl n := sorry
theorem pd_0 {n : Nat} : ∀ k : Int, 0 ≤ k → k < n → li (pd n 0) k = k := sorry
/-- the tables up to a number -/
def PRn (v : Int → Int → Int) (N : Nat) : Prop := ∀ n : Nat, n < N → v 357 n = (fcl n : Int) - 1 ∧ v 358 n = fcl n ∧ ∀ o : Nat, o < fcl n → ∀ k : Int, 0 ≤ k → k < n → v 359 ((fcl n : Int) - 1 + (n : Int) * o + k) = li (pd n o) k
theorem fcl_le {a b : Nat} (h : a ≤ b) : fcl a ≤ fcl b := sorry
/-- a place in the tables -/
theorem fcl_ix {n o : Nat} {k : Int} (ho : o < fcl n) (k0 : 0 ≤ k) (k1 : k < n) : (fcl n : Int) - 1 + (n : Int) * o + k < (fcl (n + 1) : Int) - 1 := sorry
set_option maxRecDepth 100000 in
theorem sp_Mo_permutations {l : Launch} {D : qD} {d : Nat} {h : qh} {Q : qQ} (hT : TW h.2) (hq : ∀ v, FW [347, 357, 358, 359] [] h.2 v → PRM v → Q none (h.1, v)) :
    qM l D (d + 2, 0, 0) m_Mo_permutations [.inr (.inr 280)] h Q := sorry
end
section
/-! ===== routes (plain) ===== -/
/-- the next point on, or -1 -/
def nxp (W H p d : Int) : Int := if d = 0 then (if Int.tmod p W + 1 < W then p + 1 else -1) else if d = 1 then (if Int.tdiv p W + 1 < H then p + W else -1) else if d = 2 then (if 0 < Int.tmod p W then p - 1 else -1) else (if 0 < Int.tdiv p W then p - W else -1)
def rwt (w d : Int) : Int := if w = d then 1 else 3
theorem rwt_b {w d : Int} : 1 ≤ rwt w d ∧ rwt w d ≤ 3 := sorry
/-- a point by its row and place -/
theorem pt_xy {W p : Int} (W0 : 0 < W) (p0 : 0 ≤ p) : (0 ≤ Int.tmod p W ∧ Int.tmod p W < W) ∧ 0 ≤ Int.tdiv p W ∧ p = W * Int.tdiv p W + Int.tmod p W := sorry
theorem pt_of {W x y : Int} (W0 : 0 < W) (x0 : 0 ≤ x) (x1 : x < W) (y0 : 0 ≤ y) : 0 ≤ W * y + x ∧ Int.tmod (W * y + x) W = x ∧ Int.tdiv (W * y + x) W = y := sorry
theorem pt_in {W H x y : Int} (W0 : 0 < W) (x1 : x < W) (y1 : y < H) : W * y + x < W * H := sorry
theorem pt_y {W H p : Int} (W0 : 0 < W) (p0 : 0 ≤ p) (p1 : p < W * H) : Int.tdiv p W < H := sorry
/-- where a step leads: there, and back by the step the other way -/
theorem nxp_in {W H p d : Int} (W0 : 0 < W) (p0 : 0 ≤ p) (p1 : p < W * H) (d0 : 0 ≤ d) (d1 : d < 4) (h : nxp W H p d ≠ -1) : (0 ≤ nxp W H p d ∧ nxp W H p d < W * H) ∧ nxp W H (nxp W H p d) (Int.tmod (d + 2) 4) = p := sorry
/-- what it costs to the goal: of each open point, come to by each step -/
def RBE (W H : Int) (op : Int → Prop) (goal : Int) (c : Int → Int) : Prop := ∀ q w : Int, (0 ≤ q ∧ q < W * H) → op q → (0 ≤ w ∧ w < 4) → (0 ≤ c (4 * q + w) ∧ c (4 * q + w) ≤ 1000000) ∧ (q = goal → c (4 * q + w) = 0) ∧ (q ≠ goal → (∀ d : Int, 0 ≤ d → d < 4 → nxp W H q d ≠ -1 → op (nxp W H q d) → c (4 * nxp W H q d + d) < 1000000 → c (4 * q + w) ≤ c (4 * nxp W H q d + d) + rwt w d) ∧ (c (4 * q + w) = 1000000 ∨ ∃ d : Int, (0 ≤ d ∧ d < 4) ∧ nxp W H q d ≠ -1 ∧ op (nxp W H q d) ∧ c (4 * nxp W H q d + d) < 1000000 ∧ c (4 * q + w) = c (4 * nxp W H q d + d) + rwt w d))
theorem RBE_le {W H goal : Int} {op : Int → Prop} {c c' : Int → Int} (W0 : 0 < W) (a : RBE W H op goal c) (b : RBE W H op goal c') : ∀ (k : Nat) (q w : Int), (0 ≤ q ∧ q < W * H) → op q → (0 ≤ w ∧ w < 4) → c (4 * q + w) < k → c (4 * q + w) < 1000000 → c' (4 * q + w) ≤ c (4 * q + w) := sorry
theorem RBE_un {W H goal : Int} {op : Int → Prop} {c c' : Int → Int} (W0 : 0 < W) (a : RBE W H op goal c) (b : RBE W H op goal c') : ∀ q w : Int, (0 ≤ q ∧ q < W * H) → op q → (0 ≤ w ∧ w < 4) → c (4 * q + w) = c' (4 * q + w) := sorry
/-- what a step may be made with: none was made, or the same, or another -/
def rst (L w : Int) : Int := if L = -1 ∨ L = w then 1 else 3
/-- a step that gives what is due -/
def RSO (W H : Int) (op : Int → Prop) (c : Int → Int) (p L D w : Int) : Prop := nxp W H p w ≠ -1 ∧ op (nxp W H p w) ∧ c (4 * nxp W H p w + w) + rst L w = D
/-- the first of them -/
def RST (W H : Int) (op : Int → Prop) (c : Int → Int) (p L D w : Int) : Prop := (0 ≤ w ∧ w < 4) ∧ RSO W H op c p L D w ∧ ∀ w' : Int, 0 ≤ w' → w' < w → ¬ RSO W H op c p L D w'
theorem RST_un {W H : Int} {op : Int → Prop} {c : Int → Int} {p L D w w' : Int} (a : RST W H op c p L D w) (b : RST W H op c p L D w') : w = w' := sorry
/-- the way, as the points where it turns -/
def RWK (W H : Int) (op : Int → Prop) (c : Int → Int) (goal : Int) : Nat → Int → Int → Int → List Int → Prop
  | 0, p, _, _, T => p = goal ∧ T = []
  | s + 1, p, L, D, T => p ≠ goal ∧ ∃ w T', RST W H op c p L D w ∧ RWK W H op c goal s (nxp W H p w) w (c (4 * nxp W H p w + w)) T' ∧ T = if L ≠ -1 ∧ L ≠ w then p :: T' else T'
theorem RWK_un {W H goal : Int} {op : Int → Prop} {c c' : Int → Int} (W0 : 0 < W) (hc : ∀ q w : Int, (0 ≤ q ∧ q < W * H) → op q → (0 ≤ w ∧ w < 4) → c (4 * q + w) = c' (4 * q + w)) : ∀ {s s' : Nat} {p L D : Int} {T T' : List Int}, (0 ≤ p ∧ p < W * H) → RWK W H op c goal s p L D T → RWK W H op c' goal s' p L D T' → T = T' := sorry
end
section
/-! ===== routes: costs by rounds (plain) ===== -/
/-- what is known while states are gone through by costs; sc: those gone through -/
def RIN (W H : Int) (op : Int → Prop) (goal c : Int) (sc : Int → Prop) (t : Int → Int) : Prop :=
  (∀ i : Int, 0 ≤ i → i < 4 * (W * H) → 0 ≤ t i ∧ t i ≤ 1000000) ∧ (∀ w : Int, 0 ≤ w → w < 4 → t (4 * goal + w) = 0) ∧ ((∀ i, sc i → t i ≤ c) ∧ ∀ i : Int, 0 ≤ i → i < 4 * (W * H) → t i < c → sc i) ∧
  (∀ q w : Int, (0 ≤ q ∧ q < W * H) → op q → q ≠ goal → (0 ≤ w ∧ w < 4) → t (4 * q + w) < 1000000 → ∃ d : Int, (0 ≤ d ∧ d < 4) ∧ nxp W H q d ≠ -1 ∧ op (nxp W H q d) ∧ sc (4 * nxp W H q d + d) ∧ t (4 * q + w) = t (4 * nxp W H q d + d) + rwt w d) ∧
  (∀ p d : Int, (0 ≤ p ∧ p < W * H) → op p → (0 ≤ d ∧ d < 4) → sc (4 * p + d) → nxp W H p (Int.tmod (d + 2) 4) ≠ -1 → op (nxp W H p (Int.tmod (d + 2) 4)) → ∀ w : Int, 0 ≤ w → w < 4 → t (4 * nxp W H p (Int.tmod (d + 2) 4) + w) ≤ t (4 * p + d) + rwt w d) ∧
  ∀ i : Int, 0 ≤ i → i < 4 * (W * H) → t i < 1000000 → t i ≤ c + 3
/-- a state gives what it costs to the four ahead of it -/
def rlx (q d c : Int) (t : Int → Int) (i : Int) : Int := if (4 * q ≤ i ∧ i < 4 * q + 4) ∧ c + rwt (i - 4 * q) d < t i then c + rwt (i - 4 * q) d else t i
theorem rlx_le {q d c i : Int} {t : Int → Int} : rlx q d c t i ≤ t i := sorry
theorem rlx_lo {q d c i : Int} {t : Int → Int} (h : t i ≤ c + 1) : rlx q d c t i = t i := sorry
theorem rlx_cs {q d c i : Int} {t : Int → Int} : rlx q d c t i = t i ∨ ((4 * q ≤ i ∧ i < 4 * q + 4) ∧ rlx q d c t i = c + rwt (i - 4 * q) d) := sorry
theorem rlx_at {q d c w : Int} {t : Int → Int} (w0 : 0 ≤ w) (w1 : w < 4) : rlx q d c t (4 * q + w) ≤ c + rwt w d := sorry
theorem RIN_no {W H goal c k : Int} {op : Int → Prop} {sc : Int → Prop} {t : Int → Int} (q : RIN W H op goal c sc t) (hk : t k = c) (h : ∀ p d : Int, (0 ≤ p ∧ p < W * H) → (0 ≤ d ∧ d < 4) → k = 4 * p + d → op p → nxp W H p (Int.tmod (d + 2) 4) ≠ -1 → ¬ op (nxp W H p (Int.tmod (d + 2) 4))) : RIN W H op goal c (fun i => sc i ∨ i = k) t := sorry
theorem RIN_rl {W H goal c p d : Int} {op : Int → Prop} {sc : Int → Prop} {t : Int → Int} (W0 : 0 < W) (c0 : 0 ≤ c) (cF : c + 3 < 1000000) (hg : 0 ≤ goal ∧ goal < W * H) (q : RIN W H op goal c sc t) (hp : 0 ≤ p ∧ p < W * H) (hop : op p) (hd : 0 ≤ d ∧ d < 4) (hk : t (4 * p + d) = c) (h1 : nxp W H p (Int.tmod (d + 2) 4) ≠ -1) : RIN W H op goal c (fun i => sc i ∨ i = 4 * p + d) (rlx (nxp W H p (Int.tmod (d + 2) 4)) d c t) := sorry
/-- the next round -/
theorem RIN_s {W H goal c : Int} {op : Int → Prop} {sc : Int → Prop} {t : Int → Int} (q : RIN W H op goal c sc t) (h : ∀ i : Int, 0 ≤ i → i < 4 * (W * H) → t i = c → sc i) : RIN W H op goal (c + 1) sc t := sorry
/-- all are gone through -/
theorem RIN_end {W H goal c : Int} {op : Int → Prop} {sc : Int → Prop} {t : Int → Int} (W0 : 0 < W) (q : RIN W H op goal c sc t) (h : ∀ i : Int, 0 ≤ i → i < 4 * (W * H) → t i < 1000000 → t i < c) : RBE W H op goal t := sorry
end
section
/-! ===== routes: costs (the component's) ===== -/
theorem wh_b {W H : Int} (W0 : 0 < W) (H0 : 0 < H) (m6 : W * H ≤ 6000) : W ≤ 6000 ∧ H ≤ 6000 := sorry
theorem k4 {k : Int} (k0 : 0 ≤ k) : (0 ≤ Int.tmod k 4 ∧ Int.tmod k 4 < 4) ∧ 0 ≤ Int.tdiv k 4 ∧ k = 4 * Int.tdiv k 4 + Int.tmod k 4 := sorry
set_option maxRecDepth 100000 in
theorem sp_Ro_next {l : Launch} {D : qD} {d : Nat} {W H p w : Int} {h : qh} {Q : qQ} (e4 : h.2 267 4 = W) (e5 : h.2 267 5 = H) (W0 : 0 < W) (H0 : 0 < H) (m6 : W * H ≤ 6000) (p0 : 0 ≤ p ∧ p < W * H) (w0 : 0 ≤ w ∧ w < 4) (hq : Q (some (.inl (nxp W H p w))) h) :
    qM l D (d + 1, 0, 0) m_Ro_next [.inr (.inr 267), .inl p, .inl w] h Q := sorry
set_option maxRecDepth 100000 in
theorem sp_Ro_back {l : Launch} {D : qD} {d : Nat} {W H p w c : Int} {op : Int → Prop} {h : qh} {Q : qQ} (hw : HW h.2) (e4 : h.2 267 4 = W) (e5 : h.2 267 5 = H) (W0 : 0 < W) (H0 : 0 < H) (m6 : W * H ≤ 6000) (p0 : 0 ≤ p ∧ p < W * H) (w0 : 0 ≤ w ∧ w < 4) (c0 : 0 ≤ c ∧ c ≤ 200000) (hs : h.2 269 p = 0 ↔ op p)
    (h1 : (nxp W H p (Int.tmod (w + 2) 4) = -1 ∨ ¬ op p) → Q none h)
    (h2 : nxp W H p (Int.tmod (w + 2) 4) ≠ -1 → op p → ∀ v, FW [268] [] h.2 v → (∀ i, v 268 i = rlx (nxp W H p (Int.tmod (w + 2) 4)) w c (h.2 268) i) → Q none (h.1, v)) :
    qM l D (d + 2, 0, 0) m_Ro_back [.inr (.inr 267), .inl p, .inl w, .inl c] h Q := sorry
set_option maxRecDepth 100000 in
theorem sp_Ro_spread {l : Launch} {D : qD} {d : Nat} {W H goal : Int} {op : Int → Prop} {h : qh} {Q : qQ} (hw : HW h.2) (e4 : h.2 267 4 = W) (e5 : h.2 267 5 = H) (W0 : 0 < W) (H0 : 0 < H) (m6 : W * H ≤ 6000) (hg : 0 ≤ goal ∧ goal < W * H) (hs : ∀ p : Int, 0 ≤ p → p < W * H → (h.2 269 p = 0 ↔ op p))
    (hq : ∀ v, FW [268] [] h.2 v → RBE W H op goal (v 268) → Q none (h.1, v)) :
    qM l D (d + 3, 0, 0) m_Ro_spread [.inr (.inr 267), .inl goal] h Q := sorry
end
section
/-! ===== routes: the way (the component's) ===== -/
theorem RWK_ex {W H goal : Int} {op : Int → Prop} {c : Int → Int} (W0 : 0 < W) (hb : RBE W H op goal c) : ∀ (k : Nat) (p L : Int), (0 ≤ p ∧ p < W * H) → op p → (0 ≤ L ∧ L < 4) → c (4 * p + L) < k → c (4 * p + L) < 1000000 → ∃ s T, RWK W H op c goal s p L (c (4 * p + L)) T := sorry
/-- what the first step is due to give -/
def DUE (W H : Int) (op : Int → Prop) (c : Int → Int) (F D : Int) : Prop := (∀ w : Int, 0 ≤ w → w < 4 → nxp W H F w ≠ -1 → op (nxp W H F w) → D ≤ c (4 * nxp W H F w + w) + 1) ∧ (D = 1000000 ∨ ∃ w : Int, (0 ≤ w ∧ w < 4) ∧ nxp W H F w ≠ -1 ∧ op (nxp W H F w) ∧ D = c (4 * nxp W H F w + w) + 1) ∧ D ≤ 1000000
theorem DUE_un {W H F D D' : Int} {op : Int → Prop} {c c' : Int → Int} (W0 : 0 < W) (hF : 0 ≤ F ∧ F < W * H) (hc : ∀ q w : Int, (0 ≤ q ∧ q < W * H) → op q → (0 ≤ w ∧ w < 4) → c (4 * q + w) = c' (4 * q + w)) (a : DUE W H op c F D) (b : DUE W H op c' F D') : D = D' := sorry
/-- the whole way, as the points where it turns -/
def RWY (W H : Int) (op : Int → Prop) (c : Int → Int) (goal F : Int) (T : List Int) : Prop := (F = goal ∧ T = []) ∨ (F ≠ goal ∧ ∃ D s, DUE W H op c F D ∧ D < 1000000 ∧ RWK W H op c goal s F (-1) D T)
theorem RWY_ex {W H goal F D : Int} {op : Int → Prop} {c : Int → Int} (W0 : 0 < W) (hb : RBE W H op goal c) (hF : 0 ≤ F ∧ F < W * H) (ne : F ≠ goal) (du : DUE W H op c F D) (dl : D < 1000000) : ∃ s T, RWK W H op c goal s F (-1) D T := sorry
theorem RWY_un {W H goal F : Int} {op : Int → Prop} {c c' : Int → Int} {T T' : List Int} (W0 : 0 < W) (hF : 0 ≤ F ∧ F < W * H) (a : RBE W H op goal c) (b : RBE W H op goal c') (q : RWY W H op c goal F T) (q' : RWY W H op c' goal F T') : T = T' := sorry
/-- the drawings' cells -/
def isD (o : Int) : Prop := o = 5 ∨ o = 32 ∨ o = 59 ∨ o = 86 ∨ o = 198
theorem isD_sh {o : Int} (h : isD o) : q_shp o = (2, 0) ∧ q_shp (o + 1) = (100, 24) ∧ q_shp (o + 2) = (100, 24) ∧ q_shp (o + 3) = (100, 48) ∧ q_shp (o + 4) = (100, 1152) ∧ q_shp (o + 5) = (100, 1152) ∧ (0 ≤ o ∧ o ≤ 198) := sorry
theorem isD_f {v : Int → Int → Int} {o : Int} (hw : HW v) (h : isD o) : v o 5 = o + 1 ∧ v o 6 = o + 2 ∧ v o 7 = o + 3 ∧ v o 8 = o + 4 ∧ v o 9 = o + 5 := sorry
theorem bend_o {v : Int → Int → Int} {o a b c C : Int} (hC : v (o + 3) a = C) : (∀ i, g_Dr_bend o a b c v (o + 4) i = if i = 24 * a + C then b else v (o + 4) i) ∧ (∀ i, g_Dr_bend o a b c v (o + 5) i = if i = 24 * a + C then c else v (o + 5) i) ∧ (∀ i, g_Dr_bend o a b c v (o + 3) i = if i = a then C + 1 else v (o + 3) i) ∧ ∀ x i, x ≠ o + 3 → x ≠ o + 4 → x ≠ o + 5 → g_Dr_bend o a b c v x i = v x i := sorry
/-- one edge's bends are told anew -/
def BND (o e : Int) (bx bY : Int → Int) (n : Int) (v0 v : Int → Int → Int) : Prop := v (o + 3) e = n ∧ (∀ k : Int, 0 ≤ k → k < n → v (o + 4) (24 * e + k) = bx k ∧ v (o + 5) (24 * e + k) = bY k) ∧ (∀ i, i ≠ e → v (o + 3) i = v0 (o + 3) i) ∧ ∀ i : Int, i < 24 * e ∨ 24 * e + 24 ≤ i → v (o + 4) i = v0 (o + 4) i ∧ v (o + 5) i = v0 (o + 5) i
end
section
/-! ===== routes: the way is gone (the component's) ===== -/
theorem RBE_c {W H goal q w : Int} {op : Int → Prop} {c : Int → Int} (hb : RBE W H op goal c) (hq : 0 ≤ q ∧ q < W * H) (ho : op q) (hw : 0 ≤ w ∧ w < 4) : 0 ≤ c (4 * q + w) ∧ c (4 * q + w) ≤ 1000000 := sorry
set_option maxRecDepth 100000 in
theorem sp_Ro_walk {l : Launch} {D : qD} {d : Nat} {W H lf tp F G e o : Int} {op : Int → Prop} {h : qh} {Q : qQ} (hw : HW h.2) (e2 : h.2 267 2 = lf) (e3 : h.2 267 3 = tp) (e4 : h.2 267 4 = W) (e5 : h.2 267 5 = H) (W0 : 0 < W) (H0 : 0 < H) (m6 : W * H ≤ 6000) (lb : (-10000000 ≤ lf ∧ lf ≤ 10000000) ∧ -10000000 ≤ tp ∧ tp ≤ 10000000) (hF : 0 ≤ F ∧ F < W * H) (hs : ∀ p : Int, 0 ≤ p → p < W * H → (h.2 269 p = 0 ↔ op p)) (hb : RBE W H op G (h.2 268)) (dr : isD o) (eb : 0 ≤ e ∧ e < 48)
    (h4 : F ≠ G → DUE W H op (h.2 268) F 1000000 → ∀ v, FW [] [(267, 8)] h.2 v → Q (some (.inl (-4))) (h.1, v))
    (h3 : ∀ v T, FW [270, 271] [(267, 8)] h.2 v → RWY W H op (h.2 268) G F T → 24 < T.length → Q (some (.inl (-3))) (h.1, v))
    (h0 : ∀ v T, FW [270, 271, o + 3, o + 4, o + 5] [(267, 8)] h.2 v → RWY W H op (h.2 268) G F T → T.length ≤ 24 → BND o e (fun k => Int.tmod (li T k) W + lf) (fun k => Int.tdiv (li T k) W + tp) T.length h.2 v → Q (some (.inl 0)) (h.1, v)) :
    qM l D (d + 2, 0, 0) m_Ro_walk [.inr (.inr 267), .inr (.inr o), .inl e, .inl F, .inl G] h Q := sorry
end
section
/-! ===== routes: a box is shut (the component's) ===== -/
/-- a point's place -/
def ptx (W lf p : Int) : Int := Int.tmod p W + lf
def pty (W tp p : Int) : Int := Int.tdiv p W + tp
/-- the point at a place -/
def ptp (W lf tp x y : Int) : Int := W * (y - tp) + x - lf
theorem ptp_in {W H lf tp x y : Int} (W0 : 0 < W) (x0 : lf ≤ x) (x1 : x < lf + W) (y0 : tp ≤ y) (y1 : y < tp + H) : (0 ≤ ptp W lf tp x y ∧ ptp W lf tp x y < W * H) ∧ ptx W lf (ptp W lf tp x y) = x ∧ pty W tp (ptp W lf tp x y) = y ∧ 0 ≤ W * (y - tp) ∧ W * (y - tp) + W ≤ W * H := sorry
theorem ptp_of {W lf tp p : Int} (W0 : 0 < W) (p0 : 0 ≤ p) : ptp W lf tp (ptx W lf p) (pty W tp p) = p := sorry
set_option maxRecDepth 100000 in
theorem sp_Ro_box {l : Launch} {D : qD} {d : Nat} {W H lf tp x y hf : Int} {h : qh} {Q : qQ} (hw : HW h.2) (e2 : h.2 267 2 = lf) (e3 : h.2 267 3 = tp) (e4 : h.2 267 4 = W) (W0 : 0 < W) (m6 : W * H ≤ 6000) (lb : (-10000000 ≤ lf ∧ lf ≤ 10000000) ∧ -10000000 ≤ tp ∧ tp ≤ 10000000) (h0 : 0 ≤ hf ∧ hf ≤ 200) (x0 : lf ≤ x - hf) (x1 : x + hf < lf + W) (y0 : tp ≤ y - 1) (y1 : y + 1 < tp + H)
    (hq : ∀ v, FW [269] [] h.2 v → (∀ p : Int, 0 ≤ p → p < W * H → v 269 p = if (y - 1 ≤ pty W tp p ∧ pty W tp p ≤ y + 1) ∧ x - hf ≤ ptx W lf p ∧ ptx W lf p ≤ x + hf then 1 else h.2 269 p) → Q none (h.1, v)) :
    qM l D (d + 2, 0, 0) m_Ro_box [.inr (.inr 267), .inl x, .inl y, .inl hf] h Q := sorry
end
section
/-! ===== routes: a route is led (the component's) ===== -/
/-- the frame of the first so many nodes -/
def BBX (k : Int) (X Y nm : Int → Int) (lf rt tp bt : Int) : Prop := (∀ i : Int, 0 ≤ i → i < k → (lf ≤ X i - nm i - 3 ∧ X i + nm i + 3 ≤ rt) ∧ tp ≤ Y i - 3 ∧ Y i + 3 ≤ bt) ∧ ((∃ i : Int, (0 ≤ i ∧ i < k) ∧ lf = X i - nm i - 3) ∧ ∃ i : Int, (0 ≤ i ∧ i < k) ∧ rt = X i + nm i + 3) ∧ (∃ i : Int, (0 ≤ i ∧ i < k) ∧ tp = Y i - 3) ∧ ∃ i : Int, (0 ≤ i ∧ i < k) ∧ bt = Y i + 3
theorem BBX_un {k : Int} {X Y nm : Int → Int} {lf rt tp bt lf' rt' tp' bt' : Int} (a : BBX k X Y nm lf rt tp bt) (b : BBX k X Y nm lf' rt' tp' bt') : (lf = lf' ∧ rt = rt') ∧ tp = tp' ∧ bt = bt' := sorry
theorem BBX_s {k : Int} {X Y nm : Int → Int} {lf rt tp bt : Int} (k0 : 0 ≤ k) (a : k = 0 ∨ BBX k X Y nm lf rt tp bt) (z : k = 0 → (X k - nm k - 3 ≤ lf ∧ rt ≤ X k + nm k + 3) ∧ Y k - 3 ≤ tp ∧ bt ≤ Y k + 3) : BBX (k + 1) X Y nm (min lf (X k - nm k - 3)) (max rt (X k + nm k + 3)) (min tp (Y k - 3)) (max bt (Y k + 3)) := sorry
/-- a point that is in no other node's box -/
def opn (n : Nat) (X Y nm : Int → Int) (a b W lf tp p : Int) : Prop := ∀ i, blw n i → i ≠ a → i ≠ b → ¬ ((Y i - 1 ≤ pty W tp p ∧ pty W tp p ≤ Y i + 1) ∧ X i - (nm i + 1) ≤ ptx W lf p ∧ ptx W lf p ≤ X i + (nm i + 1))
/-- nothing leads to a goal that is shut -/
theorem RBE_sh {W H goal : Int} {op : Int → Prop} (h : ¬ op goal) : RBE W H op goal (fun _ => 1000000) := sorry
set_option maxRecDepth 100000 in
theorem sp_Ro_lead {l : Launch} {D : qD} {d n m : Nat} {g o e : Int} {t hd w nm X Y : Int → Int} {h : qh} {Q : qQ} (hw : HW h.2) (hg : CG h.2 g n m t hd w) (gv : GV n m t hd w) (dr : isD o) (hnm : ∀ i, blw n i → h.2 (g + 3) i = nm i ∧ 0 ≤ nm i ∧ nm i ≤ 100) (hX : ∀ i, blw n i → (h.2 (o + 1) i = X i ∧ h.2 (o + 2) i = Y i) ∧ (-1900000 ≤ X i ∧ X i ≤ 1900000) ∧ -1900000 ≤ Y i ∧ Y i ≤ 1900000) (eb : blw m e)
    (hq2 : ∀ v lf rt tp bt, FW [] [(267, 2), (267, 3)] h.2 v → BBX n X Y nm lf rt tp bt → 6000 < (rt - lf + 1) * (bt - tp + 1) → Q (some (.inl (-2))) (h.1, v))
    (hq4 : ∀ v lf rt tp bt c, FW [268, 269] [(267, 2), (267, 3), (267, 4), (267, 5), (267, 8)] h.2 v → BBX n X Y nm lf rt tp bt → (rt - lf + 1) * (bt - tp + 1) ≤ 6000 → RBE (rt - lf + 1) (bt - tp + 1) (opn n X Y nm (t e) (hd e) (rt - lf + 1) lf tp) (ptp (rt - lf + 1) lf tp (X (hd e)) (Y (hd e))) c → ptp (rt - lf + 1) lf tp (X (t e)) (Y (t e)) ≠ ptp (rt - lf + 1) lf tp (X (hd e)) (Y (hd e)) → DUE (rt - lf + 1) (bt - tp + 1) (opn n X Y nm (t e) (hd e) (rt - lf + 1) lf tp) c (ptp (rt - lf + 1) lf tp (X (t e)) (Y (t e))) 1000000 → Q (some (.inl (-4))) (h.1, v))
    (hq3 : ∀ v lf rt tp bt c T, FW [268, 269, 270, 271] [(267, 2), (267, 3), (267, 4), (267, 5), (267, 8)] h.2 v → BBX n X Y nm lf rt tp bt → (rt - lf + 1) * (bt - tp + 1) ≤ 6000 → RBE (rt - lf + 1) (bt - tp + 1) (opn n X Y nm (t e) (hd e) (rt - lf + 1) lf tp) (ptp (rt - lf + 1) lf tp (X (hd e)) (Y (hd e))) c → RWY (rt - lf + 1) (bt - tp + 1) (opn n X Y nm (t e) (hd e) (rt - lf + 1) lf tp) c (ptp (rt - lf + 1) lf tp (X (hd e)) (Y (hd e))) (ptp (rt - lf + 1) lf tp (X (t e)) (Y (t e))) T → 24 < T.length → Q (some (.inl (-3))) (h.1, v))
    (hq0 : ∀ v lf rt tp bt c T, FW [268, 269, 270, 271, o + 3, o + 4, o + 5] [(267, 2), (267, 3), (267, 4), (267, 5), (267, 8)] h.2 v → BBX n X Y nm lf rt tp bt → (rt - lf + 1) * (bt - tp + 1) ≤ 6000 → RBE (rt - lf + 1) (bt - tp + 1) (opn n X Y nm (t e) (hd e) (rt - lf + 1) lf tp) (ptp (rt - lf + 1) lf tp (X (hd e)) (Y (hd e))) c → RWY (rt - lf + 1) (bt - tp + 1) (opn n X Y nm (t e) (hd e) (rt - lf + 1) lf tp) c (ptp (rt - lf + 1) lf tp (X (hd e)) (Y (hd e))) (ptp (rt - lf + 1) lf tp (X (t e)) (Y (t e))) T → T.length ≤ 24 → BND o e (fun k => Int.tmod (li T k) (rt - lf + 1) + lf) (fun k => Int.tdiv (li T k) (rt - lf + 1) + tp) T.length h.2 v → Q (some (.inl 0)) (h.1, v)) :
    qM l D (d + 4, 0, 0) m_Ro_lead [.inr (.inr 267), .inr (.inr g), .inr (.inr o), .inl e] h Q := sorry
end
section
/-! ===== routes: costs by buckets (plain) ===== -/
theorem RIN_end2 {W H goal c : Int} {op : Int → Prop} {sc : Int → Prop} {t : Int → Int} (W0 : 0 < W) (q : RIN W H op goal c sc t) (h : ∀ i : Int, 0 ≤ i → i < 4 * (W * H) → t i < 1000000 → sc i) : RBE W H op goal t := sorry
/-- each cost has another at most three less -/
theorem RIN_b {W H goal c : Int} {op : Int → Prop} {sc : Int → Prop} {t : Int → Int} (W0 : 0 < W) (q : RIN W H op goal c sc t) : ∀ (k : Nat) (a w : Int), (0 ≤ a ∧ a < W * H) → op a → (0 ≤ w ∧ w < 4) → t (4 * a + w) < k → t (4 * a + w) < 1000000 → t (4 * a + w) ≤ 3 * (cnt (fun i => t i < t (4 * a + w)) (4 * (W * H)).toNat : Int) := sorry
/-- the cost that a bucket is for -/
def cbk (c b : Int) : Int := c + (b - c) % 4
theorem cbk_b {c b : Int} : c ≤ cbk c b ∧ cbk c b ≤ c + 3 := sorry
theorem cbk_m {c x : Int} (h0 : c ≤ x) (h1 : x ≤ c + 3) : cbk c (x % 4) = x := sorry
theorem cbk_s {c b : Int} (b0 : 0 ≤ b) (b1 : b < 4) (h : b ≠ c % 4) : cbk (c + 1) b = cbk c b := sorry
/-- the buckets: what is not gone through is in them -/
def BKT (M c : Int) (sc : Int → Prop) (t mn bk : Int → Int) : Prop :=
  (∀ b : Int, 0 ≤ b → b < 4 → 0 ≤ mn b ∧ ∀ k : Int, 0 ≤ k → k < mn b → (0 ≤ bk (24010 * b + k) ∧ bk (24010 * b + k) < 4 * M) ∧ t (bk (24010 * b + k)) ≤ cbk c b) ∧
  (∀ b j k : Int, 0 ≤ b → b < 4 → 0 ≤ j → j < k → k < mn b → bk (24010 * b + j) ≠ bk (24010 * b + k)) ∧
  (∀ i : Int, 0 ≤ i → i < 4 * M → t i < 1000000 → ¬ sc i → c ≤ t i ∧ ∃ k : Int, (0 ≤ k ∧ k < mn (t i % 4)) ∧ bk (24010 * (t i % 4) + k) = i) ∧
  ∀ b : Int, 0 ≤ b → b < 4 → 0 < mn b → cbk c b ≤ 72003
theorem BKT_mn {M c : Int} {sc : Int → Prop} {t mn bk : Int → Int} (M6 : M ≤ 6000) (q : BKT M c sc t mn bk) {b : Int} (b0 : 0 ≤ b) (b1 : b < 4) : mn b ≤ 24000 := sorry
/-- a better cost comes into its bucket -/
theorem BKT_push {M c s x : Int} {sc : Int → Prop} {t mn bk t' mn' bk' : Int → Int} (M6 : M ≤ 6000) (q : BKT M c sc t mn bk) (s0 : 0 ≤ s) (s1 : s < 4 * M) (x0 : c ≤ x) (x1 : x ≤ c + 3) (xs : x < t s) (x7 : x ≤ 72003) (ht : ∀ i, t' i = if i = s then x else t i) (hm : ∀ b, mn' b = if b = x % 4 then mn b + 1 else mn b) (hb : ∀ i, bk' i = if i = 24010 * (x % 4) + mn (x % 4) then s else bk i) : BKT M c sc t' mn' bk' := sorry
/-- a bucket is done -/
theorem BKT_s {M c : Int} {sc : Int → Prop} {t mn bk mn' : Int → Int} (q : BKT M c sc t mn bk) (hE : ∀ i : Int, 0 ≤ i → i < 4 * M → t i < 1000000 → t i ≤ c + 3) (hc : ∀ i : Int, 0 ≤ i → i < 4 * M → t i = c → sc i) (hm : ∀ b, mn' b = if b = c % 4 then 0 else mn b) : BKT M (c + 1) sc t mn' bk := sorry
theorem BKT_sc {M c : Int} {sc sc' : Int → Prop} {t mn bk : Int → Int} (h : ∀ i, sc i → sc' i) (q : BKT M c sc t mn bk) : BKT M c sc' t mn bk := sorry
theorem and_3 {x : Int} (h0 : 0 ≤ x) (h1 : x < 2147483648) : z_iand x 3 = x % 4 := sorry
end
section
/-! ===== routes: a state gives its cost (the twin's) ===== -/
def dxv (b : Int) : Int := if b ≠ 0 then (if b ≠ 2 then 0 else (-1)) else 1
def dyv (b : Int) : Int := if b ≠ 1 then (if b ≠ 3 then 0 else (-1)) else 1
theorem dv_b {b : Int} : (-1 ≤ dxv b ∧ dxv b ≤ 1) ∧ -1 ≤ dyv b ∧ dyv b ≤ 1 := sorry
theorem dv_op {b : Int} (b0 : 0 ≤ b) (b1 : b < 4) : dxv (Int.tmod (b + 2) 4) = - dxv b ∧ dyv (Int.tmod (b + 2) 4) = - dyv b := sorry
theorem nxp_xy {W H p b : Int} (W0 : 0 < W) (p0 : 0 ≤ p) (p1 : p < W * H) (b0 : 0 ≤ b) (b1 : b < 4) : nxp W H p b = if (0 ≤ Int.tmod p W + dxv b ∧ Int.tmod p W + dxv b ≤ W - 1) ∧ 0 ≤ Int.tdiv p W + dyv b ∧ Int.tdiv p W + dyv b ≤ H - 1 then (Int.tdiv p W + dyv b) * W + (Int.tmod p W + dxv b) else -1 := sorry
theorem f_in1 {a b c : Int} {v : Int → Int → Int} : (f_Mo_in a b c v = 0 ↔ ¬ (b ≤ a ∧ a ≤ c)) := sorry
/-- a step as it is made, and that it can be made -/
theorem stp_eq {W H p b : Int} {v : Int → Int → Int} (e6 : v 280 146 = W) (e7 : v 280 147 = H) (W0 : 0 < W) (H0 : 0 < H) (m6 : W * H ≤ 6000) (p0 : 0 ≤ p) (p1 : p < W * H) (b0 : 0 ≤ b) (b1 : b < 4) : f_Mo_stepTo p b v = (if nxp W H p b ≠ -1 ∧ v 384 (nxp W H p b) = 0 then nxp W H p b else -1) ∧ p_Mo_stepTo p b v := sorry
/-- where a step came from -/
theorem bck_xy {W H p b : Int} (W0 : 0 < W) (p0 : 0 ≤ p) (p1 : p < W * H) (b0 : 0 ≤ b) (b1 : b < 4) : nxp W H p (Int.tmod (b + 2) 4) = if (0 ≤ Int.tmod p W - dxv b ∧ Int.tmod p W - dxv b ≤ W - 1) ∧ 0 ≤ Int.tdiv p W - dyv b ∧ Int.tdiv p W - dyv b ≤ H - 1 then (Int.tdiv p W - dyv b) * W + (Int.tmod p W - dxv b) else -1 := sorry
/-- what reaching a state does -/
theorem reach_r {v : Int → Int → Int} {s x B : Int} (hB : z_iand x 3 = B) : (¬ x < v 381 s → g_Mo_reached s x v = v) ∧ (x < v 381 s → (∀ i, g_Mo_reached s x v 381 i = if i = s then x else v 381 i) ∧ (∀ b, g_Mo_reached s x v 383 b = if b = B then v 383 b + 1 else v 383 b) ∧ (∀ i, g_Mo_reached s x v 382 i = if i = 24010 * B + v 383 B then s else v 382 i) ∧ FW [381, 382, 383] [] v (g_Mo_reached s x v)) := sorry
set_option maxRecDepth 100000 in
theorem sp_Mo_backFrom {l : Launch} {D : qD} {d : Nat} {W H M s p w c : Int} {op : Int → Prop} {sc : Int → Prop} {h : qh} {Q : qQ} (hT : TW h.2) (e6 : h.2 280 146 = W) (e7 : h.2 280 147 = H) (W0 : 0 < W) (H0 : 0 < H) (eM : W * H = M) (m6 : M ≤ 6000) (hp : 0 ≤ p ∧ p < M) (hw : 0 ≤ w ∧ w < 4) (es : s = 4 * p + w) (c0 : 0 ≤ c ∧ c ≤ 72000) (hs : ∀ p : Int, 0 ≤ p → p < M → (h.2 384 p = 0 ↔ op p)) (bk : BKT M c sc (h.2 381) (h.2 383) (h.2 382))
    (h1 : (nxp W H p (Int.tmod (w + 2) 4) = -1 ∨ ¬ op (nxp W H p (Int.tmod (w + 2) 4))) → Q none h)
    (h2 : nxp W H p (Int.tmod (w + 2) 4) ≠ -1 → op (nxp W H p (Int.tmod (w + 2) 4)) → ∀ v, FW [381, 382, 383] [] h.2 v → (∀ i, v 381 i = rlx (nxp W H p (Int.tmod (w + 2) 4)) w c (h.2 381) i) → BKT M c sc (v 381) (v 383) (v 382) → v 383 (c % 4) = h.2 383 (c % 4) → (∀ k : Int, 0 ≤ k → k < h.2 383 (c % 4) → v 382 (24010 * (c % 4) + k) = h.2 382 (24010 * (c % 4) + k)) → Q none (h.1, v)) :
    qM l D (d + 2, 0, 0) m_Mo_backFrom [.inr (.inr 280), .inl s, .inl c] h Q := sorry
end
section
/-! ===== routes: costs (the twin's) ===== -/
set_option maxRecDepth 100000 in
theorem sp_Mo_spread {l : Launch} {D : qD} {d : Nat} {W H M goal : Int} {op : Int → Prop} {h : qh} {Q : qQ} (hT : TW h.2) (e6 : h.2 280 146 = W) (e7 : h.2 280 147 = H) (W0 : 0 < W) (H0 : 0 < H) (eM : W * H = M) (m6 : M ≤ 6000) (hg : 0 ≤ goal ∧ goal < M) (hs : ∀ p : Int, 0 ≤ p → p < M → (h.2 384 p = 0 ↔ op p))
    (hq : ∀ v, FW [381, 382, 383] [] h.2 v → RBE W H op goal (v 381) → Q none (h.1, v)) :
    qM l D (d + 3, 0, 0) m_Mo_spread [.inr (.inr 280), .inl goal] h Q := sorry
end
section
/-! ===== routes: the way is gone (the twin's) ===== -/
/-- one edge's bends are told anew -/
def BNT (a : Int) (bx bY : Int → Int) (n : Int) (v0 v : Int → Int → Int) : Prop := v 319 a = n ∧ (∀ k : Int, 0 ≤ k → k < n → v 320 (24 * a + k) = bx k ∧ v 321 (24 * a + k) = bY k) ∧ (∀ i, i ≠ a → v 319 i = v0 319 i) ∧ ∀ i : Int, i < 24 * a ∨ 24 * a + 24 ≤ i → v 320 i = v0 320 i ∧ v 321 i = v0 321 i
theorem RWK_D {W H goal : Int} {op : Int → Prop} {c : Int → Int} : ∀ {s : Nat} {p L D : Int} {T : List Int}, RWK W H op c goal s p L D T → p ≠ goal → ∃ w T', RST W H op c p L D w ∧ T = (if L ≠ -1 ∧ L ≠ w then p :: T' else T') := sorry
set_option maxRecDepth 100000 in
theorem sp_Mo_bendsBecome {l : Launch} {D : qD} {d : Nat} {W H lf tp F G e gg mv : Int} {op : Int → Prop} {h : qh} {Q : qQ} (hT : TW h.2) (e4 : h.2 280 144 = lf) (e5 : h.2 280 145 = tp) (e6 : h.2 280 146 = W) (e7 : h.2 280 147 = H) (eg : h.2 280 139 = gg) (g4 : 0 ≤ gg ∧ gg < 4) (W0 : 0 < W) (H0 : 0 < H) (m6 : W * H ≤ 6000) (lb : (-10000000 ≤ lf ∧ lf ≤ 10000000) ∧ -10000000 ≤ tp ∧ tp ≤ 10000000) (hF : 0 ≤ F ∧ F < W * H) (hs : ∀ p : Int, 0 ≤ p → p < W * H → (h.2 384 p = 0 ↔ op p)) (hb : RBE W H op G (h.2 381)) (eb : 0 ≤ e ∧ e < 48) (emv : (F = G ∧ mv = 0) ∨ (F ≠ G ∧ mv = 1))
    (h4 : F ≠ G → DUE W H op (h.2 381) F 1000000 → Q (some (.inl (-4))) h)
    (h3 : ∀ v T, FW [385, 386] [] h.2 v → RWY W H op (h.2 381) G F T → 24 < T.length → Q (some (.inl (-3))) (h.1, v))
    (h0 : ∀ v T, FW [319, 320, 321, 385, 386] [] h.2 v → RWY W H op (h.2 381) G F T → T.length ≤ 24 → BNT (48 * gg + e) (fun k => Int.tmod (li T k) W + lf) (fun k => Int.tdiv (li T k) W + tp) T.length h.2 v → Q (some (.inl 0)) (h.1, v)) :
    qM l D (d + 3, 0, 0) m_Mo_bendsBecome [.inr (.inr 280), .inl e, .inl F, .inl G, .inl mv] h Q := sorry
end
section
/-! ===== routes: what is barred (the twin's) ===== -/
theorem fmnM (a b : Int) (v : Int → Int → Int) : f_Mo_min a b v = min a b := sorry
theorem fmxM (a b : Int) (v : Int → Int → Int) : f_Mo_max a b v = max a b := sorry
/-- the drawing at hand, as the twin keeps it -/
def TD (v : Int → Int → Int) (r gg : Int) (n : Nat) (nm X Y : Int → Int) : Prop := v 280 139 = gg ∧ ∀ i, blw n i → v 282 (r + 195 + i) = nm i ∧ v 317 (24 * gg + i) = X i ∧ v 318 (24 * gg + i) = Y i
/-- a node's box -/
def inB (X Y nm : Int → Int) (i x y : Int) : Prop := (X i - (nm i + 1) ≤ x ∧ x ≤ X i + (nm i + 1)) ∧ Y i - 1 ≤ y ∧ y ≤ Y i + 1
theorem box_f {v : Int → Int → Int} {r gg i x y : Int} {n m : Nat} {t hd w nm X Y : Int → Int} (hg : TG v r n m t hd w) (td : TD v r gg n nm X Y) (n24 : n ≤ 24) (g4 : 0 ≤ gg ∧ gg < 4) (hb : ∀ i, blw n i → (0 ≤ nm i ∧ nm i ≤ 100) ∧ (-1900000 ≤ X i ∧ X i ≤ 1900000) ∧ -1900000 ≤ Y i ∧ Y i ≤ 1900000) (hi : blw n i) : (inB X Y nm i x y → f_Mo_isInBox i x y v = 1) ∧ (¬ inB X Y nm i x y → f_Mo_isInBox i x y v = 0) ∧ p_Mo_isInBox i x y v := sorry
theorem has_f {v : Int → Int → Int} {r e i : Int} {n m : Nat} {t hd w : Int → Int} (hg : TG v r n m t hd w) (m48 : m ≤ 48) (he : blw m e) : ((t e = i ∨ hd e = i) → f_Mo_has e i v = 1) ∧ (¬ (t e = i ∨ hd e = i) → f_Mo_has e i v = 0) ∧ p_Mo_has e i v := sorry
set_option maxRecDepth 100000 in
theorem sp_Mo_isBarred {l : Launch} {D : qD} {d n m : Nat} {r gg e x y : Int} {t hd w nm X Y : Int → Int} {h : qh} {Q : qQ} (hT : TW h.2) (hg : TG h.2 r n m t hd w) (gv : GV n m t hd w) (td : TD h.2 r gg n nm X Y) (g4 : 0 ≤ gg ∧ gg < 4) (hb : ∀ i, blw n i → (0 ≤ nm i ∧ nm i ≤ 100) ∧ (-1900000 ≤ X i ∧ X i ≤ 1900000) ∧ -1900000 ≤ Y i ∧ Y i ≤ 1900000) (eb : blw m e)
    (h1 : (∃ i, blw n i ∧ i ≠ t e ∧ i ≠ hd e ∧ inB X Y nm i x y) → Q (some (.inl 1)) h) (h0 : (∀ i, blw n i → i ≠ t e → i ≠ hd e → ¬ inB X Y nm i x y) → Q (some (.inl 0)) h) :
    qM l D (d + 3, 0, 0) m_Mo_isBarred [.inr (.inr 280), .inl e, .inl x, .inl y] h Q := sorry
end
section
/-! ===== routes: a route (the twin's) ===== -/
set_option maxRecDepth 100000 in
theorem Mo_ro_24 {l : Launch} {D : qD} {d n m : Nat} {r gg g e : Int} {t hd w nm X Y : Int → Int} {v0 : Int → Int → Int} {h : qh} {Q : qQ} (hT : TW v0) (hg : TG v0 r n m t hd w) (gv : GV n m t hd w) (td : TD v0 r gg n nm X Y) (g4 : 0 ≤ gg ∧ gg < 4) (hb : ∀ i, blw n i → (0 ≤ nm i ∧ nm i ≤ 100) ∧ (-1900000 ≤ X i ∧ X i ≤ 1900000) ∧ -1900000 ≤ Y i ∧ Y i ≤ 1900000) (eb : blw m e)
    (hq2 : ∀ v lf rt tp bt, FW [] [(280, 144), (280, 145), (280, 146), (280, 147)] v0 v → BBX n X Y nm lf rt tp bt → 6000 < (rt - lf + 1) * (bt - tp + 1) → Q (some (.inl (-2))) (h.1, v))
    (hq4 : ∀ v lf rt tp bt c, FW [381, 382, 383, 384] [(280, 144), (280, 145), (280, 146), (280, 147)] v0 v → BBX n X Y nm lf rt tp bt → (rt - lf + 1) * (bt - tp + 1) ≤ 6000 → RBE (rt - lf + 1) (bt - tp + 1) (opn n X Y nm (t e) (hd e) (rt - lf + 1) lf tp) (ptp (rt - lf + 1) lf tp (X (hd e)) (Y (hd e))) c → ptp (rt - lf + 1) lf tp (X (t e)) (Y (t e)) ≠ ptp (rt - lf + 1) lf tp (X (hd e)) (Y (hd e)) → DUE (rt - lf + 1) (bt - tp + 1) (opn n X Y nm (t e) (hd e) (rt - lf + 1) lf tp) c (ptp (rt - lf + 1) lf tp (X (t e)) (Y (t e))) 1000000 → Q (some (.inl (-4))) (h.1, v))
    (hq3 : ∀ v lf rt tp bt c T, FW [381, 382, 383, 384, 385, 386] [(280, 144), (280, 145), (280, 146), (280, 147)] v0 v → BBX n X Y nm lf rt tp bt → (rt - lf + 1) * (bt - tp + 1) ≤ 6000 → RBE (rt - lf + 1) (bt - tp + 1) (opn n X Y nm (t e) (hd e) (rt - lf + 1) lf tp) (ptp (rt - lf + 1) lf tp (X (hd e)) (Y (hd e))) c → RWY (rt - lf + 1) (bt - tp + 1) (opn n X Y nm (t e) (hd e) (rt - lf + 1) lf tp) c (ptp (rt - lf + 1) lf tp (X (hd e)) (Y (hd e))) (ptp (rt - lf + 1) lf tp (X (t e)) (Y (t e))) T → 24 < T.length → Q (some (.inl (-3))) (h.1, v))
    (hq0 : ∀ v lf rt tp bt c T, FW [319, 320, 321, 381, 382, 383, 384, 385, 386] [(280, 144), (280, 145), (280, 146), (280, 147)] v0 v → BBX n X Y nm lf rt tp bt → (rt - lf + 1) * (bt - tp + 1) ≤ 6000 → RBE (rt - lf + 1) (bt - tp + 1) (opn n X Y nm (t e) (hd e) (rt - lf + 1) lf tp) (ptp (rt - lf + 1) lf tp (X (hd e)) (Y (hd e))) c → RWY (rt - lf + 1) (bt - tp + 1) (opn n X Y nm (t e) (hd e) (rt - lf + 1) lf tp) c (ptp (rt - lf + 1) lf tp (X (hd e)) (Y (hd e))) (ptp (rt - lf + 1) lf tp (X (t e)) (Y (t e))) T → T.length ≤ 24 → BNT (48 * gg + e) (fun k => Int.tmod (li T k) (rt - lf + 1) + lf) (fun k => Int.tdiv (li T k) (rt - lf + 1) + tp) T.length v0 v → Q (some (.inl 0)) (h.1, v)) :
    ∀ (x3 x4 x5 x6 : Option qv), w_Mo_route_24 l D (d + 3) (0, 0) (fun r h' => Q r ((h'.1.1, h.1.2.1, h.1.2.2), h'.2)) [some (.inr (.inr (280))), some (.inl (g)), some (.inl (e)), x3, x4, x5, x6] [] ((h.1.1, 0, 0), v0) := sorry
end
section
/-! ===== routes: both sides come to the same (plain) ===== -/
/-- what a route comes to: its answer, and where it turns -/
def RTR (n : Nat) (X Y nm : Int → Int) (a b : Int) (r lf tp W : Int) (T : List Int) : Prop := ∃ rt bt, BBX n X Y nm lf rt tp bt ∧ W = rt - lf + 1 ∧ ((r = -2 ∧ 6000 < W * (bt - tp + 1)) ∨ (W * (bt - tp + 1) ≤ 6000 ∧ ∃ c, RBE W (bt - tp + 1) (opn n X Y nm a b W lf tp) (ptp W lf tp (X b) (Y b)) c ∧ ((r = -4 ∧ ptp W lf tp (X a) (Y a) ≠ ptp W lf tp (X b) (Y b) ∧ DUE W (bt - tp + 1) (opn n X Y nm a b W lf tp) c (ptp W lf tp (X a) (Y a)) 1000000) ∨ (RWY W (bt - tp + 1) (opn n X Y nm a b W lf tp) c (ptp W lf tp (X b) (Y b)) (ptp W lf tp (X a) (Y a)) T ∧ ((r = -3 ∧ 24 < T.length) ∨ (r = 0 ∧ T.length ≤ 24))))))
theorem RTR_un {n : Nat} {X Y nm : Int → Int} {a b r lf tp W r' lf' tp' W' : Int} {T T' : List Int} (ha : blw n a) (hn : ∀ i, blw n i → 0 ≤ nm i) (q : RTR n X Y nm a b r lf tp W T) (q' : RTR n X Y nm a b r' lf' tp' W' T') : r = r' ∧ (r = 0 → (lf = lf' ∧ tp = tp' ∧ W = W') ∧ T = T') := sorry
theorem gr_1 (a b c d : Int) : (a - b) * (c - d) = a * c - a * d - b * c + b * d := sorry
/-- twice the area of a triangle, with its sign -/
def crs (ax ay bx bY cx cy : Int) : Int := (bx - ax) * (cy - ay) - (bY - ay) * (cx - ax)
theorem crs_t1 {ax ay bx bY px py cx cy dx dy : Int} (h1 : crs cx cy dx dy ax ay = 0) (h2 : crs cx cy dx dy px py = 0) (h3 : crs ax ay bx bY px py = 0) : (px - ax) * crs ax ay bx bY cx cy = (bx - ax) * crs ax ay px py cx cy := sorry
end
section
/-! ===== the judge: pieces that meet (plain) ===== -/
def onS (px py ax ay bx bY : Int) : Prop := crs ax ay bx bY px py = 0 ∧ (min ax bx ≤ px ∧ px ≤ max ax bx) ∧ min ay bY ≤ py ∧ py ≤ max ay bY
theorem crs_sw (ax ay bx bY cx cy : Int) : crs bx bY ax ay cx cy = - crs ax ay bx bY cx cy := sorry
theorem crs_xy (ax ay bx bY cx cy : Int) : crs ay ax bY bx cy cx = - crs ax ay bx bY cx cy := sorry
theorem crs_ro (ax ay bx bY cx cy : Int) : crs bx bY cx cy ax ay = crs ax ay bx bY cx cy := sorry
theorem onS_sw {px py ax ay bx bY : Int} (h : onS px py ax ay bx bY) : onS px py bx bY ax ay := sorry
theorem onS_xy {px py ax ay bx bY : Int} (h : onS px py ax ay bx bY) : onS py px ay ax bY bx := sorry
theorem onS_l (ax ay bx bY : Int) : onS ax ay ax ay bx bY := sorry
theorem onS_r (ax ay bx bY : Int) : onS bx bY ax ay bx bY := sorry
theorem onS_p {px py ax ay : Int} (h : onS px py ax ay ax ay) : px = ax ∧ py = ay := sorry
/-- two points on the line of c and d: with any of those they make no triangle -/
theorem crs_ln {ax ay px py cx cy dx dy : Int} (ne : ¬ (cx = dx ∧ cy = dy)) (h1 : crs cx cy dx dy ax ay = 0) (h2 : crs cx cy dx dy px py = 0) : crs ax ay px py cx cy = 0 ∧ crs ax ay px py dx dy = 0 := sorry
/-- an end that is on the other one, besides a point of both: both are on one line -/
theorem crs_on {ax ay bx bY cx cy dx dy px py : Int} (hA : onS ax ay cx cy dx dy) (ne : ¬ (ax = px ∧ ay = py)) (h1 : onS px py ax ay bx bY) (h2 : onS px py cx cy dx dy) : (¬ (ax = bx ∧ ay = bY) ∧ ¬ (cx = dx ∧ cy = dy)) ∧ crs ax ay bx bY cx cy = 0 ∧ crs ax ay bx bY dx dy = 0 := sorry
/-- on a line, between in one way is between in the other -/
theorem btw {m k n u : Int} (m0 : 0 < m) (k0 : 0 ≤ k) (k1 : k ≤ m) (e : m * u = n * k) : (0 ≤ n → 0 ≤ u ∧ u ≤ n) ∧ (n ≤ 0 → n ≤ u ∧ u ≤ 0) := sorry
theorem onS_x {px py ax ay bx bY : Int} (ne : ax ≠ bx) (h1 : crs ax ay bx bY px py = 0) (h2 : min ax bx ≤ px ∧ px ≤ max ax bx) : onS px py ax ay bx bY := sorry
/-- ends that are on the other one, at such an x -/
def onE (ax ay bx bY cx cy dx dy x0 : Int) : Prop := (ax = x0 ∧ onS ax ay cx cy dx dy) ∨ (bx = x0 ∧ onS bx bY cx cy dx dy) ∨ (cx = x0 ∧ onS cx cy ax ay bx bY) ∨ (dx = x0 ∧ onS dx dy ax ay bx bY)
theorem lng_x {ax ay bx bY cx cy dx dy : Int} (h1 : crs ax ay bx bY cx cy = 0) (h2 : crs ax ay bx bY dx dy = 0) (h3 : crs cx cy dx dy ax ay = 0) (h4 : crs cx cy dx dy bx bY = 0) (hx : max (min ax bx) (min cx dx) < min (max ax bx) (max cx dx)) : onE ax ay bx bY cx cy dx dy (max (min ax bx) (min cx dx)) ∧ onE ax ay bx bY cx cy dx dy (min (max ax bx) (max cx dx)) := sorry
/-- an end is on the other one, besides a point -/
def onD (ax ay bx bY cx cy dx dy px py : Int) : Prop := (¬ (ax = px ∧ ay = py) ∧ onS ax ay cx cy dx dy) ∨ (¬ (bx = px ∧ bY = py) ∧ onS bx bY cx cy dx dy) ∨ (¬ (cx = px ∧ cy = py) ∧ onS cx cy ax ay bx bY) ∨ (¬ (dx = px ∧ dy = py) ∧ onS dx dy ax ay bx bY)
theorem onE_D {ax ay bx bY cx cy dx dy x0 px py : Int} (h : onE ax ay bx bY cx cy dx dy x0) (ne : x0 ≠ px) : onD ax ay bx bY cx cy dx dy px py := sorry
theorem onD_xy {ax ay bx bY cx cy dx dy px py : Int} (h : onD ay ax bY bx cy cx dy dx py px) : onD ax ay bx bY cx cy dx dy px py := sorry
/-- more than a point in common -/
def lng (ax ay bx bY cx cy dx dy : Int) : Prop := ((crs ax ay bx bY cx cy = 0 ∧ crs ax ay bx bY dx dy = 0) ∧ crs cx cy dx dy ax ay = 0 ∧ crs cx cy dx dy bx bY = 0) ∧ (0 ≤ min (max ax bx) (max cx dx) - max (min ax bx) (min cx dx) ∧ 0 ≤ min (max ay bY) (max cy dy) - max (min ay bY) (min cy dy)) ∧ (0 < min (max ax bx) (max cx dx) - max (min ax bx) (min cx dx) ∨ 0 < min (max ay bY) (max cy dy) - max (min ay bY) (min cy dy))
theorem lng_D {ax ay bx bY cx cy dx dy : Int} (h : lng ax ay bx bY cx cy dx dy) (px py : Int) : onD ax ay bx bY cx cy dx dy px py := sorry
/-- the pieces go across each other -/
def prp (ax ay bx bY cx cy dx dy : Int) : Prop := ((crs ax ay bx bY cx cy < 0 ∧ 0 < crs ax ay bx bY dx dy) ∨ (0 < crs ax ay bx bY cx cy ∧ crs ax ay bx bY dx dy < 0)) ∧ ((crs cx cy dx dy ax ay < 0 ∧ 0 < crs cx cy dx dy bx bY) ∨ (0 < crs cx cy dx dy ax ay ∧ crs cx cy dx dy bx bY < 0))
def mtS (ax ay bx bY cx cy dx dy : Int) : Prop := prp ax ay bx bY cx cy dx dy ∨ onS cx cy ax ay bx bY ∨ onS dx dy ax ay bx bY ∨ onS ax ay cx cy dx dy ∨ onS bx bY cx cy dx dy
/-- the component's 'beyond' -/
def byd (ax ay bx bY cx cy dx dy px py : Int) : Prop := (¬ onS px py ax ay bx bY ∨ ¬ onS px py cx cy dx dy) ∨ ((¬ (ax = bx ∧ ay = bY) ∧ ¬ (cx = dx ∧ cy = dy)) ∧ (crs ax ay bx bY cx cy = 0 ∧ crs ax ay bx bY dx dy = 0) ∧ onD ax ay bx bY cx cy dx dy px py)
theorem onD_m {ax ay bx bY cx cy dx dy px py : Int} (h : onD ax ay bx bY cx cy dx dy px py) : mtS ax ay bx bY cx cy dx dy := sorry
/-- without a node of both -/
theorem jdg_0 {ax ay bx bY cx cy dx dy : Int} : mtS ax ay bx bY cx cy dx dy ↔ (prp ax ay bx bY cx cy dx dy ∨ ((onS ax ay cx cy dx dy ∨ onS bx bY cx cy dx dy ∨ onS cx cy ax ay bx bY ∨ onS dx dy ax ay bx bY) ∨ lng ax ay bx bY cx cy dx dy)) := sorry
/-- with a node of both, across each other -/
theorem jdg_x {ax ay bx bY cx cy dx dy px py : Int} (h : prp ax ay bx bY cx cy dx dy) : (mtS ax ay bx bY cx cy dx dy ∧ byd ax ay bx bY cx cy dx dy px py) ↔ ¬ (onS px py ax ay bx bY ∧ onS px py cx cy dx dy) := sorry
/-- with a node of both, else -/
theorem jdg_1 {ax ay bx bY cx cy dx dy px py : Int} (h : ¬ prp ax ay bx bY cx cy dx dy) : (mtS ax ay bx bY cx cy dx dy ∧ byd ax ay bx bY cx cy dx dy px py) ↔ (onD ax ay bx bY cx cy dx dy px py ∨ lng ax ay bx bY cx cy dx dy) := sorry
end
section
/-! ===== the sign of a long ===== -/
theorem lshr63 {x : Int} (h : r64 x) : z_lshr x 63 = if x < 0 then -1 else 0 := sorry
theorem lushr63 {x : Int} (h : r64 x) : z_lushr x 63 = if x < 0 then 1 else 0 := sorry
theorem s_lshr_ap (K : qK) (ls : List (Option qv)) (x k : Int) (r : List qv) (h : qh) : s_lshr K ls (.inl k :: .inr (.inl x) :: r) h = K ls (.inr (.inl (z_lshr x k)) :: r) h := sorry
theorem s_lushr_ap (K : qK) (ls : List (Option qv)) (x k : Int) (r : List qv) (h : qh) : s_lushr K ls (.inl k :: .inr (.inl x) :: r) h = K ls (.inr (.inl (z_lushr x k)) :: r) h := sorry
theorem s_lneg_ap (K : qK) (ls : List (Option qv)) (x : Int) (r : List qv) (h : qh) : s_lneg K ls (.inr (.inl x) :: r) h = K ls (.inr (.inl (w64 (-x))) :: r) h := sorry
theorem s_lor_ap (K : qK) (ls : List (Option qv)) (x y : Int) (r : List qv) (h : qh) : s_lor K ls (.inr (.inl y) :: .inr (.inl x) :: r) h = K ls (.inr (.inl (z_lor x y)) :: r) h := sorry
theorem s_lsub_ap (K : qK) (ls : List (Option qv)) (x y : Int) (r : List qv) (h : qh) : s_lsub K ls (.inr (.inl y) :: .inr (.inl x) :: r) h = K ls (.inr (.inl (w64 (x - y))) :: r) h := sorry
theorem s_l2i_ap (K : qK) (ls : List (Option qv)) (x : Int) (r : List qv) (h : qh) : s_l2i K ls (.inr (.inl x) :: r) h = K ls (.inl (z_l2i x) :: r) h := sorry
def sgn (x : Int) : Int := if x < 0 then -1 else if 0 < x then 1 else 0
theorem sgn_v {x : Int} (h0 : -4611686018427387904 ≤ x) (h1 : x ≤ 4611686018427387904) : z_l2i (z_lor (z_lshr x 63) (z_lushr (w64 (-x)) 63)) = sgn x := sorry
set_option maxRecDepth 100000 in
theorem sp_Long_signum {l : Launch} {D : qD} {d : Nat} {x : Int} {h : qh} {Q : qQ} (h0 : -4611686018427387904 ≤ x) (h1 : x ≤ 4611686018427387904) (hq : Q (some (.inl (sgn x))) h) : qM l D (d + 1, 0, 0) m_Long_signum [.inr (.inl x)] h Q := sorry
end
section
/-! ===== the judge: sides (the component's) ===== -/
def cBd (z : Int) : Prop := -100000000 ≤ z ∧ z ≤ 100000000
theorem mul_200 {a b : Int} (a0 : -200000000 ≤ a ∧ a ≤ 200000000) (b0 : -200000000 ≤ b ∧ b ≤ 200000000) : -40000000000000000 ≤ a * b ∧ a * b ≤ 40000000000000000 := sorry
set_option maxRecDepth 100000 in
theorem sp_Ju_side {l : Launch} {D : qD} {d : Nat} {px py qx qy rx ry : Int} {h : qh} {Q : qQ} (b1 : cBd px ∧ cBd py) (b2 : cBd qx ∧ cBd qy) (b3 : cBd rx ∧ cBd ry) (hq : Q (some (.inl (sgn (crs px py qx qy rx ry)))) h) :
    qM l D (d + 2, 0, 0) m_Ju_side [.inl px, .inl py, .inl qx, .inl qy, .inl rx, .inl ry] h Q := sorry
theorem sgn_0 {x : Int} : sgn x = 0 ↔ x = 0 := sorry
set_option maxRecDepth 100000 in
theorem sp_Ju_isOn {l : Launch} {D : qD} {d : Nat} {px py qx qy rx ry : Int} {h : qh} {Q : qQ} (b1 : cBd px ∧ cBd py) (b2 : cBd qx ∧ cBd qy) (b3 : cBd rx ∧ cBd ry) (h1 : onS rx ry px py qx qy → Q (some (.inl 1)) h) (h0 : ¬ onS rx ry px py qx qy → Q (some (.inl 0)) h) :
    qM l D (d + 3, 0, 0) m_Ju_isOn [.inl px, .inl py, .inl qx, .inl qy, .inl rx, .inl ry] h Q := sorry
end
section
/-! ===== the judge: pieces that meet (the component's) ===== -/
theorem sgn_b {x : Int} : -1 ≤ sgn x ∧ sgn x ≤ 1 := sorry
theorem sgn_m {a b : Int} : (-1 ≤ sgn a * sgn b ∧ sgn a * sgn b ≤ 1) ∧ (sgn a * sgn b < 0 ↔ (a < 0 ∧ 0 < b) ∨ (0 < a ∧ b < 0)) := sorry
/-- the two pieces at hand -/
def JQ (v : Int → Int → Int) (ax ay bx bY cx cy dx dy : Int) : Prop := ((v 272 2 = ax ∧ v 272 3 = ay ∧ v 272 4 = bx ∧ v 272 5 = bY) ∧ v 272 6 = cx ∧ v 272 7 = cy ∧ v 272 8 = dx ∧ v 272 9 = dy) ∧ ((cBd ax ∧ cBd ay) ∧ cBd bx ∧ cBd bY) ∧ (cBd cx ∧ cBd cy) ∧ cBd dx ∧ cBd dy
set_option maxRecDepth 100000 in
theorem sp_Ju_meet {l : Launch} {D : qD} {d : Nat} {ax ay bx bY cx cy dx dy : Int} {h : qh} {Q : qQ} (j : JQ h.2 ax ay bx bY cx cy dx dy) (h1 : mtS ax ay bx bY cx cy dx dy → Q (some (.inl 1)) h) (h0 : ¬ mtS ax ay bx bY cx cy dx dy → Q (some (.inl 0)) h) :
    qM l D (d + 4, 0, 0) m_Ju_meet [.inr (.inr 272)] h Q := sorry
end
section
/-! ===== the judge: beyond a point of both (the component's) ===== -/
theorem othv (a b c e : Int) (v : Int → Int → Int) : ((a = c ∧ b = e) → f_Ju_isOther a b c e v = 0) ∧ (¬ (a = c ∧ b = e) → f_Ju_isOther a b c e v = 1) := sorry
set_option maxRecDepth 100000 in
theorem sp_Ju_beyond {l : Launch} {D : qD} {d : Nat} {ax ay bx bY cx cy dx dy px py : Int} {h : qh} {Q : qQ} (j : JQ h.2 ax ay bx bY cx cy dx dy) (bP : cBd px ∧ cBd py) (h1 : byd ax ay bx bY cx cy dx dy px py → Q (some (.inl 1)) h) (h0 : ¬ byd ax ay bx bY cx cy dx dy px py → Q (some (.inl 0)) h) :
    qM l D (d + 4, 0, 0) m_Ju_beyond [.inr (.inr 272), .inl px, .inl py] h Q := sorry
end
section
/-! ===== the judge: points of an edge (the component's) ===== -/
noncomputable def bz (p : Prop) : Int := @ite Int p (Classical.propDecidable _) 1 0
theorem bz_1 {p : Prop} (h : p) : bz p = 1 := sorry
theorem bz_0 {p : Prop} (h : ¬ p) : bz p = 0 := sorry
theorem bz_b (p : Prop) : 0 ≤ bz p ∧ bz p ≤ 1 := sorry
theorem bz_c {p q : Prop} (h : p ↔ q) : bz p = bz q := sorry
/-- a drawing, as it is kept -/
def DV (v : Int → Int → Int) (o : Int) (n m : Nat) (X Y bm BX BY : Int → Int) : Prop := (∀ i, blw n i → v (o + 1) i = X i ∧ v (o + 2) i = Y i) ∧ ∀ e, blw m e → v (o + 3) e = bm e ∧ ∀ k : Int, 0 ≤ k → k < bm e → v (o + 4) (24 * e + k) = BX (24 * e + k) ∧ v (o + 5) (24 * e + k) = BY (24 * e + k)
/-- its bounds -/
def DB (n m : Nat) (X Y bm BX BY : Int → Int) : Prop := (∀ i, blw n i → cBd (X i) ∧ cBd (Y i)) ∧ ∀ e, blw m e → (0 ≤ bm e ∧ bm e ≤ 24) ∧ ∀ k : Int, 0 ≤ k → k < bm e → cBd (BX (24 * e + k)) ∧ cBd (BY (24 * e + k))
/-- a point of an edge -/
def ept (t hd X bm BX : Int → Int) (e k : Int) : Int := if k ≠ 0 then (if k ≤ bm e then BX (24 * e + k - 1) else X (hd e)) else X (t e)
theorem ept_b {n m : Nat} {t hd w X Y bm BX BY : Int → Int} {e k : Int} (gv : GV n m t hd w) (db : DB n m X Y bm BX BY) (eb : blw m e) (k0 : 0 ≤ k) : cBd (ept t hd X bm BX e k) ∧ cBd (ept t hd Y bm BY e k) := sorry
theorem DV.fw {C : List Int} {P : List (Int × Int)} {v v' : Int → Int → Int} {o : Int} {n m : Nat} {X Y bm BX BY : Int → Int} (h : DV v o n m X Y bm BX BY) (k : FW C P v v') (hc : ∀ j : Int, 1 ≤ j → j ≤ 5 → o + j ∉ C) (hp : ∀ p ∈ P, p.1 < o + 1 ∨ o + 5 < p.1) : DV v' o n m X Y bm BX BY := sorry
theorem pt_ok {v : Int → Int → Int} {g o e k : Int} {n m : Nat} {t hd w X Y bm BX BY : Int → Int} (hw : HW v) (hg : CG v g n m t hd w) (gv : GV n m t hd w) (dr : isD o) (dv : DV v o n m X Y bm BX BY) (db : DB n m X Y bm BX BY) (eb : blw m e) (k0 : 0 ≤ k) (k1 : k ≤ bm e + 1) : (e_Dr_pointX o g e k v ∧ p_Dr_pointX o g e k v ∧ f_Dr_pointX o g e k v = ept t hd X bm BX e k) ∧ e_Dr_pointY o g e k v ∧ p_Dr_pointY o g e k v ∧ f_Dr_pointY o g e k v = ept t hd Y bm BY e k := sorry
set_option maxRecDepth 100000 in
theorem sp_Ju_first {l : Launch} {D : qD} {d n m : Nat} {g o e k : Int} {t hd w X Y bm BX BY : Int → Int} {h : qh} {Q : qQ} (hw : HW h.2) (hg : CG h.2 g n m t hd w) (gv : GV n m t hd w) (dr : isD o) (dv : DV h.2 o n m X Y bm BX BY) (db : DB n m X Y bm BX BY) (eb : blw m e) (k0 : 0 ≤ k) (k1 : k ≤ bm e) (c0 : h.2 272 0 = g) (c1 : h.2 272 1 = o)
    (hq : ∀ v, FW [] [(272, 2), (272, 3), (272, 4), (272, 5)] h.2 v → v 272 2 = ept t hd X bm BX e k → v 272 3 = ept t hd Y bm BY e k → v 272 4 = ept t hd X bm BX e (k + 1) → v 272 5 = ept t hd Y bm BY e (k + 1) → Q none (h.1, v)) :
    qM l D (d + 2, 0, 0) m_Ju_first [.inr (.inr 272), .inl e, .inl k] h Q := sorry
set_option maxRecDepth 100000 in
theorem sp_Ju_second {l : Launch} {D : qD} {d n m : Nat} {g o e k : Int} {t hd w X Y bm BX BY : Int → Int} {h : qh} {Q : qQ} (hw : HW h.2) (hg : CG h.2 g n m t hd w) (gv : GV n m t hd w) (dr : isD o) (dv : DV h.2 o n m X Y bm BX BY) (db : DB n m X Y bm BX BY) (eb : blw m e) (k0 : 0 ≤ k) (k1 : k ≤ bm e) (c0 : h.2 272 0 = g) (c1 : h.2 272 1 = o)
    (hq : ∀ v, FW [] [(272, 6), (272, 7), (272, 8), (272, 9)] h.2 v → v 272 6 = ept t hd X bm BX e k → v 272 7 = ept t hd Y bm BY e k → v 272 8 = ept t hd X bm BX e (k + 1) → v 272 9 = ept t hd Y bm BY e (k + 1) → Q none (h.1, v)) :
    qM l D (d + 2, 0, 0) m_Ju_second [.inr (.inr 272), .inl e, .inl k] h Q := sorry
end
section
/-! ===== the judge: bends, slant, length, upward (the component's) ===== -/
abbrev jP : List (Int × Int) := [(272, 2), (272, 3), (272, 4), (272, 5), (272, 6), (272, 7), (272, 8), (272, 9)]
/-- graph and drawing at hand -/
def JC (v : Int → Int → Int) (g o : Int) (n m : Nat) (t hd w X Y bm BX BY : Int → Int) : Prop := HW v ∧ CG v g n m t hd w ∧ DV v o n m X Y bm BX BY ∧ v 272 0 = g ∧ v 272 1 = o
/-- what does not change -/
def JB (o : Int) (n m : Nat) (t hd w X Y bm BX BY : Int → Int) : Prop := GV n m t hd w ∧ isD o ∧ DB n m X Y bm BX BY
theorem JC.fw {v v' : Int → Int → Int} {g o : Int} {n m : Nat} {t hd w X Y bm BX BY : Int → Int} (jc : JC v g o n m t hd w X Y bm BX BY) (dr : isD o) (kv : FW [] jP v v') : JC v' g o n m t hd w X Y bm BX BY := sorry
theorem JC.f {v : Int → Int → Int} {g o : Int} {n m : Nat} {t hd w X Y bm BX BY : Int → Int} (jc : JC v g o n m t hd w X Y bm BX BY) (dr : isD o) : (v 272 0 = g ∧ v 272 1 = o) ∧ (v o 5 = o + 1 ∧ v o 6 = o + 2 ∧ v o 7 = o + 3 ∧ v o 8 = o + 4 ∧ v o 9 = o + 5) ∧ (v g 0 = n ∧ v g 1 = m ∧ v g 8 = g + 6 ∧ v g 9 = g + 7) ∧ (q_shp g = (3, 0) ∧ q_shp (g + 6) = (100, 48) ∧ q_shp (g + 7) = (100, 48) ∧ 0 ≤ g) ∧ ∀ e, blw m e → v (g + 6) e = t e ∧ v (g + 7) e = hd e := sorry
theorem JC.fst {l : Launch} {D : qD} {d n m : Nat} {g o e k : Int} {t hd w X Y bm BX BY : Int → Int} {h : qh} {Q : qQ} (jb : JB o n m t hd w X Y bm BX BY) (jc : JC h.2 g o n m t hd w X Y bm BX BY) (eb : blw m e) (k0 : 0 ≤ k) (k1 : k ≤ bm e)
    (hq : ∀ v, FW [] [(272, 2), (272, 3), (272, 4), (272, 5)] h.2 v → v 272 2 = ept t hd X bm BX e k → v 272 3 = ept t hd Y bm BY e k → v 272 4 = ept t hd X bm BX e (k + 1) → v 272 5 = ept t hd Y bm BY e (k + 1) → Q none (h.1, v)) : qM l D (d + 2, 0, 0) m_Ju_first [.inr (.inr 272), .inl e, .inl k] h Q := sorry
theorem JC.snd {l : Launch} {D : qD} {d n m : Nat} {g o e k : Int} {t hd w X Y bm BX BY : Int → Int} {h : qh} {Q : qQ} (jb : JB o n m t hd w X Y bm BX BY) (jc : JC h.2 g o n m t hd w X Y bm BX BY) (eb : blw m e) (k0 : 0 ≤ k) (k1 : k ≤ bm e)
    (hq : ∀ v, FW [] [(272, 6), (272, 7), (272, 8), (272, 9)] h.2 v → v 272 6 = ept t hd X bm BX e k → v 272 7 = ept t hd Y bm BY e k → v 272 8 = ept t hd X bm BX e (k + 1) → v 272 9 = ept t hd Y bm BY e (k + 1) → Q none (h.1, v)) : qM l D (d + 2, 0, 0) m_Ju_second [.inr (.inr 272), .inl e, .inl k] h Q := sorry
set_option maxRecDepth 100000 in
theorem sp_Ju_bends {l : Launch} {D : qD} {d n m : Nat} {g o : Int} {t hd w X Y bm BX BY : Int → Int} {h : qh} {Q : qQ} (jb : JB o n m t hd w X Y bm BX BY) (jc : JC h.2 g o n m t hd w X Y bm BX BY) (hq : Q (some (.inr (.inl (sof bm m)))) h) :
    qM l D (d + 5, 0, 0) m_Ju_bends [.inr (.inr 272)] h Q := sorry
/-- pieces that are neither level nor upright -/
noncomputable def jSl (t hd X Y bm BX BY : Int → Int) (e k : Int) : Int := bz (ept t hd X bm BX e k ≠ ept t hd X bm BX e (k + 1) ∧ ept t hd Y bm BY e k ≠ ept t hd Y bm BY e (k + 1))
set_option maxRecDepth 100000 in
theorem sp_Ju_slant {l : Launch} {D : qD} {d n m : Nat} {g o : Int} {t hd w X Y bm BX BY : Int → Int} {h : qh} {Q : qQ} (jb : JB o n m t hd w X Y bm BX BY) (jc : JC h.2 g o n m t hd w X Y bm BX BY) (hq : ∀ v, FW [] jP h.2 v → Q (some (.inr (.inl (sof (fun e => sof (jSl t hd X Y bm BX BY e) (bm e + 1).toNat) m)))) (h.1, v)) :
    qM l D (d + 5, 0, 0) m_Ju_slant [.inr (.inr 272)] h Q := sorry
end
section
/-! ===== the judge: length, upward (the component's) ===== -/
/-- how long a piece is -/
def jLe (t hd X Y bm BX BY : Int → Int) (e k : Int) : Int := ((ept t hd X bm BX e k - ept t hd X bm BX e (k + 1)).natAbs : Int) + ((ept t hd Y bm BY e k - ept t hd Y bm BY e (k + 1)).natAbs : Int)
set_option maxRecDepth 100000 in
theorem sp_Ju_length {l : Launch} {D : qD} {d n m : Nat} {g o : Int} {t hd w X Y bm BX BY : Int → Int} {h : qh} {Q : qQ} (jb : JB o n m t hd w X Y bm BX BY) (jc : JC h.2 g o n m t hd w X Y bm BX BY) (hq : ∀ v, FW [] jP h.2 v → Q (some (.inr (.inl (sof (fun e => sof (jLe t hd X Y bm BX BY e) (bm e + 1).toNat) m)))) (h.1, v)) :
    qM l D (d + 5, 0, 0) m_Ju_length [.inr (.inr 272)] h Q := sorry
/-- an edge goes up somewhere ahead of such a piece -/
def jUp (t hd Y bm BY : Int → Int) (e k : Int) : Prop := ∃ j : Int, (0 ≤ j ∧ j < k) ∧ ept t hd Y bm BY e (j + 1) ≤ ept t hd Y bm BY e j
theorem jUp_s {t hd Y bm BY : Int → Int} {e k : Int} (k0 : 0 ≤ k) : jUp t hd Y bm BY e (k + 1) ↔ jUp t hd Y bm BY e k ∨ ept t hd Y bm BY e (k + 1) ≤ ept t hd Y bm BY e k := sorry
set_option maxRecDepth 100000 in
theorem sp_Ju_upward {l : Launch} {D : qD} {d n m : Nat} {g o : Int} {t hd w X Y bm BX BY : Int → Int} {h : qh} {Q : qQ} (jb : JB o n m t hd w X Y bm BX BY) (jc : JC h.2 g o n m t hd w X Y bm BX BY) (hq : ∀ v, FW [] jP h.2 v → Q (some (.inr (.inl (sof (fun e => bz (jUp t hd Y bm BY e (bm e + 1))) m)))) (h.1, v)) :
    qM l D (d + 5, 0, 0) m_Ju_upward [.inr (.inr 272)] h Q := sorry
end
section
/-! ===== the judge: pairs, over (the component's) ===== -/
/-- nodes that touch, or are at one point -/
def jPq (pt : Int) (nm X Y : Int → Int) (i k : Int) : Prop := (pt ≠ 0 → X i = X k ∧ Y i = Y k) ∧ (pt = 0 → ((X i - X k).natAbs : Int) ≤ nm i + 1 + (nm k + 1) ∧ ((Y i - Y k).natAbs : Int) ≤ 2)
set_option maxRecDepth 100000 in
theorem sp_Ju_pairs {l : Launch} {D : qD} {d n m : Nat} {g o pt : Int} {t hd w nm X Y bm BX BY : Int → Int} {h : qh} {Q : qQ} (jb : JB o n m t hd w X Y bm BX BY) (jc : JC h.2 g o n m t hd w X Y bm BX BY) (hnm : ∀ i, blw n i → h.2 (g + 3) i = nm i ∧ 0 ≤ nm i ∧ nm i ≤ 100) (pt01 : pt = 0 ∨ pt = 1) (hq : Q (some (.inr (.inl (sof (fun i => sof (fun k => bz (jPq pt nm X Y i k)) i.toNat) n)))) h) :
    qM l D (d + 5, 0, 0) m_Ju_pairs [.inr (.inr 272), .inl pt] h Q := sorry
/-- an edge goes over a node that is none of its ends, with one of its first pieces -/
def jOv (t hd X Y bm BX BY : Int → Int) (e i k : Int) : Prop := (i ≠ t e ∧ i ≠ hd e) ∧ ∃ j : Int, (0 ≤ j ∧ j < k) ∧ onS (X i) (Y i) (ept t hd X bm BX e j) (ept t hd Y bm BY e j) (ept t hd X bm BX e (j + 1)) (ept t hd Y bm BY e (j + 1))
theorem jOv_s {t hd X Y bm BX BY : Int → Int} {e i k : Int} (k0 : 0 ≤ k) (ne : i ≠ t e ∧ i ≠ hd e) : jOv t hd X Y bm BX BY e i (k + 1) ↔ jOv t hd X Y bm BX BY e i k ∨ onS (X i) (Y i) (ept t hd X bm BX e k) (ept t hd Y bm BY e k) (ept t hd X bm BX e (k + 1)) (ept t hd Y bm BY e (k + 1)) := sorry
set_option maxRecDepth 100000 in
theorem sp_Ju_over {l : Launch} {D : qD} {d n m : Nat} {g o : Int} {t hd w X Y bm BX BY : Int → Int} {h : qh} {Q : qQ} (jb : JB o n m t hd w X Y bm BX BY) (jc : JC h.2 g o n m t hd w X Y bm BX BY) (hq : ∀ v, FW [] jP h.2 v → Q (some (.inr (.inl (sof (fun e => sof (fun i => bz (jOv t hd X Y bm BX BY e i (bm e + 1))) n) m)))) (h.1, v)) :
    qM l D (d + 5, 0, 0) m_Ju_over [.inr (.inr 272)] h Q := sorry
end
section
/-! ===== the judge: crossings (the component's) ===== -/
/-- the node that two edges share, or -1 -/
def shN (t hd : Int → Int) (e f : Int) : Int := if t e = t f ∨ t e = hd f then t e else if hd e = t f ∨ hd e = hd f then hd e else -1
theorem shN_b {n m : Nat} {t hd w : Int → Int} {e f : Int} (gv : GV n m t hd w) (eb : blw m e) : shN t hd e f = -1 ∨ blw n (shN t hd e f) := sorry
/-- two pieces cross -/
def jCr (t hd X Y bm BX BY : Int → Int) (e f k j : Int) : Prop := mtS (ept t hd X bm BX e k) (ept t hd Y bm BY e k) (ept t hd X bm BX e (k + 1)) (ept t hd Y bm BY e (k + 1)) (ept t hd X bm BX f j) (ept t hd Y bm BY f j) (ept t hd X bm BX f (j + 1)) (ept t hd Y bm BY f (j + 1)) ∧ (shN t hd e f = -1 ∨ byd (ept t hd X bm BX e k) (ept t hd Y bm BY e k) (ept t hd X bm BX e (k + 1)) (ept t hd Y bm BY e (k + 1)) (ept t hd X bm BX f j) (ept t hd Y bm BY f j) (ept t hd X bm BX f (j + 1)) (ept t hd Y bm BY f (j + 1)) (X (shN t hd e f)) (Y (shN t hd e f)))
noncomputable def jS3 (t hd X Y bm BX BY : Int → Int) (e f k : Int) (q : Nat) : Int := sof (fun j => bz (jCr t hd X Y bm BX BY e f k j)) q
noncomputable def jS2 (t hd X Y bm BX BY : Int → Int) (e f : Int) (q : Nat) : Int := sof (fun k => jS3 t hd X Y bm BX BY e f k (bm f + 1).toNat) q
noncomputable def jS1 (t hd X Y bm BX BY : Int → Int) (e : Int) (q : Nat) : Int := sof (fun f => jS2 t hd X Y bm BX BY e f (bm e + 1).toNat) q
noncomputable def jS0 (t hd X Y bm BX BY : Int → Int) (q : Nat) : Int := sof (fun e => jS1 t hd X Y bm BX BY e e.toNat) q
theorem jS3_b {t hd X Y bm BX BY : Int → Int} {e f k : Int} {q : Nat} : 0 ≤ jS3 t hd X Y bm BX BY e f k q ∧ jS3 t hd X Y bm BX BY e f k q ≤ q := sorry
theorem jS2_b {t hd X Y bm BX BY : Int → Int} {e f : Int} {q : Nat} (hb : bm f ≤ 24) : 0 ≤ jS2 t hd X Y bm BX BY e f q ∧ jS2 t hd X Y bm BX BY e f q ≤ q * 25 := sorry
theorem jS1_b {t hd X Y bm BX BY : Int → Int} {e : Int} {q : Nat} (he : bm e ≤ 24) (hb : ∀ f : Int, 0 ≤ f → f < q → bm f ≤ 24) : 0 ≤ jS1 t hd X Y bm BX BY e q ∧ jS1 t hd X Y bm BX BY e q ≤ q * 625 := sorry
theorem jS0_b {t hd X Y bm BX BY : Int → Int} {q : Nat} (q48 : q ≤ 48) (hb : ∀ f : Int, 0 ≤ f → f < q → bm f ≤ 24) : 0 ≤ jS0 t hd X Y bm BX BY q ∧ jS0 t hd X Y bm BX BY q ≤ q * 30000 := sorry
set_option maxRecDepth 100000 in
theorem sp_Ju_crossings {l : Launch} {D : qD} {d n m : Nat} {g o : Int} {t hd w X Y bm BX BY : Int → Int} {h : qh} {Q : qQ} (jb : JB o n m t hd w X Y bm BX BY) (jc : JC h.2 g o n m t hd w X Y bm BX BY) (hq : ∀ v, FW [] jP h.2 v → Q (some (.inr (.inl (jS0 t hd X Y bm BX BY m)))) (h.1, v)) :
    qM l D (d + 5, 0, 0) m_Ju_crossings [.inr (.inr 272)] h Q := sorry
end
section
/-! ===== the judge: area (the component's) ===== -/
/-- a number that is the place of a node or of a bend, so far -/
def sP (X bm BX : Int → Int) (a e j x : Int) : Prop := (∃ i : Int, (0 ≤ i ∧ i < a) ∧ X i = x) ∨ ∃ f q : Int, ((0 ≤ f ∧ 0 ≤ q ∧ q < bm f) ∧ (f < e ∨ (f = e ∧ q < j))) ∧ BX (24 * f + q) = x
/-- least and greatest of S, to be found in P -/
def EXI (S P : Int → Prop) (lo hi : Int) : Prop := (∀ x, S x → lo ≤ x ∧ x ≤ hi) ∧ (P lo ∨ lo = 2147483647) ∧ (P hi ∨ hi = -2147483648)
/-- least and greatest -/
def EXT (P : Int → Prop) (lo hi : Int) : Prop := (∀ x, P x → lo ≤ x ∧ x ≤ hi) ∧ P lo ∧ P hi
theorem EXT_un {P : Int → Prop} {lo hi lo' hi' : Int} (a : EXT P lo hi) (b : EXT P lo' hi') : lo = lo' ∧ hi = hi' := sorry
theorem EXI.s {S S' P : Int → Prop} {lo hi y : Int} (h : EXI S P lo hi) (hy : P y) (hs : ∀ x, S' x → S x ∨ x = y) : EXI S' P (min lo y) (max hi y) := sorry
theorem EXI.c {S S' P : Int → Prop} {lo hi : Int} (h : EXI S P lo hi) (hs : ∀ x, S' x → S x) : EXI S' P lo hi := sorry
theorem EXI.e {P : Int → Prop} {lo hi y : Int} (h : EXI P P lo hi) (hy : P y) (yb : -100000000 ≤ y ∧ y ≤ 100000000) : EXT P lo hi := sorry
theorem sP_a {X bm BX : Int → Int} {a x : Int} (h : sP X bm BX (a + 1) 0 0 x) : sP X bm BX a 0 0 x ∨ x = X a := sorry
theorem sP_j {X bm BX : Int → Int} {a e j x : Int} (h : sP X bm BX a e (j + 1) x) : sP X bm BX a e j x ∨ x = BX (24 * e + j) := sorry
theorem sP_e {X bm BX : Int → Int} {a e x : Int} (h : sP X bm BX a (e + 1) 0 x) : sP X bm BX a e (bm e) x := sorry
/-- four at once -/
def EX4 (n m : Nat) (X Y bm BX BY : Int → Int) (a e j lf rt tp bt : Int) : Prop := EXI (sP X bm BX a e j) (sP X bm BX n m 0) lf rt ∧ EXI (sP Y bm BY a e j) (sP Y bm BY n m 0) tp bt
/-- the frame -/
def ARF (n m : Nat) (X Y bm BX BY : Int → Int) (lf rt tp bt : Int) : Prop := EXT (sP X bm BX n m 0) lf rt ∧ EXT (sP Y bm BY n m 0) tp bt
theorem sP_b {n m : Nat} {X Y bm BX BY : Int → Int} (db : DB n m X Y bm BX BY) : (∀ x, sP X bm BX n m 0 x → cBd x) ∧ ∀ x, sP Y bm BY n m 0 x → cBd x := sorry
set_option maxRecDepth 100000 in
theorem sp_Ju_area {l : Launch} {D : qD} {d n m : Nat} {g o : Int} {t hd w X Y bm BX BY : Int → Int} {h : qh} {Q : qQ} (jb : JB o n m t hd w X Y bm BX BY) (jc : JC h.2 g o n m t hd w X Y bm BX BY) (n0 : 0 < n) (hq : ∀ lf rt tp bt, ARF n m X Y bm BX BY lf rt tp bt → Q (some (.inr (.inl ((rt - lf + 1) * (bt - tp + 1))))) h) :
    qM l D (d + 5, 0, 0) m_Ju_area [.inr (.inr 272)] h Q := sorry
end
section
/-! ===== the judge: least triangle (the component's) ===== -/
theorem aj_cg {m : Nat} {f g t hd : Int → Int} (h : ∀ e, blw m e → f e = t e ∧ g e = hd e) (x y : Int) : aj f g (blw m) x y ↔ aj t hd (blw m) x y := sorry
/-- three nodes, joined in pairs -/
def tri3 (t hd : Int → Int) (m : Nat) (i j k : Int) : Prop := aj t hd (blw m) i j ∧ aj t hd (blw m) i k ∧ aj t hd (blw m) j k
/-- twice their area -/
def ara (X Y : Int → Int) (i j k : Int) : Int := ((crs (X i) (Y i) (X j) (Y j) (X k) (Y k)).natAbs : Int)
def trS (a b c i j k : Int) : Prop := (0 ≤ k ∧ k < j ∧ j < i) ∧ (i < a ∨ (i = a ∧ (j < b ∨ (j = b ∧ k < c))))
/-- the least, so far -/
def TRI (t hd X Y : Int → Int) (m : Nat) (a b c r : Int) : Prop := (∀ i j k, trS a b c i j k → tri3 t hd m i j k → 0 ≤ r ∧ r ≤ ara X Y i j k) ∧ (r = -1 ∨ ∃ i j k, trS a b c i j k ∧ tri3 t hd m i j k ∧ r = ara X Y i j k)
theorem TRI_un {t hd X Y : Int → Int} {m : Nat} {a b c r r' : Int} (h : TRI t hd X Y m a b c r) (h' : TRI t hd X Y m a b c r') : r = r' := sorry
theorem TRI_b {t hd X Y : Int → Int} {m : Nat} {a b c r : Int} (h : TRI t hd X Y m a b c r) : -1 ≤ r := sorry
theorem TRI_eq {t hd X Y : Int → Int} {m : Nat} {a b c r a' b' c' : Int} (h : TRI t hd X Y m a b c r) (h1 : ∀ i j k, trS a' b' c' i j k → tri3 t hd m i j k → trS a b c i j k) (h2 : ∀ i j k, trS a b c i j k → trS a' b' c' i j k) : TRI t hd X Y m a' b' c' r := sorry
theorem TRI_no {t hd X Y : Int → Int} {m : Nat} {a b c r : Int} (h : TRI t hd X Y m a b c r) (n : ¬ tri3 t hd m a b c) : TRI t hd X Y m a b (c + 1) r := sorry
theorem TRI_ge {t hd X Y : Int → Int} {m : Nat} {a b c r : Int} (h : TRI t hd X Y m a b c r) (r0 : 0 ≤ r) (r1 : r ≤ ara X Y a b c) : TRI t hd X Y m a b (c + 1) r := sorry
theorem TRI_lt {t hd X Y : Int → Int} {m : Nat} {a b c r : Int} (h : TRI t hd X Y m a b c r) (cb : 0 ≤ c ∧ c < b ∧ b < a) (s : tri3 t hd m a b c) (r1 : r < 0 ∨ ara X Y a b c < r) : TRI t hd X Y m a b (c + 1) (ara X Y a b c) := sorry
theorem TRI_c {t hd X Y : Int → Int} {m : Nat} {a b r : Int} (h : TRI t hd X Y m a b b r) : TRI t hd X Y m a (b + 1) 0 r := sorry
theorem TRI_s {t hd X Y : Int → Int} {m : Nat} {a b r : Int} (h : TRI t hd X Y m a b 0 r) (n : ¬ aj t hd (blw m) a b) : TRI t hd X Y m a (b + 1) 0 r := sorry
theorem TRI_a {t hd X Y : Int → Int} {m : Nat} {a r : Int} (h : TRI t hd X Y m a a 0 r) : TRI t hd X Y m (a + 1) 0 0 r := sorry
theorem TRI_0 {t hd X Y : Int → Int} {m : Nat} : TRI t hd X Y m 0 0 0 (-1) := sorry
set_option maxRecDepth 100000 in
theorem sp_Ju_triangle {l : Launch} {D : qD} {d n m : Nat} {g o : Int} {t hd w X Y bm BX BY : Int → Int} {h : qh} {Q : qQ} (jb : JB o n m t hd w X Y bm BX BY) (jc : JC h.2 g o n m t hd w X Y bm BX BY) (hq : ∀ r, TRI t hd X Y m n 0 0 r → Q (some (.inr (.inl r))) h) :
    qM l D (d + 5, 0, 0) m_Ju_triangle [.inr (.inr 272)] h Q := sorry
end
section
/-! ===== the judge: count (the component's) ===== -/
/-- what the judge counts -/
def JUD (n m : Nat) (t hd nm X Y bm BX BY : Int → Int) (c r : Int) : Prop := (c = 0 → r = jS0 t hd X Y bm BX BY m) ∧ (c = 1 → r = sof (fun i => sof (fun k => bz (jPq 0 nm X Y i k)) i.toNat) n) ∧ (c = 2 → r = sof (fun e => sof (fun i => bz (jOv t hd X Y bm BX BY e i (bm e + 1))) n) m) ∧ (c = 3 → r = sof (fun e => bz (jUp t hd Y bm BY e (bm e + 1))) m) ∧ (c = 4 → r = sof bm m) ∧ (c = 5 → r = sof (fun e => sof (jSl t hd X Y bm BX BY e) (bm e + 1).toNat) m) ∧ (c = 6 → r = sof (fun i => sof (fun k => bz (jPq 1 nm X Y i k)) i.toNat) n) ∧ (c = 7 → ∃ lf rt tp bt, ARF n m X Y bm BX BY lf rt tp bt ∧ r = (rt - lf + 1) * (bt - tp + 1)) ∧ (c = 8 → r = sof (fun e => sof (jLe t hd X Y bm BX BY e) (bm e + 1).toNat) m) ∧ (c = 9 → TRI t hd X Y m n 0 0 r)
theorem JUD_un {n m : Nat} {t hd nm X Y bm BX BY : Int → Int} {c r r' : Int} (c0 : 0 ≤ c ∧ c ≤ 9) (h : JUD n m t hd nm X Y bm BX BY c r) (h' : JUD n m t hd nm X Y bm BX BY c r') : r = r' := sorry
abbrev jP2 : List (Int × Int) := [(272, 0), (272, 1), (272, 2), (272, 3), (272, 4), (272, 5), (272, 6), (272, 7), (272, 8), (272, 9)]
set_option maxRecDepth 100000 in
theorem sp_Ju_count {l : Launch} {D : qD} {d n m : Nat} {g o c : Int} {t hd w nm X Y bm BX BY : Int → Int} {h : qh} {Q : qQ} (jb : JB o n m t hd w X Y bm BX BY) (hw : HW h.2) (hg : CG h.2 g n m t hd w) (dv : DV h.2 o n m X Y bm BX BY) (hnm : ∀ i, blw n i → h.2 (g + 3) i = nm i ∧ 0 ≤ nm i ∧ nm i ≤ 100) (n0 : 0 < n) (cb : 0 ≤ c ∧ c ≤ 9) (hq : ∀ r v, FW [] jP2 h.2 v → JUD n m t hd nm X Y bm BX BY c r → Q (some (.inr (.inl r))) (h.1, v)) :
    qM l D (d + 6, 0, 0) m_Ju_count [.inr (.inr 272), .inr (.inr g), .inr (.inr o), .inl c] h Q := sorry
end
section
/-! ===== a call with more below it on the stack ===== -/
section WIDE
variable {l : Launch} {D : qD} {d : qd} {M : qm} {pc : Nat} {Q : qQ} {K : qK}
set_option maxRecDepth 100000 in
theorem w_runV {p : Program} {e : Env} {R : Room} {s : State} {m : MethodId} {args : Array Value} {below : List Frame} {meth : Method} {c : Code} {H : Heap} {locs : List Loc} {cells slots : Nat} {y : MethodName} {bytes cc : ByteArray} {maxL nL mc ms n index : Nat} {ret : Option FieldType} {ws : List Cond} {rm : Room} {Pc : Array Value → State → Prop} {Qc : Array Value → State → Outcome → State → Prop} {free : Addr → Prop} {Ts : List Cond} {own C : String} {b : Addr} {As rest : List Value} {g : JFrame}
    (S : CallFix p m c cc nL s args Ts own) (hM : Met l y ws rm Pc Qc mc ms free) (cw : CallW R s args own C index y bytes maxL ret ws rm mc ms n) (hlo : 12 + (maxL + 11) + rm.locals ≤ R.locals) (hp : PreV s H C b Pc As)
    (hg : g.method = m) (hn : As.length = n) (hsize : g.locals.size = nL) (hstack : g.stack = As.reverse ++ .ref b :: rest) (hW : 2 * g.monitorRoom + (rest.map fun v => v.category).sum ≤ 12) (hdg : decode cc g.pc = .ok (.invokevirtual index, 3)) (hf : cells + mc ≤ R.cells ∧ slots + ms ≤ R.slots) :
    va_Run p l e R s m args below meth c H locs cells slots mc ms g rest (Qc (Value.ref b :: As).toArray) (free) := sorry
def s_invVw (l : Launch) (D : qD) (d' : qd) (ci : Nat) (M' : qm) (n : Nat) (K : qK) : qK := fun ls st h =>
  n + 1 ≤ st.length ∧ q_cs (st.drop (n + 1)) ≤ 12 ∧ (match st.drop n with | .inr (.inr b) :: _ => 0 ≤ b ∧ (q_shp b).1 = ci | _ => False) ∧ qM l D d' M' (st.take (n + 1)).reverse h (fun r h' => K ls (r.toList ++ st.drop (n + 1)) h')
set_option maxRecDepth 100000 in
theorem ok_invVw {d0 : Nat} {B : Nat × Nat} {d' : qd} {M' : qm} {idx n ci : Nat} {r0 : vw_C} (hd0 : d'.1 ≤ d0) (hcl : q_cl[ci]? = some r0) (hr : M'.1.cls = r0.1) (hci : ci < 100) (hc : q_code M') (hl : Cond.methodLink M.1.cls idx M'.1 ∈ q_G) (hL : M'.2.2.1 ≤ 77) (hs : Cond.instanceMethod M'.1 ∈ q_G) (hse : Cond.selects r0.1 M'.1 M'.1 ∈ q_G) (hn : (parseMethodDescriptor M'.1.desc).map (fun d => d.parameters.length) = some n) (hd : decode M.2.1 pc = .ok (.invokevirtual idx, 3))
    (k : qI (K) (qR l D (d0 + 1, B) M (pc + 3) Q)) : qI (s_invVw l D d' ci M' n K) (qR l D (d0 + 1, B) M pc Q) := sorry
theorem oc_Vw {d0 : Nat} {B : Nat × Nat} {M' : qm} {idx n ci : Nat} (g : q_gV M.1.cls idx ci n M') (hl : Cond.methodLink M.1.cls idx M'.1 ∈ q_G) (hL : M'.2.2.1 ≤ 77) (hd : decode M.2.1 pc = .ok (.invokevirtual idx, 3))
    (k : qI (K) (qR l D (d0 + 1, B) M (pc + 3) Q)) : qI (s_invVw l D (d0, 0, 0) ci M' n K) (qR l D (d0 + 1, B) M pc Q) := sorry
end WIDE
def s_Mo_pyw (d0 : Nat) (K : qK) : qK := fun ls st h => match st with
  | .inl a :: .inr (.inr o) :: r => o = 280 ∧ 1 ≤ d0 ∧ q_cs r ≤ 12 ∧ e_Mo_py a h.2 ∧ p_Mo_py a h.2 ∧ K ls (.inl (f_Mo_py a h.2) :: r) h
  | _ => False
def s_Mo_eyw (d0 : Nat) (K : qK) : qK := fun ls st h => match st with
  | .inl b :: .inl a :: .inr (.inr o) :: r => o = 280 ∧ 2 ≤ d0 ∧ q_cs r ≤ 12 ∧ e_Mo_ey a b h.2 ∧ p_Mo_ey a b h.2 ∧ K ls (.inl (f_Mo_ey a b h.2) :: r) h
  | _ => False
set_option maxRecDepth 100000 in
theorem to_Mo_pyw {l : Launch} {D : qD} {d0 : Nat} {K : qK} : qI (s_Mo_pyw d0 K) (s_invVw l D (d0, 0, 0) 18 m_Mo_py 1 K) := sorry
set_option maxRecDepth 100000 in
theorem to_Mo_eyw {l : Launch} {D : qD} {d0 : Nat} {K : qK} : qI (s_Mo_eyw d0 K) (s_invVw l D (d0, 0, 0) 18 m_Mo_ey 2 K) := sorry
def w_Mo_leastTriangle_67w (l : Launch) (D : qD) (d0 : Nat) (B : Nat × Nat) (Q : qQ) : qK := (s_aload 0 (s_iload 3 (s_Mo_px d0 (s_i2l (s_aload 0 (s_iload 3 (s_Mo_py d0 (s_i2l (s_aload 0 (s_iload 4 (s_Mo_px d0 (s_i2l (s_aload 0 (s_iload 4 (s_Mo_py d0 (s_i2l (s_aload 0 (s_iload 5 (s_Mo_px d0 (s_i2l (s_aload 0 (s_iload 5 (s_Mo_pyw d0 (s_i2l (s_Mo_turnOf d0 (s_Math_abs_1 d0 (s_lstore 6 (s_lload 1 (s_lc 0 (s_lcmp (s_if_lt (w_Mo_leastTriangle_128 l D d0 B Q) (s_lload 6 (s_lload 1 (s_lcmp (s_if_ge (w_Mo_leastTriangle_131 l D d0 B Q) (w_Mo_leastTriangle_128 l D d0 B Q))))))))))))))))))))))))))))))))))))
set_option maxRecDepth 100000 in
theorem Mo_leastTriangle_67w {l : Launch} {D : qD} {d0 : Nat} {B : Nat × Nat} {Q : qQ} : qI (w_Mo_leastTriangle_67w l D d0 B Q) (qR l D (d0 + 1, B) m_Mo_leastTriangle 67 Q) := sorry
def w_Mo_leastTriangle_26w (l : Launch) (D : qD) (d0 : Nat) (B : Nat × Nat) (Q : qQ) : qK := (s_iload 5 (s_iload 4 (s_icmp_ge (w_Mo_leastTriangle_137 l D d0 B Q) (s_aload 0 (s_iload 3 (s_iload 4 (s_invV l D (d0, 0, 0) 18 m_Mo_between 2 (s_if_lt (w_Mo_leastTriangle_131 l D d0 B Q) (s_aload 0 (s_iload 3 (s_iload 5 (s_invV l D (d0, 0, 0) 18 m_Mo_between 2 (s_if_lt (w_Mo_leastTriangle_131 l D d0 B Q) (s_aload 0 (s_iload 4 (s_iload 5 (s_invV l D (d0, 0, 0) 18 m_Mo_between 2 (s_if_ge (w_Mo_leastTriangle_67w l D d0 B Q) (w_Mo_leastTriangle_131 l D d0 B Q)))))))))))))))))))
set_option maxRecDepth 100000 in
theorem Mo_leastTriangle_26w {l : Launch} {D : qD} {d0 : Nat} {B : Nat × Nat} {Q : qQ} : qI (w_Mo_leastTriangle_26w l D d0 B Q) (qR l D (d0 + 1, B) m_Mo_leastTriangle 26 Q) := sorry
def w_Mo_ofEdge_45w (l : Launch) (D : qD) (d0 : Nat) (B : Nat × Nat) (Q : qQ) : qK := (s_iload 8 (s_iload 5 (s_icmp_ge (w_Mo_ofEdge_136 l D d0 B Q) (s_aload 0 (s_iload 1 (s_iload 6 (s_Mo_has d0 (s_if_ne (w_Mo_ofEdge_136 l D d0 B Q) (s_iload 7 (s_if_ne (w_Mo_ofEdge_123 l D d0 B Q) (s_aload 0 (s_iload 6 (s_Mo_px d0 (s_i2l (s_aload 0 (s_iload 6 (s_Mo_py d0 (s_i2l (s_aload 0 (s_iload 1 (s_iload 8 (s_Mo_ex d0 (s_i2l (s_aload 0 (s_iload 1 (s_iload 8 (s_Mo_ey d0 (s_i2l (s_aload 0 (s_iload 1 (s_iload 8 (s_ic (1) (s_iadd (s_Mo_ex d0 (s_i2l (s_aload 0 (s_iload 1 (s_iload 8 (s_ic (1) (s_iadd (s_Mo_eyw d0 (s_i2l (s_invS l D (d0, 0, 0) m_Mo_isOn 6 (s_if_eq (w_Mo_ofEdge_127 l D d0 B Q) (w_Mo_ofEdge_123 l D d0 B Q)))))))))))))))))))))))))))))))))))))))))))))
set_option maxRecDepth 100000 in
theorem Mo_ofEdge_45w {l : Launch} {D : qD} {d0 : Nat} {B : Nat × Nat} {Q : qQ} : qI (w_Mo_ofEdge_45w l D d0 B Q) (qR l D (d0 + 1, B) m_Mo_ofEdge 45 Q) := sorry
end
section
/-! ===== the twin's judge: points and pieces ===== -/
theorem tvl {ax ay bx bY cx cy : Int} (b1 : cBd ax ∧ cBd ay) (b2 : cBd bx ∧ cBd bY) (b3 : cBd cx ∧ cBd cy) (v : Int → Int → Int) : f_Mo_turnOf ax ay bx bY cx cy v = crs ax ay bx bY cx cy := sorry
theorem sgv (x : Int) (v : Int → Int → Int) : f_Mo_signOf x v = sgn x := sorry
set_option maxRecDepth 100000 in
theorem sp_Mo_isOn {l : Launch} {D : qD} {d : Nat} {px py ax ay bx bY : Int} {h : qh} {Q : qQ} (b1 : cBd px ∧ cBd py) (b2 : cBd ax ∧ cBd ay) (b3 : cBd bx ∧ cBd bY) (h1 : onS px py ax ay bx bY → Q (some (.inl 1)) h) (h0 : ¬ onS px py ax ay bx bY → Q (some (.inl 0)) h) :
    qM l D (d + 2, 0, 0) m_Mo_isOn [.inr (.inl px), .inr (.inl py), .inr (.inl ax), .inr (.inl ay), .inr (.inl bx), .inr (.inl bY)] h Q := sorry
set_option maxRecDepth 100000 in
theorem sp_Mo_isLonger {l : Launch} {D : qD} {d : Nat} {ax ay bx bY cx cy dx dy : Int} {h : qh} {Q : qQ} (bA : cBd ax ∧ cBd ay) (bB : cBd bx ∧ cBd bY) (bC : cBd cx ∧ cBd cy) (bD : cBd dx ∧ cBd dy) (h1 : lng ax ay bx bY cx cy dx dy → Q (some (.inl 1)) h) (h0 : ¬ lng ax ay bx bY cx cy dx dy → Q (some (.inl 0)) h) :
    qM l D (d + 2, 0, 0) m_Mo_isLonger [.inr (.inl ax), .inr (.inl ay), .inr (.inl bx), .inr (.inl bY), .inr (.inl cx), .inr (.inl cy), .inr (.inl dx), .inr (.inl dy)] h Q := sorry
/-- a drawing, as the twin keeps it -/
def TDV (v : Int → Int → Int) (gg : Int) (n m : Nat) (X Y bm BX BY : Int → Int) : Prop := v 280 139 = gg ∧ (∀ i, blw n i → v 317 (24 * gg + i) = X i ∧ v 318 (24 * gg + i) = Y i) ∧ ∀ e, blw m e → v 319 (48 * gg + e) = bm e ∧ ∀ k : Int, 0 ≤ k → k < bm e → v 320 (24 * (48 * gg + e) + k) = BX (24 * e + k) ∧ v 321 (24 * (48 * gg + e) + k) = BY (24 * e + k)
theorem TDV_px {v : Int → Int → Int} {gg i : Int} {n m : Nat} {X Y bm BX BY : Int → Int} (td : TDV v gg n m X Y bm BX BY) (g4 : 0 ≤ gg ∧ gg < 4) (n24 : n ≤ 24) (ib : blw n i) : (p_Mo_px i v ∧ f_Mo_px i v = X i) ∧ p_Mo_py i v ∧ f_Mo_py i v = Y i := sorry
theorem TDV_po {v : Int → Int → Int} {gg e : Int} {n m : Nat} {X Y bm BX BY : Int → Int} (td : TDV v gg n m X Y bm BX BY) (g4 : 0 ≤ gg ∧ gg < 4) (m48 : m ≤ 48) (bb : 0 ≤ bm e ∧ bm e ≤ 24) (eb : blw m e) : p_Mo_pointsOf e v ∧ f_Mo_pointsOf e v = bm e + 2 := sorry
theorem TDV_pt {v : Int → Int → Int} {r gg e k : Int} {n m : Nat} {t hd w X Y bm BX BY : Int → Int} (hg : TG v r n m t hd w) (gv : GV n m t hd w) (td : TDV v gg n m X Y bm BX BY) (g4 : 0 ≤ gg ∧ gg < 4) (db : DB n m X Y bm BX BY) (eb : blw m e) (k0 : 0 ≤ k) (k1 : k ≤ bm e + 1) : (p_Mo_ex e k v ∧ f_Mo_ex e k v = ept t hd X bm BX e k) ∧ p_Mo_ey e k v ∧ f_Mo_ey e k v = ept t hd Y bm BY e k := sorry
end
section
/-! ===== the twin's judge: two pieces meet ===== -/
/-- a node of both edges -/
def shd (t hd : Int → Int) (e f i : Int) : Prop := (t e = i ∨ hd e = i) ∧ (t f = i ∨ hd f = i)
def JT (v : Int → Int → Int) (r gg : Int) (n m : Nat) (t hd w X Y bm BX BY : Int → Int) : Prop := TW v ∧ TG v r n m t hd w ∧ TDV v gg n m X Y bm BX BY
def JTB (gg : Int) (n m : Nat) (t hd w X Y bm BX BY : Int → Int) : Prop := GV n m t hd w ∧ (0 ≤ gg ∧ gg < 4) ∧ DB n m X Y bm BX BY
/-- a node of both edges is at such a point -/
def iSh (n : Nat) (t hd X Y : Int → Int) (e f x y : Int) : Prop := ∃ i, blw n i ∧ shd t hd e f i ∧ X i = x ∧ Y i = y
/-- a node of both edges lies on both pieces -/
def cSh (n : Nat) (t hd X Y : Int → Int) (e f ax ay bx bY cx cy dx dy : Int) : Prop := ∃ i, blw n i ∧ shd t hd e f i ∧ onS (X i) (Y i) ax ay bx bY ∧ onS (X i) (Y i) cx cy dx dy
set_option maxRecDepth 100000 in
theorem sp_Mo_isShared {l : Launch} {D : qD} {d n m : Nat} {r gg e f x y : Int} {t hd w X Y bm BX BY : Int → Int} {h : qh} {Q : qQ} (jb : JTB gg n m t hd w X Y bm BX BY) (jt : JT h.2 r gg n m t hd w X Y bm BX BY) (eb : blw m e) (fb : blw m f)
    (h1 : iSh n t hd X Y e f x y → Q (some (.inl 1)) h) (h0 : ¬ iSh n t hd X Y e f x y → Q (some (.inl 0)) h) :
    qM l D (d + 3, 0, 0) m_Mo_isShared [.inr (.inr 280), .inl e, .inl f, .inr (.inl x), .inr (.inl y)] h Q := sorry
set_option maxRecDepth 100000 in
theorem sp_Mo_crossAtShared {l : Launch} {D : qD} {d n m : Nat} {r gg e f ax ay bx bY cx cy dx dy : Int} {t hd w X Y bm BX BY : Int → Int} {h : qh} {Q : qQ} (jb : JTB gg n m t hd w X Y bm BX BY) (jt : JT h.2 r gg n m t hd w X Y bm BX BY) (eb : blw m e) (fb : blw m f) (bA : cBd ax ∧ cBd ay) (bB : cBd bx ∧ cBd bY) (bC : cBd cx ∧ cBd cy) (bD : cBd dx ∧ cBd dy)
    (h1 : cSh n t hd X Y e f ax ay bx bY cx cy dx dy → Q (some (.inl 1)) h) (h0 : ¬ cSh n t hd X Y e f ax ay bx bY cx cy dx dy → Q (some (.inl 0)) h) :
    qM l D (d + 4, 0, 0) m_Mo_crossAtShared [.inr (.inr 280), .inl e, .inl f, .inr (.inl ax), .inr (.inl ay), .inr (.inl bx), .inr (.inl bY), .inr (.inl cx), .inr (.inl cy), .inr (.inl dx), .inr (.inl dy)] h Q := sorry
/-- a number that says whether -/
def bvl (a : Int) (P : Prop) : Prop := (a = 1 ∧ P) ∨ (a = 0 ∧ ¬ P)
/-- two pieces meet, as the twin says it -/
def mTw (n : Nat) (t hd X Y : Int → Int) (e f ax ay bx bY cx cy dx dy : Int) : Prop := (prp ax ay bx bY cx cy dx dy ∧ ¬ cSh n t hd X Y e f ax ay bx bY cx cy dx dy) ∨ (¬ prp ax ay bx bY cx cy dx dy ∧ ((onS ax ay cx cy dx dy ∧ ¬ iSh n t hd X Y e f ax ay) ∨ (onS bx bY cx cy dx dy ∧ ¬ iSh n t hd X Y e f bx bY) ∨ (onS cx cy ax ay bx bY ∧ ¬ iSh n t hd X Y e f cx cy) ∨ (onS dx dy ax ay bx bY ∧ ¬ iSh n t hd X Y e f dx dy) ∨ lng ax ay bx bY cx cy dx dy))
set_option maxRecDepth 100000 in
theorem Mo_me_211 {l : Launch} {D : qD} {d n m : Nat} {r gg e k f j ax ay bx bY cx cy dx dy s1 s2 s3 s4 : Int} {t hd w X Y bm BX BY : Int → Int} {h : qh} {Q : qQ} (jb : JTB gg n m t hd w X Y bm BX BY) (jt : JT h.2 r gg n m t hd w X Y bm BX BY) (eb : blw m e) (fb : blw m f) (bA : cBd ax ∧ cBd ay) (bB : cBd bx ∧ cBd bY) (bC : cBd cx ∧ cBd cy) (bD : cBd dx ∧ cBd dy)
    (h1 : ((onS ax ay cx cy dx dy ∧ ¬ iSh n t hd X Y e f ax ay) ∨ (onS bx bY cx cy dx dy ∧ ¬ iSh n t hd X Y e f bx bY) ∨ (onS cx cy ax ay bx bY ∧ ¬ iSh n t hd X Y e f cx cy) ∨ (onS dx dy ax ay bx bY ∧ ¬ iSh n t hd X Y e f dx dy) ∨ lng ax ay bx bY cx cy dx dy) → Q (some (.inl 1)) h) (h0 : ¬ ((onS ax ay cx cy dx dy ∧ ¬ iSh n t hd X Y e f ax ay) ∨ (onS bx bY cx cy dx dy ∧ ¬ iSh n t hd X Y e f bx bY) ∨ (onS cx cy ax ay bx bY ∧ ¬ iSh n t hd X Y e f cx cy) ∨ (onS dx dy ax ay bx bY ∧ ¬ iSh n t hd X Y e f dx dy) ∨ lng ax ay bx bY cx cy dx dy) → Q (some (.inl 0)) h) :
    w_Mo_meets_211 l D (d + 4) (0, 0) (fun r h' => Q r ((h'.1.1, h.1.2.1, h.1.2.2), h'.2)) [some (.inr (.inr (280))), some (.inl (e)), some (.inl (k)), some (.inl (f)), some (.inl (j)), some (.inr (.inl (ax))), none, some (.inr (.inl (ay))), none, some (.inr (.inl (bx))), none, some (.inr (.inl (bY))), none, some (.inr (.inl (cx))), none, some (.inr (.inl (cy))), none, some (.inr (.inl (dx))), none, some (.inr (.inl (dy))), none, some (.inl (s1)), some (.inl (s2)), some (.inl (s3)), some (.inl (s4)), none, none, none, none] [] ((h.1.1, 0, 0), h.2) := sorry
end
section
/-! ===== the twin's judge: meets; both sides say the same ===== -/
theorem shN_k {n m : Nat} {t hd w : Int → Int} {e f : Int} (gv : GV n m t hd w) (eb : blw m e) (fb : blw m f) (ne : e ≠ f) : (shN t hd e f = -1 ∧ ∀ i, ¬ shd t hd e f i) ∨ (blw n (shN t hd e f) ∧ ∀ i, shd t hd e f i ↔ i = shN t hd e f) := sorry
theorem mTw_iff {n m : Nat} {t hd w X Y : Int → Int} {e f ax ay bx bY cx cy dx dy : Int} (gv : GV n m t hd w) (eb : blw m e) (fb : blw m f) (ne : e ≠ f) : mTw n t hd X Y e f ax ay bx bY cx cy dx dy ↔ mtS ax ay bx bY cx cy dx dy ∧ (shN t hd e f = -1 ∨ byd ax ay bx bY cx cy dx dy (X (shN t hd e f)) (Y (shN t hd e f))) := sorry
set_option maxRecDepth 100000 in
theorem sp_Mo_meets {l : Launch} {D : qD} {d n m : Nat} {r gg e k f j : Int} {t hd w X Y bm BX BY : Int → Int} {h : qh} {Q : qQ} (jb : JTB gg n m t hd w X Y bm BX BY) (jt : JT h.2 r gg n m t hd w X Y bm BX BY) (eb : blw m e) (fb : blw m f) (ne : e ≠ f) (k0 : 0 ≤ k) (k1 : k ≤ bm e) (j0 : 0 ≤ j) (j1 : j ≤ bm f)
    (h1 : jCr t hd X Y bm BX BY e f k j → Q (some (.inl 1)) h) (h0 : ¬ jCr t hd X Y bm BX BY e f k j → Q (some (.inl 0)) h) :
    qM l D (d + 5, 0, 0) m_Mo_meets [.inr (.inr 280), .inl e, .inl k, .inl f, .inl j] h Q := sorry
end
section
/-! ===== the twin's judge: area, touch, least triangle ===== -/
abbrev bPt : List (Int × Int) := [(280, 153), (280, 154), (280, 155), (280, 156)]
theorem JT.fw {v v' : Int → Int → Int} {r gg : Int} {n m : Nat} {t hd w X Y bm BX BY : Int → Int} (jt : JT v r gg n m t hd w X Y bm BX BY) (kv : FW [] bPt v v') : JT v' r gg n m t hd w X Y bm BX BY := sorry
set_option maxRecDepth 100000 in
theorem sp_Mo_bound {l : Launch} {D : qD} {d : Nat} {x y a b c e : Int} {h : qh} {Q : qQ} (e1 : h.2 280 153 = a) (e2 : h.2 280 154 = b) (e3 : h.2 280 155 = c) (e4 : h.2 280 156 = e) (hq : ∀ v, FW [] bPt h.2 v → v 280 153 = min a x → v 280 154 = max b x → v 280 155 = min c y → v 280 156 = max e y → Q none (h.1, v)) :
    qM l D (d + 2, 0, 0) m_Mo_bound [.inr (.inr 280), .inl x, .inl y] h Q := sorry
set_option maxRecDepth 100000 in
theorem sp_Mo_bounds {l : Launch} {D : qD} {d n m : Nat} {r gg : Int} {t hd w X Y bm BX BY : Int → Int} {h : qh} {Q : qQ} (jb : JTB gg n m t hd w X Y bm BX BY) (jt : JT h.2 r gg n m t hd w X Y bm BX BY) (n0 : 0 < n) (hq : ∀ v lf rt tp bt, FW [] bPt h.2 v → v 280 153 = lf → v 280 154 = rt → v 280 155 = tp → v 280 156 = bt → ARF n m X Y bm BX BY lf rt tp bt → Q none (h.1, v)) :
    qM l D (d + 3, 0, 0) m_Mo_bounds [.inr (.inr 280)] h Q := sorry
set_option maxRecDepth 100000 in
theorem sp_Mo_areaOf {l : Launch} {D : qD} {d n m : Nat} {r gg : Int} {t hd w X Y bm BX BY : Int → Int} {h : qh} {Q : qQ} (jb : JTB gg n m t hd w X Y bm BX BY) (jt : JT h.2 r gg n m t hd w X Y bm BX BY) (n0 : 0 < n) (hq : ∀ v lf rt tp bt, FW [] bPt h.2 v → ARF n m X Y bm BX BY lf rt tp bt → Q (some (.inr (.inl ((rt - lf + 1) * (bt - tp + 1))))) (h.1, v)) :
    qM l D (d + 4, 0, 0) m_Mo_areaOf [.inr (.inr 280)] h Q := sorry
set_option maxRecDepth 100000 in
theorem sp_Mo_touch {l : Launch} {D : qD} {d n m : Nat} {r gg i j : Int} {t hd w nm X Y bm BX BY : Int → Int} {h : qh} {Q : qQ} (jb : JTB gg n m t hd w X Y bm BX BY) (jt : JT h.2 r gg n m t hd w X Y bm BX BY) (hnm : ∀ i, blw n i → h.2 282 (r + 195 + i) = nm i ∧ 0 ≤ nm i ∧ nm i ≤ 100) (ib : blw n i) (kb : blw n j)
    (h1 : jPq 0 nm X Y i j → Q (some (.inl 1)) h) (h0 : ¬ jPq 0 nm X Y i j → Q (some (.inl 0)) h) :
    qM l D (d + 2, 0, 0) m_Mo_touch [.inr (.inr 280), .inl i, .inl j] h Q := sorry
set_option maxRecDepth 100000 in
theorem sp_Mo_btw {l : Launch} {D : qD} {d n m : Nat} {r gg a b : Int} {t hd w X Y bm BX BY : Int → Int} {h : qh} {Q : qQ} (jb : JTB gg n m t hd w X Y bm BX BY) (jt : JT h.2 r gg n m t hd w X Y bm BX BY) (ne : a ≠ b) (h1 : ∀ e : Int, 0 ≤ e → aj t hd (blw m) a b → Q (some (.inl e)) h) (h0 : ¬ aj t hd (blw m) a b → Q (some (.inl (-1))) h) :
    qM l D (d + 3, 0, 0) m_Mo_between [.inr (.inr 280), .inl a, .inl b] h Q := sorry
set_option maxRecDepth 100000 in
theorem sp_Mo_leastTriangle {l : Launch} {D : qD} {d n m : Nat} {r gg : Int} {t hd w X Y bm BX BY : Int → Int} {h : qh} {Q : qQ} (jb : JTB gg n m t hd w X Y bm BX BY) (jt : JT h.2 r gg n m t hd w X Y bm BX BY) (hq : ∀ r, TRI t hd X Y m n 0 0 r → Q (some (.inr (.inl r))) h) :
    qM l D (d + 4, 0, 0) m_Mo_leastTriangle [.inr (.inr 280)] h Q := sorry
end
section
/-! ===== the twin's judge: what an edge adds ===== -/
/-- what an edge adds -/
noncomputable def ofe (n : Nat) (t hd X Y bm BX BY : Int → Int) (c e : Int) : Int := if c = 2 then sof (fun i => bz (jOv t hd X Y bm BX BY e i (bm e + 1))) n else if c = 3 then bz (jUp t hd Y bm BY e (bm e + 1)) else if c = 4 then bm e else if c = 5 then sof (jSl t hd X Y bm BX BY e) (bm e + 1).toNat else sof (jLe t hd X Y bm BX BY e) (bm e + 1).toNat
set_option maxRecDepth 100000 in
theorem Mo_oe_160 {l : Launch} {D : qD} {d n m : Nat} {r gg e c k A : Int} {t hd w X Y bm BX BY : Int → Int} {h : qh} {Q : qQ} (x7 x9 : Option qv) (jb : JTB gg n m t hd w X Y bm BX BY) (jt : JT h.2 r gg n m t hd w X Y bm BX BY) (eb : blw m e) (k0 : 0 ≤ k) (k1 : k ≤ bm e)
    (f3 : c = 3 → ept t hd Y bm BY e (k + 1) ≤ ept t hd Y bm BY e k → Q (some (.inr (.inl 1))) h)
    (st : ¬ (c = 3 ∧ ept t hd Y bm BY e (k + 1) ≤ ept t hd Y bm BY e k) → w_Mo_ofEdge_241 l D (d + 2) (0, 0) (fun r h' => Q r ((h'.1.1, h.1.2.1, h.1.2.2), h'.2)) [some (.inr (.inr (280))), some (.inl (e)), some (.inl (c)), some (.inr (.inl (A))), none, some (.inl (bm e + 1)), some (.inl (k)), some (.inr (.inl (((ept t hd X bm BX e k - ept t hd X bm BX e (k + 1)).natAbs : Int)))), none, some (.inr (.inl (((ept t hd Y bm BY e k - ept t hd Y bm BY e (k + 1)).natAbs : Int)))), none] [] ((h.1.1, 0, 0), h.2)) :
    qR l D (d + 3, 0, 0) m_Mo_ofEdge 160 (fun r h' => Q r ((h'.1.1, h.1.2.1, h.1.2.2), h'.2)) [some (.inr (.inr (280))), some (.inl (e)), some (.inl (c)), some (.inr (.inl (A))), none, some (.inl (bm e + 1)), some (.inl (k)), x7, none, x9, none] [] ((h.1.1, 0, 0), h.2) := sorry
set_option maxRecDepth 100000 in
theorem sp_Mo_ofEdge {l : Launch} {D : qD} {d n m : Nat} {r gg e c : Int} {t hd w X Y bm BX BY : Int → Int} {h : qh} {Q : qQ} (jb : JTB gg n m t hd w X Y bm BX BY) (jt : JT h.2 r gg n m t hd w X Y bm BX BY) (eb : blw m e) (cb : c = 2 ∨ c = 3 ∨ c = 4 ∨ c = 5 ∨ c = 8) (hq : Q (some (.inr (.inl (ofe n t hd X Y bm BX BY c e)))) h) :
    qM l D (d + 3, 0, 0) m_Mo_ofEdge [.inr (.inr 280), .inl e, .inl c] h Q := sorry
end
section
/-! ===== the twin's judge ===== -/
set_option maxRecDepth 100000 in
theorem Mo_ju_31 {l : Launch} {D : qD} {d n m : Nat} {r gg g : Int} {t hd w X Y bm BX BY : Int → Int} {v0 : Int → Int → Int} {h : qh} {Q : qQ} (jb : JTB gg n m t hd w X Y bm BX BY) (jt : JT v0 r gg n m t hd w X Y bm BX BY) (hq : Q (some (.inr (.inl (jS0 t hd X Y bm BX BY m)))) (h.1, v0)) :
    qR l D (d + 6, 0, 0) m_Mo_judge 31 (fun r h' => Q r ((h'.1.1, h.1.2.1, h.1.2.2), h'.2)) [some (.inr (.inr (280))), some (.inl (g)), some (.inl (0)), some (.inr (.inl (0))), none, some (.inl (0)), none, none, none] [] ((h.1.1, 0, 0), v0) := sorry
set_option maxRecDepth 100000 in
theorem Mo_ju_145 {l : Launch} {D : qD} {d n m : Nat} {r gg g c pt : Int} {t hd w nm X Y bm BX BY : Int → Int} {v0 : Int → Int → Int} {h : qh} {Q : qQ} (jb : JTB gg n m t hd w X Y bm BX BY) (jt : JT v0 r gg n m t hd w X Y bm BX BY) (hnm : ∀ i, blw n i → v0 282 (r + 195 + i) = nm i ∧ 0 ≤ nm i ∧ nm i ≤ 100) (cp : (c = 1 ∧ pt = 0) ∨ (c = 6 ∧ pt = 1)) (hq : Q (some (.inr (.inl (sof (fun i => sof (fun k => bz (jPq pt nm X Y i k)) i.toNat) n)))) (h.1, v0)) :
    qR l D (d + 6, 0, 0) m_Mo_judge 145 (fun r h' => Q r ((h'.1.1, h.1.2.1, h.1.2.2), h'.2)) [some (.inr (.inr (280))), some (.inl (g)), some (.inl (c)), some (.inr (.inl (0))), none, some (.inl (0)), none, none, none] [] ((h.1.1, 0, 0), v0) := sorry
theorem ofe_b {n m : Nat} {t hd w X Y bm BX BY : Int → Int} {c e : Int} (gv : GV n m t hd w) (db : DB n m X Y bm BX BY) (eb : blw m e) : 0 ≤ ofe n t hd X Y bm BX BY c e ∧ ofe n t hd X Y bm BX BY c e ≤ 10000000000 := sorry
set_option maxRecDepth 100000 in
theorem Mo_ju_267 {l : Launch} {D : qD} {d n m : Nat} {r gg g c : Int} {t hd w X Y bm BX BY : Int → Int} {v0 : Int → Int → Int} {h : qh} {Q : qQ} (jb : JTB gg n m t hd w X Y bm BX BY) (jt : JT v0 r gg n m t hd w X Y bm BX BY) (cb : c = 2 ∨ c = 3 ∨ c = 4 ∨ c = 5 ∨ c = 8) (hq : Q (some (.inr (.inl (sof (ofe n t hd X Y bm BX BY c) m)))) (h.1, v0)) :
    qR l D (d + 6, 0, 0) m_Mo_judge 267 (fun r h' => Q r ((h'.1.1, h.1.2.1, h.1.2.2), h'.2)) [some (.inr (.inr (280))), some (.inl (g)), some (.inl (c)), some (.inr (.inl (0))), none, some (.inl (0)), none, none, none] [] ((h.1.1, 0, 0), v0) := sorry
theorem sof_cg2 {F G : Int → Int} : ∀ {n : Nat}, (∀ k : Int, 0 ≤ k → k < n → F k = G k) → sof F n = sof G n := sorry
set_option maxRecDepth 100000 in
theorem Mo_ju_22 {l : Launch} {D : qD} {d n m : Nat} {r gg g c : Int} {t hd w nm X Y bm BX BY : Int → Int} {v0 : Int → Int → Int} {h : qh} {Q : qQ} (jb : JTB gg n m t hd w X Y bm BX BY) (jt : JT v0 r gg n m t hd w X Y bm BX BY) (hnm : ∀ i, blw n i → v0 282 (r + 195 + i) = nm i ∧ 0 ≤ nm i ∧ nm i ≤ 100) (n0 : 0 < n) (cb : 0 ≤ c ∧ c ≤ 9) (hq : ∀ s v, FW [] bPt v0 v → JUD n m t hd nm X Y bm BX BY c s → Q (some (.inr (.inl s))) (h.1, v)) :
    w_Mo_judge_22 l D (d + 5) (0, 0) (fun r h' => Q r ((h'.1.1, h.1.2.1, h.1.2.2), h'.2)) [some (.inr (.inr (280))), some (.inl (g)), some (.inl (c)), none, none, none, none, none, none] [] ((h.1.1, 0, 0), v0) := sorry
end
section
/-! ===== labels ===== -/
/-- the middle of a piece -/
def mdp (t hd X bm BX : Int → Int) (e k : Int) : Int := (ept t hd X bm BX e k + ept t hd X bm BX e (k + 1)) / 2
/-- a point that is free -/
def fre (n : Nat) (X Y nm : Int → Int) (P : List (Int × Int)) (x y : Int) : Prop := (∀ i, blw n i → ¬ inB X Y nm i x y) ∧ (x, y) ∉ P
/-- the first middle that is free -/
def LBF (n : Nat) (t hd nm X Y bm BX BY : Int → Int) (P : List (Int × Int)) (f k : Int) : Prop := (0 ≤ k ∧ k ≤ bm f) ∧ fre n X Y nm P (mdp t hd X bm BX f k) (mdp t hd Y bm BY f k) ∧ ∀ j : Int, 0 ≤ j → j < k → ¬ fre n X Y nm P (mdp t hd X bm BX f j) (mdp t hd Y bm BY f j)
/-- none is free -/
def LBN (n : Nat) (t hd nm X Y bm BX BY : Int → Int) (P : List (Int × Int)) (f : Int) : Prop := ∀ j : Int, 0 ≤ j → j ≤ bm f → ¬ fre n X Y nm P (mdp t hd X bm BX f j) (mdp t hd Y bm BY f j)
/-- the labels of the first edges -/
def LBS (n : Nat) (t hd w nm X Y bm BX BY : Int → Int) : Nat → List (Int × Int) → Prop
  | 0, P => P = []
  | f + 1, P => (LBS n t hd w nm X Y bm BX BY f P ∧ (w f ≤ 1 ∨ LBN n t hd nm X Y bm BX BY P f)) ∨ ∃ P' k, LBS n t hd w nm X Y bm BX BY f P' ∧ 1 < w f ∧ LBF n t hd nm X Y bm BX BY P' f k ∧ P = P' ++ [(mdp t hd X bm BX f k, mdp t hd Y bm BY f k)]
/-- what is answered -/
def LBQ (n : Nat) (t hd w nm X Y bm BX BY : Int → Int) (e wh r : Int) : Prop := ∃ P, LBS n t hd w nm X Y bm BX BY e.toNat P ∧ ((r = -2147483648 ∧ (w e ≤ 1 ∨ LBN n t hd nm X Y bm BX BY P e)) ∨ (1 < w e ∧ ∃ k, LBF n t hd nm X Y bm BX BY P e k ∧ r = if wh = 0 then mdp t hd X bm BX e k else mdp t hd Y bm BY e k))
theorem LBF_un {n : Nat} {t hd nm X Y bm BX BY : Int → Int} {P : List (Int × Int)} {f k k' : Int} (a : LBF n t hd nm X Y bm BX BY P f k) (b : LBF n t hd nm X Y bm BX BY P f k') : k = k' := sorry
theorem LBF_no {n : Nat} {t hd nm X Y bm BX BY : Int → Int} {P : List (Int × Int)} {f k : Int} (a : LBF n t hd nm X Y bm BX BY P f k) (b : LBN n t hd nm X Y bm BX BY P f) : False := sorry
theorem LBS_un {n : Nat} {t hd w nm X Y bm BX BY : Int → Int} : ∀ {f : Nat} {P P' : List (Int × Int)}, LBS n t hd w nm X Y bm BX BY f P → LBS n t hd w nm X Y bm BX BY f P' → P = P' := sorry
theorem LBQ_un {n : Nat} {t hd w nm X Y bm BX BY : Int → Int} {e wh r r' : Int} (a : LBQ n t hd w nm X Y bm BX BY e wh r) (b : LBQ n t hd w nm X Y bm BX BY e wh r') : r = r' := sorry
theorem mdp_b {n m : Nat} {t hd w X Y bm BX BY : Int → Int} {e k : Int} (gv : GV n m t hd w) (db : DB n m X Y bm BX BY) (eb : blw m e) (k0 : 0 ≤ k) : cBd (mdp t hd X bm BX e k) ∧ cBd (mdp t hd Y bm BY e k) := sorry
/-- the component's labels -/
def lbA (v : Int → Int → Int) (f : Int) (P : List (Int × Int)) : Prop := ∀ x y : Int, (x, y) ∈ P ↔ ∃ k : Int, (0 ≤ k ∧ k < f) ∧ v 279 k ≠ 0 ∧ v 277 k = x ∧ v 278 k = y
/-- what is known behind an edge -/
def lbR (n : Nat) (t hd w nm X Y bm BX BY : Int → Int) (v : Int → Int → Int) (f : Int) : Prop := ∃ P, LBS n t hd w nm X Y bm BX BY f.toNat P ∧ ((v 279 f = 0 ∧ (w f ≤ 1 ∨ LBN n t hd nm X Y bm BX BY P f)) ∨ (v 279 f = 1 ∧ 1 < w f ∧ ∃ k, LBF n t hd nm X Y bm BX BY P f k ∧ v 277 f = mdp t hd X bm BX f k ∧ v 278 f = mdp t hd Y bm BY f k))
set_option maxRecDepth 100000 in
theorem sp_DH_isFree {l : Launch} {D : qD} {d n m : Nat} {g o f x y : Int} {t hd w nm X Y bm BX BY : Int → Int} {h : qh} {Q : qQ} (jb : JB o n m t hd w X Y bm BX BY) (hw : HW h.2) (hg : CG h.2 g n m t hd w) (dv : DV h.2 o n m X Y bm BX BY) (hnm : ∀ i, blw n i → h.2 (g + 3) i = nm i ∧ 0 ≤ nm i ∧ nm i ≤ 100) (fb : 0 ≤ f ∧ f < 48) (ex : h.2 277 f = x) (ey : h.2 278 f = y) (bx : cBd x ∧ cBd y)
    (h1 : (∀ i, blw n i → ¬ inB X Y nm i x y) → (∀ k : Int, 0 ≤ k → k < f → ¬ (h.2 279 k ≠ 0 ∧ h.2 277 k = x ∧ h.2 278 k = y)) → Q (some (.inl 1)) h) (h0 : ((∃ i, blw n i ∧ inB X Y nm i x y) ∨ ∃ k : Int, (0 ≤ k ∧ k < f) ∧ h.2 279 k ≠ 0 ∧ h.2 277 k = x ∧ h.2 278 k = y) → Q (some (.inl 0)) h) :
    qM l D (d + 2, 0, 0) m_DH_isFree [.inr (.inr 0), .inr (.inr g), .inr (.inr o), .inl f] h Q := sorry
set_option maxRecDepth 100000 in
theorem DH_lb_47 {l : Launch} {D : qD} {d n m : Nat} {g o e gi wh : Int} {t hd w nm X Y bm BX BY : Int → Int} {v0 : Int → Int → Int} {h : qh} {Q : qQ} (jb : JB o n m t hd w X Y bm BX BY) (hw : HW v0) (hg : CG v0 g n m t hd w) (dv : DV v0 o n m X Y bm BX BY) (hnm : ∀ i, blw n i → v0 (g + 3) i = nm i ∧ 0 ≤ nm i ∧ nm i ≤ 100) (eb : blw m e) (hwh : wh = 0 ∨ wh = 1)
    (hq : ∀ r v, FW [277, 278, 279] [] v0 v → LBQ n t hd w nm X Y bm BX BY e wh r → Q (some (.inl r)) (h.1, v)) :
    qR l D (d + 3, 0, 0) m_DH_label 47 (fun r h' => Q r ((h'.1.1, h.1.2.1, h.1.2.2), h'.2)) [some (.inr (.inr (0))), some (.inl (gi)), some (.inl (e)), some (.inl (wh)), some (.inr (.inr (o))), some (.inr (.inr (g))), some (.inl (0)), none] [] ((h.1.1, 0, 0), v0) := sorry
end
section
/-! ===== labels (the twin's) ===== -/
/-- how long the names are, as the twin keeps it -/
def TNM (v : Int → Int → Int) (r : Int) (n : Nat) (nm : Int → Int) : Prop := ∀ i, blw n i → v 282 (r + 195 + i) = nm i ∧ 0 ≤ nm i ∧ nm i ≤ 100
/-- the twin's labels -/
def lbT (v : Int → Int → Int) (P : List (Int × Int)) : Prop := v 280 150 = P.length ∧ ∀ (j : Nat) (q : Int × Int), P[j]? = some q → v 387 j = q.1 ∧ v 388 j = q.2
theorem lbT_i {v : Int → Int → Int} {P : List (Int × Int)} (h : lbT v P) (x y : Int) : (x, y) ∈ P ↔ ∃ j : Int, (0 ≤ j ∧ j < P.length) ∧ v 387 j = x ∧ v 388 j = y := sorry
theorem box_f2 {v : Int → Int → Int} {r gg i x y : Int} {n m : Nat} {t hd w nm X Y bm BX BY : Int → Int} (jb : JTB gg n m t hd w X Y bm BX BY) (jt : JT v r gg n m t hd w X Y bm BX BY) (tn : TNM v r n nm) (hi : blw n i) : (inB X Y nm i x y → f_Mo_isInBox i x y v = 1) ∧ (¬ inB X Y nm i x y → f_Mo_isInBox i x y v = 0) ∧ p_Mo_isInBox i x y v := sorry
set_option maxRecDepth 100000 in
theorem sp_Mo_finds {l : Launch} {D : qD} {d n m : Nat} {r gg e : Int} {t hd w nm X Y bm BX BY : Int → Int} {P : List (Int × Int)} {h : qh} {Q : qQ} (jb : JTB gg n m t hd w X Y bm BX BY) (jt : JT h.2 r gg n m t hd w X Y bm BX BY) (tn : TNM h.2 r n nm) (eb : blw m e) (lt : lbT h.2 P) (pl : P.length < 48)
    (h1 : ∀ k, LBF n t hd nm X Y bm BX BY P e k → Q (some (.inl 1)) (h.1, up2 (up2 h.2 387 P.length (mdp t hd X bm BX e k)) 388 P.length (mdp t hd Y bm BY e k))) (h0 : LBN n t hd nm X Y bm BX BY P e → Q (some (.inl 0)) h) :
    qM l D (d + 3, 0, 0) m_Mo_finds [.inr (.inr 280), .inl e] h Q := sorry
abbrev lPt : List (Int × Int) := [(280, 150)]
theorem JT.fl {v v' : Int → Int → Int} {r gg : Int} {n m : Nat} {t hd w X Y bm BX BY : Int → Int} (jt : JT v r gg n m t hd w X Y bm BX BY) (kv : FW [387, 388] lPt v v') : JT v' r gg n m t hd w X Y bm BX BY := sorry
theorem lbT_s {v : Int → Int → Int} {P : List (Int × Int)} {x y L : Int} (h : lbT v P) (eL : L = P.length) : lbT (up2 (up2 (up2 v 387 L x) 388 L y) 280 150 (L + 1)) (P ++ [(x, y)]) := sorry
set_option maxRecDepth 100000 in
theorem Mo_lb_52 {l : Launch} {D : qD} {d n m : Nat} {r gg gi e wh : Int} {t hd w nm X Y bm BX BY : Int → Int} {v0 : Int → Int → Int} {h : qh} {Q : qQ} (jb : JTB gg n m t hd w X Y bm BX BY) (jt : JT v0 r gg n m t hd w X Y bm BX BY) (tn : TNM v0 r n nm) (eb : blw m e) (we : 1 < w e) (z150 : v0 280 150 = 0) (hwh : wh = 0 ∨ wh = 1)
    (hq : ∀ s v, FW [387, 388] lPt v0 v → LBQ n t hd w nm X Y bm BX BY e wh s → Q (some (.inl s)) (h.1, v)) :
    qR l D (d + 4, 0, 0) m_Mo_label 52 (fun r h' => Q r ((h'.1.1, h.1.2.1, h.1.2.2), h'.2)) [some (.inr (.inr (280))), some (.inl (gi)), some (.inl (e)), some (.inl (wh)), some (.inl (0))] [] ((h.1.1, 0, 0), v0) := sorry
end
section
/-! ===== dots: what they are ===== -/
/-- a dot is set -/
def pst (p : Int → Int → Int) (x y v : Int) : Int → Int → Int := fun a b => if a = x ∧ b = y then v else p a b
def itf (f : Int → (Int → Int → Int) → (Int → Int → Int)) : Nat → (Int → Int → Int) → (Int → Int → Int)
  | 0, p => p
  | k + 1, p => f k (itf f k p)
theorem itf_s {f : Int → (Int → Int → Int) → (Int → Int → Int)} {k : Int} {p : Int → Int → Int} (k0 : 0 ≤ k) : itf f (k + 1).toNat p = f k (itf f k.toNat p) := sorry
/-- a place, scaled -/
def scl (v lo hi n : Int) : Int := (v - lo) * (n - 1) / max 1 (hi - lo)
theorem scl_b {v lo hi n : Int} (h0 : lo ≤ v) (h1 : v ≤ hi) (n1 : 1 ≤ n) : 0 ≤ scl v lo hi n ∧ scl v lo hi n < n := sorry
/-- a dot of a line -/
def lnp (a c n k : Int) : Int := if n = 0 then a else a + (2 * k * (c - a) + n) / (2 * n)
theorem lnp_b {a c n k lo hi : Int} (n0 : 0 ≤ n) (h : -n ≤ c - a ∧ c - a ≤ n) (k0 : 0 ≤ k) (k1 : k ≤ n) (a0 : lo ≤ a ∧ a ≤ hi) (c0 : lo ≤ c ∧ c ≤ hi) : lo ≤ lnp a c n k ∧ lnp a c n k ≤ hi := sorry
/-- how many steps a line has -/
def lnN (a b c e : Int) : Int := max ((c - a).natAbs : Int) ((e - b).natAbs : Int)
def linP (p : Int → Int → Int) (a b c e v : Int) : Int → Int → Int := itf (fun k q => pst q (lnp a c (lnN a b c e) k) (lnp b e (lnN a b c e) k) v) (lnN a b c e + 1).toNat p
/-- an edge -/
def dtE (t hd X Y bm BX BY es : Int → Int) (lf rt tp bt w hh e : Int) (p : Int → Int → Int) : Int → Int → Int := itf (fun k q => linP q (scl (ept t hd X bm BX e k) lf rt w) (scl (ept t hd Y bm BY e k) tp bt hh) (scl (ept t hd X bm BX e (k + 1)) lf rt w) (scl (ept t hd Y bm BY e (k + 1)) tp bt hh) (1 + es e)) (bm e + 1).toNat p
/-- all edges -/
def dtM (t hd X Y bm BX BY es : Int → Int) (lf rt tp bt w hh : Int) (k : Nat) : Int → Int → Int := itf (fun e q => dtE t hd X Y bm BX BY es lf rt tp bt w hh e q) k (fun _ _ => 0)
/-- and nodes -/
def dtP (m : Nat) (t hd X Y bm BX BY es ns : Int → Int) (lf rt tp bt w hh : Int) (k : Nat) : Int → Int → Int := itf (fun i q => pst q (scl (X i) lf rt w) (scl (Y i) tp bt hh) (128 + Int.tdiv (ns i) 2)) k (dtM t hd X Y bm BX BY es lf rt tp bt w hh m)
/-- how many are set -/
noncomputable def dtC (w hh : Int) (p : Int → Int → Int) : Int := sof (fun y => sof (fun x => bz (p x y ≠ 0)) w.toNat) hh.toNat
theorem sof_ap {F : Int → Int} (a : Nat) : ∀ b : Nat, sof F (a + b) = sof F a + sof (fun x => F (a + x)) b := sorry
theorem sof_wh {F : Int → Int} {w : Nat} : ∀ hh : Nat, sof F (w * hh) = sof (fun y => sof (fun x => F (w * y + x)) w) hh := sorry
theorem sof_cut {F : Int → Int} {a b : Nat} (ab : a ≤ b) (h : ∀ k : Int, a ≤ k → k < b → F k = 0) : sof F b = sof F a := sorry
/-- every point of an edge is in the frame -/
theorem ept_in {n m : Nat} {t hd w X bm BX : Int → Int} {e k : Int} (gv : GV n m t hd w) (eb : blw m e) (k0 : 0 ≤ k) : sP X bm BX n m 0 (ept t hd X bm BX e k) := sorry
/-- a picture, kept in a row -/
def PLN (f : Int → Int) (W w hh : Int) (p : Int → Int → Int) : Prop := ∀ x y : Int, (0 ≤ x ∧ x < w) → (0 ≤ y ∧ y < hh) → f (W * y + x) = p x y
theorem PLN_st {f f' : Int → Int} {W w hh x y c : Int} {p : Int → Int → Int} (h : PLN f W w hh p) (wW : w ≤ W) (hx : 0 ≤ x ∧ x < w) (hy : 0 ≤ y ∧ y < hh) (h1 : f' (W * y + x) = c) (h2 : ∀ i, i ≠ W * y + x → f' i = f i) : PLN f' W w hh (pst p x y c) := sorry
theorem PLN_in {W w hh x y : Int} (wW : w ≤ W) (W64 : W ≤ 64) (h64 : hh ≤ 64) (hx : 0 ≤ x ∧ x < w) (hy : 0 ≤ y ∧ y < hh) : (0 ≤ W * y ∧ W * y ≤ 4032) ∧ 0 ≤ W * y + x ∧ W * y + x < 4096 := sorry
theorem dtC_c {f : Int → Int} {w hh : Int} {p : Int → Int → Int} (w0 : 0 ≤ w) (h0 : 0 ≤ hh) (h : PLN f w w hh p) : sof (fun k => bz (f k ≠ 0)) (w * hh).toNat = dtC w hh p := sorry
theorem dtC_t {f : Int → Int} {w hh : Int} {p : Int → Int → Int} (w0 : 0 ≤ w ∧ w ≤ 64) (h0 : 0 ≤ hh ∧ hh ≤ 64) (h : PLN f 64 w hh p) (z : ∀ x y : Int, (0 ≤ x ∧ x < 64) → (0 ≤ y ∧ y < 64) → (w ≤ x ∨ hh ≤ y) → f (64 * y + x) = 0) : sof (fun k => bz (f k ≠ 0)) 4096 = dtC w hh p := sorry
end
section
/-! ===== dots: scaled, line (the component's) ===== -/
theorem l2i_64 {x : Int} (h0 : 0 ≤ x) (h1 : x < 64) : z_l2i x = x := sorry
theorem s_ldiv_ap (K : qK) (ls : List (Option qv)) (x y : Int) (r : List qv) (h : qh) : s_ldiv K ls (.inr (.inl y) :: .inr (.inl x) :: r) h = (y ≠ 0 ∧ K ls (.inr (.inl (w64 (x.tdiv y))) :: r) h) := sorry
set_option maxRecDepth 100000 in
theorem sp_DH_scaled {l : Launch} {D : qD} {d : Nat} {x lo hi n : Int} {h : qh} {Q : qQ} (x0 : lo ≤ x) (x1 : x ≤ hi) (bl : cBd lo) (bh : cBd hi) (n1 : 1 ≤ n ∧ n ≤ 64) (hq : Q (some (.inl (scl x lo hi n))) h) :
    qM l D (d + 2, 0, 0) m_DH_scaled [.inr (.inr 0), .inl x, .inl lo, .inl hi, .inl n] h Q := sorry
set_option maxRecDepth 100000 in
theorem sp_DH_line {l : Launch} {D : qD} {d : Nat} {a b c e z w hh : Int} {p : Int → Int → Int} {h : qh} {Q : qQ} (hw : HW h.2) (e32 : h.2 0 32 = w) (w1 : 1 ≤ w ∧ w ≤ 64) (h64 : hh ≤ 64) (pl : PLN (h.2 276) w w hh p) (ha : 0 ≤ a ∧ a < w) (hb : 0 ≤ b ∧ b < hh) (hc : 0 ≤ c ∧ c < w) (he : 0 ≤ e ∧ e < hh)
    (hq : ∀ v, FW [276] [] h.2 v → PLN (v 276) w w hh (linP p a b c e z) → Q none (h.1, v)) :
    qM l D (d + 2, 0, 0) m_DH_line [.inr (.inr 0), .inl a, .inl b, .inl c, .inl e, .inl z] h Q := sorry
end
section
/-! ===== dots (the component's) ===== -/
def isPl (gi pl pn pe : Int) : Prop := (gi = 0 ∧ pl = 3 ∧ pn = 16 ∧ pe = 17) ∨ (gi = 1 ∧ pl = 30 ∧ pn = 43 ∧ pe = 44) ∨ (gi = 2 ∧ pl = 57 ∧ pn = 70 ∧ pe = 71) ∨ (gi = 3 ∧ pl = 84 ∧ pn = 97 ∧ pe = 98)
theorem isPl_f {v : Int → Int → Int} {gi pl pn pe : Int} (hw : HW v) (h : isPl gi pl pn pe) : (v 2 gi = pl ∧ v pl 4 = pn ∧ v pl 5 = pe) ∧ (q_shp pl = (1, 0) ∧ q_shp pn = (100, 72) ∧ q_shp pe = (100, 144)) ∧ (0 ≤ gi ∧ gi < 4) ∧ (0 ≤ pl ∧ pl < 90) ∧ (0 ≤ pn ∧ pn < 100) ∧ 0 ≤ pe ∧ pe < 100 := sorry
abbrev kPd : List (Int × Int) := [(0, 32), (0, 33)]
/-- all that the dots are made of -/
def DTC (v : Int → Int → Int) (g o : Int) (n m : Nat) (t hd w X Y bm BX BY es ns : Int → Int) (pn pe : Int) : Prop := (HW v ∧ CG v g n m t hd w ∧ DV v o n m X Y bm BX BY) ∧ (∀ i, blw n i → v pn (3 * i) = ns i ∧ 0 ≤ ns i ∧ ns i ≤ 255) ∧ ∀ e, blw m e → v pe (3 * e) = es e ∧ 0 ≤ es e ∧ es e ≤ 255
theorem DTC.fw {v v' : Int → Int → Int} {g o gi pl pn pe : Int} {n m : Nat} {t hd w X Y bm BX BY es ns : Int → Int} (h : DTC v g o n m t hd w X Y bm BX BY es ns pn pe) (dr : isD o) (ip : isPl gi pl pn pe) (kv : FW [276] kPd v v') : DTC v' g o n m t hd w X Y bm BX BY es ns pn pe := sorry
set_option maxRecDepth 100000 in
theorem DH_do_491 {l : Launch} {D : qD} {d : Nat} {gi w hh o g lf tp rt bt : Int} {v : Int → Int → Int} {x12 x13 x14 : Option qv} {h : qh} {Q : qQ} (hw : HW v) (w1 : 1 ≤ w ∧ w ≤ 64) (h1 : 1 ≤ hh ∧ hh ≤ 64) (hq : Q (some (.inl (sof (fun k => bz (v 276 k ≠ 0)) (w * hh).toNat))) (h.1, v)) :
    qR l D (d + 3, 0, 0) m_DH_dots 491 (fun r h' => Q r ((h'.1.1, h.1.2.1, h.1.2.2), h'.2)) [some (.inr (.inr (0))), some (.inl (gi)), some (.inl (w)), some (.inl (hh)), some (.inr (.inr (o))), some (.inr (.inr (g))), some (.inl (lf)), some (.inl (tp)), some (.inl (rt)), some (.inl (bt)), some (.inl (0)), some (.inl (0)), x12, x13, x14] [] ((h.1.1, 0, 0), v) := sorry
set_option maxRecDepth 100000 in
theorem DH_do_407 {l : Launch} {D : qD} {d n m : Nat} {g o gi pl pn pe hh wd lf rt tp bt : Int} {t hd w X Y bm BX BY es ns : Int → Int} {v0 : Int → Int → Int} {x11 x12 x13 x14 : Option qv} {h : qh} {Q : qQ} (jb : JB o n m t hd w X Y bm BX BY) (dc : DTC v0 g o n m t hd w X Y bm BX BY es ns pn pe) (ip : isPl gi pl pn pe) (w1 : 1 ≤ wd ∧ wd ≤ 64) (h1 : 1 ≤ hh ∧ hh ≤ 64) (ar : ARF n m X Y bm BX BY lf rt tp bt) (pv0 : PLN (v0 276) wd wd hh (dtM t hd X Y bm BX BY es lf rt tp bt wd hh m))
    (hq : ∀ v, FW [276] [] v0 v → PLN (v 276) wd wd hh (dtP m t hd X Y bm BX BY es ns lf rt tp bt wd hh n) → Q (some (.inl (dtC wd hh (dtP m t hd X Y bm BX BY es ns lf rt tp bt wd hh n)))) (h.1, v)) :
    qR l D (d + 3, 0, 0) m_DH_dots 407 (fun r h' => Q r ((h'.1.1, h.1.2.1, h.1.2.2), h'.2)) [some (.inr (.inr (0))), some (.inl (gi)), some (.inl (wd)), some (.inl (hh)), some (.inr (.inr (o))), some (.inr (.inr (g))), some (.inl (lf)), some (.inl (tp)), some (.inl (rt)), some (.inl (bt)), some (.inl (0)), x11, x12, x13, x14] [] ((h.1.1, 0, 0), v0) := sorry
set_option maxRecDepth 100000 in
theorem DH_do_262 {l : Launch} {D : qD} {d n m : Nat} {g o gi pl pn pe hh wd lf rt tp bt : Int} {t hd w X Y bm BX BY es ns : Int → Int} {v0 : Int → Int → Int} {x11 x12 x13 x14 : Option qv} {h : qh} {Q : qQ} (jb : JB o n m t hd w X Y bm BX BY) (dc : DTC v0 g o n m t hd w X Y bm BX BY es ns pn pe) (ip : isPl gi pl pn pe) (w1 : 1 ≤ wd ∧ wd ≤ 64) (h1 : 1 ≤ hh ∧ hh ≤ 64) (ar : ARF n m X Y bm BX BY lf rt tp bt) (e32 : v0 0 32 = wd) (pv0 : PLN (v0 276) wd wd hh (fun _ _ => 0))
    (hq : ∀ v, FW [276] [] v0 v → PLN (v 276) wd wd hh (dtP m t hd X Y bm BX BY es ns lf rt tp bt wd hh n) → Q (some (.inl (dtC wd hh (dtP m t hd X Y bm BX BY es ns lf rt tp bt wd hh n)))) (h.1, v)) :
    qR l D (d + 3, 0, 0) m_DH_dots 262 (fun r h' => Q r ((h'.1.1, h.1.2.1, h.1.2.2), h'.2)) [some (.inr (.inr (0))), some (.inl (gi)), some (.inl (wd)), some (.inl (hh)), some (.inr (.inr (o))), some (.inr (.inr (g))), some (.inl (lf)), some (.inl (tp)), some (.inl (rt)), some (.inl (bt)), some (.inl (0)), x11, x12, x13, x14] [] ((h.1.1, 0, 0), v0) := sorry
set_option maxRecDepth 100000 in
theorem DH_do_224 {l : Launch} {D : qD} {d n m : Nat} {g o gi pl pn pe hh wd lf rt tp bt : Int} {t hd w X Y bm BX BY es ns : Int → Int} {v0 : Int → Int → Int} {x10 x11 x12 x13 x14 : Option qv} {h : qh} {Q : qQ} (jb : JB o n m t hd w X Y bm BX BY) (dc : DTC v0 g o n m t hd w X Y bm BX BY es ns pn pe) (ip : isPl gi pl pn pe) (w1 : 1 ≤ wd ∧ wd ≤ 64) (h1 : 1 ≤ hh ∧ hh ≤ 64) (ar : ARF n m X Y bm BX BY lf rt tp bt)
    (hq : ∀ v, FW [276] kPd v0 v → v 0 32 = wd → v 0 33 = hh → PLN (v 276) wd wd hh (dtP m t hd X Y bm BX BY es ns lf rt tp bt wd hh n) → Q (some (.inl (dtC wd hh (dtP m t hd X Y bm BX BY es ns lf rt tp bt wd hh n)))) (h.1, v)) :
    w_DH_dots_224 l D (d + 2) (0, 0) (fun r h' => Q r ((h'.1.1, h.1.2.1, h.1.2.2), h'.2)) [some (.inr (.inr (0))), some (.inl (gi)), some (.inl (wd)), some (.inl (hh)), some (.inr (.inr (o))), some (.inr (.inr (g))), some (.inl (lf)), some (.inl (tp)), some (.inl (rt)), some (.inl (bt)), x10, x11, x12, x13, x14] [] ((h.1.1, 0, 0), v0) := sorry
set_option maxRecDepth 100000 in
theorem DH_do_66 {l : Launch} {D : qD} {d n m : Nat} {g o gi pl pn pe hh wd : Int} {t hd w X Y bm BX BY es ns : Int → Int} {v0 : Int → Int → Int} {x11 x12 x13 x14 : Option qv} {h : qh} {Q : qQ} (jb : JB o n m t hd w X Y bm BX BY) (dc : DTC v0 g o n m t hd w X Y bm BX BY es ns pn pe) (ip : isPl gi pl pn pe) (n0 : 0 < n) (w1 : 1 ≤ wd ∧ wd ≤ 64) (h1 : 1 ≤ hh ∧ hh ≤ 64)
    (hq : ∀ v lf rt tp bt, FW [276] kPd v0 v → v 0 32 = wd → v 0 33 = hh → ARF n m X Y bm BX BY lf rt tp bt → PLN (v 276) wd wd hh (dtP m t hd X Y bm BX BY es ns lf rt tp bt wd hh n) → Q (some (.inl (dtC wd hh (dtP m t hd X Y bm BX BY es ns lf rt tp bt wd hh n)))) (h.1, v)) :
    qR l D (d + 3, 0, 0) m_DH_dots 66 (fun r h' => Q r ((h'.1.1, h.1.2.1, h.1.2.2), h'.2)) [some (.inr (.inr (0))), some (.inl (gi)), some (.inl (wd)), some (.inl (hh)), some (.inr (.inr (o))), some (.inr (.inr (g))), some (.inl (2147483647)), some (.inl (2147483647)), some (.inl (-2147483648)), some (.inl (-2147483648)), some (.inl (-1)), x11, x12, x13, x14] [] ((h.1.1, 0, 0), v0) := sorry
end
section
/-! ===== dots (the twin's) ===== -/
abbrev tPd : List (Int × Int) := [(280, 153), (280, 154), (280, 155), (280, 156), (280, 173), (280, 174)]
/-- nothing outside -/
def ZRO (f : Int → Int) (w hh : Int) : Prop := ∀ x y : Int, (0 ≤ x ∧ x < 64) → (0 ≤ y ∧ y < 64) → (w ≤ x ∨ hh ≤ y) → f (64 * y + x) = 0
theorem JT.fd {v v' : Int → Int → Int} {r gg : Int} {n m : Nat} {t hd w X Y bm BX BY : Int → Int} (jt : JT v r gg n m t hd w X Y bm BX BY) (kv : FW [398] tPd v v') : JT v' r gg n m t hd w X Y bm BX BY := sorry
set_option maxRecDepth 100000 in
theorem sp_Mo_dotX {l : Launch} {D : qD} {d : Nat} {x lo hi n : Int} {h : qh} {Q : qQ} (e1 : h.2 280 153 = lo) (e2 : h.2 280 154 = hi) (e3 : h.2 280 173 = n) (x0 : lo ≤ x) (x1 : x ≤ hi) (bl : cBd lo) (bh : cBd hi) (n1 : 1 ≤ n ∧ n ≤ 64) (hq : Q (some (.inl (scl x lo hi n))) h) :
    qM l D (d + 2, 0, 0) m_Mo_dotX [.inr (.inr 280), .inl x] h Q := sorry
set_option maxRecDepth 100000 in
theorem sp_Mo_dotY {l : Launch} {D : qD} {d : Nat} {x lo hi n : Int} {h : qh} {Q : qQ} (e1 : h.2 280 155 = lo) (e2 : h.2 280 156 = hi) (e3 : h.2 280 174 = n) (x0 : lo ≤ x) (x1 : x ≤ hi) (bl : cBd lo) (bh : cBd hi) (n1 : 1 ≤ n ∧ n ≤ 64) (hq : Q (some (.inl (scl x lo hi n))) h) :
    qM l D (d + 2, 0, 0) m_Mo_dotY [.inr (.inr 280), .inl x] h Q := sorry
set_option maxRecDepth 100000 in
theorem sp_Mo_dotLine {l : Launch} {D : qD} {d : Nat} {a b c e z w hh : Int} {p : Int → Int → Int} {h : qh} {Q : qQ} (hT : TW h.2) (w1 : w ≤ 64) (h64 : hh ≤ 64) (pl : PLN (h.2 398) 64 w hh p) (zr : ZRO (h.2 398) w hh) (ha : 0 ≤ a ∧ a < w) (hb : 0 ≤ b ∧ b < hh) (hc : 0 ≤ c ∧ c < w) (he : 0 ≤ e ∧ e < hh)
    (hq : ∀ v, FW [398] [] h.2 v → PLN (v 398) 64 w hh (linP p a b c e z) → ZRO (v 398) w hh → Q none (h.1, v)) :
    qM l D (d + 2, 0, 0) m_Mo_dotLine [.inr (.inr 280), .inl a, .inl b, .inl c, .inl e, .inl z] h Q := sorry
set_option maxRecDepth 100000 in
theorem Mo_do_259 {l : Launch} {D : qD} {d : Nat} {gi w hh : Int} {v : Int → Int → Int} {h : qh} {Q : qQ} (hT : TW v) (hq : Q (some (.inl (sof (fun k => bz (v 398 k ≠ 0)) 4096))) (h.1, v)) :
    qR l D (d + 4, 0, 0) m_Mo_dots 259 (fun r h' => Q r ((h'.1.1, h.1.2.1, h.1.2.2), h'.2)) [some (.inr (.inr (280))), some (.inl (gi)), some (.inl (w)), some (.inl (hh)), some (.inl (0)), some (.inl (0))] [] ((h.1.1, 0, 0), v) := sorry
/-- the frame and the sizes, as the twin keeps them -/
def DTF (v : Int → Int → Int) (lf rt tp bt w hh : Int) : Prop := (v 280 153 = lf ∧ v 280 154 = rt ∧ v 280 155 = tp ∧ v 280 156 = bt) ∧ v 280 173 = w ∧ v 280 174 = hh
def DTS (v : Int → Int → Int) (gi : Int) (n m : Nat) (es ns : Int → Int) : Prop := (0 ≤ gi ∧ gi < 4) ∧ (∀ i, blw n i → v 328 (216 * gi + 3 * i) = ns i ∧ 0 ≤ ns i ∧ ns i ≤ 255) ∧ ∀ e, blw m e → v 328 (216 * gi + 72 + 3 * e) = es e ∧ 0 ≤ es e ∧ es e ≤ 255
set_option maxRecDepth 100000 in
theorem Mo_do_188 {l : Launch} {D : qD} {d n m : Nat} {r gg gi hh wd lf rt tp bt : Int} {t hd w X Y bm BX BY es ns : Int → Int} {v0 : Int → Int → Int} {x5 : Option qv} {h : qh} {Q : qQ} (jb : JTB gg n m t hd w X Y bm BX BY) (jt : JT v0 r gg n m t hd w X Y bm BX BY) (df : DTF v0 lf rt tp bt wd hh) (dsh : DTS v0 gi n m es ns) (w1 : 1 ≤ wd ∧ wd ≤ 64) (h1 : 1 ≤ hh ∧ hh ≤ 64) (ar : ARF n m X Y bm BX BY lf rt tp bt) (pv0 : PLN (v0 398) 64 wd hh (dtM t hd X Y bm BX BY es lf rt tp bt wd hh m)) (zr0 : ZRO (v0 398) wd hh)
    (hq : ∀ v, FW [398] [] v0 v → PLN (v 398) 64 wd hh (dtP m t hd X Y bm BX BY es ns lf rt tp bt wd hh n) → Q (some (.inl (dtC wd hh (dtP m t hd X Y bm BX BY es ns lf rt tp bt wd hh n)))) (h.1, v)) :
    qR l D (d + 4, 0, 0) m_Mo_dots 188 (fun r h' => Q r ((h'.1.1, h.1.2.1, h.1.2.2), h'.2)) [some (.inr (.inr (280))), some (.inl (gi)), some (.inl (wd)), some (.inl (hh)), some (.inl (0)), x5] [] ((h.1.1, 0, 0), v0) := sorry
set_option maxRecDepth 100000 in
theorem Mo_do_72 {l : Launch} {D : qD} {d n m : Nat} {r gg gi hh wd lf rt tp bt : Int} {t hd w X Y bm BX BY es ns : Int → Int} {v0 : Int → Int → Int} {x5 : Option qv} {h : qh} {Q : qQ} (jb : JTB gg n m t hd w X Y bm BX BY) (jt : JT v0 r gg n m t hd w X Y bm BX BY) (df : DTF v0 lf rt tp bt wd hh) (dsh : DTS v0 gi n m es ns) (w1 : 1 ≤ wd ∧ wd ≤ 64) (h1 : 1 ≤ hh ∧ hh ≤ 64) (ar : ARF n m X Y bm BX BY lf rt tp bt) (pv0 : PLN (v0 398) 64 wd hh (fun _ _ => 0)) (zr0 : ZRO (v0 398) wd hh)
    (hq : ∀ v, FW [398] [] v0 v → PLN (v 398) 64 wd hh (dtP m t hd X Y bm BX BY es ns lf rt tp bt wd hh n) → Q (some (.inl (dtC wd hh (dtP m t hd X Y bm BX BY es ns lf rt tp bt wd hh n)))) (h.1, v)) :
    qR l D (d + 4, 0, 0) m_Mo_dots 72 (fun r h' => Q r ((h'.1.1, h.1.2.1, h.1.2.2), h'.2)) [some (.inr (.inr (280))), some (.inl (gi)), some (.inl (wd)), some (.inl (hh)), some (.inl (0)), x5] [] ((h.1.1, 0, 0), v0) := sorry
set_option maxRecDepth 100000 in
theorem Mo_do_30 {l : Launch} {D : qD} {d n m : Nat} {r gg gi hh wd : Int} {t hd w X Y bm BX BY es ns : Int → Int} {v0 : Int → Int → Int} {h : qh} {Q : qQ} (jb : JTB gg n m t hd w X Y bm BX BY) (jt : JT v0 r gg n m t hd w X Y bm BX BY) (dsh : DTS v0 gi n m es ns) (n0 : 0 < n) (w1 : 1 ≤ wd ∧ wd ≤ 64) (h1 : 1 ≤ hh ∧ hh ≤ 64)
    (hq : ∀ v lf rt tp bt, FW [398] tPd v0 v → v 280 173 = wd → v 280 174 = hh → ARF n m X Y bm BX BY lf rt tp bt → PLN (v 398) 64 wd hh (dtP m t hd X Y bm BX BY es ns lf rt tp bt wd hh n) → Q (some (.inl (dtC wd hh (dtP m t hd X Y bm BX BY es ns lf rt tp bt wd hh n)))) (h.1, v)) :
    w_Mo_dots_30 l D (d + 3) (0, 0) (fun r h' => Q r ((h'.1.1, h.1.2.1, h.1.2.2), h'.2)) [some (.inr (.inr (280))), some (.inl (gi)), some (.inl (wd)), some (.inl (hh)), none, none] [] ((h.1.1, 0, 0), v0) := sorry
end
section
/-! printed by gen/gtx.py: writers that take strings -/
theorem lc_DH_562 : q_gC "DrawingHouse" 562 0 m_String_length := sorry
theorem lc_DH_568 : q_gC "DrawingHouse" 568 1 m_String_charAt := sorry
def w_DH_outWord_25 (l : Launch) (D : qD) (d0 : Nat) (B : Nat × Nat) (Q : qQ) : qK := (s_vret Q)
theorem DH_outWord_25 {l : Launch} {D : qD} {d0 : Nat} {B : Nat × Nat} {Q : qQ} : qI (w_DH_outWord_25 l D d0 B Q) (qR l D (d0 + 1, B) m_DH_outWord 25 Q) := sorry
def w_DH_outWord_2 (l : Launch) (D : qD) (d0 : Nat) (B : Nat × Nat) (Q : qQ) : qK := (s_iload 2 (s_aload 1 (s_invC l D (d0, 0, 0) m_String_length 0 (s_icmp_ge (w_DH_outWord_25 l D d0 B Q) (s_aload 0 (s_aload 1 (s_iload 2 (s_invC l D (d0, 0, 0) m_String_charAt 1 (s_invV l D (d0, 0, 0) 0 m_DH_out 1 (s_iinc 2 (1) (qR l D (d0 + 1, B) m_DH_outWord 2 Q)))))))))))
theorem DH_outWord_2 {l : Launch} {D : qD} {d0 : Nat} {B : Nat × Nat} {Q : qQ} : qI (w_DH_outWord_2 l D d0 B Q) (qR l D (d0 + 1, B) m_DH_outWord 2 Q) := sorry
def w_DH_outWord_0 (l : Launch) (D : qD) (d0 : Nat) (B : Nat × Nat) (Q : qQ) : qK := (s_ic (0) (s_istore 2 (qR l D (d0 + 1, B) m_DH_outWord 2 Q)))
theorem DH_outWord_0 {l : Launch} {D : qD} {d0 : Nat} {B : Nat × Nat} {Q : qQ} : qI (w_DH_outWord_0 l D d0 B Q) (qR l D (d0 + 1, B) m_DH_outWord 0 Q) := sorry
theorem lm_DH_609 : q_gV "DrawingHouse" 609 0 2 m_DH_outGroup := sorry
theorem lm_DH_601 : q_gV "DrawingHouse" 601 0 2 m_DH_outOf := sorry
def w_DH_outGroup_162 (l : Launch) (D : qD) (d0 : Nat) (B : Nat × Nat) (Q : qQ) : qK := (s_vret Q)
theorem DH_outGroup_162 {l : Launch} {D : qD} {d0 : Nat} {B : Nat × Nat} {Q : qQ} : qI (w_DH_outGroup_162 l D d0 B Q) (qR l D (d0 + 1, B) m_DH_outGroup 162 Q) := sorry
def w_DH_outGroup_156 (l : Launch) (D : qD) (d0 : Nat) (B : Nat × Nat) (Q : qQ) : qK := (s_iinc 3 (1) (qR l D (d0 + 1, B) m_DH_outGroup 79 Q))
theorem DH_outGroup_156 {l : Launch} {D : qD} {d0 : Nat} {B : Nat × Nat} {Q : qQ} : qI (w_DH_outGroup_156 l D d0 B Q) (qR l D (d0 + 1, B) m_DH_outGroup 156 Q) := sorry
def w_DH_outGroup_100 (l : Launch) (D : qD) (d0 : Nat) (B : Nat × Nat) (Q : qQ) : qK := (s_aload 0 (s_sc (-35) (s_invV l D (d0, 0, 0) 0 m_DH_outWord 1 (s_aload 0 (s_aload 1 (s_getR 3 4 (s_ic (8) (s_iload 3 (s_imul (s_aload 1 (s_getR 3 13 (s_iload 3 (s_iald (s_invV l D (d0, 0, 0) 0 m_DH_outRow 3 (s_aload 0 (s_sc (-36) (s_invV l D (d0, 0, 0) 0 m_DH_outWord 1 (s_aload 0 (s_ic (10) (s_invV l D (d0, 0, 0) 0 m_DH_out 1 (s_aload 0 (s_aload 1 (s_iload 3 (s_invV l D (d0, 0, 0) 0 m_DH_outGroup 2 (s_aload 0 (s_ic (125) (s_invV l D (d0, 0, 0) 0 m_DH_out 1 (s_aload 0 (s_ic (10) (s_invV l D (d0, 0, 0) 0 m_DH_out 1 (w_DH_outGroup_156 l D d0 B Q)))))))))))))))))))))))))))))))
theorem DH_outGroup_100 {l : Launch} {D : qD} {d0 : Nat} {B : Nat × Nat} {Q : qQ} : qI (w_DH_outGroup_100 l D d0 B Q) (qR l D (d0 + 1, B) m_DH_outGroup 100 Q) := sorry
def w_DH_outGroup_79 (l : Launch) (D : qD) (d0 : Nat) (B : Nat × Nat) (Q : qQ) : qK := (s_iload 3 (s_aload 1 (s_getI 3 2 (s_icmp_ge (w_DH_outGroup_162 l D d0 B Q) (s_aload 1 (s_getR 3 12 (s_iload 3 (s_iald (s_iload 2 (s_icmp_eq (w_DH_outGroup_100 l D d0 B Q) (w_DH_outGroup_156 l D d0 B Q)))))))))))
theorem DH_outGroup_79 {l : Launch} {D : qD} {d0 : Nat} {B : Nat × Nat} {Q : qQ} : qI (w_DH_outGroup_79 l D d0 B Q) (qR l D (d0 + 1, B) m_DH_outGroup 79 Q) := sorry
def w_DH_outGroup_77 (l : Launch) (D : qD) (d0 : Nat) (B : Nat × Nat) (Q : qQ) : qK := (s_ic (1) (s_istore 3 (qR l D (d0 + 1, B) m_DH_outGroup 79 Q)))
theorem DH_outGroup_77 {l : Launch} {D : qD} {d0 : Nat} {B : Nat × Nat} {Q : qQ} : qI (w_DH_outGroup_77 l D d0 B Q) (qR l D (d0 + 1, B) m_DH_outGroup 77 Q) := sorry
def w_DH_outGroup_71 (l : Launch) (D : qD) (d0 : Nat) (B : Nat × Nat) (Q : qQ) : qK := (s_iinc 3 (1) (qR l D (d0 + 1, B) m_DH_outGroup 2 Q))
theorem DH_outGroup_71 {l : Launch} {D : qD} {d0 : Nat} {B : Nat × Nat} {Q : qQ} : qI (w_DH_outGroup_71 l D d0 B Q) (qR l D (d0 + 1, B) m_DH_outGroup 71 Q) := sorry
def w_DH_outGroup_59 (l : Launch) (D : qD) (d0 : Nat) (B : Nat × Nat) (Q : qQ) : qK := (s_aload 0 (s_ic (59) (s_invV l D (d0, 0, 0) 0 m_DH_out 1 (s_aload 0 (s_ic (10) (s_invV l D (d0, 0, 0) 0 m_DH_out 1 (w_DH_outGroup_71 l D d0 B Q)))))))
theorem DH_outGroup_59 {l : Launch} {D : qD} {d0 : Nat} {B : Nat × Nat} {Q : qQ} : qI (w_DH_outGroup_59 l D d0 B Q) (qR l D (d0 + 1, B) m_DH_outGroup 59 Q) := sorry
def w_DH_outGroup_23 (l : Launch) (D : qD) (d0 : Nat) (B : Nat × Nat) (Q : qQ) : qK := (s_aload 0 (s_sc (-33) (s_invV l D (d0, 0, 0) 0 m_DH_outWord 1 (s_aload 0 (s_aload 1 (s_iload 3 (s_invV l D (d0, 0, 0) 0 m_DH_outName 2 (s_aload 1 (s_getR 3 6 (s_iload 3 (s_iald (s_ic (1) (s_icmp_le (w_DH_outGroup_59 l D d0 B Q) (s_aload 0 (s_sc (-34) (s_aload 1 (s_getR 3 6 (s_iload 3 (s_iald (s_invV l D (d0, 0, 0) 0 m_DH_outOf 2 (w_DH_outGroup_59 l D d0 B Q)))))))))))))))))))))
theorem DH_outGroup_23 {l : Launch} {D : qD} {d0 : Nat} {B : Nat × Nat} {Q : qQ} : qI (w_DH_outGroup_23 l D d0 B Q) (qR l D (d0 + 1, B) m_DH_outGroup 23 Q) := sorry
def w_DH_outGroup_2 (l : Launch) (D : qD) (d0 : Nat) (B : Nat × Nat) (Q : qQ) : qK := (s_iload 3 (s_aload 1 (s_getI 3 0 (s_icmp_ge (w_DH_outGroup_77 l D d0 B Q) (s_aload 1 (s_getR 3 7 (s_iload 3 (s_iald (s_iload 2 (s_icmp_eq (w_DH_outGroup_23 l D d0 B Q) (w_DH_outGroup_71 l D d0 B Q)))))))))))
theorem DH_outGroup_2 {l : Launch} {D : qD} {d0 : Nat} {B : Nat × Nat} {Q : qQ} : qI (w_DH_outGroup_2 l D d0 B Q) (qR l D (d0 + 1, B) m_DH_outGroup 2 Q) := sorry
def w_DH_outGroup_0 (l : Launch) (D : qD) (d0 : Nat) (B : Nat × Nat) (Q : qQ) : qK := (s_ic (0) (s_istore 3 (qR l D (d0 + 1, B) m_DH_outGroup 2 Q)))
theorem DH_outGroup_0 {l : Launch} {D : qD} {d0 : Nat} {B : Nat × Nat} {Q : qQ} : qI (w_DH_outGroup_0 l D d0 B Q) (qR l D (d0 + 1, B) m_DH_outGroup 0 Q) := sorry
def w_DH_outGraph_101 (l : Launch) (D : qD) (d0 : Nat) (B : Nat × Nat) (Q : qQ) : qK := (s_vret Q)
theorem DH_outGraph_101 {l : Launch} {D : qD} {d0 : Nat} {B : Nat × Nat} {Q : qQ} : qI (w_DH_outGraph_101 l D d0 B Q) (qR l D (d0 + 1, B) m_DH_outGraph 101 Q) := sorry
def w_DH_outGraph_83 (l : Launch) (D : qD) (d0 : Nat) (B : Nat × Nat) (Q : qQ) : qK := (s_aload 0 (s_ic (59) (s_invV l D (d0, 0, 0) 0 m_DH_out 1 (s_aload 0 (s_ic (10) (s_invV l D (d0, 0, 0) 0 m_DH_out 1 (s_iinc 2 (1) (qR l D (d0 + 1, B) m_DH_outGraph 8 Q))))))))
theorem DH_outGraph_83 {l : Launch} {D : qD} {d0 : Nat} {B : Nat × Nat} {Q : qQ} : qI (w_DH_outGraph_83 l D d0 B Q) (qR l D (d0 + 1, B) m_DH_outGraph 83 Q) := sorry
def w_DH_outGraph_46 (l : Launch) (D : qD) (d0 : Nat) (B : Nat × Nat) (Q : qQ) : qK := (s_invV l D (d0, 0, 0) 0 m_DH_outWord 1 (s_aload 0 (s_aload 1 (s_aload 1 (s_getR 3 9 (s_iload 2 (s_iald (s_invV l D (d0, 0, 0) 0 m_DH_outName 2 (s_aload 1 (s_getR 3 10 (s_iload 2 (s_iald (s_ic (1) (s_icmp_le (w_DH_outGraph_83 l D d0 B Q) (s_aload 0 (s_sc (-39) (s_aload 1 (s_getR 3 10 (s_iload 2 (s_iald (s_invV l D (d0, 0, 0) 0 m_DH_outOf 2 (w_DH_outGraph_83 l D d0 B Q))))))))))))))))))))))
theorem DH_outGraph_46 {l : Launch} {D : qD} {d0 : Nat} {B : Nat × Nat} {Q : qQ} : qI (w_DH_outGraph_46 l D d0 B Q) (qR l D (d0 + 1, B) m_DH_outGraph 46 Q) := sorry
def w_DH_outGraph_43 (l : Launch) (D : qD) (d0 : Nat) (B : Nat × Nat) (Q : qQ) : qK := (s_sc (-38) (w_DH_outGraph_46 l D d0 B Q))
theorem DH_outGraph_43 {l : Launch} {D : qD} {d0 : Nat} {B : Nat × Nat} {Q : qQ} : qI (w_DH_outGraph_43 l D d0 B Q) (qR l D (d0 + 1, B) m_DH_outGraph 43 Q) := sorry
def w_DH_outGraph_8 (l : Launch) (D : qD) (d0 : Nat) (B : Nat × Nat) (Q : qQ) : qK := (s_iload 2 (s_aload 1 (s_getI 3 1 (s_icmp_ge (w_DH_outGraph_101 l D d0 B Q) (s_aload 0 (s_aload 1 (s_aload 1 (s_getR 3 8 (s_iload 2 (s_iald (s_invV l D (d0, 0, 0) 0 m_DH_outName 2 (s_aload 0 (s_aload 1 (s_getR 3 11 (s_iload 2 (s_bald (s_if_eq (w_DH_outGraph_43 l D d0 B Q) (s_sc (-37) (w_DH_outGraph_46 l D d0 B Q)))))))))))))))))))
theorem DH_outGraph_8 {l : Launch} {D : qD} {d0 : Nat} {B : Nat × Nat} {Q : qQ} : qI (w_DH_outGraph_8 l D d0 B Q) (qR l D (d0 + 1, B) m_DH_outGraph 8 Q) := sorry
def w_DH_outGraph_0 (l : Launch) (D : qD) (d0 : Nat) (B : Nat × Nat) (Q : qQ) : qK := (s_aload 0 (s_aload 1 (s_ic (0) (s_invV l D (d0, 0, 0) 0 m_DH_outGroup 2 (s_ic (0) (s_istore 2 (qR l D (d0 + 1, B) m_DH_outGraph 8 Q)))))))
theorem DH_outGraph_0 {l : Launch} {D : qD} {d0 : Nat} {B : Nat × Nat} {Q : qQ} : qI (w_DH_outGraph_0 l D d0 B Q) (qR l D (d0 + 1, B) m_DH_outGraph 0 Q) := sorry
theorem lc_Mo_448 : q_gC "DrawingHouseModel" 448 0 m_String_length := sorry
theorem lc_Mo_453 : q_gC "DrawingHouseModel" 453 1 m_String_charAt := sorry
def w_Mo_write_0_25 (l : Launch) (D : qD) (d0 : Nat) (B : Nat × Nat) (Q : qQ) : qK := (s_vret Q)
theorem Mo_write_0_25 {l : Launch} {D : qD} {d0 : Nat} {B : Nat × Nat} {Q : qQ} : qI (w_Mo_write_0_25 l D d0 B Q) (qR l D (d0 + 1, B) m_Mo_write_0 25 Q) := sorry
def w_Mo_write_0_2 (l : Launch) (D : qD) (d0 : Nat) (B : Nat × Nat) (Q : qQ) : qK := (s_iload 2 (s_aload 1 (s_invC l D (d0, 0, 0) m_String_length 0 (s_icmp_ge (w_Mo_write_0_25 l D d0 B Q) (s_aload 0 (s_aload 1 (s_iload 2 (s_invC l D (d0, 0, 0) m_String_charAt 1 (s_Mo_write_1 d0 (s_iinc 2 (1) (qR l D (d0 + 1, B) m_Mo_write_0 2 Q)))))))))))
theorem Mo_write_0_2 {l : Launch} {D : qD} {d0 : Nat} {B : Nat × Nat} {Q : qQ} : qI (w_Mo_write_0_2 l D d0 B Q) (qR l D (d0 + 1, B) m_Mo_write_0 2 Q) := sorry
def w_Mo_write_0_0 (l : Launch) (D : qD) (d0 : Nat) (B : Nat × Nat) (Q : qQ) : qK := (s_ic (0) (s_istore 2 (qR l D (d0 + 1, B) m_Mo_write_0 2 Q)))
theorem Mo_write_0_0 {l : Launch} {D : qD} {d0 : Nat} {B : Nat × Nat} {Q : qQ} : qI (w_Mo_write_0_0 l D d0 B Q) (qR l D (d0 + 1, B) m_Mo_write_0 0 Q) := sorry
theorem lm_Mo_1290 : q_gV "DrawingHouseModel" 1290 18 1 m_Mo_write_0 := sorry
def w_Mo_writeGroup_177 (l : Launch) (D : qD) (d0 : Nat) (B : Nat × Nat) (Q : qQ) : qK := (s_vret Q)
theorem Mo_writeGroup_177 {l : Launch} {D : qD} {d0 : Nat} {B : Nat × Nat} {Q : qQ} : qI (w_Mo_writeGroup_177 l D d0 B Q) (qR l D (d0 + 1, B) m_Mo_writeGroup 177 Q) := sorry
def w_Mo_writeGroup_171 (l : Launch) (D : qD) (d0 : Nat) (B : Nat × Nat) (Q : qQ) : qK := (s_iinc 2 (1) (qR l D (d0 + 1, B) m_Mo_writeGroup 83 Q))
theorem Mo_writeGroup_171 {l : Launch} {D : qD} {d0 : Nat} {B : Nat × Nat} {Q : qQ} : qI (w_Mo_writeGroup_171 l D d0 B Q) (qR l D (d0 + 1, B) m_Mo_writeGroup 171 Q) := sorry
def w_Mo_writeGroup_113 (l : Launch) (D : qD) (d0 : Nat) (B : Nat × Nat) (Q : qQ) : qK := (s_aload 0 (s_sc (-71) (s_invV l D (d0, 0, 0) 18 m_Mo_write_0 1 (s_aload 0 (s_aload 0 (s_getI 18 5 (s_ic (459) (s_iadd (s_ic (8) (s_iload 2 (s_imul (s_iadd (s_aload 0 (s_getR 18 2 (s_aload 0 (s_getI 18 5 (s_ic (523) (s_iadd (s_iload 2 (s_iadd (s_iald (s_invV l D (d0, 0, 0) 18 m_Mo_writeName 2 (s_aload 0 (s_sc (-72) (s_invV l D (d0, 0, 0) 18 m_Mo_write_0 1 (s_aload 0 (s_iload 2 (s_invV l D (d0, 0, 0) 18 m_Mo_writeGroup 1 (s_aload 0 (s_sc (-73) (s_invV l D (d0, 0, 0) 18 m_Mo_write_0 1 (w_Mo_writeGroup_171 l D d0 B Q))))))))))))))))))))))))))))))))
theorem Mo_writeGroup_113 {l : Launch} {D : qD} {d0 : Nat} {B : Nat × Nat} {Q : qQ} : qI (w_Mo_writeGroup_113 l D d0 B Q) (qR l D (d0 + 1, B) m_Mo_writeGroup 113 Q) := sorry
def w_Mo_writeGroup_83 (l : Launch) (D : qD) (d0 : Nat) (B : Nat × Nat) (Q : qQ) : qK := (s_iload 2 (s_aload 0 (s_Mo_groups d0 (s_icmp_ge (w_Mo_writeGroup_177 l D d0 B Q) (s_aload 0 (s_getR 18 2 (s_aload 0 (s_getI 18 5 (s_ic (531) (s_iadd (s_iload 2 (s_iadd (s_iald (s_iload 1 (s_icmp_eq (w_Mo_writeGroup_113 l D d0 B Q) (w_Mo_writeGroup_171 l D d0 B Q))))))))))))))))
theorem Mo_writeGroup_83 {l : Launch} {D : qD} {d0 : Nat} {B : Nat × Nat} {Q : qQ} : qI (w_Mo_writeGroup_83 l D d0 B Q) (qR l D (d0 + 1, B) m_Mo_writeGroup 83 Q) := sorry
def w_Mo_writeGroup_79 (l : Launch) (D : qD) (d0 : Nat) (B : Nat × Nat) (Q : qQ) : qK := (s_iload 1 (s_ic (1) (s_iadd (s_istore 2 (qR l D (d0 + 1, B) m_Mo_writeGroup 83 Q)))))
theorem Mo_writeGroup_79 {l : Launch} {D : qD} {d0 : Nat} {B : Nat × Nat} {Q : qQ} : qI (w_Mo_writeGroup_79 l D d0 B Q) (qR l D (d0 + 1, B) m_Mo_writeGroup 79 Q) := sorry
def w_Mo_writeGroup_73 (l : Launch) (D : qD) (d0 : Nat) (B : Nat × Nat) (Q : qQ) : qK := (s_iinc 2 (1) (qR l D (d0 + 1, B) m_Mo_writeGroup 2 Q))
theorem Mo_writeGroup_73 {l : Launch} {D : qD} {d0 : Nat} {B : Nat × Nat} {Q : qQ} : qI (w_Mo_writeGroup_73 l D d0 B Q) (qR l D (d0 + 1, B) m_Mo_writeGroup 73 Q) := sorry
def w_Mo_writeGroup_66 (l : Launch) (D : qD) (d0 : Nat) (B : Nat × Nat) (Q : qQ) : qK := (s_aload 0 (s_sc (-70) (s_invV l D (d0, 0, 0) 18 m_Mo_write_0 1 (w_Mo_writeGroup_73 l D d0 B Q))))
theorem Mo_writeGroup_66 {l : Launch} {D : qD} {d0 : Nat} {B : Nat × Nat} {Q : qQ} : qI (w_Mo_writeGroup_66 l D d0 B Q) (qR l D (d0 + 1, B) m_Mo_writeGroup 66 Q) := sorry
def w_Mo_writeGroup_22 (l : Launch) (D : qD) (d0 : Nat) (B : Nat × Nat) (Q : qQ) : qK := (s_aload 0 (s_sc (-67) (s_invV l D (d0, 0, 0) 18 m_Mo_write_0 1 (s_aload 0 (s_iload 2 (s_invV l D (d0, 0, 0) 18 m_Mo_writeNode 1 (s_aload 0 (s_iload 2 (s_Mo_size d0 (s_ic (1) (s_icmp_le (w_Mo_writeGroup_66 l D d0 B Q) (s_aload 0 (s_sc (-68) (s_invV l D (d0, 0, 0) 18 m_Mo_write_0 1 (s_aload 0 (s_aload 0 (s_iload 2 (s_Mo_size d0 (s_invV l D (d0, 0, 0) 18 m_Mo_writeNumber 1 (s_aload 0 (s_sc (-69) (s_invV l D (d0, 0, 0) 18 m_Mo_write_0 1 (w_Mo_writeGroup_66 l D d0 B Q)))))))))))))))))))))))
theorem Mo_writeGroup_22 {l : Launch} {D : qD} {d0 : Nat} {B : Nat × Nat} {Q : qQ} : qI (w_Mo_writeGroup_22 l D d0 B Q) (qR l D (d0 + 1, B) m_Mo_writeGroup 22 Q) := sorry
def w_Mo_writeGroup_2 (l : Launch) (D : qD) (d0 : Nat) (B : Nat × Nat) (Q : qQ) : qK := (s_iload 2 (s_aload 0 (s_Mo_nodes d0 (s_icmp_ge (w_Mo_writeGroup_79 l D d0 B Q) (s_aload 0 (s_iload 2 (s_Mo_groupOf d0 (s_iload 1 (s_icmp_eq (w_Mo_writeGroup_22 l D d0 B Q) (w_Mo_writeGroup_73 l D d0 B Q))))))))))
theorem Mo_writeGroup_2 {l : Launch} {D : qD} {d0 : Nat} {B : Nat × Nat} {Q : qQ} : qI (w_Mo_writeGroup_2 l D d0 B Q) (qR l D (d0 + 1, B) m_Mo_writeGroup 2 Q) := sorry
def w_Mo_writeGroup_0 (l : Launch) (D : qD) (d0 : Nat) (B : Nat × Nat) (Q : qQ) : qK := (s_ic (0) (s_istore 2 (qR l D (d0 + 1, B) m_Mo_writeGroup 2 Q)))
theorem Mo_writeGroup_0 {l : Launch} {D : qD} {d0 : Nat} {B : Nat × Nat} {Q : qQ} : qI (w_Mo_writeGroup_0 l D d0 B Q) (qR l D (d0 + 1, B) m_Mo_writeGroup 0 Q) := sorry
def w_Mo_writeEdges_95 (l : Launch) (D : qD) (d0 : Nat) (B : Nat × Nat) (Q : qQ) : qK := (s_vret Q)
theorem Mo_writeEdges_95 {l : Launch} {D : qD} {d0 : Nat} {B : Nat × Nat} {Q : qQ} : qI (w_Mo_writeEdges_95 l D d0 B Q) (qR l D (d0 + 1, B) m_Mo_writeEdges 95 Q) := sorry
def w_Mo_writeEdges_82 (l : Launch) (D : qD) (d0 : Nat) (B : Nat × Nat) (Q : qQ) : qK := (s_aload 0 (s_sc (-70) (s_invV l D (d0, 0, 0) 18 m_Mo_write_0 1 (s_iinc 1 (1) (qR l D (d0 + 1, B) m_Mo_writeEdges 2 Q)))))
theorem Mo_writeEdges_82 {l : Launch} {D : qD} {d0 : Nat} {B : Nat × Nat} {Q : qQ} : qI (w_Mo_writeEdges_82 l D d0 B Q) (qR l D (d0 + 1, B) m_Mo_writeEdges 82 Q) := sorry
def w_Mo_writeEdges_38 (l : Launch) (D : qD) (d0 : Nat) (B : Nat × Nat) (Q : qQ) : qK := (s_invV l D (d0, 0, 0) 18 m_Mo_write_0 1 (s_aload 0 (s_aload 0 (s_iload 1 (s_Mo_head d0 (s_invV l D (d0, 0, 0) 18 m_Mo_writeNode 1 (s_aload 0 (s_iload 1 (s_Mo_weight d0 (s_ic (1) (s_icmp_le (w_Mo_writeEdges_82 l D d0 B Q) (s_aload 0 (s_sc (-76) (s_invV l D (d0, 0, 0) 18 m_Mo_write_0 1 (s_aload 0 (s_aload 0 (s_iload 1 (s_Mo_weight d0 (s_invV l D (d0, 0, 0) 18 m_Mo_writeNumber 1 (s_aload 0 (s_sc (-69) (s_invV l D (d0, 0, 0) 18 m_Mo_write_0 1 (w_Mo_writeEdges_82 l D d0 B Q)))))))))))))))))))))))
theorem Mo_writeEdges_38 {l : Launch} {D : qD} {d0 : Nat} {B : Nat × Nat} {Q : qQ} : qI (w_Mo_writeEdges_38 l D d0 B Q) (qR l D (d0 + 1, B) m_Mo_writeEdges 38 Q) := sorry
def w_Mo_writeEdges_35 (l : Launch) (D : qD) (d0 : Nat) (B : Nat × Nat) (Q : qQ) : qK := (s_sc (-75) (w_Mo_writeEdges_38 l D d0 B Q))
theorem Mo_writeEdges_35 {l : Launch} {D : qD} {d0 : Nat} {B : Nat × Nat} {Q : qQ} : qI (w_Mo_writeEdges_35 l D d0 B Q) (qR l D (d0 + 1, B) m_Mo_writeEdges 35 Q) := sorry
def w_Mo_writeEdges_2 (l : Launch) (D : qD) (d0 : Nat) (B : Nat × Nat) (Q : qQ) : qK := (s_iload 1 (s_aload 0 (s_Mo_edges d0 (s_icmp_ge (w_Mo_writeEdges_95 l D d0 B Q) (s_aload 0 (s_aload 0 (s_iload 1 (s_Mo_tail d0 (s_invV l D (d0, 0, 0) 18 m_Mo_writeNode 1 (s_aload 0 (s_aload 0 (s_iload 1 (s_Mo_one d0 (s_ic (1) (s_icmp_ne (w_Mo_writeEdges_35 l D d0 B Q) (s_sc (-74) (w_Mo_writeEdges_38 l D d0 B Q)))))))))))))))))
theorem Mo_writeEdges_2 {l : Launch} {D : qD} {d0 : Nat} {B : Nat × Nat} {Q : qQ} : qI (w_Mo_writeEdges_2 l D d0 B Q) (qR l D (d0 + 1, B) m_Mo_writeEdges 2 Q) := sorry
def w_Mo_writeEdges_0 (l : Launch) (D : qD) (d0 : Nat) (B : Nat × Nat) (Q : qQ) : qK := (s_ic (0) (s_istore 1 (qR l D (d0 + 1, B) m_Mo_writeEdges 2 Q)))
theorem Mo_writeEdges_0 {l : Launch} {D : qD} {d0 : Nat} {B : Nat × Nat} {Q : qQ} : qI (w_Mo_writeEdges_0 l D d0 B Q) (qR l D (d0 + 1, B) m_Mo_writeEdges 0 Q) := sorry
end
section
/-! ===== texts: what is written (plain), the component's writers ===== -/
/-- what has been written so far -/
def OUX (sz : Int) (f : Int → Int) (L : List Int) : Prop := sz = L.length ∧ ∀ (j : Nat) (c : Int), j < 4000 → L[j]? = some c → f j = c
theorem OUX_s {sz c : Int} {f f' : Int → Int} {L : List Int} (h : OUX sz f L) (h1 : sz < 4000 → f' sz = c) (h2 : ∀ i : Int, i ≠ sz → f' i = f i) : OUX (sz + 1) f' (L ++ [c]) := sorry
/-- a constant string -/
def wrd (z : Int) : Nat → List Int
  | 0 => []
  | k + 1 => wrd z k ++ [stC z k]
/-- a row of bytes -/
def rwl (f : Int → Int) (a : Int) : Nat → List Int
  | 0 => []
  | k + 1 => rwl f a k ++ [f (a + k)]
theorem wrd_l (z : Int) : ∀ k : Nat, (wrd z k).length = k := sorry
theorem rwl_l (f : Int → Int) (a : Int) : ∀ k : Nat, (rwl f a k).length = k := sorry
/-- how many digits there are behind the first -/
def dgk (a : Nat) : Nat := if a < 10 then 0 else dgk (a / 10) + 1
termination_by a
decreasing_by omega
theorem dgk_lt (a : Nat) : a < 10 ^ (dgk a + 1) := sorry
theorem dgk_le (a : Nat) : dgk a = 0 ∨ 10 ^ dgk a ≤ a := sorry
theorem dgk_9 {a : Nat} (h : a < 10000000000) : dgk a ≤ 9 := sorry
/-- the digits from place k on -/
def dgl (a : Nat) : Nat → List Int
  | 0 => [48 + ((a % 10 : Nat) : Int)]
  | k + 1 => (48 + ((a / 10 ^ (k + 1) % 10 : Nat) : Int)) :: dgl a k
theorem dgl_l (a : Nat) : ∀ k : Nat, (dgl a k).length = k + 1 := sorry
/-- a number -/
def nmb (v : Int) : List Int := (if v < 0 then [45] else []) ++ dgl v.natAbs (dgk v.natAbs)
theorem nmb_l {v : Int} (h : -2147483648 ≤ v ∧ v ≤ 2147483647) : (nmb v).length ≤ 11 := sorry
theorem i2b_c {c : Int} (h : 0 ≤ c ∧ c ≤ 127) : z_i2b c = c := sorry
abbrev oPt : List (Int × Int) := [(0, 29)]
/-- the component's draft -/
def OUC (v : Int → Int → Int) (L : List Int) : Prop := OUX (v 0 29) (v 275) L
set_option maxRecDepth 100000 in
theorem sp_DH_out {l : Launch} {D : qD} {d : Nat} {c : Int} {L : List Int} {h : qh} {Q : qQ} (hw : HW h.2) (ou : OUC h.2 L) (cb : 0 ≤ c ∧ c ≤ 127) (lb : L.length ≤ 2000000) (hq : ∀ v, FW [275] oPt h.2 v → OUC v (L ++ [c]) → Q none (h.1, v)) :
    qM l D (d + 1, 0, 0) m_DH_out [.inr (.inr 0), .inl c] h Q := sorry
set_option maxRecDepth 100000 in
theorem sp_DH_outWord {l : Launch} {D : qD} {d : Nat} {z : Int} {L : List Int} {h : qh} {Q : qQ} (hw : HW h.2) (ou : OUC h.2 L) (hz : z ≤ -2 ∧ -77 < z) (lb : L.length ≤ 1000000) (hq : ∀ v, FW [275] oPt h.2 v → OUC v (L ++ wrd z (stL z).toNat) → Q none (h.1, v)) :
    qM l D (d + 5, 0, 0) m_DH_outWord [.inr (.inr 0), .inr (.inr z)] h Q := sorry
set_option maxRecDepth 100000 in
theorem sp_DH_outRow {l : Launch} {D : qD} {d k : Nat} {a fr s2 : Int} {f : Int → Int} {L : List Int} {h : qh} {Q : qQ} (hw : HW h.2) (ou : OUC h.2 L) (sa : q_shp a = (101, s2)) (a0 : 0 ≤ a) (a275 : a ≠ 275) (a00 : a ≠ 0) (fb : 0 ≤ fr ∧ fr + k ≤ s2) (s2b : s2 ≤ 4000) (hf : ∀ j : Int, fr ≤ j → j < fr + k → h.2 a j = f j ∧ 0 ≤ f j ∧ f j ≤ 127) (k100 : k ≤ 100) (lb : L.length ≤ 1000000) (hq : ∀ v, FW [275] oPt h.2 v → OUC v (L ++ rwl f fr k) → Q none (h.1, v)) :
    qM l D (d + 2, 0, 0) m_DH_outRow [.inr (.inr 0), .inr (.inr a), .inl fr, .inl k] h Q := sorry
end
section
/-! ===== texts: numbers (the component's) ===== -/
theorem s_lrem_ap (K : qK) (ls : List (Option qv)) (x y : Int) (r : List qv) (h : qh) : s_lrem K ls (.inr (.inl y) :: .inr (.inl x) :: r) h = (y ≠ 0 ∧ K ls (.inr (.inl (w64 (x.tmod y))) :: r) h) := sorry
theorem p10_b {j : Nat} (h : j ≤ 9) : 1 ≤ 10 ^ j ∧ 10 ^ j ≤ 1000000000 := sorry
/-- one digit -/
theorem dig_f {a j : Nat} (ha : a ≤ 2147483648) (hj : j ≤ 9) : w64 (Int.tdiv (a : Int) ((10 ^ j : Nat) : Int)) = ((a / 10 ^ j : Nat) : Int) ∧ w64 (Int.tmod ((a / 10 ^ j : Nat) : Int) 10) = ((a / 10 ^ j % 10 : Nat) : Int) ∧ w64 (48 + ((a / 10 ^ j % 10 : Nat) : Int)) = 48 + ((a / 10 ^ j % 10 : Nat) : Int) ∧ z_l2i (48 + ((a / 10 ^ j % 10 : Nat) : Int)) = 48 + ((a / 10 ^ j % 10 : Nat) : Int) := sorry
set_option maxRecDepth 100000 in
theorem sp_DH_outNumber {l : Launch} {D : qD} {d : Nat} {x : Int} {L : List Int} {h : qh} {Q : qQ} (hw : HW h.2) (ou : OUC h.2 L) (xb : -2147483648 ≤ x ∧ x ≤ 2147483647) (lb : L.length ≤ 1000000) (hq : ∀ v, FW [275] oPt h.2 v → OUC v (L ++ nmb x) → Q none (h.1, v)) :
    qM l D (d + 2, 0, 0) m_DH_outNumber [.inr (.inr 0), .inl x] h Q := sorry
end
