section
/-! ===== texts: names, pairs (the component's) ===== -/
set_option maxRecDepth 100000 in
theorem sp_DH_outTwo {l : Launch} {D : qD} {d : Nat} {x y : Int} {L : List Int} {h : qh} {Q : qQ} (hw : HW h.2) (ou : OUC h.2 L) (xb : -2147483648 ≤ x ∧ x ≤ 2147483647) (yb : -2147483648 ≤ y ∧ y ≤ 2147483647) (lb : L.length ≤ 900000) (hq : ∀ v, FW [275] oPt h.2 v → OUC v (L ++ (nmb x ++ [32] ++ nmb y)) → Q none (h.1, v)) :
    qM l D (d + 3, 0, 0) m_DH_outTwo [.inr (.inr 0), .inl x, .inl y] h Q := sorry
set_option maxRecDepth 100000 in
theorem sp_DH_outOf {l : Launch} {D : qD} {d : Nat} {x z : Int} {L : List Int} {h : qh} {Q : qQ} (hw : HW h.2) (ou : OUC h.2 L) (hz : z ≤ -2 ∧ -77 < z) (xb : -2147483648 ≤ x ∧ x ≤ 2147483647) (lb : L.length ≤ 900000) (hq : ∀ v, FW [275] oPt h.2 v → OUC v (L ++ (wrd z (stL z).toNat ++ nmb x ++ [93])) → Q none (h.1, v)) :
    qM l D (d + 6, 0, 0) m_DH_outOf [.inr (.inr 0), .inr (.inr z), .inl x] h Q := sorry
/-- what a text is made of -/
def TXB (n m : Nat) (G : Int) (nm NM sz gr ow ar gs GN : Int → Int) : Prop := ((0 ≤ G ∧ G ≤ 8) ∧ ∀ k : Int, 1 ≤ k → k < G → 0 ≤ ar k ∧ ar k < k) ∧ (∀ i, blw n i → ((0 ≤ nm i ∧ nm i ≤ 8) ∧ (0 ≤ sz i ∧ sz i ≤ 1000000)) ∧ ∀ k : Int, 0 ≤ k → k < nm i → 0 ≤ NM (8 * i + k) ∧ NM (8 * i + k) ≤ 127) ∧ (∀ e, blw m e → ow e = 0 ∨ ow e = 1) ∧ ∀ k : Int, 0 ≤ k → k < G → (0 ≤ gs k ∧ gs k ≤ 8) ∧ ∀ j : Int, 0 ≤ j → j < gs k → 0 ≤ GN (8 * k + j) ∧ GN (8 * k + j) ≤ 127
/-- as the component keeps it -/
def TXC (v : Int → Int → Int) (g : Int) (n m : Nat) (G : Int) (nm NM sz gr ow ar gs GN : Int → Int) : Prop := v g 2 = G ∧ (∀ i, blw n i → (v (g + 3) i = nm i ∧ v (g + 4) i = sz i ∧ v (g + 5) i = gr i) ∧ ∀ k : Int, 0 ≤ k → k < nm i → v (g + 1) (8 * i + k) = NM (8 * i + k)) ∧ (∀ e, blw m e → v (g + 9) e = ow e) ∧ ∀ k : Int, 0 ≤ k → k < G → (v (g + 10) k = ar k ∧ v (g + 11) k = gs k) ∧ ∀ j : Int, 0 ≤ j → j < gs k → v (g + 2) (8 * k + j) = GN (8 * k + j)
theorem TXC.fw {v v' : Int → Int → Int} {g G : Int} {n m : Nat} {nm NM sz gr ow ar gs GN : Int → Int} (h : TXC v g n m G nm NM sz gr ow ar gs GN) (gr' : g + 11 < 187 ∨ 399 ≤ g) (gp : 0 < g) (kv : FW [275] oPt v v') : TXC v' g n m G nm NM sz gr ow ar gs GN := sorry
set_option maxRecDepth 100000 in
theorem sp_DH_outName {l : Launch} {D : qD} {d n m : Nat} {g G i : Int} {t hd w nm NM sz gr ow ar gs GN : Int → Int} {L : List Int} {h : qh} {Q : qQ} (hw : HW h.2) (hg : CG h.2 g n m t hd w) (n24 : n ≤ 24) (tb : TXB n m G nm NM sz gr ow ar gs GN) (tx : TXC h.2 g n m G nm NM sz gr ow ar gs GN) (ib : blw n i) (ou : OUC h.2 L) (lb : L.length ≤ 900000) (hq : ∀ v, FW [275] oPt h.2 v → OUC v (L ++ rwl NM (8 * i) (nm i).toNat) → Q none (h.1, v)) :
    qM l D (d + 3, 0, 0) m_DH_outName [.inr (.inr 0), .inr (.inr g), .inl i] h Q := sorry
end
section
/-! ===== texts: groups, graphs, drawings (plain) ===== -/
/-- a constant word -/
def wz (z : Int) : List Int := wrd z (stL z).toNat
theorem wz_l {z : Int} (hz : z ≤ -2 ∧ -77 < z) : (wz z).length ≤ 20 := sorry
/-- a node's row -/
def ndT (nm NM sz : Int → Int) (i : Int) : List Int := wz (-33) ++ rwl NM (8 * i) (nm i).toNat ++ (if 1 < sz i then wz (-34) ++ nmb (sz i) ++ [93] else []) ++ [59, 10]
def ndG (nm NM sz gr : Int → Int) (q : Int) : Nat → List Int
  | 0 => []
  | k + 1 => ndG nm NM sz gr q k ++ (if gr k = q then ndT nm NM sz k else [])
/-- the groups within a group -/
def gpT (ar gs GN : Int → Int) (H : Int → List Int) (q : Int) : Nat → List Int
  | 0 => []
  | k + 1 => gpT ar gs GN H q k ++ (if 1 ≤ (k : Int) ∧ ar k = q then wz (-35) ++ rwl GN (8 * k) (gs k).toNat ++ wz (-36) ++ [10] ++ H k ++ [125, 10] else [])
/-- a group -/
def gtx (n : Nat) (G : Int) (nm NM sz gr ar gs GN : Int → Int) : Nat → Int → List Int
  | 0, _ => []
  | f + 1, q => ndG nm NM sz gr q n ++ gpT ar gs GN (gtx n G nm NM sz gr ar gs GN f) q G.toNat
theorem ndT_l {n m : Nat} {G i : Int} {nm NM sz gr ow ar gs GN : Int → Int} (tb : TXB n m G nm NM sz gr ow ar gs GN) (ib : blw n i) : (ndT nm NM sz i).length ≤ 62 := sorry
theorem ndG_l {n m : Nat} {G : Int} {nm NM sz gr ow ar gs GN : Int → Int} (tb : TXB n m G nm NM sz gr ow ar gs GN) (q : Int) : ∀ k : Nat, k ≤ n → (ndG nm NM sz gr q k).length ≤ 62 * k := sorry
theorem gpT_l {n m : Nat} {G : Int} {nm NM sz gr ow ar gs GN : Int → Int} {H : Int → List Int} {q : Nat} (tb : TXB n m G nm NM sz gr ow ar gs GN) (hH : ∀ k : Nat, q < k → k < 8 → (H k).length + 1500 ≤ 3000 * 2 ^ (8 - k)) : ∀ k : Nat, (k : Int) ≤ G → (k ≤ q + 1 → (gpT ar gs GN H q k).length = 0) ∧ (q + 1 ≤ k → (gpT ar gs GN H q k).length + 3000 * 2 ^ (9 - k) ≤ 3000 * 2 ^ (8 - q)) := sorry
theorem gtx_l {n m : Nat} {G : Int} {nm NM sz gr ow ar gs GN : Int → Int} (n24 : n ≤ 24) (tb : TXB n m G nm NM sz gr ow ar gs GN) : ∀ (f q : Nat), q < 8 → (gtx n G nm NM sz gr ar gs GN f q).length + 1500 ≤ 3000 * 2 ^ (8 - q) := sorry
/-- an edge's row -/
def egT (t hd w nm NM ow : Int → Int) (e : Int) : List Int := rwl NM (8 * t e) (nm (t e)).toNat ++ (if ow e = 0 then wz (-38) else wz (-37)) ++ rwl NM (8 * hd e) (nm (hd e)).toNat ++ (if 1 < w e then wz (-39) ++ nmb (w e) ++ [93] else []) ++ [59, 10]
def egG (t hd w nm NM ow : Int → Int) : Nat → List Int
  | 0 => []
  | k + 1 => egG t hd w nm NM ow k ++ egT t hd w nm NM ow k
/-- a graph's text -/
def grT (n m : Nat) (G : Int) (t hd w nm NM sz gr ow ar gs GN : Int → Int) : List Int := gtx n G nm NM sz gr ar gs GN 8 0 ++ egG t hd w nm NM ow m
/-- a drawing's text -/
def dnT (nm NM X Y : Int → Int) (i : Int) : List Int := rwl NM (8 * i) (nm i).toNat ++ [32] ++ (nmb (X i) ++ [32] ++ nmb (Y i)) ++ [10]
def dnG (nm NM X Y : Int → Int) : Nat → List Int
  | 0 => []
  | k + 1 => dnG nm NM X Y k ++ dnT nm NM X Y k
def bdG (BX BY : Int → Int) (e : Int) : Nat → List Int
  | 0 => []
  | k + 1 => bdG BX BY e k ++ ([32] ++ (nmb (BX (24 * e + k)) ++ [32] ++ nmb (BY (24 * e + k))))
def deT (t hd bm BX BY : Int → Int) (e : Int) : List Int := (nmb (t e) ++ [32] ++ nmb (hd e)) ++ bdG BX BY e (bm e).toNat ++ [10]
def deG (t hd bm BX BY : Int → Int) : Nat → List Int
  | 0 => []
  | k + 1 => deG t hd bm BX BY k ++ deT t hd bm BX BY k
def drT (n m : Nat) (t hd nm NM X Y bm BX BY : Int → Int) : List Int := dnG nm NM X Y n ++ deG t hd bm BX BY m
theorem egT_l {n m : Nat} {G e : Int} {t hd w nm NM sz gr ow ar gs GN : Int → Int} (gv : GV n m t hd w) (tb : TXB n m G nm NM sz gr ow ar gs GN) (eb : blw m e) : (egT t hd w nm NM ow e).length ≤ 70 := sorry
theorem egG_l {n m : Nat} {G : Int} {t hd w nm NM sz gr ow ar gs GN : Int → Int} (gv : GV n m t hd w) (tb : TXB n m G nm NM sz gr ow ar gs GN) : ∀ k : Nat, k ≤ m → (egG t hd w nm NM ow k).length ≤ 70 * k := sorry
theorem dnG_l {n m : Nat} {G : Int} {nm NM sz gr ow ar gs GN X Y bm BX BY : Int → Int} (tb : TXB n m G nm NM sz gr ow ar gs GN) (db : DB n m X Y bm BX BY) : ∀ k : Nat, k ≤ n → (dnG nm NM X Y k).length ≤ 40 * k := sorry
theorem bdG_l {n m : Nat} {X Y bm BX BY : Int → Int} {e : Int} (db : DB n m X Y bm BX BY) (eb : blw m e) : ∀ k : Nat, (k : Int) ≤ bm e → (bdG BX BY e k).length ≤ 24 * k := sorry
theorem deG_l {n m : Nat} {t hd w X Y bm BX BY : Int → Int} (gv : GV n m t hd w) (db : DB n m X Y bm BX BY) : ∀ k : Nat, k ≤ m → (deG t hd bm BX BY k).length ≤ 700 * k := sorry
end
section
/-! ===== texts: groups, graphs, drawings (the component's) ===== -/
set_option maxRecDepth 100000 in
theorem sp_DH_outGroup {l : Launch} {D : qD} {d n m : Nat} {g G : Int} {t hd w nm NM sz gr ow ar gs GN : Int → Int} (n24 : n ≤ 24) (tb : TXB n m G nm NM sz gr ow ar gs GN) : ∀ (f : Nat) {q : Nat} {L : List Int} {h : qh} {Q : qQ} (_ : HW h.2) (_ : CG h.2 g n m t hd w) (_ : TXC h.2 g n m G nm NM sz gr ow ar gs GN) (_ : OUC h.2 L) (_ : q < 8) (_ : 8 ≤ q + f) (_ : L.length + 3000 * 2 ^ (8 - q) ≤ 800000) (_ : ∀ v, FW [275] oPt h.2 v → OUC v (L ++ gtx n G nm NM sz gr ar gs GN f q) → Q none (h.1, v)), qM l D (d + f + 7, 0, 0) m_DH_outGroup [.inr (.inr 0), .inr (.inr g), .inl q] h Q := sorry
end
section
/-! ===== texts: graphs, drawings (the component's) ===== -/
set_option maxRecDepth 100000 in
theorem sp_DH_outGraph {l : Launch} {D : qD} {d n m : Nat} {g G : Int} {t hd w nm NM sz gr ow ar gs GN : Int → Int} {L : List Int} {h : qh} {Q : qQ} (gv : GV n m t hd w) (tb : TXB n m G nm NM sz gr ow ar gs GN) (hw : HW h.2) (hg : CG h.2 g n m t hd w) (tx : TXC h.2 g n m G nm NM sz gr ow ar gs GN) (ou : OUC h.2 L) (lb : L.length ≤ 1000) (hq : ∀ v, FW [275] oPt h.2 v → OUC v (L ++ grT n m G t hd w nm NM sz gr ow ar gs GN) → Q none (h.1, v)) :
    qM l D (d + 16, 0, 0) m_DH_outGraph [.inr (.inr 0), .inr (.inr g)] h Q := sorry
end
section
/-! ===== texts: the twin's writers ===== -/
abbrev wPt : List (Int × Int) := [(280, 170)]
def OTC (v : Int → Int → Int) (L : List Int) : Prop := OUX (v 280 170) (v 397) L
theorem wr1 {v : Int → Int → Int} {c : Int} {L : List Int} (ou : OTC v L) (cb : 0 ≤ c ∧ c ≤ 127) (lb : L.length ≤ 2000000) : (FW [397] wPt v (g_Mo_write_1 c v) ∧ OTC (g_Mo_write_1 c v) (L ++ [c])) ∧ p_Mo_write_1 c v := sorry
set_option maxRecDepth 100000 in
theorem sp_Mo_write_0 {l : Launch} {D : qD} {d : Nat} {z : Int} {L : List Int} {h : qh} {Q : qQ} (hT : TW h.2) (ou : OTC h.2 L) (hz : z ≤ -2 ∧ -77 < z) (lb : L.length ≤ 1000000) (hq : ∀ v, FW [397] wPt h.2 v → OTC v (L ++ wz z) → Q none (h.1, v)) :
    qM l D (d + 5, 0, 0) m_Mo_write_0 [.inr (.inr 280), .inr (.inr z)] h Q := sorry
set_option maxRecDepth 100000 in
theorem sp_Mo_writeName {l : Launch} {D : qD} {d k : Nat} {at' : Int} {f : Int → Int} {fr : Int} {L : List Int} {h : qh} {Q : qQ} (hT : TW h.2) (ou : OTC h.2 L) (ab : 0 ≤ at' ∧ at' + k ≤ 66836) (hf : ∀ j : Int, 0 ≤ j → j < k → h.2 282 (at' + j) = f (fr + j) ∧ 0 ≤ f (fr + j) ∧ f (fr + j) ≤ 127) (k100 : k ≤ 100) (lb : L.length ≤ 1000000) (hq : ∀ v, FW [397] wPt h.2 v → OTC v (L ++ rwl f fr k) → Q none (h.1, v)) :
    qM l D (d + 2, 0, 0) m_Mo_writeName [.inr (.inr 280), .inl at', .inl k] h Q := sorry
set_option maxRecDepth 100000 in
theorem sp_Mo_writeNumber {l : Launch} {D : qD} {d : Nat} {x : Int} {L : List Int} {h : qh} {Q : qQ} (hT : TW h.2) (ou : OTC h.2 L) (xb : -2147483648 ≤ x ∧ x ≤ 2147483647) (lb : L.length ≤ 1000000) (hq : ∀ v, FW [397] wPt h.2 v → OTC v (L ++ nmb x) → Q none (h.1, v)) :
    qM l D (d + 2, 0, 0) m_Mo_writeNumber [.inr (.inr 280), .inl x] h Q := sorry
end
section
/-! ===== texts: groups, edges (the twin's) ===== -/
theorem wz_67 : wz (-67) = wz (-33) := sorry
theorem wz_68 : wz (-68) = wz (-34) := sorry
theorem wz_69 : wz (-69) = [93] := sorry
theorem wz_70 : wz (-70) = [59, 10] := sorry
theorem wz_71 : wz (-71) = wz (-35) := sorry
theorem wz_72 : wz (-72) = wz (-36) ++ [10] := sorry
theorem wz_73 : wz (-73) = [125, 10] := sorry
theorem wz_74 : wz (-74) = wz (-37) := sorry
theorem wz_75 : wz (-75) = wz (-38) := sorry
theorem wz_76 : wz (-76) = wz (-39) := sorry
/-- what a text is made of, as the twin keeps it -/
def TXT (v : Int → Int → Int) (r : Int) (n m : Nat) (G : Int) (nm NM sz gr ow ar gs GN : Int → Int) : Prop := v 282 (r + 2) = G ∧ (∀ i, blw n i → (v 282 (r + 195 + i) = nm i ∧ v 282 (r + 219 + i) = sz i ∧ v 282 (r + 243 + i) = gr i) ∧ ∀ k : Int, 0 ≤ k → k < nm i → v 282 (r + 3 + 8 * i + k) = NM (8 * i + k)) ∧ (∀ e, blw m e → v 282 (r + 411 + e) = ow e) ∧ ∀ k : Int, 0 ≤ k → k < G → (v 282 (r + 531 + k) = ar k ∧ v 282 (r + 523 + k) = gs k) ∧ ∀ j : Int, 0 ≤ j → j < gs k → v 282 (r + 459 + 8 * k + j) = GN (8 * k + j)
theorem TXT.fw {v v' : Int → Int → Int} {r G : Int} {n m : Nat} {nm NM sz gr ow ar gs GN : Int → Int} (h : TXT v r n m G nm NM sz gr ow ar gs GN) (kv : FW [397] wPt v v') : TXT v' r n m G nm NM sz gr ow ar gs GN := sorry
set_option maxRecDepth 100000 in
theorem sp_Mo_writeNode {l : Launch} {D : qD} {d n m : Nat} {r G i : Int} {t hd w nm NM sz gr ow ar gs GN : Int → Int} {L : List Int} {h : qh} {Q : qQ} (hT : TW h.2) (hg : TG h.2 r n m t hd w) (n24 : n ≤ 24) (tb : TXB n m G nm NM sz gr ow ar gs GN) (tx : TXT h.2 r n m G nm NM sz gr ow ar gs GN) (ib : blw n i) (ou : OTC h.2 L) (lb : L.length ≤ 900000) (hq : ∀ v, FW [397] wPt h.2 v → OTC v (L ++ rwl NM (8 * i) (nm i).toNat) → Q none (h.1, v)) :
    qM l D (d + 3, 0, 0) m_Mo_writeNode [.inr (.inr 280), .inl i] h Q := sorry
set_option maxRecDepth 100000 in
theorem sp_Mo_writeGroup {l : Launch} {D : qD} {d n m : Nat} {r G : Int} {t hd w nm NM sz gr ow ar gs GN : Int → Int} (n24 : n ≤ 24) (tb : TXB n m G nm NM sz gr ow ar gs GN) : ∀ (f : Nat) {q : Nat} {L : List Int} {h : qh} {Q : qQ} (_ : TW h.2) (_ : TG h.2 r n m t hd w) (_ : TXT h.2 r n m G nm NM sz gr ow ar gs GN) (_ : OTC h.2 L) (_ : q < 8) (_ : 8 ≤ q + f) (_ : L.length + 3000 * 2 ^ (8 - q) ≤ 800000) (_ : ∀ v, FW [397] wPt h.2 v → OTC v (L ++ gtx n G nm NM sz gr ar gs GN f q) → Q none (h.1, v)), qM l D (d + f + 7, 0, 0) m_Mo_writeGroup [.inr (.inr 280), .inl q] h Q := sorry
end
section
/-! ===== texts: a drawing (the component's) ===== -/
set_option maxRecDepth 100000 in
theorem sp_DH_outDrawing {l : Launch} {D : qD} {d n m : Nat} {g o G : Int} {t hd w nm NM sz gr ow ar gs GN X Y bm BX BY : Int → Int} {L : List Int} {h : qh} {Q : qQ} (jb : JB o n m t hd w X Y bm BX BY) (tb : TXB n m G nm NM sz gr ow ar gs GN) (hw : HW h.2) (hg : CG h.2 g n m t hd w) (dv : DV h.2 o n m X Y bm BX BY) (tx : TXC h.2 g n m G nm NM sz gr ow ar gs GN) (ou : OUC h.2 L) (lb : L.length ≤ 1000) (hq : ∀ v, FW [275] oPt h.2 v → OUC v (L ++ drT n m t hd nm NM X Y bm BX BY) → Q none (h.1, v)) :
    qM l D (d + 4, 0, 0) m_DH_outDrawing [.inr (.inr 0), .inr (.inr g), .inr (.inr o)] h Q := sorry
end
section
/-! ===== texts: edges, drawings (the twin's) ===== -/
set_option maxRecDepth 100000 in
theorem sp_Mo_writeEdges {l : Launch} {D : qD} {d n m : Nat} {r G : Int} {t hd w nm NM sz gr ow ar gs GN : Int → Int} {L : List Int} {h : qh} {Q : qQ} (gv : GV n m t hd w) (tb : TXB n m G nm NM sz gr ow ar gs GN) (hT : TW h.2) (hg : TG h.2 r n m t hd w) (tx : TXT h.2 r n m G nm NM sz gr ow ar gs GN) (ou : OTC h.2 L) (lb : L.length ≤ 780000) (hq : ∀ v, FW [397] wPt h.2 v → OTC v (L ++ egG t hd w nm NM ow m) → Q none (h.1, v)) :
    qM l D (d + 6, 0, 0) m_Mo_writeEdges [.inr (.inr 280)] h Q := sorry
end
section
/-! ===== texts: drawings (the twin's) ===== -/
theorem JT.fx {v v' : Int → Int → Int} {r gg : Int} {n m : Nat} {t hd w X Y bm BX BY : Int → Int} (jt : JT v r gg n m t hd w X Y bm BX BY) (kv : FW [397] wPt v v') : JT v' r gg n m t hd w X Y bm BX BY := sorry
set_option maxRecDepth 100000 in
theorem sp_Mo_writeDrawing {l : Launch} {D : qD} {d n m : Nat} {r gg G : Int} {t hd w nm NM sz gr ow ar gs GN X Y bm BX BY : Int → Int} {L : List Int} {h : qh} {Q : qQ} (jb : JTB gg n m t hd w X Y bm BX BY) (tb : TXB n m G nm NM sz gr ow ar gs GN) (jt : JT h.2 r gg n m t hd w X Y bm BX BY) (tx : TXT h.2 r n m G nm NM sz gr ow ar gs GN) (ou : OTC h.2 L) (lb : L.length ≤ 1000) (hq : ∀ v, FW [397] wPt h.2 v → OTC v (L ++ drT n m t hd nm NM X Y bm BX BY) → Q none (h.1, v)) :
    qM l D (d + 4, 0, 0) m_Mo_writeDrawing [.inr (.inr 280)] h Q := sorry
end
section
/-! ===== texts: the ends ===== -/
set_option maxRecDepth 100000 in
theorem DH_tx_66 {l : Launch} {D : qD} {d : Nat} {gi wh : Int} {L : List Int} {v : Int → Int → Int} {h : qh} {Q : qQ} (hw : HW v) (ou : OUC v L) (hq1 : L.length ≤ 4000 → ∀ v', FW [274] [(0, 28)] v v' → v' 0 28 = L.length → (∀ (j : Nat) (c : Int), L[j]? = some c → v' 274 j = c) → Q (some (.inl L.length)) (h.1, v')) (hq0 : 4000 < L.length → Q (some (.inl (-1))) (h.1, v)) :
    w_DH_text_66 l D (d) (0, 0) (fun r h' => Q r ((h'.1.1, h.1.2.1, h.1.2.2), h'.2)) [some (.inr (.inr (0))), some (.inl (gi)), some (.inl (wh))] [] ((h.1.1, 0, 0), v) := sorry
set_option maxRecDepth 100000 in
theorem Mo_tx_61 {l : Launch} {D : qD} {d : Nat} {gi wh : Int} {L : List Int} {v : Int → Int → Int} {h : qh} {Q : qQ} (hT : TW v) (ou : OTC v L) (hq1 : L.length ≤ 4000 → ∀ v', FW [396] [(280, 169)] v v' → v' 280 169 = L.length → (∀ (j : Nat) (c : Int), L[j]? = some c → v' 396 j = c) → Q (some (.inl L.length)) (h.1, v')) (hq0 : 4000 < L.length → Q (some (.inl (-1))) (h.1, v)) :
    w_Mo_text_61 l D (d) (0, 0) (fun r h' => Q r ((h'.1.1, h.1.2.1, h.1.2.2), h'.2)) [some (.inr (.inr (280))), some (.inl (gi)), some (.inl (wh)), none] [] ((h.1.1, 0, 0), v) := sorry
end
section
/-! ===== likeness: what is compared (the component's) ===== -/
/-- how two nodes are joined, of the first edges -/
def JCD (t hd ow : Int → Int) (k : Int) (J : Int → Int → Int) : Prop := (∀ e : Int, 0 ≤ e → e < k → J (t e) (hd e) = (if ow e = 0 then 3 else 1) ∧ J (hd e) (t e) = (if ow e = 0 then 3 else 2)) ∧ ∀ a b : Int, (0 ≤ a ∧ a < 24) → (0 ≤ b ∧ b < 24) → (∀ e : Int, 0 ≤ e → e < k → ¬ jn1 t hd e a b) → J a b = 0
/-- how many edges a node has, of the first -/
noncomputable def dgn (t hd : Int → Int) (i : Int) (k : Nat) : Int := sof (fun e => bz (t e = i ∨ hd e = i)) k
theorem dgn_b {t hd : Int → Int} {i : Int} {k : Nat} : 0 ≤ dgn t hd i k ∧ dgn t hd i k ≤ k := sorry
def liC (ca cm : Int) : Prop := (ca = 148 ∧ cm = 150) ∨ (ca = 149 ∧ cm = 151)
set_option maxRecDepth 100000 in
theorem sp_Li_fill {l : Launch} {D : qD} {d n m : Nat} {g ca cm : Int} {t hd w ow : Int → Int} {h : qh} {Q : qQ} (hg : CG h.2 g n m t hd w) (gv : GV n m t hd w) (how : ∀ e, blw m e → h.2 (g + 9) e = ow e) (lc : liC ca cm) (gc : g + 11 < 148 ∨ 399 ≤ g) (hq : ∀ v, FW [ca, cm] [] h.2 v → JCD t hd ow m (fun a b => v ca (24 * a + b)) → (∀ i, blw n i → v cm i = dgn t hd i m) → Q none (h.1, v)) :
    qM l D (d + 1, 0, 0) m_Li_fill [.inr (.inr g), .inr (.inr ca), .inr (.inr cm)] h Q := sorry
end
section
/-! ===== entries: a place's graph and drawing ===== -/
/-- a place, its states, its drawing -/
def isPs (gi pl ps o : Int) : Prop := (gi = 0 ∧ pl = 3 ∧ ps = 4 ∧ o = 5) ∨ (gi = 1 ∧ pl = 30 ∧ ps = 31 ∧ o = 32) ∨ (gi = 2 ∧ pl = 57 ∧ ps = 58 ∧ o = 59) ∨ (gi = 3 ∧ pl = 84 ∧ ps = 85 ∧ o = 86)
theorem isPs_f {v : Int → Int → Int} {gi pl ps o : Int} (hw : HW v) (h : isPs gi pl ps o) : (v 2 gi = pl ∧ v pl 0 = ps ∧ v pl 3 = o) ∧ (q_shp pl = (1, 0) ∧ q_shp ps = (105, 31) ∧ q_shp o = (2, 0)) ∧ (0 ≤ gi ∧ gi < 4) ∧ (0 ≤ pl ∧ 0 ≤ ps ∧ 0 ≤ o) ∧ isD o := sorry
set_option maxRecDepth 100000 in
theorem sp_DH_graph {l : Launch} {D : qD} {d : Nat} {gi pl ps o g k : Int} {h : qh} {Q : qQ} (hw : HW h.2) (ip : isPs gi pl ps o) (ek : h.2 pl 1 = k) (kb : 0 ≤ k ∧ k < 31) (eg : h.2 ps k = g) (hq : Q (some (.inr (.inr g))) h) :
    qM l D (d + 2, 0, 0) m_DH_graph [.inr (.inr 0), .inl gi] h Q := sorry
set_option maxRecDepth 100000 in
theorem sp_DH_drawing {l : Launch} {D : qD} {d : Nat} {gi pl ps o : Int} {h : qh} {Q : qQ} (hw : HW h.2) (ip : (0 ≤ gi ∧ gi < 4) → isPs gi pl ps o) (hq1 : (0 ≤ gi ∧ gi < 4) → h.2 o 0 ≠ 0 → Q (some (.inr (.inr o))) h) (hq0 : ((0 ≤ gi ∧ gi < 4) → h.2 o 0 = 0) → Q (some (.inr (.inr (-1)))) h) :
    qM l D (d + 2, 0, 0) m_DH_drawing [.inr (.inr 0), .inl gi] h Q := sorry
end
section
/-! ===== entries: judge, label, dots (both sides) ===== -/
set_option maxRecDepth 100000 in
theorem sp_DH_judge {l : Launch} {D : qD} {d n m : Nat} {gi pl ps o g k c : Int} {t hd w nm X Y bm BX BY : Int → Int} {h : qh} {Q : qQ} (hw : HW h.2) (ip : (0 ≤ gi ∧ gi < 4) → isPs gi pl ps o) (dw : (0 ≤ gi ∧ gi < 4) → h.2 o 0 ≠ 0 → ((h.2 pl 1 = k ∧ (0 ≤ k ∧ k < 31) ∧ h.2 ps k = g) ∧ CG h.2 g n m t hd w ∧ DV h.2 o n m X Y bm BX BY) ∧ JB o n m t hd w X Y bm BX BY ∧ 0 < n ∧ ∀ i, blw n i → h.2 (g + 3) i = nm i ∧ 0 ≤ nm i ∧ nm i ≤ 100)
    (hq1 : (0 ≤ gi ∧ gi < 4) → h.2 o 0 ≠ 0 → (0 ≤ c ∧ c ≤ 9) → ∀ r v, FW [] jP2 h.2 v → JUD n m t hd nm X Y bm BX BY c r → Q (some (.inr (.inl r))) (h.1, v)) (hq0 : ¬ ((0 ≤ gi ∧ gi < 4) ∧ h.2 o 0 ≠ 0 ∧ 0 ≤ c ∧ c ≤ 9) → Q (some (.inr (.inl (-1)))) h) :
    qM l D (d + 7, 0, 0) m_DH_judge [.inr (.inr 0), .inl gi, .inl c] h Q := sorry
/-- the twin's row at hand, and its drawing -/
def tkD (v : Int → Int → Int) (gi : Int) : Int → Int → Int := up2 (g_Mo_take gi v) 280 139 gi
set_option maxRecDepth 100000 in
theorem sp_Mo_isDrawn {l : Launch} {D : qD} {d : Nat} {gi : Int} {h : qh} {Q : qQ} (hT : TW h.2) (kb : (0 ≤ gi ∧ gi < 4) → 0 ≤ h.2 283 gi ∧ h.2 283 gi < 31) (hq1 : (0 ≤ gi ∧ gi < 4) → 0 ≤ h.2 316 gi → Q (some (.inl 1)) (h.1, tkD h.2 gi)) (hq0 : ¬ ((0 ≤ gi ∧ gi < 4) ∧ 0 ≤ h.2 316 gi) → Q (some (.inl 0)) h) :
    qM l D (d + 4, 0, 0) m_Mo_isDrawn [.inr (.inr 280), .inl gi] h Q := sorry
end
section
/-! ===== likeness: the search (the component's) ===== -/
/-- a node may go there -/
def ftC (dg dg' : Int → Int) (J J' : Int → Int → Int) (mp : Int → Int) (i k : Int) : Prop := dg i = dg' k ∧ ∀ a : Int, 0 ≤ a → a < i → J a i = J' (mp a) k
set_option maxRecDepth 100000 in
theorem sp_Li_fits {l : Launch} {D : qD} {d : Nat} {i k : Int} {mp : Int → Int} {h : qh} {Q : qQ} (hw : HW h.2) (ib : 0 ≤ i ∧ i < 24) (kb : 0 ≤ k ∧ k < 24) (hm : ∀ a : Int, 0 ≤ a → a < i → h.2 146 a = mp a ∧ 0 ≤ mp a ∧ mp a < 24)
    (h1 : ftC (h.2 150) (h.2 151) (fun a b => h.2 148 (24 * a + b)) (fun a b => h.2 149 (24 * a + b)) mp i k → Q (some (.inl 1)) h) (h0 : ¬ ftC (h.2 150) (h.2 151) (fun a b => h.2 148 (24 * a + b)) (fun a b => h.2 149 (24 * a + b)) mp i k → Q (some (.inl 0)) h) :
    qM l D (d + 1, 0, 0) m_Li_fits [.inr (.inr 145), .inl i, .inl k] h Q := sorry
abbrev liP : List (Int × Int) := [(145, 2), (145, 3), (145, 4)]
set_option maxRecDepth 100000 in
theorem Li_lk_144 {l : Launch} {D : qD} {d n : Nat} {g f i tk : Int} {mp : Int → Int} {v0 : Int → Int → Int} {h : qh} {Q : qQ} (n24 : n ≤ 24) (hw : HW v0) (ib : 0 ≤ i ∧ i < n) (hm : ∀ a : Int, 0 ≤ a → a < i → v0 146 a = mp a ∧ 0 ≤ mp a ∧ mp a < 24) (ht : ∀ k : Int, 0 ≤ k → k < 32 → (bt tk k ↔ ∃ a, 0 ≤ a ∧ a < i ∧ mp a = k))
    (FT : (Int → Int) → Int → Int → Prop) (hF : FT mp i = ftC (v0 150) (v0 151) (fun a b => v0 148 (24 * a + b)) (fun a b => v0 149 (24 * a + b)) mp i) :
    ∀ (fu : Nat) (k st : Int) v, fu = (n - k).toNat → (0 ≤ k ∧ k ≤ n) → (0 ≤ st ∧ st ≤ 20000) → FW [] [(145, 2)] v0 v → v 145 2 = st →
      ((scn FT mp i fu k st).1 = 0 → ∀ v', FW [] [(145, 2)] v0 v' → v' 145 2 = (scn FT mp i fu k st).2.2 → (0 ≤ (scn FT mp i fu k st).2.2 ∧ (scn FT mp i fu k st).2.2 ≤ 20000) → w_Li_look_216 l D (d + 1) (0, 0) (fun r h' => Q r ((h'.1.1, h.1.2.1, h.1.2.2), h'.2)) [some (.inr (.inr (145))), some (.inr (.inr (g))), some (.inr (.inr (f))), some (.inl (n)), some (.inl (tk)), some (.inl (i)), some (.inl (n)), some (.inl (0))] [] ((h.1.1, 0, 0), v')) →
      ((scn FT mp i fu k st).1 = 1 → ∀ v', FW [] [(145, 2)] v0 v' → v' 145 2 = (scn FT mp i fu k st).2.2 → (0 ≤ (scn FT mp i fu k st).2.2 ∧ (scn FT mp i fu k st).2.2 ≤ 20000) → w_Li_look_216 l D (d + 1) (0, 0) (fun r h' => Q r ((h'.1.1, h.1.2.1, h.1.2.2), h'.2)) [some (.inr (.inr (145))), some (.inr (.inr (g))), some (.inr (.inr (f))), some (.inl (n)), some (.inl (tk)), some (.inl (i)), some (.inl ((scn FT mp i fu k st).2.1)), some (.inl (1))] [] ((h.1.1, 0, 0), v')) →
      ((scn FT mp i fu k st).1 = 2 → ∀ v', FW [] [(145, 2)] v0 v' → v' 145 2 = (scn FT mp i fu k st).2.2 → Q (some (.inl (-2))) (h.1, v')) →
      qR l D (d + 2, 0, 0) m_Li_look 144 (fun r h' => Q r ((h'.1.1, h.1.2.1, h.1.2.2), h'.2)) [some (.inr (.inr (145))), some (.inr (.inr (g))), some (.inr (.inr (f))), some (.inl (n)), some (.inl (tk)), some (.inl (i)), some (.inl (k)), some (.inl (0))] [] ((h.1.1, 0, 0), v) := sorry
end
section
/-! ===== likeness: the whole (the component's) ===== -/
theorem scn_f {ft : (Int → Int) → Int → Int → Prop} {mp : Int → Int} {i : Int} : ∀ {f : Nat} {k st : Int}, (scn ft mp i f k st).1 = 1 → ¬ ∃ a, 0 ≤ a ∧ a < i ∧ mp a = (scn ft mp i f k st).2.1 := sorry
set_option maxRecDepth 100000 in
theorem Li_lk_92 {l : Launch} {D : qD} {d n : Nat} {g g2 r stF : Int} {mpF : Int → Int} {v0 : Int → Int → Int} {h : qh} {Q : qQ} (n24 : n ≤ 24) (hw : HW v0) (FT : (Int → Int) → Int → Int → Prop) (hF : ∀ mp i, FT mp i = ftC (v0 150) (v0 151) (fun a b => v0 148 (24 * a + b)) (fun a b => v0 149 (24 * a + b)) mp i)
    (q0 : r = 0 → ∀ v, FW [146] [(145, 2)] v0 v → v 145 2 = stF → Q (some (.inl 0)) (h.1, v))
    (q1 : r = 1 → ∀ v, FW [146, 147] liP v0 v → v 145 2 = stF → v 145 3 = n → (∀ x, blw n x → v 147 x = mpF x) → Q (some (.inl 1)) (h.1, v))
    (q2 : r = -2 → ∀ v, FW [146] [(145, 2)] v0 v → v 145 2 = stF → Q (some (.inl (-2))) (h.1, v)) :
    ∀ (f : Nat) (i : Int) (mp : Int → Int) (st tk : Int) v (x6 x7 : Option qv), srch FT n f i mp st = some (r, mpF, stF) → (-1 ≤ i ∧ i ≤ n) → (∀ x, blw n x → v 146 x = mp x) → (∀ x : Int, 0 ≤ x → -1 ≤ mp x ∧ mp x < n) → (∀ a b : Int, 0 ≤ a → a < b → b ≤ i → b < n → mp b ≠ -1 → mp a ≠ mp b) → (∀ a : Int, 0 ≤ a → a < i → a < n → mp a ≠ -1) → (∀ x : Int, i < x → mp x = -1) → (∀ k : Int, 0 ≤ k → k < 32 → (bt tk k ↔ ∃ a, 0 ≤ a ∧ a ≤ i ∧ a < n ∧ mp a = k)) → (0 ≤ st ∧ st ≤ 20000) → v 145 2 = st → FW [146] [(145, 2)] v0 v → qR l D (d + 2, 0, 0) m_Li_look 92 (fun r h' => Q r ((h'.1.1, h.1.2.1, h.1.2.2), h'.2)) [some (.inr (.inr (145))), some (.inr (.inr (g))), some (.inr (.inr (g2))), some (.inl (n)), some (.inl (tk)), some (.inl (i)), x6, x7] [] ((h.1.1, 0, 0), v) := sorry
end
section
/-! ===== likeness: look (the component's) ===== -/
set_option maxRecDepth 100000 in
theorem sp_Li_look {l : Launch} {D : qD} {d n m n2 m2 : Nat} {g g2 : Int} {t hd w ow t2 hd2 w2 ow2 : Int → Int} {h : qh} {Q : qQ} (hw : HW h.2) (hg : CG h.2 g n m t hd w) (hg2 : CG h.2 g2 n2 m2 t2 hd2 w2) (gv : GV n m t hd w) (gv2 : GV n2 m2 t2 hd2 w2) (how : ∀ e, blw m e → h.2 (g + 9) e = ow e) (how2 : ∀ e, blw m2 e → h.2 (g2 + 9) e = ow2 e) (gc : g + 11 < 145 ∨ 399 ≤ g) (gc2 : g2 + 11 < 145 ∨ 399 ≤ g2)
    (hqn : (n ≠ n2 ∨ m ≠ m2) → ∀ v, FW [] [(145, 2), (145, 4)] h.2 v → v 145 2 = 0 → Q (some (.inl 0)) (h.1, v))
    (hqy : n = n2 → m = m2 → ∀ (r stF : Int) (mpF dg dg' : Int → Int) (J J' : Int → Int → Int) (f : Nat), JCD t hd ow m J → JCD t2 hd2 ow2 m2 J' → (∀ i, blw n i → dg i = dgn t hd i m) → (∀ i, blw n2 i → dg' i = dgn t2 hd2 i m2) → srch (ftC dg dg' J J') n f 0 (fun _ => -1) 0 = some (r, mpF, stF) → ∀ v, FW [146, 147, 148, 149, 150, 151] liP h.2 v → v 145 2 = stF → ((r = 1 ∧ v 145 3 = n ∧ ∀ x, blw n x → v 147 x = mpF x) ∨ (r ≠ 1 ∧ v 145 3 = h.2 145 3 ∧ v 147 = h.2 147)) → Q (some (.inl r)) (h.1, v)) :
    qM l D (d + 2, 0, 0) m_Li_look [.inr (.inr 145), .inr (.inr g), .inr (.inr g2)] h Q := sorry
end
section
/-! ===== same: the search (the twin's) ===== -/
def dgT (v : Int → Int → Int) (r a : Int) : Int := smz (fun e => if v 282 (r + 267 + e) = a ∨ v 282 (r + 315 + e) = a then 1 else 0) (v 282 (r + 1)).toNat
def ewT (v : Int → Int → Int) (r a b : Int) : Int := ewy v r a b (v 282 (r + 1)).toNat 0
/-- two rows at hand -/
def TSM (v : Int → Int → Int) (rA rB : Int) : Prop := (v 280 28 = rA ∧ v 280 29 = rB) ∧ ((0 ≤ rA ∧ rA ≤ 66297) ∧ 0 ≤ rB ∧ rB ≤ 66297) ∧ (0 ≤ v 282 (rA + 1) ∧ v 282 (rA + 1) ≤ 48) ∧ 0 ≤ v 282 (rB + 1) ∧ v 282 (rB + 1) ≤ 48
/-- a node may go there, as the twin sees it -/
def ftT (v : Int → Int → Int) (rA rB : Int) : (Int → Int) → Int → Int → Prop := ftC (dgT v rA) (dgT v rB) (ewT v rA) (ewT v rB)
set_option maxRecDepth 100000 in
theorem sp_Mo_fits {l : Launch} {D : qD} {d : Nat} {rA rB i j : Int} {mp : Int → Int} {h : qh} {Q : qQ} (hT : TW h.2) (ts : TSM h.2 rA rB) (ib : 0 ≤ i ∧ i < 24) (hm : ∀ a : Int, 0 ≤ a → a < i → h.2 294 a = mp a)
    (h1 : ftT h.2 rA rB mp i j → Q (some (.inl 1)) h) (h0 : ¬ ftT h.2 rA rB mp i j → Q (some (.inl 0)) h) :
    qM l D (d + 2, 0, 0) m_Mo_fits [.inr (.inr 280), .inl i, .inl j] h Q := sorry
theorem ftT_cg {v v' : Int → Int → Int} (e : v' 282 = v 282) (rA rB : Int) : ftT v' rA rB = ftT v rA rB := sorry
set_option maxRecDepth 100000 in
theorem Mo_sm_155 {l : Launch} {D : qD} {d n : Nat} {g g2 rA rB i : Int} {mp : Int → Int} {v0 : Int → Int → Int} {h : qh} {Q : qQ} (n24 : n ≤ 24) (hT : TW v0) (ts : TSM v0 rA rB) (ib : 0 ≤ i ∧ i < n) (hm : ∀ a : Int, 0 ≤ a → a < i → v0 294 a = mp a) :
    ∀ (fu : Nat) (k st : Int) v (x7 x8 : Option qv), fu = (n - k).toNat → (0 ≤ k ∧ k ≤ n) → (0 ≤ st ∧ st ≤ 20000) → FW [] [(280, 27)] v0 v → v 280 27 = st →
      ((scn (ftT v0 rA rB) mp i fu k st).1 = 0 → ∀ v' (x7 x8 : Option qv), FW [] [(280, 27)] v0 v' → v' 280 27 = (scn (ftT v0 rA rB) mp i fu k st).2.2 → (0 ≤ (scn (ftT v0 rA rB) mp i fu k st).2.2 ∧ (scn (ftT v0 rA rB) mp i fu k st).2.2 ≤ 20000) → w_Mo_same_258 l D (d + 2) (0, 0) (fun r h' => Q r ((h'.1.1, h.1.2.1, h.1.2.2), h'.2)) [some (.inr (.inr (280))), some (.inl (g)), some (.inl (g2)), some (.inl (n)), some (.inl (i)), some (.inl (n)), some (.inl (0)), x7, x8] [] ((h.1.1, 0, 0), v')) →
      ((scn (ftT v0 rA rB) mp i fu k st).1 = 1 → ∀ v' (x7 x8 : Option qv), FW [] [(280, 27)] v0 v' → v' 280 27 = (scn (ftT v0 rA rB) mp i fu k st).2.2 → (0 ≤ (scn (ftT v0 rA rB) mp i fu k st).2.2 ∧ (scn (ftT v0 rA rB) mp i fu k st).2.2 ≤ 20000) → w_Mo_same_258 l D (d + 2) (0, 0) (fun r h' => Q r ((h'.1.1, h.1.2.1, h.1.2.2), h'.2)) [some (.inr (.inr (280))), some (.inl (g)), some (.inl (g2)), some (.inl (n)), some (.inl (i)), some (.inl ((scn (ftT v0 rA rB) mp i fu k st).2.1)), some (.inl (1)), x7, x8] [] ((h.1.1, 0, 0), v')) →
      ((scn (ftT v0 rA rB) mp i fu k st).1 = 2 → ∀ v', FW [] [(280, 27)] v0 v' → v' 280 27 = (scn (ftT v0 rA rB) mp i fu k st).2.2 → Q (some (.inl (-2))) (h.1, v')) →
      qR l D (d + 3, 0, 0) m_Mo_same 155 (fun r h' => Q r ((h'.1.1, h.1.2.1, h.1.2.2), h'.2)) [some (.inr (.inr (280))), some (.inl (g)), some (.inl (g2)), some (.inl (n)), some (.inl (i)), some (.inl (k)), some (.inl (0)), x7, x8] [] ((h.1.1, 0, 0), v) := sorry
end
section
/-! ===== same: the whole (the twin's) ===== -/
set_option maxRecDepth 100000 in
theorem Mo_sm_130 {l : Launch} {D : qD} {d n : Nat} {g g2 rA rB r stF : Int} {mpF : Int → Int} {v0 : Int → Int → Int} {h : qh} {Q : qQ} (n24 : n ≤ 24) (hT : TW v0) (ts : TSM v0 rA rB)
    (q0 : r = 0 → ∀ v, FW [294] [(280, 27)] v0 v → v 280 27 = stF → Q (some (.inl 0)) (h.1, v))
    (q1 : r = 1 → ∀ v, FW [293, 294] [(280, 25), (280, 26), (280, 27)] v0 v → v 280 27 = stF → v 280 25 = 1 → v 280 26 = n → (∀ x, blw n x → v 293 x = mpF x) → Q (some (.inl 1)) (h.1, v))
    (q2 : r = -2 → ∀ v, FW [294] [(280, 27)] v0 v → v 280 27 = stF → Q (some (.inl (-2))) (h.1, v)) :
    ∀ (f : Nat) (i : Int) (mp : Int → Int) (st : Int) v (x5 x6 x7 x8 : Option qv), srch (ftT v0 rA rB) n f i mp st = some (r, mpF, stF) → (-1 ≤ i ∧ i ≤ n) → (∀ x, blw n x → v 294 x = mp x) → (∀ x : Int, 0 ≤ x → -1 ≤ mp x ∧ mp x < n) → (0 ≤ st ∧ st ≤ 20000) → v 280 27 = st → FW [294] [(280, 27)] v0 v → qR l D (d + 3, 0, 0) m_Mo_same 130 (fun r h' => Q r ((h'.1.1, h.1.2.1, h.1.2.2), h'.2)) [some (.inr (.inr (280))), some (.inl (g)), some (.inl (g2)), some (.inl (n)), some (.inl (i)), x5, x6, x7, x8] [] ((h.1.1, 0, 0), v) := sorry
abbrev smP : List (Int × Int) := [(280, 25), (280, 26), (280, 27), (280, 28), (280, 29), (280, 30)]
set_option maxRecDepth 100000 in
theorem Mo_sm_16 {l : Launch} {D : qD} {d n m n2 m2 : Nat} {gi gj kA kB rA rB : Int} {v0 : Int → Int → Int} {h : qh} {Q : qQ} (hT : TW v0) (gib : (0 ≤ gi ∧ gi < 4) ∧ 0 ≤ gj ∧ gj < 4) (eA : v0 283 gi = kA) (eB : v0 283 gj = kB) (kAb : 0 ≤ kA ∧ kA < 31) (kBb : 0 ≤ kB ∧ kB < 31) (rAe : rA = 539 * (31 * gi + kA)) (rBe : rB = 539 * (31 * gj + kB)) (n24 : n ≤ 24) (m48 : m ≤ 48 ∧ m2 ≤ 48) (en : v0 282 rA = n) (em : v0 282 (rA + 1) = m) (en2 : v0 282 rB = n2) (em2 : v0 282 (rB + 1) = m2)
    (hqn : (n ≠ n2 ∨ m ≠ m2) → ∀ v, FW [] smP v0 v → v 280 27 = 0 → v 280 30 = 1 → v 280 25 = v0 280 25 → v 280 26 = v0 280 26 → Q (some (.inl 0)) (h.1, v))
    (hqy : n = n2 → m = m2 → ∀ (r stF : Int) (mpF : Int → Int) (f : Nat), srch (ftT v0 rA rB) n f 0 (fun _ => -1) 0 = some (r, mpF, stF) → ∀ v, FW [293, 294] smP v0 v → v 280 27 = stF → v 280 30 = 1 → ((r = 1 ∧ v 280 25 = 1 ∧ v 280 26 = n ∧ ∀ x, blw n x → v 293 x = mpF x) ∨ (r ≠ 1 ∧ v 280 25 = v0 280 25 ∧ v 280 26 = v0 280 26 ∧ v 293 = v0 293)) → Q (some (.inl r)) (h.1, v)) :
    w_Mo_same_16 l D (d + 2) (0, 0) (fun r h' => Q r ((h'.1.1, h.1.2.1, h.1.2.2), h'.2)) [some (.inr (.inr (280))), some (.inl (gi)), some (.inl (gj)), none, none, none, none, none, none] [] ((h.1.1, 0, 0), v0) := sorry
end
section
/-! ===== same: both sides find the same ===== -/
theorem smz_sof {f : Int → Int} : ∀ n : Nat, smz f n = sof f n := sorry
/-- as the twin keeps a graph -/
def TGR (v : Int → Int → Int) (r : Int) (m : Nat) (t hd ow : Int → Int) : Prop := v 282 (r + 1) = m ∧ ∀ e, blw m e → (v 282 (r + 267 + e) = t e ∧ v 282 (r + 315 + e) = hd e) ∧ v 282 (r + 411 + e) = ow e
theorem dgT_v {v : Int → Int → Int} {r i : Int} {m : Nat} {t hd ow : Int → Int} (h : TGR v r m t hd ow) : dgT v r i = dgn t hd i m := sorry
def ECD (t hd ow : Int → Int) (m : Nat) (E : Int → Int → Int) : Prop := (∀ e, blw m e → E (t e) (hd e) = (if ow e = 0 then 1 else 2) ∧ E (hd e) (t e) = (if ow e = 0 then 1 else 3)) ∧ ∀ a b : Int, (∀ e, blw m e → ¬ jn1 t hd e a b) → E a b = 0
theorem ewT_v {n m : Nat} {v : Int → Int → Int} {r : Int} {t hd w ow : Int → Int} (gv : GV n m t hd w) (h : TGR v r m t hd ow) : ECD t hd ow m (ewT v r) := sorry
theorem cod_4 {m : Nat} {t hd ow : Int → Int} {J E : Int → Int → Int} (j : JCD t hd ow m J) (e : ECD t hd ow m E) {a b : Int} (ha : 0 ≤ a ∧ a < 24) (hb : 0 ≤ b ∧ b < 24) : (J a b = 0 ∧ E a b = 0) ∨ (J a b = 3 ∧ E a b = 1) ∨ (J a b = 1 ∧ E a b = 2) ∨ (J a b = 2 ∧ E a b = 3) := sorry
theorem scn_eq {ft ft' : (Int → Int) → Int → Int → Prop} {n : Nat} {mp : Int → Int} {i : Int} (h : ∀ k : Int, 0 ≤ k → k < n → (ft mp i k ↔ ft' mp i k)) : ∀ (f : Nat) (k st : Int), 0 ≤ k → k + f ≤ n → scn ft mp i f k st = scn ft' mp i f k st := sorry
theorem srch_eq {ft ft' : (Int → Int) → Int → Int → Prop} {n : Nat} (h : ∀ (mp : Int → Int) (i k : Int), (0 ≤ i ∧ i < n) → (0 ≤ k ∧ k < n) → (∀ a : Int, 0 ≤ a → a < i → 0 ≤ mp a ∧ mp a < n) → (ft mp i k ↔ ft' mp i k)) : ∀ (f f' : Nat) (i : Int) (mp : Int → Int) (st : Int) (r r' : Int × (Int → Int) × Int), (-1 ≤ i ∧ i ≤ n) → (∀ x : Int, 0 ≤ x → -1 ≤ mp x ∧ mp x < n) → (∀ a : Int, 0 ≤ a → a < i → mp a ≠ -1) → srch ft n f i mp st = some r → srch ft' n f' i mp st = some r' → r = r' := sorry
/-- both sides' answers, maps and steps are the same -/
theorem same_un {n m m2 : Nat} {v : Int → Int → Int} {rA rB : Int} {t hd w ow t2 hd2 w2 ow2 dg dg' : Int → Int} {J J' : Int → Int → Int} {f f' : Nat} {r r' : Int × (Int → Int) × Int} (gv : GV n m t hd w) (gv2 : GV n m2 t2 hd2 w2) (gA : TGR v rA m t hd ow) (gB : TGR v rB m2 t2 hd2 ow2) (jA : JCD t hd ow m J) (jB : JCD t2 hd2 ow2 m2 J') (dA : ∀ i, blw n i → dg i = dgn t hd i m) (dB : ∀ i, blw n i → dg' i = dgn t2 hd2 i m2) (e : srch (ftC dg dg' J J') n f 0 (fun _ => -1) 0 = some r) (e' : srch (ftT v rA rB) n f' 0 (fun _ => -1) 0 = some r') : r = r' := sorry
end
section
/-! ===== entries: judge, dots (the twin's); dots (the component's) ===== -/
set_option maxRecDepth 100000 in
theorem sp_Mo_judge {l : Launch} {D : qD} {d n m : Nat} {gi r c : Int} {t hd w nm X Y bm BX BY : Int → Int} {h : qh} {Q : qQ} (hT : TW h.2) (kb : (0 ≤ gi ∧ gi < 4) → 0 ≤ h.2 283 gi ∧ h.2 283 gi < 31) (dw : (0 ≤ gi ∧ gi < 4) → 0 ≤ h.2 316 gi → (JT (tkD h.2 gi) r gi n m t hd w X Y bm BX BY ∧ JTB gi n m t hd w X Y bm BX BY) ∧ (∀ i, blw n i → tkD h.2 gi 282 (r + 195 + i) = nm i ∧ 0 ≤ nm i ∧ nm i ≤ 100) ∧ 0 < n)
    (hq1 : (0 ≤ gi ∧ gi < 4) → 0 ≤ h.2 316 gi → (0 ≤ c ∧ c ≤ 9) → ∀ s v, FW [] bPt (tkD h.2 gi) v → JUD n m t hd nm X Y bm BX BY c s → Q (some (.inr (.inl s))) (h.1, v)) (hq2 : (0 ≤ gi ∧ gi < 4) → 0 ≤ h.2 316 gi → ¬ (0 ≤ c ∧ c ≤ 9) → Q (some (.inr (.inl (-1)))) (h.1, tkD h.2 gi)) (hq0 : ¬ ((0 ≤ gi ∧ gi < 4) ∧ 0 ≤ h.2 316 gi) → Q (some (.inr (.inl (-1)))) h) :
    qM l D (d + 6, 0, 0) m_Mo_judge [.inr (.inr 280), .inl gi, .inl c] h Q := sorry
set_option maxRecDepth 100000 in
theorem sp_Mo_dots {l : Launch} {D : qD} {d n m : Nat} {gi r wd hh : Int} {t hd w X Y bm BX BY es ns : Int → Int} {h : qh} {Q : qQ} (hT : TW h.2) (kb : (0 ≤ gi ∧ gi < 4) → 0 ≤ h.2 283 gi ∧ h.2 283 gi < 31) (dw : (0 ≤ gi ∧ gi < 4) → 0 ≤ h.2 316 gi → (JT (tkD h.2 gi) r gi n m t hd w X Y bm BX BY ∧ JTB gi n m t hd w X Y bm BX BY) ∧ DTS (tkD h.2 gi) gi n m es ns ∧ 0 < n)
    (hq1 : (0 ≤ gi ∧ gi < 4) → 0 ≤ h.2 316 gi → (1 ≤ wd ∧ wd ≤ 64) → (1 ≤ hh ∧ hh ≤ 64) → ∀ v lf rt tp bt, FW [398] tPd (tkD h.2 gi) v → v 280 173 = wd → v 280 174 = hh → ARF n m X Y bm BX BY lf rt tp bt → PLN (v 398) 64 wd hh (dtP m t hd X Y bm BX BY es ns lf rt tp bt wd hh n) → Q (some (.inl (dtC wd hh (dtP m t hd X Y bm BX BY es ns lf rt tp bt wd hh n)))) (h.1, v)) (hq2 : (0 ≤ gi ∧ gi < 4) → 0 ≤ h.2 316 gi → ¬ ((1 ≤ wd ∧ wd ≤ 64) ∧ 1 ≤ hh ∧ hh ≤ 64) → Q (some (.inl (-1))) (h.1, tkD h.2 gi)) (hq0 : ¬ ((0 ≤ gi ∧ gi < 4) ∧ 0 ≤ h.2 316 gi) → Q (some (.inl (-1))) h) :
    qM l D (d + 5, 0, 0) m_Mo_dots [.inr (.inr 280), .inl gi, .inl wd, .inl hh] h Q := sorry
set_option maxRecDepth 100000 in
theorem sp_DH_dots {l : Launch} {D : qD} {d n m : Nat} {gi pl ps o g k pn pe wd hh : Int} {t hd w X Y bm BX BY es ns : Int → Int} {h : qh} {Q : qQ} (hw : HW h.2) (ip : (0 ≤ gi ∧ gi < 4) → isPs gi pl ps o ∧ isPl gi pl pn pe) (dw : (0 ≤ gi ∧ gi < 4) → h.2 o 0 ≠ 0 → ((h.2 pl 1 = k ∧ (0 ≤ k ∧ k < 31) ∧ h.2 ps k = g) ∧ DTC h.2 g o n m t hd w X Y bm BX BY es ns pn pe) ∧ JB o n m t hd w X Y bm BX BY ∧ 0 < n)
    (hq1 : (0 ≤ gi ∧ gi < 4) → h.2 o 0 ≠ 0 → (1 ≤ wd ∧ wd ≤ 64) → (1 ≤ hh ∧ hh ≤ 64) → ∀ v lf rt tp bt, FW [276] kPd h.2 v → v 0 32 = wd → v 0 33 = hh → ARF n m X Y bm BX BY lf rt tp bt → PLN (v 276) wd wd hh (dtP m t hd X Y bm BX BY es ns lf rt tp bt wd hh n) → Q (some (.inl (dtC wd hh (dtP m t hd X Y bm BX BY es ns lf rt tp bt wd hh n)))) (h.1, v)) (hq0 : ¬ (((0 ≤ gi ∧ gi < 4) ∧ h.2 o 0 ≠ 0) ∧ (1 ≤ wd ∧ wd ≤ 64) ∧ 1 ≤ hh ∧ hh ≤ 64) → Q (some (.inl (-1))) h) :
    qM l D (d + 3, 0, 0) m_DH_dots [.inr (.inr 0), .inl gi, .inl wd, .inl hh] h Q := sorry
end
section
/-! printed by gen/gtm.py: Mo_isWord Mo_isName Mo_item Mo_edgeItem -/
def w_Mo_isWord_74 (l : Launch) (D : qD) (d0 : Nat) (B : Nat × Nat) (Q : qQ) : qK := (s_iload 2 (s_zret Q))
theorem Mo_isWord_74 {l : Launch} {D : qD} {d0 : Nat} {B : Nat × Nat} {Q : qQ} : qI (w_Mo_isWord_74 l D d0 B Q) (qR l D (d0 + 1, B) m_Mo_isWord 74 Q) := sorry
def w_Mo_isWord_67 (l : Launch) (D : qD) (d0 : Nat) (B : Nat × Nat) (Q : qQ) : qK := (s_istore 2 (s_iinc 3 (1) (qR l D (d0 + 1, B) m_Mo_isWord 32 Q)))
theorem Mo_isWord_67 {l : Launch} {D : qD} {d0 : Nat} {B : Nat × Nat} {Q : qQ} : qI (w_Mo_isWord_67 l D d0 B Q) (qR l D (d0 + 1, B) m_Mo_isWord 67 Q) := sorry
def w_Mo_isWord_66 (l : Launch) (D : qD) (d0 : Nat) (B : Nat × Nat) (Q : qQ) : qK := (s_ic (0) (w_Mo_isWord_67 l D d0 B Q))
theorem Mo_isWord_66 {l : Launch} {D : qD} {d0 : Nat} {B : Nat × Nat} {Q : qQ} : qI (w_Mo_isWord_66 l D d0 B Q) (qR l D (d0 + 1, B) m_Mo_isWord 66 Q) := sorry
def w_Mo_isWord_32 (l : Launch) (D : qD) (d0 : Nat) (B : Nat × Nat) (Q : qQ) : qK := (s_iload 3 (s_aload 1 (s_invC l D (d0, 0, 0) m_String_length 0 (s_icmp_ge (w_Mo_isWord_74 l D d0 B Q) (s_iload 2 (s_if_eq (w_Mo_isWord_74 l D d0 B Q) (s_aload 0 (s_aload 0 (s_getI 18 15 (s_iload 3 (s_iadd (s_Mo_byteAt d0 (s_aload 1 (s_iload 3 (s_invC l D (d0, 0, 0) m_String_charAt 1 (s_icmp_ne (w_Mo_isWord_66 l D d0 B Q) (s_ic (1) (w_Mo_isWord_67 l D d0 B Q))))))))))))))))))
theorem Mo_isWord_32 {l : Launch} {D : qD} {d0 : Nat} {B : Nat × Nat} {Q : qQ} : qI (w_Mo_isWord_32 l D d0 B Q) (qR l D (d0 + 1, B) m_Mo_isWord 32 Q) := sorry
def w_Mo_isWord_29 (l : Launch) (D : qD) (d0 : Nat) (B : Nat × Nat) (Q : qQ) : qK := (s_istore 2 (s_ic (0) (s_istore 3 (qR l D (d0 + 1, B) m_Mo_isWord 32 Q))))
theorem Mo_isWord_29 {l : Launch} {D : qD} {d0 : Nat} {B : Nat × Nat} {Q : qQ} : qI (w_Mo_isWord_29 l D d0 B Q) (qR l D (d0 + 1, B) m_Mo_isWord 29 Q) := sorry
def w_Mo_isWord_28 (l : Launch) (D : qD) (d0 : Nat) (B : Nat × Nat) (Q : qQ) : qK := (s_ic (0) (w_Mo_isWord_29 l D d0 B Q))
theorem Mo_isWord_28 {l : Launch} {D : qD} {d0 : Nat} {B : Nat × Nat} {Q : qQ} : qI (w_Mo_isWord_28 l D d0 B Q) (qR l D (d0 + 1, B) m_Mo_isWord 28 Q) := sorry
def w_Mo_isWord_0 (l : Launch) (D : qD) (d0 : Nat) (B : Nat × Nat) (Q : qQ) : qK := (s_aload 0 (s_getI 18 12 (s_ic (1) (s_icmp_ne (w_Mo_isWord_28 l D d0 B Q) (s_aload 0 (s_getI 18 11 (s_aload 0 (s_getI 18 15 (s_isub (s_aload 1 (s_invC l D (d0, 0, 0) m_String_length 0 (s_icmp_ne (w_Mo_isWord_28 l D d0 B Q) (s_ic (1) (w_Mo_isWord_29 l D d0 B Q))))))))))))))
theorem Mo_isWord_0 {l : Launch} {D : qD} {d0 : Nat} {B : Nat × Nat} {Q : qQ} : qI (w_Mo_isWord_0 l D d0 B Q) (qR l D (d0 + 1, B) m_Mo_isWord 0 Q) := sorry
def w_Mo_isName_33 (l : Launch) (D : qD) (d0 : Nat) (B : Nat × Nat) (Q : qQ) : qK := (s_zret Q)
theorem Mo_isName_33 {l : Launch} {D : qD} {d0 : Nat} {B : Nat × Nat} {Q : qQ} : qI (w_Mo_isName_33 l D d0 B Q) (qR l D (d0 + 1, B) m_Mo_isName 33 Q) := sorry
def w_Mo_isName_32 (l : Launch) (D : qD) (d0 : Nat) (B : Nat × Nat) (Q : qQ) : qK := (s_ic (0) (w_Mo_isName_33 l D d0 B Q))
theorem Mo_isName_32 {l : Launch} {D : qD} {d0 : Nat} {B : Nat × Nat} {Q : qQ} : qI (w_Mo_isName_32 l D d0 B Q) (qR l D (d0 + 1, B) m_Mo_isName 32 Q) := sorry
def w_Mo_isName_0 (l : Launch) (D : qD) (d0 : Nat) (B : Nat × Nat) (Q : qQ) : qK := (s_aload 0 (s_getI 18 12 (s_ic (1) (s_icmp_ne (w_Mo_isName_32 l D d0 B Q) (s_aload 0 (s_sc (-40) (s_invV l D (d0, 0, 0) 18 m_Mo_isWord 1 (s_if_ne (w_Mo_isName_32 l D d0 B Q) (s_aload 0 (s_sc (-41) (s_invV l D (d0, 0, 0) 18 m_Mo_isWord 1 (s_if_ne (w_Mo_isName_32 l D d0 B Q) (s_ic (1) (w_Mo_isName_33 l D d0 B Q))))))))))))))
theorem Mo_isName_0 {l : Launch} {D : qD} {d0 : Nat} {B : Nat × Nat} {Q : qQ} : qI (w_Mo_isName_0 l D d0 B Q) (qR l D (d0 + 1, B) m_Mo_isName 0 Q) := sorry
theorem lm_Mo_506 : q_gV "DrawingHouseModel" 506 18 1 m_Mo_edgeItem := sorry
theorem lm_Mo_503 : q_gV "DrawingHouseModel" 503 18 2 m_Mo_groupItem := sorry
theorem lm_Mo_494 : q_gV "DrawingHouseModel" 494 18 2 m_Mo_met := sorry
theorem lm_Mo_499 : q_gV "DrawingHouseModel" 499 18 2 m_Mo_of := sorry
def w_Mo_item_94 (l : Launch) (D : qD) (d0 : Nat) (B : Nat × Nat) (Q : qQ) : qK := (s_vret Q)
theorem Mo_item_94 {l : Launch} {D : qD} {d0 : Nat} {B : Nat × Nat} {Q : qQ} : qI (w_Mo_item_94 l D d0 B Q) (qR l D (d0 + 1, B) m_Mo_item 94 Q) := sorry
def w_Mo_item_89 (l : Launch) (D : qD) (d0 : Nat) (B : Nat × Nat) (Q : qQ) : qK := (s_aload 0 (s_iload 1 (s_invV l D (d0, 0, 0) 18 m_Mo_edgeItem 1 (w_Mo_item_94 l D d0 B Q))))
theorem Mo_item_89 {l : Launch} {D : qD} {d0 : Nat} {B : Nat × Nat} {Q : qQ} : qI (w_Mo_item_89 l D d0 B Q) (qR l D (d0 + 1, B) m_Mo_item 89 Q) := sorry
def w_Mo_item_70 (l : Launch) (D : qD) (d0 : Nat) (B : Nat × Nat) (Q : qQ) : qK := (s_aload 0 (s_sc (-41) (s_invV l D (d0, 0, 0) 18 m_Mo_isWord 1 (s_if_eq (w_Mo_item_89 l D d0 B Q) (s_aload 0 (s_iload 1 (s_iload 2 (s_invV l D (d0, 0, 0) 18 m_Mo_groupItem 2 (w_Mo_item_94 l D d0 B Q)))))))))
theorem Mo_item_70 {l : Launch} {D : qD} {d0 : Nat} {B : Nat × Nat} {Q : qQ} : qI (w_Mo_item_70 l D d0 B Q) (qR l D (d0 + 1, B) m_Mo_item 70 Q) := sorry
def w_Mo_item_61 (l : Launch) (D : qD) (d0 : Nat) (B : Nat × Nat) (Q : qQ) : qK := (s_aload 0 (s_ic (59) (s_invV l D (d0, 0, 0) 18 m_Mo_need 1 (w_Mo_item_94 l D d0 B Q))))
theorem Mo_item_61 {l : Launch} {D : qD} {d0 : Nat} {B : Nat × Nat} {Q : qQ} : qI (w_Mo_item_61 l D d0 B Q) (qR l D (d0 + 1, B) m_Mo_item 61 Q) := sorry
def w_Mo_item_0 (l : Launch) (D : qD) (d0 : Nat) (B : Nat × Nat) (Q : qQ) : qK := (s_aload 0 (s_sc (-40) (s_invV l D (d0, 0, 0) 18 m_Mo_isWord 1 (s_if_eq (w_Mo_item_70 l D d0 B Q) (s_aload 0 (s_invV l D (d0, 0, 0) 18 m_Mo_next 0 (s_aload 0 (s_iload 1 (s_ic (-1) (s_invV l D (d0, 0, 0) 18 m_Mo_met 2 (s_istore 3 (s_aload 0 (s_sc (-42) (s_ic (99) (s_invV l D (d0, 0, 0) 18 m_Mo_of 2 (s_istore 4 (s_aload 0 (s_getI 18 8 (s_if_ne (w_Mo_item_61 l D d0 B Q) (s_iload 4 (s_if_le (w_Mo_item_61 l D d0 B Q) (s_aload 0 (s_getR 18 2 (s_aload 0 (s_getI 18 5 (s_ic (219) (s_iadd (s_iload 3 (s_iadd (s_iload 4 (s_iast (w_Mo_item_61 l D d0 B Q))))))))))))))))))))))))))))))))
theorem Mo_item_0 {l : Launch} {D : qD} {d0 : Nat} {B : Nat × Nat} {Q : qQ} : qI (w_Mo_item_0 l D d0 B Q) (qR l D (d0 + 1, B) m_Mo_item 0 Q) := sorry
def w_Mo_edgeItem_174 (l : Launch) (D : qD) (d0 : Nat) (B : Nat × Nat) (Q : qQ) : qK := (s_aload 0 (s_ic (59) (s_invV l D (d0, 0, 0) 18 m_Mo_need 1 (s_vret Q))))
theorem Mo_edgeItem_174 {l : Launch} {D : qD} {d0 : Nat} {B : Nat × Nat} {Q : qQ} : qI (w_Mo_edgeItem_174 l D d0 B Q) (qR l D (d0 + 1, B) m_Mo_edgeItem 174 Q) := sorry
def w_Mo_edgeItem_129 (l : Launch) (D : qD) (d0 : Nat) (B : Nat × Nat) (Q : qQ) : qK := (s_iload 5 (s_aload 0 (s_Mo_edges d0 (s_icmp_ge (w_Mo_edgeItem_174 l D d0 B Q) (s_iload 4 (s_if_le (w_Mo_edgeItem_174 l D d0 B Q) (s_aload 0 (s_getI 18 8 (s_if_ne (w_Mo_edgeItem_174 l D d0 B Q) (s_aload 0 (s_getR 18 2 (s_aload 0 (s_getI 18 5 (s_ic (363) (s_iadd (s_iload 5 (s_iadd (s_iload 4 (s_iast (s_iinc 5 (1) (qR l D (d0 + 1, B) m_Mo_edgeItem 129 Q)))))))))))))))))))))
theorem Mo_edgeItem_129 {l : Launch} {D : qD} {d0 : Nat} {B : Nat × Nat} {Q : qQ} : qI (w_Mo_edgeItem_129 l D d0 B Q) (qR l D (d0 + 1, B) m_Mo_edgeItem 129 Q) := sorry
def w_Mo_edgeItem_115 (l : Launch) (D : qD) (d0 : Nat) (B : Nat × Nat) (Q : qQ) : qK := (s_aload 0 (s_sc (-43) (s_ic (9) (s_invV l D (d0, 0, 0) 18 m_Mo_of 2 (s_istore 4 (s_iload 3 (s_istore 5 (qR l D (d0 + 1, B) m_Mo_edgeItem 129 Q))))))))
theorem Mo_edgeItem_115 {l : Launch} {D : qD} {d0 : Nat} {B : Nat × Nat} {Q : qQ} : qI (w_Mo_edgeItem_115 l D d0 B Q) (qR l D (d0 + 1, B) m_Mo_edgeItem 115 Q) := sorry
def w_Mo_edgeItem_100 (l : Launch) (D : qD) (d0 : Nat) (B : Nat × Nat) (Q : qQ) : qK := (s_aload 0 (s_iload 2 (s_iload 5 (s_iload 4 (s_Mo_newEdge d0 (s_iload 5 (s_istore 2 (qR l D (d0 + 1, B) m_Mo_edgeItem 46 Q))))))))
theorem Mo_edgeItem_100 {l : Launch} {D : qD} {d0 : Nat} {B : Nat × Nat} {Q : qQ} : qI (w_Mo_edgeItem_100 l D d0 B Q) (qR l D (d0 + 1, B) m_Mo_edgeItem 100 Q) := sorry
def w_Mo_edgeItem_78 (l : Launch) (D : qD) (d0 : Nat) (B : Nat × Nat) (Q : qQ) : qK := (s_istore 4 (s_aload 0 (s_invV l D (d0, 0, 0) 18 m_Mo_next 0 (s_aload 0 (s_iload 1 (s_iload 2 (s_invV l D (d0, 0, 0) 18 m_Mo_met 2 (s_istore 5 (s_aload 0 (s_getI 18 8 (s_if_le (w_Mo_edgeItem_100 l D d0 B Q) (s_vret Q))))))))))))
theorem Mo_edgeItem_78 {l : Launch} {D : qD} {d0 : Nat} {B : Nat × Nat} {Q : qQ} : qI (w_Mo_edgeItem_78 l D d0 B Q) (qR l D (d0 + 1, B) m_Mo_edgeItem 78 Q) := sorry
def w_Mo_edgeItem_77 (l : Launch) (D : qD) (d0 : Nat) (B : Nat × Nat) (Q : qQ) : qK := (s_ic (0) (w_Mo_edgeItem_78 l D d0 B Q))
theorem Mo_edgeItem_77 {l : Launch} {D : qD} {d0 : Nat} {B : Nat × Nat} {Q : qQ} : qI (w_Mo_edgeItem_77 l D d0 B Q) (qR l D (d0 + 1, B) m_Mo_edgeItem 77 Q) := sorry
def w_Mo_edgeItem_64 (l : Launch) (D : qD) (d0 : Nat) (B : Nat × Nat) (Q : qQ) : qK := (s_aload 0 (s_getI 18 14 (s_ic (62) (s_icmp_ne (w_Mo_edgeItem_77 l D d0 B Q) (s_ic (1) (w_Mo_edgeItem_78 l D d0 B Q))))))
theorem Mo_edgeItem_64 {l : Launch} {D : qD} {d0 : Nat} {B : Nat × Nat} {Q : qQ} : qI (w_Mo_edgeItem_64 l D d0 B Q) (qR l D (d0 + 1, B) m_Mo_edgeItem 64 Q) := sorry
def w_Mo_edgeItem_46 (l : Launch) (D : qD) (d0 : Nat) (B : Nat × Nat) (Q : qQ) : qK := (s_aload 0 (s_ic (45) (s_Mo_sign d0 (s_if_ne (w_Mo_edgeItem_64 l D d0 B Q) (s_aload 0 (s_ic (62) (s_Mo_sign d0 (s_if_eq (w_Mo_edgeItem_115 l D d0 B Q) (w_Mo_edgeItem_64 l D d0 B Q)))))))))
theorem Mo_edgeItem_46 {l : Launch} {D : qD} {d0 : Nat} {B : Nat × Nat} {Q : qQ} : qI (w_Mo_edgeItem_46 l D d0 B Q) (qR l D (d0 + 1, B) m_Mo_edgeItem 46 Q) := sorry
def w_Mo_edgeItem_0 (l : Launch) (D : qD) (d0 : Nat) (B : Nat × Nat) (Q : qQ) : qK := (s_aload 0 (s_iload 1 (s_ic (-1) (s_invV l D (d0, 0, 0) 18 m_Mo_met 2 (s_istore 2 (s_aload 0 (s_Mo_edges d0 (s_istore 3 (s_aload 0 (s_getI 18 8 (s_if_ne (qR l D (d0 + 1, B) m_Mo_edgeItem 46 Q) (s_aload 0 (s_ic (45) (s_Mo_sign d0 (s_if_ne (qR l D (d0 + 1, B) m_Mo_edgeItem 46 Q) (s_aload 0 (s_ic (62) (s_Mo_sign d0 (s_if_ne (qR l D (d0 + 1, B) m_Mo_edgeItem 46 Q) (s_aload 0 (s_ic (1) (s_aload 0 (s_getI 18 13 (s_Mo_wrong d0 (qR l D (d0 + 1, B) m_Mo_edgeItem 46 Q)))))))))))))))))))))))))
theorem Mo_edgeItem_0 {l : Launch} {D : qD} {d0 : Nat} {B : Nat × Nat} {Q : qQ} : qI (w_Mo_edgeItem_0 l D d0 B Q) (qR l D (d0 + 1, B) m_Mo_edgeItem 0 Q) := sorry
end
section
/-! ===== texts: tokens, in plain words ===== -/
/-- from a on, as far as P holds -/
noncomputable def frr (P : Int → Prop) : Nat → Int → Int
  | 0, a => a
  | n + 1, a => @ite Int (P a) (Classical.propDecidable _) (frr P n (a + 1)) a
theorem frr_eq {P : Int → Prop} : ∀ {n : Nat} {a p : Int}, a ≤ p → p ≤ a + n → (∀ j, a ≤ j → j < p → P j) → (p < a + n → ¬ P p) → frr P n a = p := sorry
theorem frr_sp {P : Int → Prop} : ∀ (n : Nat) (a : Int), (a ≤ frr P n a ∧ frr P n a ≤ a + n) ∧ (∀ j, a ≤ j → j < frr P n a → P j) ∧ (frr P n a < a + n → ¬ P (frr P n a)) := sorry
/-- the number of so many digits from p on -/
def dvl (b : Int → Int) (p : Int) : Nat → Int
  | 0 => 0
  | n + 1 => 10 * dvl b p n + (b (p + n) - 48)
abbrev isLt (c : Int) : Prop := (97 ≤ c ∧ c ≤ 122) ∨ (65 ≤ c ∧ c ≤ 90)
abbrev isDg (c : Int) : Prop := 48 ≤ c ∧ c ≤ 57
abbrev isBl (c : Int) : Prop := c = 32 ∨ c = 10
theorem dvl_b {b : Int → Int} {p : Int} : ∀ {n : Nat}, (∀ j, p ≤ j → j < p + n → isDg (b j)) → 0 ≤ dvl b p n ∧ dvl b p n < 10 ^ n := sorry
theorem dvl_6 {b : Int → Int} {p : Int} {n : Nat} (h : ∀ j, p ≤ j → j < p + n → isDg (b j)) (n6 : n ≤ 6) : 0 ≤ dvl b p n ∧ dvl b p n ≤ 999999 := sorry
theorem dvl_4 {b : Int → Int} {p : Int} {n : Nat} (h : ∀ j, p ≤ j → j < p + n → isDg (b j)) (n4 : n ≤ 4) : 0 ≤ dvl b p n ∧ dvl b p n ≤ 9999 := sorry
/-- a token: kind (0 end, 1 word, 2 number, 3 sign, 4 none of them), place, end, value -/
abbrev Tk : Type := Int × Int × Int × Int
/-- how texts are cut: what a word begins with, what it holds, signs, how many digits a number may have -/
abbrev Md : Type := (Int → Prop) × (Int → Prop) × (Int → Prop) × Int
def mG : Md := (fun c => isLt c, fun c => isLt c ∨ isDg c ∨ c = 95, fun c => c = 123 ∨ c = 125 ∨ c = 91 ∨ c = 93 ∨ c = 59 ∨ c = 61 ∨ c = 45 ∨ c = 62, 3)
def mS : Md := (fun c => 97 ≤ c ∧ c ≤ 122, fun c => 97 ≤ c ∧ c ≤ 122, fun c => c = 123 ∨ c = 125 ∨ c = 40 ∨ c = 41 ∨ c = 58 ∨ c = 61 ∨ c = 44 ∨ c = 59 ∨ c = 60 ∨ c = 62 ∨ c = 43 ∨ c = 45 ∨ c = 42 ∨ c = 47, 4)
def wTk (p q : Int) : Tk := if q - p ≤ 8 then (1, p, q, 0) else (4, p, p, 0)
def nTk (b : Int → Int) (dr p q : Int) : Tk := if q - p ≤ dr then (2, p, q, dvl b p (q - p).toNat) else (4, p, p, 0)
noncomputable def tkp (M : Md) (b : Int → Int) (N p : Int) : Tk :=
  if p = N then (0, N, N, 0)
  else @ite Tk (M.1 (b p)) (Classical.propDecidable _) (wTk p (frr (fun j => M.2.1 (b j)) (N - p).toNat p))
    (@ite Tk (isDg (b p)) (Classical.propDecidable _) (nTk b M.2.2.2 p (frr (fun j => isDg (b j)) (N - p).toNat p))
      (@ite Tk (M.2.2.1 (b p)) (Classical.propDecidable _) (3, p, p + 1, b p) (4, p, p, 0)))
/-- the token that is met from a on -/
noncomputable def tkn (M : Md) (b : Int → Int) (N a : Int) : Tk := tkp M b N (frr (fun j => isBl (b j)) (N - a).toNat a)
theorem tkn_at {M : Md} {b : Int → Int} {N a p : Int} (h1 : a ≤ p) (h2 : p ≤ N) (h3 : ∀ j, a ≤ j → j < p → isBl (b j)) (h4 : p < N → ¬ isBl (b p)) : tkn M b N a = tkp M b N p := sorry
theorem tkp_e {M : Md} {b : Int → Int} {N : Int} : tkp M b N N = (0, N, N, 0) := sorry
theorem tkp_w {M : Md} {b : Int → Int} {N p q : Int} (h : p < N) (hL : M.1 (b p)) (h1 : p ≤ q) (h2 : q ≤ N) (h3 : ∀ j, p ≤ j → j < q → M.2.1 (b j)) (h4 : q < N → ¬ M.2.1 (b q)) : tkp M b N p = wTk p q := sorry
theorem tkp_n {M : Md} {b : Int → Int} {N p q : Int} (h : p < N) (hL : ¬ M.1 (b p)) (hD : isDg (b p)) (h1 : p ≤ q) (h2 : q ≤ N) (h3 : ∀ j, p ≤ j → j < q → isDg (b j)) (h4 : q < N → ¬ isDg (b q)) : tkp M b N p = nTk b M.2.2.2 p q := sorry
theorem tkp_s {M : Md} {b : Int → Int} {N p : Int} (h : p < N) (hL : ¬ M.1 (b p)) (hD : ¬ isDg (b p)) (hS : M.2.2.1 (b p)) : tkp M b N p = (3, p, p + 1, b p) := sorry
theorem tkp_x {M : Md} {b : Int → Int} {N p : Int} (h : p < N) (hL : ¬ M.1 (b p)) (hD : ¬ isDg (b p)) (hS : ¬ M.2.2.1 (b p)) : tkp M b N p = (4, p, p, 0) := sorry
/-- what a token is -/
def TKO (M : Md) (b : Int → Int) (N a : Int) (t : Tk) : Prop :=
  (a ≤ t.2.1 ∧ t.2.1 ≤ N) ∧ ((t.1 = 0 ∧ t.2.1 = N ∧ t.2.2.1 = N) ∨ (t.1 = 1 ∧ t.2.1 < t.2.2.1 ∧ t.2.2.1 ≤ N ∧ t.2.2.1 - t.2.1 ≤ 8 ∧ ∀ j, t.2.1 ≤ j → j < t.2.2.1 → M.2.1 (b j)) ∨ (t.1 = 2 ∧ t.2.1 < t.2.2.1 ∧ t.2.2.1 ≤ N ∧ 0 ≤ t.2.2.2 ∧ t.2.2.2 ≤ 9999) ∨ (t.1 = 3 ∧ t.2.1 < N ∧ t.2.2.1 = t.2.1 + 1 ∧ M.2.2.1 t.2.2.2) ∨ (t.1 = 4 ∧ t.2.1 < N))
theorem tkn_ok {M : Md} {b : Int → Int} {N a : Int} (hW : ∀ c, M.1 c → M.2.1 c) (dr : M.2.2.2 ≤ 4) (h : a ≤ N) : TKO M b N a (tkn M b N a) := sorry
theorem mG_ok : (∀ c, mG.1 c → mG.2.1 c) ∧ mG.2.2.2 ≤ 4 ∧ ∀ c, mG.2.2.1 c → 40 ≤ c ∧ c ≤ 125 := sorry
theorem mS_ok : (∀ c, mS.1 c → mS.2.1 c) ∧ mS.2.2.2 ≤ 4 ∧ ∀ c, mS.2.2.1 c → 40 ≤ c ∧ c ≤ 125 := sorry
/-- as the component tells tokens -/
def tcd (t : Tk) : Int := if t.1 = 3 then t.2.2.2 else if t.1 = 4 then -1 else t.1
/-- a token is such a sign -/
def isSg (t : Tk) (c : Int) : Prop := t.1 = 3 ∧ t.2.2.2 = c
/-- a token is such a word -/
def isW (b : Int → Int) (t : Tk) (L : List Int) : Prop := t.1 = 1 ∧ t.2.2.1 - t.2.1 = L.length ∧ ∀ k : Nat, k < L.length → b (t.2.1 + k) = L.getD k 0
theorem tcd_s {M : Md} {b : Int → Int} {N a c : Int} {t : Tk} (h : TKO M b N a t) (hS : ∀ c, M.2.2.1 c → 40 ≤ c ∧ c ≤ 125) (hc : 40 ≤ c) : tcd t = c ↔ isSg t c := sorry
theorem tcd_k {M : Md} {b : Int → Int} {N a c : Int} {t : Tk} (h : TKO M b N a t) (hS : ∀ c, M.2.2.1 c → 40 ≤ c ∧ c ≤ 125) (hc : 0 ≤ c ∧ c ≤ 2) : tcd t = c ↔ t.1 = c := sorry
theorem wrd_g (z : Int) : ∀ (n k : Nat), k < n → (wrd z n).getD k 0 = stC z k := sorry
theorem stL_b {z : Int} (hz : z ≤ -2 ∧ -77 < z) : 0 ≤ stL z ∧ stL z ≤ 20 := sorry
theorem wz_len {z : Int} (hz : z ≤ -2 ∧ -77 < z) : ((wz z).length : Int) = stL z := sorry
theorem wz_get {z : Int} {k : Nat} (h : k < (wz z).length) : (wz z).getD k 0 = stC z k := sorry
/-- bytes & 255 -/
theorem iand_255 {x : Int} (h : -128 ≤ x ∧ x ≤ 127) : z_iand x 255 = x % 256 := sorry
/-- the bytes of a text -/
def tb (u : Int → Int) (N : Int) : Int → Int := fun j => if j < N then u j % 256 else -1
end
section
/-! ===== Reader, for receivers of class 4 ===== -/
def RD4 (v : Int → Int → Int) (b : Int → Int) (N : Int) : Prop := (v 111 1 = 112 ∧ v 111 2 = 113) ∧ v 111 3 = N ∧ (0 ≤ N ∧ N ≤ 2000) ∧ (∀ j, 0 ≤ j → j < N → z_iand (v 112 j) 255 = b j ∧ (0 ≤ b j ∧ b j ≤ 255) ∧ (b j ≤ 127 → v 112 j = b j)) ∧ ∀ j, N ≤ j → b j = -1
abbrev rP4 : List (Int × Int) := [(111, 4), (111, 5), (111, 6), (111, 7)]
theorem RD4.fw {C : List Int} {P : List (Int × Int)} {v v' : Int → Int → Int} {b : Int → Int} {N : Int} (h : RD4 v b N) (k : FW C P v v') (h0 : (111 : Int) ∉ C) (h1 : (112 : Int) ∉ C) (hP : P.all (fun p => decide (p.1 ≠ 112 ∧ p ≠ (111, 1) ∧ p ≠ (111, 2) ∧ p ≠ (111, 3))) = true) : RD4 v' b N := sorry
/-- the token at hand -/
def CT4 (v : Int → Int → Int) (t : Tk) : Prop := v 111 6 = t.2.1 ∧ v 111 5 = tcd t ∧ (t.1 ≠ 4 → v 111 4 = t.2.2.1) ∧ (t.1 = 2 → v 111 7 = t.2.2.2)
theorem CT4.fw {C : List Int} {P : List (Int × Int)} {v v' : Int → Int → Int} {t : Tk} (h : CT4 v t) (k : FW C P v v') (h0 : (111 : Int) ∉ C) (hP : P.all (fun p => decide (p ≠ (111, 4) ∧ p ≠ (111, 5) ∧ p ≠ (111, 6) ∧ p ≠ (111, 7))) = true) : CT4 v' t := sorry
set_option maxRecDepth 100000 in
theorem sp_Re4_byteAt {l : Launch} {D : qD} {d : Nat} {k N : Int} {b : Int → Int} {h : qh} {Q : qQ} (rd : RD4 h.2 b N) (k0 : 0 ≤ k) (hq : Q (some (.inl (b k))) h) : qM l D (d + 1, 0, 0) m_Re_byteAt [.inr (.inr 111), .inl k] h Q := sorry
theorem iv_by4 {l : Launch} {D : qD} {d : Nat} {K : qK} {ls : List (Option qv)} {st : List qv} {h : qh} {k N : Int} {b : Int → Int} (rd : RD4 h.2 b N) (k0 : 0 ≤ k) (cs : q_cs st ≤ 8) (hk : K ls (.inl (b k) :: st) h) : s_invV l D (d + 1, 0, 0) 4 m_Re_byteAt 1 K ls (.inl k :: .inr (.inr 111) :: st) h := sorry
set_option maxRecDepth 100000 in
theorem sp_Re4_fails {l : Launch} {D : qD} {d : Nat} {y w N : Int} {b : Int → Int} {h : qh} {Q : qQ} (rd : RD4 h.2 b N) (hq : Q (some (.inr (.inr 113))) (h.1, up2 (up2 h.2 111 8 y) 111 9 w)) : qM l D (d + 1, 0, 0) m_Re_fails [.inr (.inr 111), .inl y, .inl w] h Q := sorry
theorem iv_fa4 {l : Launch} {D : qD} {d : Nat} {K : qK} {ls : List (Option qv)} {st : List qv} {h : qh} {y w N : Int} {b : Int → Int} (rd : RD4 h.2 b N) (cs : q_cs st ≤ 8) (hk : K ls (.inr (.inr 113) :: st) (h.1, up2 (up2 h.2 111 8 y) 111 9 w)) : s_invV l D (d + 1, 0, 0) 4 m_Re_fails 2 K ls (.inl w :: .inl y :: .inr (.inr 111) :: st) h := sorry
set_option maxRecDepth 100000 in
theorem sp_Re4_is {l : Launch} {D : qD} {d : Nat} {k : Int} {h : qh} {Q : qQ} (h1 : h.2 111 5 = k → Q (some (.inl 1)) h) (h0 : h.2 111 5 ≠ k → Q (some (.inl 0)) h) : qM l D (d + 1, 0, 0) m_Re_is [.inr (.inr 111), .inl k] h Q := sorry
theorem iv_is4 {l : Launch} {D : qD} {d : Nat} {K : qK} {ls : List (Option qv)} {st : List qv} {h : qh} {k : Int} (cs : q_cs st ≤ 8) (h1 : h.2 111 5 = k → K ls (.inl 1 :: st) h) (h0 : h.2 111 5 ≠ k → K ls (.inl 0 :: st) h) : s_invV l D (d + 1, 0, 0) 4 m_Re_is 1 K ls (.inl k :: .inr (.inr 111) :: st) h := sorry
set_option maxRecDepth 100000 in
theorem sp_Re4_wordSize {l : Launch} {D : qD} {d : Nat} {x y : Int} {h : qh} {Q : qQ} (e4 : h.2 111 4 = x) (e6 : h.2 111 6 = y) (b1 : 0 ≤ x ∧ x ≤ 2000) (b2 : 0 ≤ y ∧ y ≤ 2000) (hq : Q (some (.inl (x - y))) h) : qM l D (d + 1, 0, 0) m_Re_wordSize [.inr (.inr 111)] h Q := sorry
theorem iv_ws4 {l : Launch} {D : qD} {d : Nat} {K : qK} {ls : List (Option qv)} {st : List qv} {h : qh} {x y : Int} (e4 : h.2 111 4 = x) (e6 : h.2 111 6 = y) (b1 : 0 ≤ x ∧ x ≤ 2000) (b2 : 0 ≤ y ∧ y ≤ 2000) (cs : q_cs st ≤ 8) (hk : K ls (.inl (x - y) :: st) h) : s_invV l D (d + 1, 0, 0) 4 m_Re_wordSize 0 K ls (.inr (.inr 111) :: st) h := sorry
/-- what a word holds -/
noncomputable def ofwG (c : Int) (_ : Int → Int → Int) : Int := @ite Int (mG.2.1 c) (Classical.propDecidable _) 1 0
theorem ofwG_1 {c : Int} {v : Int → Int → Int} (h : mG.2.1 c) : ofwG c v = 1 := sorry
theorem ofwG_0 {c : Int} {v : Int → Int → Int} (h : ¬ mG.2.1 c) : ofwG c v = 0 := sorry
theorem letG_1 {c : Int} {v : Int → Int → Int} (h : mG.1 c) : f_DH_isLetter c v = 1 := sorry
theorem letG_0 {c : Int} {v : Int → Int → Int} (h : ¬ mG.1 c) : f_DH_isLetter c v = 0 := sorry
theorem sgG_1 {c : Int} {v : Int → Int → Int} (h : mG.2.2.1 c) : f_GR_isSign c v = 1 := sorry
theorem sgG_0 {c : Int} {v : Int → Int → Int} (h : ¬ mG.2.2.1 c) : f_GR_isSign c v = 0 := sorry
set_option maxRecDepth 100000 in
theorem sp_GR_isOfWord {l : Launch} {D : qD} {d : Nat} {c : Int} {h : qh} {Q : qQ} (hq : Q (some (.inl (ofwG c h.2))) h) : qM l D (d + 2, 0, 0) m_GR_isOfWord [.inr (.inr 111), .inl c] h Q := sorry
theorem iv_ofw {l : Launch} {D : qD} {d : Nat} {K : qK} {ls : List (Option qv)} {st : List qv} {h : qh} {c : Int} (cs : q_cs st ≤ 8) (hk : K ls (.inl (ofwG c h.2) :: st) h) : s_invV l D (d + 2, 0, 0) 4 m_GR_isOfWord 1 K ls (.inl c :: .inr (.inr 111) :: st) h := sorry
/-! ### the next token -/
set_option maxRecDepth 100000 in
theorem Re4_nx_d {l : Launch} {D : qD} {d : Nat} {N : Int} {b : Int → Int} {v0 : Int → Int → Int} {T : Tk} {h : qh} {Q : qQ} (rd : RD4 v0 b N) (hq : ∀ v, FW [] rP4 v0 v → CT4 v T → Q none (h.1, v)) :
    ∀ (n : Nat) (v : Int → Int → Int) (p k y : Int) (c : Int), N - (p + k) = n → FW [] rP4 v0 v → (v 111 6 = p ∧ v 111 5 = -1 ∧ v 111 4 = p + k ∧ v 111 7 = y) → (0 ≤ p ∧ 0 ≤ k) → (∀ j, p ≤ j → j < p + k → isDg (b j)) → (0 ≤ y ∧ y ≤ 999999) → (k ≤ 6 → y = dvl b p k.toNat) → (∀ q, p ≤ q → q ≤ N → (∀ j, p ≤ j → j < q → isDg (b j)) → ¬ isDg (b q) → T = nTk b 3 p q) → qR l D (d + 3, 0, 0) m_Re_next 170 (fun r h' => Q r ((h'.1.1, h.1.2.1, h.1.2.2), h'.2)) [some (.inr (.inr (111))), some (.inl (c))] [] ((h.1.1, 0, 0), v) := sorry
set_option maxRecDepth 100000 in
theorem Re4_nx_w {l : Launch} {D : qD} {d : Nat} {N : Int} {b : Int → Int} {v0 : Int → Int → Int} {T : Tk} {h : qh} {Q : qQ} (rd : RD4 v0 b N) (hq : ∀ v, FW [] rP4 v0 v → CT4 v T → Q none (h.1, v)) :
    ∀ (n : Nat) (v : Int → Int → Int) (p k : Int) (c : Int), N - (p + k) = n → FW [] rP4 v0 v → (v 111 6 = p ∧ v 111 5 = -1 ∧ v 111 4 = p + k) → (0 ≤ p ∧ 0 ≤ k) → (∀ j, p ≤ j → j < p + k → mG.2.1 (b j)) → (∀ q, p ≤ q → q ≤ N → (∀ j, p ≤ j → j < q → mG.2.1 (b j)) → (q < N → ¬ mG.2.1 (b q)) → T = wTk p q) → qR l D (d + 3, 0, 0) m_Re_next 95 (fun r h' => Q r ((h'.1.1, h.1.2.1, h.1.2.2), h'.2)) [some (.inr (.inr (111))), some (.inl (c))] [] ((h.1.1, 0, 0), v) := sorry
set_option maxRecDepth 100000 in
theorem sp_Re4_next {l : Launch} {D : qD} {d : Nat} {a N : Int} {b : Int → Int} {h : qh} {Q : qQ} (rd : RD4 h.2 b N) (ea : h.2 111 4 = a) (ab : 0 ≤ a ∧ a ≤ N) (hq : ∀ v, FW [] rP4 h.2 v → CT4 v (tkn mG b N a) → Q none (h.1, v)) :
    qM l D (d + 3, 0, 0) m_Re_next [.inr (.inr 111)] h Q := sorry
theorem iv_nx4 {l : Launch} {D : qD} {d : Nat} {K : qK} {ls : List (Option qv)} {st : List qv} {h : qh} {a N : Int} {b : Int → Int} (rd : RD4 h.2 b N) (ea : h.2 111 4 = a) (ab : 0 ≤ a ∧ a ≤ N) (cs : q_cs st ≤ 8) (hk : ∀ v, FW [] rP4 h.2 v → CT4 v (tkn mG b N a) → K ls st (h.1, v)) : s_invV l D (d + 3, 0, 0) 4 m_Re_next 0 K ls (.inr (.inr 111) :: st) h := sorry
/-! ### need, takes, must, isThe -/
set_option maxRecDepth 100000 in
theorem sp_Re4_takes {l : Launch} {D : qD} {d : Nat} {c a N : Int} {b : Int → Int} {h : qh} {Q : qQ} (rd : RD4 h.2 b N) (h1 : h.2 111 5 = c → (h.2 111 4 = a ∧ 0 ≤ a ∧ a ≤ N) ∧ ∀ v, FW [] rP4 h.2 v → CT4 v (tkn mG b N a) → Q (some (.inl 1)) (h.1, v)) (h0 : h.2 111 5 ≠ c → Q (some (.inl 0)) h) : qM l D (d + 4, 0, 0) m_Re_takes [.inr (.inr 111), .inl c] h Q := sorry
set_option maxRecDepth 100000 in
theorem sp_Re4_need {l : Launch} {D : qD} {d : Nat} {g p N : Int} {b : Int → Int} {h : qh} {Q : xQ} (rd : RD4 h.2 b N) (e6 : h.2 111 6 = p) (h1 : g ≠ 0 → Q.1 none h) (h0 : g = 0 → Q.2 113 (h.1, up2 (up2 h.2 111 8 1) 111 9 p)) : xM l D (d + 2, 0, 0) m_Re_need [.inr (.inr 111), .inl g] h Q := sorry
theorem tv_ne4 {l : Launch} {D : qD} {d : Nat} {K : qK} {X : List (Option qv) → xX} {ls : List (Option qv)} {st : List qv} {h : qh} {g p N : Int} {b : Int → Int} (rd : RD4 h.2 b N) (e6 : h.2 111 6 = p) (cs : q_cs st ≤ 8) (h1 : g ≠ 0 → K ls st h) (h0 : g = 0 → X ls 113 (h.1, up2 (up2 h.2 111 8 1) 111 9 p)) : s_tinvV l D (d + 2, 0, 0) 4 m_Re_need 1 K X ls (.inl g :: .inr (.inr 111) :: st) h := sorry
set_option maxRecDepth 100000 in
theorem sp_Re4_must {l : Launch} {D : qD} {d : Nat} {c N : Int} {b : Int → Int} {t : Tk} {h : qh} {Q : xQ} (rd : RD4 h.2 b N) (ct : CT4 h.2 t) (h1 : tcd t = c → (t.1 ≠ 4 ∧ 0 ≤ t.2.2.1 ∧ t.2.2.1 ≤ N) ∧ ∀ v, FW [] rP4 h.2 v → CT4 v (tkn mG b N t.2.2.1) → Q.1 none (h.1, v)) (h0 : tcd t ≠ c → Q.2 113 (h.1, up2 (up2 h.2 111 8 1) 111 9 t.2.1)) : xM l D (d + 5, 0, 0) m_Re_must [.inr (.inr 111), .inl c] h Q := sorry
theorem tv_mu4 {l : Launch} {D : qD} {d : Nat} {K : qK} {X : List (Option qv) → xX} {ls : List (Option qv)} {st : List qv} {h : qh} {c N : Int} {b : Int → Int} {t : Tk} (rd : RD4 h.2 b N) (ct : CT4 h.2 t) (cs : q_cs st ≤ 8) (h1 : tcd t = c → (t.1 ≠ 4 ∧ 0 ≤ t.2.2.1 ∧ t.2.2.1 ≤ N) ∧ ∀ v, FW [] rP4 h.2 v → CT4 v (tkn mG b N t.2.2.1) → K ls st (h.1, v)) (h0 : tcd t ≠ c → X ls 113 (h.1, up2 (up2 h.2 111 8 1) 111 9 t.2.1)) : s_tinvV l D (d + 5, 0, 0) 4 m_Re_must 1 K X ls (.inl c :: .inr (.inr 111) :: st) h := sorry
set_option maxRecDepth 100000 in
theorem sp_Re4_isThe {l : Launch} {D : qD} {d : Nat} {z N : Int} {b : Int → Int} {t : Tk} {h : qh} {Q : qQ} (rd : RD4 h.2 b N) (ct : CT4 h.2 t) (hz : z ≤ -2 ∧ -77 < z) (tk : tcd t = 1 ↔ t.1 = 1) (tb0 : t.1 = 1 → 0 ≤ t.2.1 ∧ t.2.1 ≤ t.2.2.1 ∧ t.2.2.1 ≤ N) (h1 : isW b t (wz z) → Q (some (.inl 1)) h) (h0 : ¬ isW b t (wz z) → Q (some (.inl 0)) h) : qM l D (d + 5, 0, 0) m_Re_isThe [.inr (.inr 111), .inr (.inr z)] h Q := sorry
theorem iv_th4 {l : Launch} {D : qD} {d : Nat} {K : qK} {ls : List (Option qv)} {st : List qv} {h : qh} {z N : Int} {b : Int → Int} {t : Tk} (rd : RD4 h.2 b N) (ct : CT4 h.2 t) (hz : z ≤ -2 ∧ -77 < z) (tk : tcd t = 1 ↔ t.1 = 1) (tb0 : t.1 = 1 → 0 ≤ t.2.1 ∧ t.2.1 ≤ t.2.2.1 ∧ t.2.2.1 ≤ N) (cs : q_cs st ≤ 8) (h1 : isW b t (wz z) → K ls (.inl 1 :: st) h) (h0 : ¬ isW b t (wz z) → K ls (.inl 0 :: st) h) : s_invV l D (d + 5, 0, 0) 4 m_Re_isThe 1 K ls (.inr (.inr z) :: .inr (.inr 111) :: st) h := sorry
end
section
/-! ===== Reader, for receivers of class 6 ===== -/
def RD6 (v : Int → Int → Int) (b : Int → Int) (N : Int) : Prop := (v 126 10 = 127 ∧ v 126 11 = 128) ∧ v 126 12 = N ∧ (0 ≤ N ∧ N ≤ 2000) ∧ (∀ j, 0 ≤ j → j < N → z_iand (v 127 j) 255 = b j ∧ (0 ≤ b j ∧ b j ≤ 255) ∧ (b j ≤ 127 → v 127 j = b j)) ∧ ∀ j, N ≤ j → b j = -1
abbrev rP6 : List (Int × Int) := [(126, 13), (126, 14), (126, 15), (126, 16)]
theorem RD6.fw {C : List Int} {P : List (Int × Int)} {v v' : Int → Int → Int} {b : Int → Int} {N : Int} (h : RD6 v b N) (k : FW C P v v') (h0 : (126 : Int) ∉ C) (h1 : (127 : Int) ∉ C) (hP : P.all (fun p => decide (p.1 ≠ 127 ∧ p ≠ (126, 10) ∧ p ≠ (126, 11) ∧ p ≠ (126, 12))) = true) : RD6 v' b N := sorry
/-- the token at hand -/
def CT6 (v : Int → Int → Int) (t : Tk) : Prop := v 126 15 = t.2.1 ∧ v 126 14 = tcd t ∧ (t.1 ≠ 4 → v 126 13 = t.2.2.1) ∧ (t.1 = 2 → v 126 16 = t.2.2.2)
theorem CT6.fw {C : List Int} {P : List (Int × Int)} {v v' : Int → Int → Int} {t : Tk} (h : CT6 v t) (k : FW C P v v') (h0 : (126 : Int) ∉ C) (hP : P.all (fun p => decide (p ≠ (126, 13) ∧ p ≠ (126, 14) ∧ p ≠ (126, 15) ∧ p ≠ (126, 16))) = true) : CT6 v' t := sorry
set_option maxRecDepth 100000 in
theorem sp_Re6_byteAt {l : Launch} {D : qD} {d : Nat} {k N : Int} {b : Int → Int} {h : qh} {Q : qQ} (rd : RD6 h.2 b N) (k0 : 0 ≤ k) (hq : Q (some (.inl (b k))) h) : qM l D (d + 1, 0, 0) m_Re_byteAt [.inr (.inr 126), .inl k] h Q := sorry
theorem iv_by6 {l : Launch} {D : qD} {d : Nat} {K : qK} {ls : List (Option qv)} {st : List qv} {h : qh} {k N : Int} {b : Int → Int} (rd : RD6 h.2 b N) (k0 : 0 ≤ k) (cs : q_cs st ≤ 8) (hk : K ls (.inl (b k) :: st) h) : s_invV l D (d + 1, 0, 0) 6 m_Re_byteAt 1 K ls (.inl k :: .inr (.inr 126) :: st) h := sorry
set_option maxRecDepth 100000 in
theorem sp_Re6_fails {l : Launch} {D : qD} {d : Nat} {y w N : Int} {b : Int → Int} {h : qh} {Q : qQ} (rd : RD6 h.2 b N) (hq : Q (some (.inr (.inr 128))) (h.1, up2 (up2 h.2 126 17 y) 126 18 w)) : qM l D (d + 1, 0, 0) m_Re_fails [.inr (.inr 126), .inl y, .inl w] h Q := sorry
theorem iv_fa6 {l : Launch} {D : qD} {d : Nat} {K : qK} {ls : List (Option qv)} {st : List qv} {h : qh} {y w N : Int} {b : Int → Int} (rd : RD6 h.2 b N) (cs : q_cs st ≤ 8) (hk : K ls (.inr (.inr 128) :: st) (h.1, up2 (up2 h.2 126 17 y) 126 18 w)) : s_invV l D (d + 1, 0, 0) 6 m_Re_fails 2 K ls (.inl w :: .inl y :: .inr (.inr 126) :: st) h := sorry
set_option maxRecDepth 100000 in
theorem sp_Re6_is {l : Launch} {D : qD} {d : Nat} {k : Int} {h : qh} {Q : qQ} (h1 : h.2 126 14 = k → Q (some (.inl 1)) h) (h0 : h.2 126 14 ≠ k → Q (some (.inl 0)) h) : qM l D (d + 1, 0, 0) m_Re_is [.inr (.inr 126), .inl k] h Q := sorry
theorem iv_is6 {l : Launch} {D : qD} {d : Nat} {K : qK} {ls : List (Option qv)} {st : List qv} {h : qh} {k : Int} (cs : q_cs st ≤ 8) (h1 : h.2 126 14 = k → K ls (.inl 1 :: st) h) (h0 : h.2 126 14 ≠ k → K ls (.inl 0 :: st) h) : s_invV l D (d + 1, 0, 0) 6 m_Re_is 1 K ls (.inl k :: .inr (.inr 126) :: st) h := sorry
set_option maxRecDepth 100000 in
theorem sp_Re6_wordSize {l : Launch} {D : qD} {d : Nat} {x y : Int} {h : qh} {Q : qQ} (e4 : h.2 126 13 = x) (e6 : h.2 126 15 = y) (b1 : 0 ≤ x ∧ x ≤ 2000) (b2 : 0 ≤ y ∧ y ≤ 2000) (hq : Q (some (.inl (x - y))) h) : qM l D (d + 1, 0, 0) m_Re_wordSize [.inr (.inr 126)] h Q := sorry
theorem iv_ws6 {l : Launch} {D : qD} {d : Nat} {K : qK} {ls : List (Option qv)} {st : List qv} {h : qh} {x y : Int} (e4 : h.2 126 13 = x) (e6 : h.2 126 15 = y) (b1 : 0 ≤ x ∧ x ≤ 2000) (b2 : 0 ≤ y ∧ y ≤ 2000) (cs : q_cs st ≤ 8) (hk : K ls (.inl (x - y) :: st) h) : s_invV l D (d + 1, 0, 0) 6 m_Re_wordSize 0 K ls (.inr (.inr 126) :: st) h := sorry
theorem ofwS_1 {c : Int} {v : Int → Int → Int} (h : mS.2.1 c) : f_Sy_isOfWord c v = 1 := sorry
theorem ofwS_0 {c : Int} {v : Int → Int → Int} (h : ¬ mS.2.1 c) : f_Sy_isOfWord c v = 0 := sorry
theorem letS_1 {c : Int} {v : Int → Int → Int} (h : mS.1 c) : f_DH_isLetter c v = 1 := sorry
theorem sgS_1 {c : Int} {v : Int → Int → Int} (h : mS.2.2.1 c) : f_Sy_isSign c v = 1 := sorry
theorem sgS_0 {c : Int} {v : Int → Int → Int} (h : ¬ mS.2.2.1 c) : f_Sy_isSign c v = 0 := sorry
/-! ### the next token -/
set_option maxRecDepth 100000 in
theorem Re6_nx_d {l : Launch} {D : qD} {d : Nat} {N : Int} {b : Int → Int} {v0 : Int → Int → Int} {T : Tk} {h : qh} {Q : qQ} (rd : RD6 v0 b N) (hq : ∀ v, FW [] rP6 v0 v → CT6 v T → Q none (h.1, v)) :
    ∀ (n : Nat) (v : Int → Int → Int) (p k y : Int) (c : Int), N - (p + k) = n → FW [] rP6 v0 v → (v 126 15 = p ∧ v 126 14 = -1 ∧ v 126 13 = p + k ∧ v 126 16 = y) → (0 ≤ p ∧ 0 ≤ k) → (∀ j, p ≤ j → j < p + k → isDg (b j)) → (0 ≤ y ∧ y ≤ 999999) → (k ≤ 6 → y = dvl b p k.toNat) → (∀ q, p ≤ q → q ≤ N → (∀ j, p ≤ j → j < q → isDg (b j)) → ¬ isDg (b q) → T = nTk b 4 p q) → qR l D (d + 3, 0, 0) m_Re_next 170 (fun r h' => Q r ((h'.1.1, h.1.2.1, h.1.2.2), h'.2)) [some (.inr (.inr (126))), some (.inl (c))] [] ((h.1.1, 0, 0), v) := sorry
set_option maxRecDepth 100000 in
theorem Re6_nx_w {l : Launch} {D : qD} {d : Nat} {N : Int} {b : Int → Int} {v0 : Int → Int → Int} {T : Tk} {h : qh} {Q : qQ} (rd : RD6 v0 b N) (hq : ∀ v, FW [] rP6 v0 v → CT6 v T → Q none (h.1, v)) :
    ∀ (n : Nat) (v : Int → Int → Int) (p k : Int) (c : Int), N - (p + k) = n → FW [] rP6 v0 v → (v 126 15 = p ∧ v 126 14 = -1 ∧ v 126 13 = p + k) → (0 ≤ p ∧ 0 ≤ k) → (∀ j, p ≤ j → j < p + k → mS.2.1 (b j)) → (∀ q, p ≤ q → q ≤ N → (∀ j, p ≤ j → j < q → mS.2.1 (b j)) → (q < N → ¬ mS.2.1 (b q)) → T = wTk p q) → qR l D (d + 3, 0, 0) m_Re_next 95 (fun r h' => Q r ((h'.1.1, h.1.2.1, h.1.2.2), h'.2)) [some (.inr (.inr (126))), some (.inl (c))] [] ((h.1.1, 0, 0), v) := sorry
set_option maxRecDepth 100000 in
theorem sp_Re6_next {l : Launch} {D : qD} {d : Nat} {a N : Int} {b : Int → Int} {h : qh} {Q : qQ} (rd : RD6 h.2 b N) (ea : h.2 126 13 = a) (ab : 0 ≤ a ∧ a ≤ N) (hq : ∀ v, FW [] rP6 h.2 v → CT6 v (tkn mS b N a) → Q none (h.1, v)) :
    qM l D (d + 3, 0, 0) m_Re_next [.inr (.inr 126)] h Q := sorry
theorem iv_nx6 {l : Launch} {D : qD} {d : Nat} {K : qK} {ls : List (Option qv)} {st : List qv} {h : qh} {a N : Int} {b : Int → Int} (rd : RD6 h.2 b N) (ea : h.2 126 13 = a) (ab : 0 ≤ a ∧ a ≤ N) (cs : q_cs st ≤ 8) (hk : ∀ v, FW [] rP6 h.2 v → CT6 v (tkn mS b N a) → K ls st (h.1, v)) : s_invV l D (d + 3, 0, 0) 6 m_Re_next 0 K ls (.inr (.inr 126) :: st) h := sorry
/-! ### need, takes, must, isThe -/
set_option maxRecDepth 100000 in
theorem sp_Re6_takes {l : Launch} {D : qD} {d : Nat} {c a N : Int} {b : Int → Int} {h : qh} {Q : qQ} (rd : RD6 h.2 b N) (h1 : h.2 126 14 = c → (h.2 126 13 = a ∧ 0 ≤ a ∧ a ≤ N) ∧ ∀ v, FW [] rP6 h.2 v → CT6 v (tkn mS b N a) → Q (some (.inl 1)) (h.1, v)) (h0 : h.2 126 14 ≠ c → Q (some (.inl 0)) h) : qM l D (d + 4, 0, 0) m_Re_takes [.inr (.inr 126), .inl c] h Q := sorry
set_option maxRecDepth 100000 in
theorem sp_Re6_need {l : Launch} {D : qD} {d : Nat} {g p N : Int} {b : Int → Int} {h : qh} {Q : xQ} (rd : RD6 h.2 b N) (e6 : h.2 126 15 = p) (h1 : g ≠ 0 → Q.1 none h) (h0 : g = 0 → Q.2 128 (h.1, up2 (up2 h.2 126 17 1) 126 18 p)) : xM l D (d + 2, 0, 0) m_Re_need [.inr (.inr 126), .inl g] h Q := sorry
theorem tv_ne6 {l : Launch} {D : qD} {d : Nat} {K : qK} {X : List (Option qv) → xX} {ls : List (Option qv)} {st : List qv} {h : qh} {g p N : Int} {b : Int → Int} (rd : RD6 h.2 b N) (e6 : h.2 126 15 = p) (cs : q_cs st ≤ 8) (h1 : g ≠ 0 → K ls st h) (h0 : g = 0 → X ls 128 (h.1, up2 (up2 h.2 126 17 1) 126 18 p)) : s_tinvV l D (d + 2, 0, 0) 6 m_Re_need 1 K X ls (.inl g :: .inr (.inr 126) :: st) h := sorry
set_option maxRecDepth 100000 in
theorem sp_Re6_must {l : Launch} {D : qD} {d : Nat} {c N : Int} {b : Int → Int} {t : Tk} {h : qh} {Q : xQ} (rd : RD6 h.2 b N) (ct : CT6 h.2 t) (h1 : tcd t = c → (t.1 ≠ 4 ∧ 0 ≤ t.2.2.1 ∧ t.2.2.1 ≤ N) ∧ ∀ v, FW [] rP6 h.2 v → CT6 v (tkn mS b N t.2.2.1) → Q.1 none (h.1, v)) (h0 : tcd t ≠ c → Q.2 128 (h.1, up2 (up2 h.2 126 17 1) 126 18 t.2.1)) : xM l D (d + 5, 0, 0) m_Re_must [.inr (.inr 126), .inl c] h Q := sorry
theorem tv_mu6 {l : Launch} {D : qD} {d : Nat} {K : qK} {X : List (Option qv) → xX} {ls : List (Option qv)} {st : List qv} {h : qh} {c N : Int} {b : Int → Int} {t : Tk} (rd : RD6 h.2 b N) (ct : CT6 h.2 t) (cs : q_cs st ≤ 8) (h1 : tcd t = c → (t.1 ≠ 4 ∧ 0 ≤ t.2.2.1 ∧ t.2.2.1 ≤ N) ∧ ∀ v, FW [] rP6 h.2 v → CT6 v (tkn mS b N t.2.2.1) → K ls st (h.1, v)) (h0 : tcd t ≠ c → X ls 128 (h.1, up2 (up2 h.2 126 17 1) 126 18 t.2.1)) : s_tinvV l D (d + 5, 0, 0) 6 m_Re_must 1 K X ls (.inl c :: .inr (.inr 126) :: st) h := sorry
set_option maxRecDepth 100000 in
theorem sp_Re6_isThe {l : Launch} {D : qD} {d : Nat} {z N : Int} {b : Int → Int} {t : Tk} {h : qh} {Q : qQ} (rd : RD6 h.2 b N) (ct : CT6 h.2 t) (hz : z ≤ -2 ∧ -77 < z) (tk : tcd t = 1 ↔ t.1 = 1) (tb0 : t.1 = 1 → 0 ≤ t.2.1 ∧ t.2.1 ≤ t.2.2.1 ∧ t.2.2.1 ≤ N) (h1 : isW b t (wz z) → Q (some (.inl 1)) h) (h0 : ¬ isW b t (wz z) → Q (some (.inl 0)) h) : qM l D (d + 5, 0, 0) m_Re_isThe [.inr (.inr 126), .inr (.inr z)] h Q := sorry
theorem iv_th6 {l : Launch} {D : qD} {d : Nat} {K : qK} {ls : List (Option qv)} {st : List qv} {h : qh} {z N : Int} {b : Int → Int} {t : Tk} (rd : RD6 h.2 b N) (ct : CT6 h.2 t) (hz : z ≤ -2 ∧ -77 < z) (tk : tcd t = 1 ↔ t.1 = 1) (tb0 : t.1 = 1 → 0 ≤ t.2.1 ∧ t.2.1 ≤ t.2.2.1 ∧ t.2.2.1 ≤ N) (cs : q_cs st ≤ 8) (h1 : isW b t (wz z) → K ls (.inl 1 :: st) h) (h0 : ¬ isW b t (wz z) → K ls (.inl 0 :: st) h) : s_invV l D (d + 5, 0, 0) 6 m_Re_isThe 1 K ls (.inr (.inr z) :: .inr (.inr 126) :: st) h := sorry
end
section
/-! ===== texts of graphs: what is read, in plain words ===== -/
noncomputable def ffs (P : Int → Prop) : Nat → Int
  | 0 => -1
  | n + 1 => if ffs P n ≠ -1 then ffs P n else @ite Int (P n) (Classical.propDecidable _) n (-1)
theorem ffs_spec (P : Int → Prop) : ∀ n : Nat, (ffs P n = -1 ∧ ∀ i, blw n i → ¬ P i) ∨ (blw n (ffs P n) ∧ P (ffs P n) ∧ ∀ j, 0 ≤ j → j < ffs P n → ¬ P j) := sorry
theorem ffs_at {P : Int → Prop} {n : Nat} {e : Int} (he : blw n e) (hp : P e) (no : ∀ j, 0 ≤ j → j < e → ¬ P j) : ffs P n = e := sorry
theorem ffs_no {P : Int → Prop} {n : Nat} (no : ∀ j, blw n j → ¬ P j) : ffs P n = -1 := sorry
/-- one place of a row changes -/
def upr (R : Int → Int) (j z : Int) : Int → Int := fun i => if i = j then z else R i
/-- the name at hand is that of node i -/
def nmR (b : Int → Int) (t : Tk) (R : Int → Int) (i : Int) : Prop := R (195 + i) = t.2.2.1 - t.2.1 ∧ ∀ k, 0 ≤ k → k < t.2.2.1 - t.2.1 → R (3 + 8 * i + k) = b (t.2.1 + k)
noncomputable def knw (b : Int → Int) (t : Tk) (R : Int → Int) : Int := ffs (nmR b t R) (R 0).toNat
def jnR (R : Int → Int) (e a c : Int) : Prop := (R (267 + e) = a ∧ R (315 + e) = c) ∨ (R (267 + e) = c ∧ R (315 + e) = a)
def jdR (R : Int → Int) (a c : Int) : Prop := ∃ e, 0 ≤ e ∧ e < R 1 ∧ jnR R e a c
def isNm (b : Int → Int) (t : Tk) : Prop := t.1 = 1 ∧ ¬ isW b t (wz (-23)) ∧ ¬ isW b t (wz (-24))
/-- a node more, an edge more, a group more; weights of edges from f on -/
def adN (R b : Int → Int) (t : Tk) (g : Int) : Int → Int := fun j => if j = 0 then R 0 + 1 else if j = 195 + R 0 then t.2.2.1 - t.2.1 else if j = 219 + R 0 then 1 else if j = 243 + R 0 then g else if 3 + 8 * R 0 ≤ j ∧ j < 3 + 8 * R 0 + (t.2.2.1 - t.2.1) then b (t.2.1 + (j - (3 + 8 * R 0))) else R j
def adE (R : Int → Int) (a c w : Int) : Int → Int := fun j => if j = 1 then R 1 + 1 else if j = 267 + R 1 then a else if j = 315 + R 1 then c else if j = 363 + R 1 then 1 else if j = 411 + R 1 then w else R j
def adG (R b : Int → Int) (t : Tk) (g : Int) : Int → Int := fun j => if j = 2 then R 2 + 1 else if j = 531 + R 2 then g else if j = 523 + R 2 then t.2.2.1 - t.2.1 else if 459 + 8 * R 2 ≤ j ∧ j < 459 + 8 * R 2 + (t.2.2.1 - t.2.1) then b (t.2.1 + (j - (459 + 8 * R 2))) else R j
def stW (R : Int → Int) (f z : Int) : Int → Int := fun j => if 363 + f ≤ j ∧ j < 363 + R 1 then z else R j
/-- a graph as it may be -/
def GOK (R : Int → Int) : Prop := ((0 ≤ R 0 ∧ R 0 ≤ 24) ∧ (0 ≤ R 1 ∧ R 1 ≤ 48) ∧ (1 ≤ R 2 ∧ R 2 ≤ 8)) ∧
  (∀ i, 0 ≤ i → i < R 0 → (1 ≤ R (195 + i) ∧ R (195 + i) ≤ 8) ∧ (1 ≤ R (219 + i) ∧ R (219 + i) ≤ 99) ∧ (0 ≤ R (243 + i) ∧ R (243 + i) < R 2) ∧ ∀ k, 0 ≤ k → k < R (195 + i) → 0 ≤ R (3 + 8 * i + k) ∧ R (3 + 8 * i + k) ≤ 127) ∧
  (∀ e, 0 ≤ e → e < R 1 → ((0 ≤ R (267 + e) ∧ R (267 + e) < R 0) ∧ (0 ≤ R (315 + e) ∧ R (315 + e) < R 0) ∧ R (267 + e) ≠ R (315 + e)) ∧ (1 ≤ R (363 + e) ∧ R (363 + e) ≤ 9) ∧ (R (411 + e) = 0 ∨ R (411 + e) = 1)) ∧
  (∀ e f, 0 ≤ e → e < f → f < R 1 → ¬ jnR R f (R (267 + e)) (R (315 + e))) ∧
  (∀ q, 0 ≤ q → q < R 2 → (q = 0 → R 531 = -1 ∧ R 523 = 0) ∧ (0 < q → (0 ≤ R (531 + q) ∧ R (531 + q) < q) ∧ (1 ≤ R (523 + q) ∧ R (523 + q) ≤ 8)) ∧ ∀ k, 0 ≤ k → k < R (523 + q) → 0 ≤ R (459 + 8 * q + k) ∧ R (459 + 8 * q + k) ≤ 127) ∧
  ∀ k, 0 < k → k < 8 → R (531 + k) < k
theorem adN_ok {R b : Int → Int} {t : Tk} {g : Int} (h : GOK R) (n0 : R 0 < 24) (hl : 1 ≤ t.2.2.1 - t.2.1 ∧ t.2.2.1 - t.2.1 ≤ 8) (hb : ∀ j, t.2.1 ≤ j → j < t.2.2.1 → 0 ≤ b j ∧ b j ≤ 127) (hg : 0 ≤ g ∧ g < R 2) : GOK (adN R b t g) := sorry
theorem adE_ok {R : Int → Int} {a c w : Int} (h : GOK R) (m0 : R 1 < 48) (ha : 0 ≤ a ∧ a < R 0) (hc : 0 ≤ c ∧ c < R 0) (ne : a ≠ c) (nj : ¬ jdR R c a) (hw : w = 0 ∨ w = 1) : GOK (adE R a c w) := sorry
theorem adG_ok {R b : Int → Int} {t : Tk} {g : Int} (h : GOK R) (q8 : R 2 < 8) (hl : 1 ≤ t.2.2.1 - t.2.1 ∧ t.2.2.1 - t.2.1 ≤ 8) (hb : ∀ j, t.2.1 ≤ j → j < t.2.2.1 → 0 ≤ b j ∧ b j ≤ 127) (hg : 0 ≤ g ∧ g < R 2) : GOK (adG R b t g) := sorry
theorem upr_ok {R : Int → Int} {j z : Int} (h : GOK R) (hj : (219 ≤ j ∧ j < 219 + R 0 ∧ 1 ≤ z ∧ z ≤ 99) ∨ (243 ≤ j ∧ j < 243 + R 0 ∧ 0 ≤ z ∧ z < R 2) ∨ (363 ≤ j ∧ j < 363 + R 1 ∧ 1 ≤ z ∧ z ≤ 9) ∨ (411 ≤ j ∧ j < 411 + R 1 ∧ (z = 0 ∨ z = 1))) : GOK (upr R j z) := sorry
theorem stW_ok {R : Int → Int} {f z : Int} (h : GOK R) (f0 : 0 ≤ f) (hz : 1 ≤ z ∧ z ≤ 9) : GOK (stW R f z) := sorry
/-! ### what a text says, step by step -/
abbrev PMt : Type := (Int × Int) ⊕ (Int × Tk × (Int → Int))
noncomputable def nxk (b : Int → Int) (N : Int) (t : Tk) : Tk := tkn mG b N t.2.2.1
noncomputable def pMet (b : Int → Int) (N : Int) (t : Tk) (R : Int → Int) (g bf : Int) : PMt :=
  @ite PMt (isNm b t) (Classical.propDecidable _)
    (@ite PMt (0 ≤ knw b t R ∧ 0 ≤ bf ∧ (knw b t R = bf ∨ jdR R (knw b t R) bf)) (Classical.propDecidable _) (.inl (2, t.2.1))
      (if (knw b t R < 0 ∧ R 0 = 24) ∨ (0 ≤ bf ∧ R 1 = 48) then .inl (3, t.2.1)
       else if knw b t R < 0 then .inr (R 0, nxk b N t, adN R b t g) else .inr (knw b t R, nxk b N t, R)))
    (.inl (1, t.2.1))
theorem pMet_1 {b : Int → Int} {N : Int} {t : Tk} {R : Int → Int} {g bf : Int} (h : ¬ isNm b t) : pMet b N t R g bf = .inl (1, t.2.1) := sorry
theorem pMet_2 {b : Int → Int} {N : Int} {t : Tk} {R : Int → Int} {g bf : Int} (h : isNm b t) (j : 0 ≤ knw b t R ∧ 0 ≤ bf ∧ (knw b t R = bf ∨ jdR R (knw b t R) bf)) : pMet b N t R g bf = .inl (2, t.2.1) := sorry
theorem pMet_3 {b : Int → Int} {N : Int} {t : Tk} {R : Int → Int} {g bf : Int} (h : isNm b t) (j : ¬ (0 ≤ knw b t R ∧ 0 ≤ bf ∧ (knw b t R = bf ∨ jdR R (knw b t R) bf))) (f : (knw b t R < 0 ∧ R 0 = 24) ∨ (0 ≤ bf ∧ R 1 = 48)) : pMet b N t R g bf = .inl (3, t.2.1) := sorry
theorem pMet_n {b : Int → Int} {N : Int} {t : Tk} {R : Int → Int} {g bf : Int} (h : isNm b t) (j : ¬ (0 ≤ knw b t R ∧ 0 ≤ bf ∧ (knw b t R = bf ∨ jdR R (knw b t R) bf))) (f : ¬ ((knw b t R < 0 ∧ R 0 = 24) ∨ (0 ≤ bf ∧ R 1 = 48))) (k : knw b t R < 0) : pMet b N t R g bf = .inr (R 0, nxk b N t, adN R b t g) := sorry
theorem pMet_o {b : Int → Int} {N : Int} {t : Tk} {R : Int → Int} {g bf : Int} (h : isNm b t) (j : ¬ (0 ≤ knw b t R ∧ 0 ≤ bf ∧ (knw b t R = bf ∨ jdR R (knw b t R) bf))) (f : ¬ ((knw b t R < 0 ∧ R 0 = 24) ∨ (0 ≤ bf ∧ R 1 = 48))) (k : ¬ knw b t R < 0) : pMet b N t R g bf = .inr (knw b t R, nxk b N t, R) := sorry
/-- what a number in brackets is -/
noncomputable def pOf (b : Int → Int) (N : Int) (L : List Int) (most : Int) (t : Tk) : (Int × Int) ⊕ (Int × Tk) :=
  @ite _ ((nxk b N t).1 = 1) (Classical.propDecidable _)
    (@ite _ (isW b (nxk b N t) L) (Classical.propDecidable _)
      (@ite _ (isSg (nxk b N (nxk b N t)) 61) (Classical.propDecidable _)
        (@ite _ ((nxk b N (nxk b N (nxk b N t))).1 = 2) (Classical.propDecidable _)
          (@ite _ (1 ≤ (nxk b N (nxk b N (nxk b N t))).2.2.2 ∧ (nxk b N (nxk b N (nxk b N t))).2.2.2 ≤ most) (Classical.propDecidable _)
            (@ite _ (isSg (nxk b N (nxk b N (nxk b N (nxk b N t)))) 93) (Classical.propDecidable _)
              (.inr ((nxk b N (nxk b N (nxk b N t))).2.2.2, nxk b N (nxk b N (nxk b N (nxk b N (nxk b N t))))))
              (.inl (if (nxk b N (nxk b N (nxk b N (nxk b N t)))).1 = 1 then 4 else 1, (nxk b N (nxk b N (nxk b N (nxk b N t)))).2.1)))
            (.inl (5, (nxk b N (nxk b N (nxk b N t))).2.1)))
          (.inl (1, (nxk b N (nxk b N (nxk b N t))).2.1)))
        (.inl (1, (nxk b N (nxk b N t)).2.1)))
      (.inl (4, (nxk b N t).2.1)))
    (.inl (1, (nxk b N t).2.1))
/-- how far a text is read: a fault (which, where); all is read; items of groups (those that are inside one another, but group 0); edges one behind the other -/
abbrev Cfg : Type := (Int × Int) ⊕ ((Int → Int) ⊕ ((List Int × Tk × (Int → Int)) ⊕ (List Int × (Int × Int) × Tk × (Int → Int))))
def cF (f p : Int) : Cfg := .inl (f, p)
def cD (R : Int → Int) : Cfg := .inr (.inl R)
def cGo (s : List Int) (t : Tk) (R : Int → Int) : Cfg := .inr (.inr (.inl (s, t, R)))
def cE (s : List Int) (a f : Int) (t : Tk) (R : Int → Int) : Cfg := .inr (.inr (.inr (s, (a, f), t, R)))
noncomputable def pNd (b : Int → Int) (N c : Int) (t : Tk) (s : List Int) (R : Int → Int) : Cfg := @ite Cfg (isSg t c) (Classical.propDecidable _) (cGo s (nxk b N t) R) (cF 1 t.2.1)
noncomputable def pSz (b : Int → Int) (N : Int) (s : List Int) (i : Int) (t : Tk) (R : Int → Int) : Cfg :=
  @ite Cfg (isSg t 91) (Classical.propDecidable _) (match pOf b N (wz (-25)) 99 t with | .inl f => .inl f | .inr (z, t3) => pNd b N 59 t3 s (upr R (219 + i) z)) (pNd b N 59 t s R)
noncomputable def pNode (b : Int → Int) (N : Int) (s : List Int) (t : Tk) (R : Int → Int) : Cfg :=
  match pMet b N (nxk b N t) R (s.headD 0) (-1) with
  | .inl f => .inl f
  | .inr (i, t2, R2) => pSz b N s i t2 R2
noncomputable def pGrp (b : Int → Int) (N : Int) (s : List Int) (t : Tk) (R : Int → Int) : Cfg :=
  @ite Cfg (R 2 = 8 ∨ s.length = 4) (Classical.propDecidable _) (cF 3 t.2.1)
    (@ite Cfg (isNm b (nxk b N t)) (Classical.propDecidable _)
      (@ite Cfg (isSg (nxk b N (nxk b N t)) 123) (Classical.propDecidable _) (cGo (R 2 :: s) (nxk b N (nxk b N (nxk b N t))) (adG R b (nxk b N t) (s.headD 0))) (cF 1 (nxk b N (nxk b N t)).2.1))
      (cF 1 (nxk b N t).2.1))
noncomputable def pEd0 (b : Int → Int) (N : Int) (s : List Int) (t : Tk) (R : Int → Int) : Cfg :=
  match pMet b N t R (s.headD 0) (-1) with
  | .inl f => .inl f
  | .inr (a, t1, R1) => @ite Cfg (isSg t1 45 ∨ isSg t1 62) (Classical.propDecidable _) (cE s a (R1 1) t1 R1) (cF 1 t1.2.1)
noncomputable def pEnd (b : Int → Int) (N : Int) (s : List Int) (t : Tk) (R : Int → Int) : Cfg :=
  match s with
  | [] => if t.1 = 0 then cD R else cF 1 t.2.1
  | _ :: s' => pNd b N 125 t s' R
noncomputable def stG (b : Int → Int) (N : Int) (s : List Int) (t : Tk) (R : Int → Int) : Cfg :=
  @ite Cfg (t.1 = 1) (Classical.propDecidable _)
    (@ite Cfg (isW b t (wz (-23))) (Classical.propDecidable _) (pNode b N s t R) (@ite Cfg (isW b t (wz (-24))) (Classical.propDecidable _) (pGrp b N s t R) (pEd0 b N s t R)))
    (pEnd b N s t R)
noncomputable def pEw (b : Int → Int) (N : Int) (s : List Int) (f : Int) (t : Tk) (R : Int → Int) : Cfg :=
  @ite Cfg (isSg t 91) (Classical.propDecidable _) (match pOf b N (wz (-26)) 9 t with | .inl e => .inl e | .inr (z, t3) => pNd b N 59 t3 s (stW R f z)) (pNd b N 59 t s R)
noncomputable def stEd (b : Int → Int) (N : Int) (s : List Int) (a f : Int) (t : Tk) (R : Int → Int) : Cfg :=
  match pMet b N (nxk b N t) R (s.headD 0) a with
  | .inl e => .inl e
  | .inr (c, t2, R2) => @ite Cfg (isSg t2 45 ∨ isSg t2 62) (Classical.propDecidable _) (cE s c f t2 (adE R2 a c (if t.2.2.2 = 62 then 1 else 0))) (pEw b N s f t2 (adE R2 a c (if t.2.2.2 = 62 then 1 else 0)))
noncomputable def stp (b : Int → Int) (N : Int) : Cfg → Cfg
  | .inl f => .inl f
  | .inr (.inl R) => .inr (.inl R)
  | .inr (.inr (.inl (s, t, R))) => stG b N s t R
  | .inr (.inr (.inr (s, (a, f), t, R))) => stEd b N s a f t R
noncomputable def rn (b : Int → Int) (N : Int) : Nat → Cfg → Cfg
  | 0, c => c
  | n + 1, c => rn b N n (stp b N c)
theorem rn_add (b : Int → Int) (N : Int) : ∀ (n m : Nat) (c : Cfg), rn b N (n + m) c = rn b N m (rn b N n c) := sorry
/-- it leads from there to there -/
def gtt (b : Int → Int) (N : Int) (c c' : Cfg) : Prop := ∃ n, rn b N n c = c'
theorem gtt.rf {b : Int → Int} {N : Int} {c : Cfg} : gtt b N c c := sorry
theorem gtt.tr {b : Int → Int} {N : Int} {c c' c'' : Cfg} (h : gtt b N c c') (h' : gtt b N c' c'') : gtt b N c c'' := sorry
theorem gtt.st {b : Int → Int} {N : Int} {c c' : Cfg} (h : stp b N c = c') : gtt b N c c' := sorry
def hlt (c : Cfg) : Prop := (∃ f, c = .inl f) ∨ ∃ R, c = .inr (.inl R)
theorem hlt_rn {b : Int → Int} {N : Int} {c : Cfg} (h : hlt c) : ∀ n, rn b N n c = c := sorry
theorem gt_un {b : Int → Int} {N : Int} {c x y : Cfg} (hx : gtt b N c x) (hy : gtt b N c y) (ex : hlt x) (ey : hlt y) : x = y := sorry
/-! ### what stays true -/
/-- a token of a graph's text, met from somewhere behind a -/
abbrev TG0 (b : Int → Int) (N a : Int) (t : Tk) : Prop := TKO mG b N a t
theorem nxk_ok {b : Int → Int} {N a : Int} {t : Tk} (h : TG0 b N a t) (h4 : t.1 ≠ 4) : TG0 b N t.2.2.1 (nxk b N t) := sorry
theorem TKO.wk {M : Md} {b : Int → Int} {N a a' : Int} {t : Tk} (h : TKO M b N a t) (ha : a' ≤ a) : TKO M b N a' t := sorry
theorem isNm_b {b : Int → Int} {N a : Int} {t : Tk} (h : TG0 b N a t) (hn : isNm b t) : (1 ≤ t.2.2.1 - t.2.1 ∧ t.2.2.1 - t.2.1 ≤ 8) ∧ t.2.2.1 ≤ N ∧ ∀ j, t.2.1 ≤ j → j < t.2.2.1 → 0 ≤ b j ∧ b j ≤ 127 := sorry
theorem knw_b {b : Int → Int} {t : Tk} {R : Int → Int} (h : GOK R) : -1 ≤ knw b t R ∧ knw b t R < R 0 ∨ knw b t R = -1 := sorry
/-- what a name that is met gives -/
theorem pMet_ok {b : Int → Int} {N a : Int} {t t' : Tk} {R R' : Int → Int} {g bf i : Int} (h : GOK R) (ht : TG0 b N a t) (hg : 0 ≤ g ∧ g < R 2) (e : pMet b N t R g bf = .inr (i, t', R')) :
    isNm b t ∧ t' = nxk b N t ∧ GOK R' ∧ (0 ≤ i ∧ i < R' 0) ∧ R' 1 = R 1 ∧ R' 2 = R 2 ∧ R 0 ≤ R' 0 ∧ (∀ j, 267 ≤ j → R' j = R j) ∧ (0 ≤ bf → bf < R 0 → R 1 < 48 ∧ i ≠ bf ∧ ¬ jdR R' i bf) := sorry
/-- groups that lie inside one another -/
def SK (R : Int → Int) : List Int → Prop
  | [] => True
  | g :: s => (0 < g ∧ g < R 2 ∧ R (531 + g) = s.headD 0) ∧ SK R s
theorem SK.cg {R R' : Int → Int} : ∀ {s : List Int}, SK R s → R 2 ≤ R' 2 → (∀ g, 0 < g → g < R 2 → R' (531 + g) = R (531 + g)) → SK R' s := sorry
theorem SK.hd {R : Int → Int} (h2 : 1 ≤ R 2) : ∀ {s : List Int}, SK R s → 0 ≤ s.headD 0 ∧ s.headD 0 < R 2 := sorry
end
section
/-! ===== a graph as a row: the component's, the twin's ===== -/
def CR (v : Int → Int → Int) (g : Int) (R : Int → Int) : Prop := (isG g ∧ GA v g) ∧ (v g 0 = R 0 ∧ v g 1 = R 1 ∧ v g 2 = R 2) ∧
  (∀ i, 0 ≤ i → i < R 0 → (v (g + 3) i = R (195 + i) ∧ v (g + 4) i = R (219 + i) ∧ v (g + 5) i = R (243 + i)) ∧ ∀ k, 0 ≤ k → k < R (195 + i) → v (g + 1) (8 * i + k) = R (3 + 8 * i + k)) ∧
  (∀ e, 0 ≤ e → e < R 1 → v (g + 6) e = R (267 + e) ∧ v (g + 7) e = R (315 + e) ∧ v (g + 8) e = R (363 + e) ∧ v (g + 9) e = R (411 + e)) ∧
  (∀ q, 0 ≤ q → q < R 2 → (v (g + 10) q = R (531 + q) ∧ v (g + 11) q = R (523 + q)) ∧ ∀ k, 0 ≤ k → k < R (523 + q) → v (g + 2) (8 * q + k) = R (459 + 8 * q + k)) ∧
  ∀ k, 0 < k → k < 8 → v (g + 10) k < k
def TRw (v : Int → Int → Int) (r : Int) (R : Int → Int) : Prop := (0 ≤ r ∧ r ≤ 66297) ∧ ∀ j, 0 ≤ j → j < 539 → v 282 (r + j) = R j
theorem CR.cg {v v' : Int → Int → Int} {g : Int} {R : Int → Int} (h : CR v g R) (e : ∀ j : Int, 0 ≤ j → j ≤ 11 → v' (g + j) = v (g + j)) : CR v' g R := sorry
theorem CR.fw {C : List Int} {P : List (Int × Int)} {v v' : Int → Int → Int} {g : Int} {R : Int → Int} (h : CR v g R) (k : FW C P v v') (hC : ∀ c ∈ C, c < g ∨ g + 11 < c) (hP : ∀ p ∈ P, p.1 < g ∨ g + 11 < p.1) : CR v' g R := sorry
theorem TRw.cg {v v' : Int → Int → Int} {r : Int} {R : Int → Int} (h : TRw v r R) (e : v' 282 = v 282) : TRw v' r R := sorry
/-- equal where it counts -/
theorem CR.rw {v : Int → Int → Int} {g : Int} {R R' : Int → Int} (h : CR v g R) (e : ∀ j : Int, 0 ≤ j → j < 539 → R' j = R j) (ok : GOK R) : CR v g R' := sorry
theorem CR_adN {v : Int → Int → Int} {g w q : Int} {R b : Int → Int} {t : Tk} (h : CR v g R) (ok : GOK R) (n0 : R 0 < 24) (hw : w < g ∨ g + 11 < w) (hl : 1 ≤ t.2.2.1 - t.2.1 ∧ t.2.2.1 - t.2.1 ≤ 8) (hb : ∀ k, 0 ≤ k → k < t.2.2.1 - t.2.1 → v w (t.2.1 + k) = b (t.2.1 + k)) : CR (aN v g w t.2.1 (t.2.2.1 - t.2.1) q) g (adN R b t q) := sorry
theorem CR_adE {v : Int → Int → Int} {g a c w : Int} {R : Int → Int} (h : CR v g R) (ok : GOK R) (m0 : R 1 < 48) : CR (g_Gr_addEdge g a c w v) g (adE R a c w) := sorry
/-- a group more, as the component writes it -/
def aG (v : Int → Int → Int) (g w p n q : Int) : Int → Int → Int := cp2 (up2 (up2 (up2 v g 2 (v g 2 + 1)) (g + 10) (v g 2) q) (g + 11) (v g 2) n) w (g + 2) p (8 * v g 2) n
theorem CR_adG {v : Int → Int → Int} {g w q : Int} {R b : Int → Int} {t : Tk} (h : CR v g R) (ok : GOK R) (q8 : R 2 < 8) (hw : w < g ∨ g + 11 < w) (hl : 1 ≤ t.2.2.1 - t.2.1 ∧ t.2.2.1 - t.2.1 ≤ 8) (hb : ∀ k, 0 ≤ k → k < t.2.2.1 - t.2.1 → v w (t.2.1 + k) = b (t.2.1 + k)) (hgq : 0 ≤ q ∧ q < R 2) : CR (aG v g w t.2.1 (t.2.2.1 - t.2.1) q) g (adG R b t q) := sorry
/-- one place of a row: sizes, groups, weights, ways -/
theorem CR_upr {v : Int → Int → Int} {g c i j z : Int} {R : Int → Int} (h : CR v g R) (ok : GOK R) (hj : (c = 4 ∧ j = 219 + i ∧ 0 ≤ i ∧ i < R 0) ∨ (c = 5 ∧ j = 243 + i ∧ 0 ≤ i ∧ i < R 0) ∨ (c = 8 ∧ j = 363 + i ∧ 0 ≤ i ∧ i < R 1) ∨ (c = 9 ∧ j = 411 + i ∧ 0 ≤ i ∧ i < R 1)) : CR (up2 v (g + c) i z) g (upr R j z) := sorry
end
section
/-! ===== GraphReader: names ===== -/
abbrev gC : List Int := [115, 116, 117, 118, 119, 120, 121, 122, 123, 124, 125]
abbrev gPl : List (Int × Int) := [(111, 4), (111, 5), (111, 6), (111, 7), (111, 8), (111, 9), (114, 0), (114, 1), (114, 2)]
/-- how far the component has read -/
def RSt (v : Int → Int → Int) (b : Int → Int) (N : Int) (t : Tk) (R : Int → Int) : Prop := (RD4 v b N ∧ v 111 0 = 114 ∧ v 111 8 = 0 ∧ v 111 9 = -1) ∧ (CT4 v t ∧ TG0 b N 0 t) ∧ CR v 114 R ∧ GOK R
theorem RSt.f {v : Int → Int → Int} {b : Int → Int} {N : Int} {t : Tk} {R : Int → Int} (h : RSt v b N t R) : (v 111 5 = tcd t ∧ v 111 6 = t.2.1) ∧ (tcd t = 1 ↔ t.1 = 1) ∧ (t.1 = 1 → 0 ≤ t.2.1 ∧ t.2.1 ≤ t.2.2.1 ∧ t.2.2.1 ≤ N) ∧ (t.1 ≠ 4 → v 111 4 = t.2.2.1 ∧ 0 ≤ t.2.2.1 ∧ t.2.2.1 ≤ N) ∧ (∀ c, 40 ≤ c → (tcd t = c ↔ isSg t c)) ∧ (0 ≤ t.2.1 ∧ t.2.1 ≤ N) ∧ (0 ≤ N ∧ N ≤ 2000) := sorry
theorem RSt.nx {v v' : Int → Int → Int} {b : Int → Int} {N : Int} {t : Tk} {R : Int → Int} (h : RSt v b N t R) (h4 : t.1 ≠ 4) (k : FW [] rP4 v v') (ct : CT4 v' (tkn mG b N t.2.2.1)) : RSt v' b N (nxk b N t) R := sorry
theorem rP_g {v v' : Int → Int → Int} (k : FW [] rP4 v v') : FW gC gPl v v' := sorry
theorem fl_g {v v' : Int → Int → Int} {y w : Int} (k : FW gC gPl v v') : FW gC gPl v (up2 (up2 v' 111 8 y) 111 9 w) := sorry
/-- a fault -/
def FL (v : Int → Int → Int) (y w : Int) : Prop := v 111 8 = y ∧ v 111 9 = w ∧ ∀ k, 0 < k → k < 8 → v 124 k < k
theorem fl_e {v : Int → Int → Int} {y w N : Int} {b R : Int → Int} {t : Tk} (rs : RSt v b N t R) : FL (up2 (up2 v 111 8 y) 111 9 w) y w := sorry
theorem RSt.cs {v v' : Int → Int → Int} {b : Int → Int} {N : Int} {t : Tk} {R R' : Int → Int} (h : RSt v b N t R) (k : FW gC gPl v v') (k4 : ∀ j : Int, v' 111 j = v 111 j) (g1 : CR v' 114 R') (g2 : GOK R') : RSt v' b N t R' := sorry
set_option maxRecDepth 100000 in
theorem sp_GR_isName {l : Launch} {D : qD} {d : Nat} {N : Int} {b R : Int → Int} {t : Tk} {h : qh} {Q : qQ} (rs : RSt h.2 b N t R) (h1 : isNm b t → Q (some (.inl 1)) h) (h0 : ¬ isNm b t → Q (some (.inl 0)) h) : qM l D (d + 6, 0, 0) m_GR_isName [.inr (.inr 111)] h Q := sorry
theorem iv_nm4 {l : Launch} {D : qD} {d : Nat} {K : qK} {ls : List (Option qv)} {st : List qv} {h : qh} {N : Int} {b R : Int → Int} {t : Tk} (rs : RSt h.2 b N t R) (cs : q_cs st ≤ 8) (h1 : isNm b t → K ls (.inl 1 :: st) h) (h0 : ¬ isNm b t → K ls (.inl 0 :: st) h) : s_invV l D (d + 6, 0, 0) 4 m_GR_isName 0 K ls (.inr (.inr 111) :: st) h := sorry
theorem nmd_nmR {v : Int → Int → Int} {b R : Int → Int} {N i : Int} {t : Tk} (rs : RSt v b N t R) (hn : isNm b t) (i0 : 0 ≤ i) (i1 : i < R 0) : nmd v 114 i 112 t.2.1 (t.2.2.1 - t.2.1) ↔ nmR b t R i := sorry
theorem iv_fi4 {l : Launch} {D : qD} {d : Nat} {K : qK} {ls : List (Option qv)} {st : List qv} {h : qh} {N : Int} {b R : Int → Int} {t : Tk} (rs : RSt h.2 b N t R) (hn : isNm b t) (cs : q_cs st ≤ 8) (hk : K ls (.inl (knw b t R) :: st) h) : s_invV l D (d + 1, 0, 0) 3 m_Gr_find 3 K ls (.inl (t.2.2.1 - t.2.1) :: .inl t.2.1 :: .inr (.inr 112) :: .inr (.inr 114) :: st) h := sorry
theorem FW.cpz {C : List Int} {P : List (Int × Int)} {v v' : Int → Int → Int} {a0 a s p n : Int} (h : FW C P v v') (ha : a ∈ C) : FW C P v (cp2 v' a0 a s p n) := sorry
set_option maxRecDepth 100000 in
theorem sp_GR_name {l : Launch} {D : qD} {d : Nat} {N g : Int} {b R : Int → Int} {t : Tk} {h : qh} {Q : xQ} (rs : RSt h.2 b N t R) (hg : 0 ≤ g ∧ g < R 2) (h1 : ∀ v i t' R', pMet b N t R g (-1) = .inr (i, t', R') → FW gC gPl h.2 v → RSt v b N t' R' → Q.1 (some (.inl i)) (h.1, v)) (h0 : ∀ v f p, pMet b N t R g (-1) = .inl (f, p) → FW gC gPl h.2 v → FL v f p → Q.2 113 (h.1, v)) : xM l D (d + 7, 0, 0) m_GR_name [.inr (.inr 111), .inl g] h Q := sorry
theorem tv_na4 {l : Launch} {D : qD} {d : Nat} {K : qK} {X : List (Option qv) → xX} {ls : List (Option qv)} {st : List qv} {h : qh} {N g : Int} {b R : Int → Int} {t : Tk} (rs : RSt h.2 b N t R) (hg : 0 ≤ g ∧ g < R 2) (cs : q_cs st ≤ 8) (h1 : ∀ v i t' R', pMet b N t R g (-1) = .inr (i, t', R') → FW gC gPl h.2 v → RSt v b N t' R' → K ls (.inl i :: st) (h.1, v)) (h0 : ∀ v f p, pMet b N t R g (-1) = .inl (f, p) → FW gC gPl h.2 v → FL v f p → X ls 113 (h.1, v)) : s_tinvV l D (d + 7, 0, 0) 4 m_GR_name 1 K X ls (.inl g :: .inr (.inr 111) :: st) h := sorry
end
section
/-! ===== GraphReader: numbers in brackets, nodes, edges ===== -/
theorem pOf_a {b : Int → Int} {N m : Int} {L : List Int} {t : Tk} (h : (nxk b N t).1 ≠ 1) : pOf b N L m t = .inl (1, (nxk b N t).2.1) := sorry
theorem pOf_b {b : Int → Int} {N m : Int} {L : List Int} {t : Tk} (h1 : (nxk b N t).1 = 1) (h : ¬ isW b (nxk b N t) L) : pOf b N L m t = .inl (4, (nxk b N t).2.1) := sorry
theorem pOf_c {b : Int → Int} {N m : Int} {L : List Int} {t : Tk} (h1 : (nxk b N t).1 = 1) (h2 : isW b (nxk b N t) L) (h : ¬ isSg (nxk b N (nxk b N t)) 61) : pOf b N L m t = .inl (1, (nxk b N (nxk b N t)).2.1) := sorry
theorem pOf_d {b : Int → Int} {N m : Int} {L : List Int} {t : Tk} (h1 : (nxk b N t).1 = 1) (h2 : isW b (nxk b N t) L) (h3 : isSg (nxk b N (nxk b N t)) 61) (h : (nxk b N (nxk b N (nxk b N t))).1 ≠ 2) : pOf b N L m t = .inl (1, (nxk b N (nxk b N (nxk b N t))).2.1) := sorry
theorem pOf_e {b : Int → Int} {N m : Int} {L : List Int} {t : Tk} (h1 : (nxk b N t).1 = 1) (h2 : isW b (nxk b N t) L) (h3 : isSg (nxk b N (nxk b N t)) 61) (h4 : (nxk b N (nxk b N (nxk b N t))).1 = 2) (h : ¬ (1 ≤ (nxk b N (nxk b N (nxk b N t))).2.2.2 ∧ (nxk b N (nxk b N (nxk b N t))).2.2.2 ≤ m)) : pOf b N L m t = .inl (5, (nxk b N (nxk b N (nxk b N t))).2.1) := sorry
theorem pOf_f {b : Int → Int} {N m : Int} {L : List Int} {t : Tk} (h1 : (nxk b N t).1 = 1) (h2 : isW b (nxk b N t) L) (h3 : isSg (nxk b N (nxk b N t)) 61) (h4 : (nxk b N (nxk b N (nxk b N t))).1 = 2) (h5 : 1 ≤ (nxk b N (nxk b N (nxk b N t))).2.2.2 ∧ (nxk b N (nxk b N (nxk b N t))).2.2.2 ≤ m) (h : ¬ isSg (nxk b N (nxk b N (nxk b N (nxk b N t)))) 93) : pOf b N L m t = .inl (if (nxk b N (nxk b N (nxk b N (nxk b N t)))).1 = 1 then 4 else 1, (nxk b N (nxk b N (nxk b N (nxk b N t)))).2.1) := sorry
theorem pOf_g {b : Int → Int} {N m : Int} {L : List Int} {t : Tk} (h1 : (nxk b N t).1 = 1) (h2 : isW b (nxk b N t) L) (h3 : isSg (nxk b N (nxk b N t)) 61) (h4 : (nxk b N (nxk b N (nxk b N t))).1 = 2) (h5 : 1 ≤ (nxk b N (nxk b N (nxk b N t))).2.2.2 ∧ (nxk b N (nxk b N (nxk b N t))).2.2.2 ≤ m) (h6 : isSg (nxk b N (nxk b N (nxk b N (nxk b N t)))) 93) : pOf b N L m t = .inr ((nxk b N (nxk b N (nxk b N t))).2.2.2, nxk b N (nxk b N (nxk b N (nxk b N (nxk b N t))))) := sorry
theorem pOf_ok {b : Int → Int} {N m w : Int} {L : List Int} {t t' : Tk} (e : pOf b N L m t = .inr (w, t')) : (1 ≤ w ∧ w ≤ m) ∧ t' = nxk b N (nxk b N (nxk b N (nxk b N (nxk b N t)))) := sorry
/-- tokens come one behind the other -/
theorem nxk_lt {b : Int → Int} {N a : Int} {t : Tk} (h : TG0 b N a t) (q : t.1 = 1 ∨ t.1 = 2 ∨ t.1 = 3) : t.2.1 < (nxk b N t).2.1 := sorry
/-- the groups that are there stay -/
def GSt (R R' : Int → Int) : Prop := R 2 ≤ R' 2 ∧ ∀ g, 0 < g → g < R 2 → R' (531 + g) = R (531 + g)
theorem GSt.rf {R : Int → Int} : GSt R R := sorry
theorem GSt.tr {R R' R'' : Int → Int} (h : GSt R R') (h' : GSt R' R'') : GSt R R'' := sorry
theorem GSt.of {R R' : Int → Int} (e : R' 2 = R 2) (h : ∀ j, 459 ≤ j → R' j = R j) : GSt R R' := sorry
theorem pOf_le {b : Int → Int} {N m w a : Int} {L : List Int} {t t' : Tk} (o0 : TG0 b N a t) (t3 : t.1 = 3) (eo : pOf b N L m t = .inr (w, t')) : t.2.1 < t'.2.1 := sorry
set_option maxRecDepth 100000 in
theorem GR_of_2 {l : Launch} {D : qD} {d : Nat} {N z most w f p : Int} {b R : Int → Int} {t : Tk} {v : Int → Int → Int} {h : qh} {Q : xQ} (rs : RSt v b N t R) (hz : z ≤ -2 ∧ -77 < z) (w1 : 1 ≤ w) (ef : f = if t.1 = 1 then 4 else 1) (ep : p = t.2.1) (st : Q.2 113 (h.1, up2 (up2 v 111 8 f) 111 9 p)) : xR l D (d + 6, 0, 0) m_GR_of 6 ((fun r h' => Q.1 r ((h'.1.1, h.1.2.1, h.1.2.2), h'.2)), (fun z h' => Q.2 z ((h'.1.1, h.1.2.1, h.1.2.2), h'.2))) [some (.inr (.inr (111))), some (.inr (.inr (z))), some (.inl (most)), some (.inl (w))] [] ((h.1.1, 0, 0), v) := sorry
set_option maxRecDepth 100000 in
theorem sp_GR_of {l : Launch} {D : qD} {d : Nat} {N z most : Int} {b R : Int → Int} {t : Tk} {h : qh} {Q : xQ} (rs : RSt h.2 b N t R) (t4 : t.1 ≠ 4) (hz : z ≤ -2 ∧ -77 < z) (h1 : ∀ v w t', pOf b N (wz z) most t = .inr (w, t') → FW gC gPl h.2 v → RSt v b N t' R → Q.1 (some (.inl w)) (h.1, v)) (h0 : ∀ v f p, pOf b N (wz z) most t = .inl (f, p) → FW gC gPl h.2 v → FL v f p → Q.2 113 (h.1, v)) : xM l D (d + 6, 0, 0) m_GR_of [.inr (.inr 111), .inr (.inr z), .inl most] h Q := sorry
theorem tv_of4 {l : Launch} {D : qD} {d : Nat} {K : qK} {X : List (Option qv) → xX} {ls : List (Option qv)} {st : List qv} {h : qh} {N z most : Int} {b R : Int → Int} {t : Tk} (rs : RSt h.2 b N t R) (t4 : t.1 ≠ 4) (hz : z ≤ -2 ∧ -77 < z) (cs : q_cs st ≤ 8) (h1 : ∀ v w t', pOf b N (wz z) most t = .inr (w, t') → FW gC gPl h.2 v → RSt v b N t' R → K ls (.inl w :: st) (h.1, v)) (h0 : ∀ v f p, pOf b N (wz z) most t = .inl (f, p) → FW gC gPl h.2 v → FL v f p → X ls 113 (h.1, v)) : s_tinvV l D (d + 6, 0, 0) 4 m_GR_of 2 K X ls (.inl most :: .inr (.inr z) :: .inr (.inr 111) :: st) h := sorry
/-- a token that must be such a sign -/
theorem tv_sg4 {l : Launch} {D : qD} {d : Nat} {K : qK} {X : List (Option qv) → xX} {ls : List (Option qv)} {st : List qv} {h : qh} {N c : Int} {b R : Int → Int} {t : Tk} (rs : RSt h.2 b N t R) (c40 : 40 ≤ c) (cs : q_cs st ≤ 8) (h1 : isSg t c → ∀ v, FW gC gPl h.2 v → RSt v b N (nxk b N t) R → K ls st (h.1, v)) (h0 : ¬ isSg t c → ∀ v, FW gC gPl h.2 v → FL v 1 t.2.1 → X ls 113 (h.1, v)) : s_tinvV l D (d + 5, 0, 0) 4 m_Re_must 1 K X ls (.inl c :: .inr (.inr 111) :: st) h := sorry
set_option maxRecDepth 100000 in
theorem sp_GR_node {l : Launch} {D : qD} {d : Nat} {N : Int} {s : List Int} {b R : Int → Int} {t : Tk} {h : qh} {Q : xQ} (rs : RSt h.2 b N t R) (t1 : t.1 = 1) (hg : 0 ≤ s.headD 0 ∧ s.headD 0 < R 2) (h1 : ∀ v t' R', pNode b N s t R = cGo s t' R' → t.2.1 < t'.2.1 → GSt R R' → FW gC gPl h.2 v → RSt v b N t' R' → Q.1 none (h.1, v)) (h0 : ∀ v f p, pNode b N s t R = cF f p → FW gC gPl h.2 v → FL v f p → Q.2 113 (h.1, v)) : xM l D (d + 8, 0, 0) m_GR_node [.inr (.inr 111), .inl (s.headD 0)] h Q := sorry
theorem tv_no4 {l : Launch} {D : qD} {d : Nat} {K : qK} {X : List (Option qv) → xX} {ls : List (Option qv)} {st : List qv} {h : qh} {N : Int} {s : List Int} {b R : Int → Int} {t : Tk} (rs : RSt h.2 b N t R) (t1 : t.1 = 1) (hg : 0 ≤ s.headD 0 ∧ s.headD 0 < R 2) (cs : q_cs st ≤ 8) (h1 : ∀ v t' R', pNode b N s t R = cGo s t' R' → t.2.1 < t'.2.1 → GSt R R' → FW gC gPl h.2 v → RSt v b N t' R' → K ls st (h.1, v)) (h0 : ∀ v f p, pNode b N s t R = cF f p → FW gC gPl h.2 v → FL v f p → X ls 113 (h.1, v)) : s_tinvV l D (d + 8, 0, 0) 4 m_GR_node 1 K X ls (.inl (s.headD 0) :: .inr (.inr 111) :: st) h := sorry
end
section
/-! ===== GraphReader: edges ===== -/
theorem pMet_bf {b : Int → Int} {N : Int} {t : Tk} {R : Int → Int} {g bf : Int} (h : isNm b t) (j : ¬ (0 ≤ knw b t R ∧ 0 ≤ bf ∧ (knw b t R = bf ∨ jdR R (knw b t R) bf))) (m : R 1 ≠ 48) : pMet b N t R g bf = pMet b N t R g (-1) := sorry
theorem jn_jnR {v : Int → Int → Int} {R : Int → Int} {e a c : Int} (g1 : CR v 114 R) (e0 : 0 ≤ e) (e1 : e < R 1) : jn v 114 e a c ↔ jnR R e c a := sorry
theorem iv_be4 {l : Launch} {D : qD} {d : Nat} {K : qK} {ls : List (Option qv)} {st : List qv} {h : qh} {N a c : Int} {b R : Int → Int} {t : Tk} (rs : RSt h.2 b N t R) (cs : q_cs st ≤ 8) (hj : jdR R c a → ∀ e : Int, 0 ≤ e → K ls (.inl e :: st) h) (hn : ¬ jdR R c a → K ls (.inl (-1) :: st) h) : s_invV l D (d + 1, 0, 0) 3 m_Gr_between 2 K ls (.inl c :: .inl a :: .inr (.inr 114) :: st) h := sorry
set_option maxRecDepth 100000 in
theorem sp_GR_edge {l : Launch} {D : qD} {d : Nat} {N g a o : Int} {b R : Int → Int} {t : Tk} {h : qh} {Q : xQ} (rs : RSt h.2 b N t R) (hg : 0 ≤ g ∧ g < R 2) (ha : 0 ≤ a ∧ a < R 0) (ho : o = 0 ∨ o = 1) (h1 : ∀ v c t' R', pMet b N t R g a = .inr (c, t', R') → FW gC gPl h.2 v → RSt v b N t' (adE R' a c o) → Q.1 (some (.inl c)) (h.1, v)) (h0 : ∀ v f p, pMet b N t R g a = .inl (f, p) → FW gC gPl h.2 v → FL v f p → Q.2 113 (h.1, v)) : xM l D (d + 8, 0, 0) m_GR_edge [.inr (.inr 111), .inl a, .inl o, .inl g] h Q := sorry
theorem tv_ed4 {l : Launch} {D : qD} {d : Nat} {K : qK} {X : List (Option qv) → xX} {ls : List (Option qv)} {st : List qv} {h : qh} {N g a o : Int} {b R : Int → Int} {t : Tk} (rs : RSt h.2 b N t R) (hg : 0 ≤ g ∧ g < R 2) (ha : 0 ≤ a ∧ a < R 0) (ho : o = 0 ∨ o = 1) (cs : q_cs st ≤ 8) (h1 : ∀ v c t' R', pMet b N t R g a = .inr (c, t', R') → FW gC gPl h.2 v → RSt v b N t' (adE R' a c o) → K ls (.inl c :: st) (h.1, v)) (h0 : ∀ v f p, pMet b N t R g a = .inl (f, p) → FW gC gPl h.2 v → FL v f p → X ls 113 (h.1, v)) : s_tinvV l D (d + 8, 0, 0) 4 m_GR_edge 3 K X ls (.inl g :: .inl o :: .inl a :: .inr (.inr 111) :: st) h := sorry
/-- weights from f to x -/
def stX (R : Int → Int) (f x z : Int) : Int → Int := fun j => if 363 + f ≤ j ∧ j < 363 + x then z else R j
theorem stX_s {R : Int → Int} {f x z : Int} (fx : f ≤ x) : upr (stX R f x z) (363 + x) z = stX R f (x + 1) z := sorry
theorem stX_0 {R : Int → Int} {f z : Int} : stX R f f z = R := sorry
theorem stX_1 {R : Int → Int} {f x z : Int} : stX R f x z 1 = R 1 ∨ 363 + f ≤ 1 := sorry
set_option maxRecDepth 100000 in
theorem GR_eg_76 {l : Launch} {D : qD} {d : Nat} {N c f : Int} {s : List Int} {b R : Int → Int} {t : Tk} {v : Int → Int → Int} {h : qh} {Q : xQ} (f0 : 0 ≤ f ∧ f ≤ R 1) (kv : FW gC gPl h.2 v) (rs : RSt v b N t R) (h1 : ∀ v t' R', pEw b N s f t R = cGo s t' R' → t.2.1 < t'.2.1 → R' 2 = R 2 → (∀ j, 459 ≤ j → R' j = R j) → FW gC gPl h.2 v → RSt v b N t' R' → Q.1 none (h.1, v)) (h0 : ∀ v x p, pEw b N s f t R = cF x p → FW gC gPl h.2 v → FL v x p → Q.2 113 (h.1, v)) : ∀ (o : Int) (y : Option qv), w_GR_edges_76 l D (d + 8) (0, 0) ((fun r h' => Q.1 r ((h'.1.1, h.1.2.1, h.1.2.2), h'.2)), (fun z h' => Q.2 z ((h'.1.1, h.1.2.1, h.1.2.2), h'.2))) [some (.inr (.inr (111))), some (.inl (s.headD 0)), some (.inl (f)), some (.inl (c)), some (.inl (o)), y] [] ((h.1.1, 0, 0), v) := sorry
end
section
/-! ===== GraphReader: rows of edges, groups, items, all ===== -/
theorem stG_e {b : Int → Int} {N : Int} {s : List Int} {t : Tk} {R : Int → Int} (h1 : t.1 = 1) (h2 : ¬ isW b t (wz (-23))) (h3 : ¬ isW b t (wz (-24))) : stp b N (cGo s t R) = pEd0 b N s t R := sorry
theorem stG_n {b : Int → Int} {N : Int} {s : List Int} {t : Tk} {R : Int → Int} (h1 : t.1 = 1) (h2 : isW b t (wz (-23))) : stp b N (cGo s t R) = pNode b N s t R := sorry
theorem stG_g {b : Int → Int} {N : Int} {s : List Int} {t : Tk} {R : Int → Int} (h1 : t.1 = 1) (h2 : ¬ isW b t (wz (-23))) (h3 : isW b t (wz (-24))) : stp b N (cGo s t R) = pGrp b N s t R := sorry
theorem stG_x {b : Int → Int} {N : Int} {s : List Int} {t : Tk} {R : Int → Int} (h1 : t.1 ≠ 1) : stp b N (cGo s t R) = pEnd b N s t R := sorry
theorem adE_hi {R : Int → Int} {a c w : Int} (m : R 1 ≤ 47) (m0 : 0 ≤ R 1) : adE R a c w 2 = R 2 ∧ (∀ j, 459 ≤ j → adE R a c w j = R j) ∧ adE R a c w 0 = R 0 ∧ adE R a c w 1 = R 1 + 1 := sorry
set_option maxRecDepth 100000 in
theorem GR_eg_14 {l : Launch} {D : qD} {d : Nat} {N f : Int} {s : List Int} {b R0 : Int → Int} {t0 : Tk} {h : qh} {Q : xQ} (h1 : ∀ v t' R', gtt b N (cGo s t0 R0) (cGo s t' R') → t0.2.1 < t'.2.1 → GSt R0 R' → FW gC gPl h.2 v → RSt v b N t' R' → Q.1 none (h.1, v)) (h0 : ∀ v x p, gtt b N (cGo s t0 R0) (cF x p) → FW gC gPl h.2 v → FL v x p → Q.2 113 (h.1, v)) :
    ∀ (n : Nat) (v : Int → Int → Int) (t : Tk) (R : Int → Int) (a : Int) (y1 y2 : Option qv), N - t.2.1 ≤ n → t0.2.1 ≤ t.2.1 → (0 ≤ a ∧ a < R 0) → (0 ≤ f ∧ f ≤ R 1) → (0 ≤ s.headD 0 ∧ s.headD 0 < R 2) → GSt R0 R → FW gC gPl h.2 v → RSt v b N t R → (isSg t 45 ∨ isSg t 62 → gtt b N (cGo s t0 R0) (cE s a f t R)) → (¬ (isSg t 45 ∨ isSg t 62) → gtt b N (cGo s t0 R0) (cF 1 t.2.1)) → xR l D (d + 9, 0, 0) m_GR_edges 14 ((fun r h' => Q.1 r ((h'.1.1, h.1.2.1, h.1.2.2), h'.2)), (fun z h' => Q.2 z ((h'.1.1, h.1.2.1, h.1.2.2), h'.2))) [some (.inr (.inr (111))), some (.inl (s.headD 0)), some (.inl (f)), some (.inl (a)), y1, y2] [] ((h.1.1, 0, 0), v) := sorry
set_option maxRecDepth 100000 in
theorem sp_GR_edges {l : Launch} {D : qD} {d : Nat} {N : Int} {s : List Int} {b R : Int → Int} {t : Tk} {h : qh} {Q : xQ} (rs : RSt h.2 b N t R) (hs : stp b N (cGo s t R) = pEd0 b N s t R) (hg : 0 ≤ s.headD 0 ∧ s.headD 0 < R 2) (h1 : ∀ v t' R', gtt b N (cGo s t R) (cGo s t' R') → t.2.1 < t'.2.1 → GSt R R' → FW gC gPl h.2 v → RSt v b N t' R' → Q.1 none (h.1, v)) (h0 : ∀ v x p, gtt b N (cGo s t R) (cF x p) → FW gC gPl h.2 v → FL v x p → Q.2 113 (h.1, v)) : xM l D (d + 9, 0, 0) m_GR_edges [.inr (.inr 111), .inl (s.headD 0)] h Q := sorry
theorem tv_es4 {l : Launch} {D : qD} {d : Nat} {K : qK} {X : List (Option qv) → xX} {ls : List (Option qv)} {st : List qv} {h : qh} {N : Int} {s : List Int} {b R : Int → Int} {t : Tk} (rs : RSt h.2 b N t R) (hs : stp b N (cGo s t R) = pEd0 b N s t R) (hg : 0 ≤ s.headD 0 ∧ s.headD 0 < R 2) (cs : q_cs st ≤ 8) (h1 : ∀ v t' R', gtt b N (cGo s t R) (cGo s t' R') → t.2.1 < t'.2.1 → GSt R R' → FW gC gPl h.2 v → RSt v b N t' R' → K ls st (h.1, v)) (h0 : ∀ v x p, gtt b N (cGo s t R) (cF x p) → FW gC gPl h.2 v → FL v x p → X ls 113 (h.1, v)) : s_tinvV l D (d + 9, 0, 0) 4 m_GR_edges 1 K X ls (.inl (s.headD 0) :: .inr (.inr 111) :: st) h := sorry
/-- how deep groups lie -/
theorem dpt_SK {R A : Int → Int} (hA : ∀ g, 0 < g → g < R 2 → A g = R (531 + g)) : ∀ (s : List Int) (n : Nat), SK R s → s.length ≤ n → dpt A n (s.headD 0) = s.length := sorry
theorem adG_hi {R b : Int → Int} {t : Tk} {g : Int} (q : R 2 ≤ 7) (q0 : 1 ≤ R 2) (hl : 1 ≤ t.2.2.1 - t.2.1 ∧ t.2.2.1 - t.2.1 ≤ 8) : adG R b t g 2 = R 2 + 1 ∧ adG R b t g (531 + R 2) = g ∧ ∀ x, 0 < x → x < R 2 → adG R b t g (531 + x) = R (531 + x) := sorry
end
section
/-! ===== GraphReader: groups, items, all ===== -/
def ITM (l : Launch) (D : qD) (b : Int → Int) (N : Int) (k dd : Nat) : Prop := ∀ (s : List Int) (t : Tk) (R : Int → Int) (h : qh) (Q : xQ), s.length + k = 4 → RSt h.2 b N t R → SK R s → (∀ v t' R', gtt b N (cGo s t R) (cGo s t' R') → t'.1 ≠ 1 → t.2.1 ≤ t'.2.1 → GSt R R' → FW gC gPl h.2 v → RSt v b N t' R' → Q.1 none (h.1, v)) → (∀ v x p, gtt b N (cGo s t R) (cF x p) → FW gC gPl h.2 v → FL v x p → Q.2 113 (h.1, v)) → xM l D (dd, 0, 0) m_GR_items [.inr (.inr 111), .inl (s.headD 0)] h Q
def GRP (l : Launch) (D : qD) (b : Int → Int) (N : Int) (k dd : Nat) : Prop := ∀ (s : List Int) (t : Tk) (R : Int → Int) (h : qh) (Q : xQ), s.length + k = 4 → RSt h.2 b N t R → SK R s → t.1 = 1 → stp b N (cGo s t R) = pGrp b N s t R → (∀ v t' R', gtt b N (cGo s t R) (cGo s t' R') → t.2.1 < t'.2.1 → GSt R R' → FW gC gPl h.2 v → RSt v b N t' R' → Q.1 none (h.1, v)) → (∀ v x p, gtt b N (cGo s t R) (cF x p) → FW gC gPl h.2 v → FL v x p → Q.2 113 (h.1, v)) → xM l D (dd, 0, 0) m_GR_group [.inr (.inr 111), .inl (s.headD 0)] h Q
theorem iv_dp4 {l : Launch} {D : qD} {d : Nat} {K : qK} {ls : List (Option qv)} {st : List qv} {h : qh} {N : Int} {s : List Int} {b R : Int → Int} {t : Tk} (rs : RSt h.2 b N t R) (sk : SK R s) (sl : s.length ≤ 4) (cs : q_cs st ≤ 8) (hk : K ls (.inl (s.length : Int) :: st) h) : s_invV l D (d + 1, 0, 0) 3 m_Gr_deep 1 K ls (.inl (s.headD 0) :: .inr (.inr 114) :: st) h := sorry
theorem aG_114 (v : Int → Int → Int) (p n q : Int) : aG v 114 112 p n q = cp2 (up2 (up2 (up2 v 114 2 (v 114 2 + 1)) 124 (v 114 2) q) 125 (v 114 2) n) 112 116 p (8 * v 114 2) n := sorry
set_option maxRecDepth 100000 in
theorem GRP_of {l : Launch} {D : qD} {b : Int → Int} {N : Int} {k E : Nat} (ih : ∀ k', k = k' + 1 → ITM l D b N k' (E + 10)) : GRP l D b N k (E + 11) := sorry
set_option maxRecDepth 100000 in
theorem ITM_of {l : Launch} {D : qD} {b : Int → Int} {N : Int} {k E : Nat} (gr : GRP l D b N k (E + 11)) : ITM l D b N k (E + 12) := sorry
theorem ITM_all {l : Launch} {D : qD} {b : Int → Int} {N : Int} {d : Nat} : ∀ k : Nat, ITM l D b N k (d + 2 * k + 12) := sorry
/-! ### read: a text's graph, or a fault -/
/-- a graph with nothing in it -/
def R0 : Int → Int := fun j => if j = 2 then 1 else if j = 531 then -1 else 0
theorem R0_ok : GOK R0 := sorry
theorem CR_R0 {v : Int → Int → Int} {g : Int} (hg : isG g) (hA : GA v g) (hr : ∀ k, 0 < k → k < 8 → v (g + 10) k < k) : CR (g_Gr_clear g v) g R0 := sorry
set_option maxRecDepth 100000 in
theorem sp_GR_read {l : Launch} {D : qD} {d : Nat} {N : Int} {b : Int → Int} {h : qh} {Q : qQ} (rd : RD4 h.2 b N) (e0 : h.2 111 0 = 114) (e4 : h.2 111 4 = 0) (e8 : h.2 111 8 = 0 ∧ h.2 111 9 = -1) (hG : isG 114) (hA : GA h.2 114) (hr : ∀ k, 0 < k → k < 8 → h.2 124 k < k) (h1 : ∀ v R, gtt b N (cGo [] (tkn mG b N 0) R0) (cD R) → FW gC gPl h.2 v → (v 111 8 = 0 ∧ v 111 9 = -1) → CR v 114 R → GOK R → Q (some (.inl 1)) (h.1, v)) (h0 : ∀ v x p, gtt b N (cGo [] (tkn mG b N 0) R0) (cF x p) → FW gC gPl h.2 v → FL v x p → Q (some (.inl 0)) (h.1, v)) : xM l D (d + 21, 0, 0) m_GR_read [.inr (.inr 111)] h (Q, fun _ _ => False) := sorry
end
section
/-! ===== the twin's reader: tokens ===== -/
def RDT (v : Int → Int → Int) (b : Int → Int) (N : Int) : Prop := (v 280 1 = 281 ∧ v 280 10 = N) ∧ (0 ≤ N ∧ N ≤ 2000) ∧ (∀ j, 0 ≤ j → j < N → z_iand (v 281 j) 255 = b j ∧ 0 ≤ b j ∧ b j ≤ 255) ∧ ∀ j, N ≤ j → b j = -1
theorem RDT.by {v : Int → Int → Int} {b : Int → Int} {N k : Int} (h : RDT v b N) (k0 : 0 ≤ k) : p_Mo_byteAt k v ∧ f_Mo_byteAt k v = b k := sorry
theorem RDT.fw {C : List Int} {P : List (Int × Int)} {v v' : Int → Int → Int} {b : Int → Int} {N : Int} (h : RDT v b N) (k : FW C P v v') (h0 : (280 : Int) ∉ C) (h1 : (281 : Int) ∉ C) (hP : P.all (fun p => decide (p.1 ≠ 281 ∧ p ≠ (280, 1) ∧ p ≠ (280, 10))) = true) : RDT v' b N := sorry
abbrev nPt : List (Int × Int) := [(280, 11), (280, 12), (280, 13), (280, 14), (280, 15)]
/-- the token at hand -/
def TT (v : Int → Int → Int) (t : Tk) : Prop := v 280 12 = t.1 ∧ v 280 13 = t.2.1 ∧ v 280 15 = t.2.1 ∧ (t.1 ≠ 4 → v 280 11 = t.2.2.1) ∧ (t.1 = 2 ∨ t.1 = 3 → v 280 14 = t.2.2.2)
theorem TT.fw {C : List Int} {P : List (Int × Int)} {v v' : Int → Int → Int} {t : Tk} (h : TT v t) (k : FW C P v v') (h0 : (280 : Int) ∉ C) (hP : P.all (fun p => decide (p ∉ nPt)) = true) : TT v' t := sorry
theorem inT_1 {c lo hi : Int} {v : Int → Int → Int} (h : lo ≤ c ∧ c ≤ hi) : f_Mo_in c lo hi v = 1 := sorry
theorem inT_0 {c lo hi : Int} {v : Int → Int → Int} (h : ¬ (lo ≤ c ∧ c ≤ hi)) : f_Mo_in c lo hi v = 0 := sorry
theorem letT_1 {c : Int} {v : Int → Int → Int} (h : isLt c) : f_Mo_isLetter c v = 1 := sorry
theorem letT_0 {c : Int} {v : Int → Int → Int} (h : ¬ isLt c) : f_Mo_isLetter c v = 0 := sorry
theorem digT_1 {c : Int} {v : Int → Int → Int} (h : isDg c) : f_Mo_isDigit c v = 1 := sorry
theorem digT_0 {c : Int} {v : Int → Int → Int} (h : ¬ isDg c) : f_Mo_isDigit c v = 0 := sorry
set_option maxRecDepth 100000 in
theorem Mo_nx_d {l : Launch} {D : qD} {d : Nat} {N : Int} {b : Int → Int} {v0 : Int → Int → Int} {T : Tk} {h : qh} {Q : qQ} (rd : RDT v0 b N) (hq : ∀ v, FW [] nPt v0 v → TT v T → Q none (h.1, v)) :
    ∀ (n : Nat) (v : Int → Int → Int) (p k y : Int) (c : Int) (x : Option qv), N - (p + k) = n → FW [] nPt v0 v → (v 280 13 = p ∧ v 280 15 = p ∧ v 280 11 = p + k ∧ v 280 14 = y) → (0 ≤ p ∧ 0 ≤ k) → (∀ j, p ≤ j → j < p + k → isDg (b j)) → (0 ≤ y ∧ y ≤ 999999) → (k ≤ 5 → y = dvl b p k.toNat) → (∀ q, p ≤ q → q ≤ N → (∀ j, p ≤ j → j < q → isDg (b j)) → ¬ isDg (b q) → T = nTk b 3 p q) → qR l D (d + 3, 0, 0) m_Mo_next 185 (fun r h' => Q r ((h'.1.1, h.1.2.1, h.1.2.2), h'.2)) [some (.inr (.inr (280))), some (.inl (c)), x] [] ((h.1.1, 0, 0), v) := sorry
set_option maxRecDepth 100000 in
theorem Mo_nx_w {l : Launch} {D : qD} {d : Nat} {N : Int} {b : Int → Int} {v0 : Int → Int → Int} {T : Tk} {h : qh} {Q : qQ} (rd : RDT v0 b N) (hq : ∀ v, FW [] nPt v0 v → TT v T → Q none (h.1, v)) :
    ∀ (n : Nat) (v : Int → Int → Int) (p k : Int) (c : Int) (x : Option qv), N - (p + k) = n → FW [] nPt v0 v → (v 280 13 = p ∧ v 280 15 = p ∧ v 280 11 = p + k) → (0 ≤ p ∧ 0 ≤ k) → (∀ j, p ≤ j → j < p + k → mG.2.1 (b j)) → (∀ q, p ≤ q → q ≤ N → (∀ j, p ≤ j → j < q → mG.2.1 (b j)) → (q < N → ¬ mG.2.1 (b q)) → T = wTk p q) → qR l D (d + 3, 0, 0) m_Mo_next 93 (fun r h' => Q r ((h'.1.1, h.1.2.1, h.1.2.2), h'.2)) [some (.inr (.inr (280))), some (.inl (c)), x] [] ((h.1.1, 0, 0), v) := sorry
set_option maxRecDepth 100000 in
theorem sp_Mo_next {l : Launch} {D : qD} {d : Nat} {a N : Int} {b : Int → Int} {h : qh} {Q : qQ} (rd : RDT h.2 b N) (ea : h.2 280 11 = a) (ab : 0 ≤ a ∧ a ≤ N) (hq : ∀ v, FW [] nPt h.2 v → TT v (tkn mG b N a) → Q none (h.1, v)) :
    qM l D (d + 3, 0, 0) m_Mo_next [.inr (.inr 280)] h Q := sorry
theorem iv_nxT {l : Launch} {D : qD} {d : Nat} {K : qK} {ls : List (Option qv)} {st : List qv} {h : qh} {a N : Int} {b : Int → Int} (rd : RDT h.2 b N) (ea : h.2 280 11 = a) (ab : 0 ≤ a ∧ a ≤ N) (cs : q_cs st ≤ 8) (hk : ∀ v, FW [] nPt h.2 v → TT v (tkn mG b N a) → K ls st (h.1, v)) : s_invV l D (d + 3, 0, 0) 18 m_Mo_next 0 K ls (.inr (.inr 280) :: st) h := sorry
set_option maxRecDepth 100000 in
theorem sp_Mo_isWord {l : Launch} {D : qD} {d : Nat} {z N : Int} {b : Int → Int} {t : Tk} {h : qh} {Q : qQ} (rd : RDT h.2 b N) (ct : TT h.2 t) (hz : z ≤ -2 ∧ -77 < z) (tb0 : t.1 = 1 → 0 ≤ t.2.1 ∧ t.2.1 ≤ t.2.2.1 ∧ t.2.2.1 ≤ N) (h1 : isW b t (wz z) → Q (some (.inl 1)) h) (h0 : ¬ isW b t (wz z) → Q (some (.inl 0)) h) : qM l D (d + 5, 0, 0) m_Mo_isWord [.inr (.inr 280), .inr (.inr z)] h Q := sorry
theorem iv_wdT {l : Launch} {D : qD} {d : Nat} {K : qK} {ls : List (Option qv)} {st : List qv} {h : qh} {z N : Int} {b : Int → Int} {t : Tk} (rd : RDT h.2 b N) (ct : TT h.2 t) (hz : z ≤ -2 ∧ -77 < z) (tb0 : t.1 = 1 → 0 ≤ t.2.1 ∧ t.2.1 ≤ t.2.2.1 ∧ t.2.2.1 ≤ N) (cs : q_cs st ≤ 8) (h1 : isW b t (wz z) → K ls (.inl 1 :: st) h) (h0 : ¬ isW b t (wz z) → K ls (.inl 0 :: st) h) : s_invV l D (d + 5, 0, 0) 18 m_Mo_isWord 1 K ls (.inr (.inr z) :: .inr (.inr 280) :: st) h := sorry
end
section
/-! ===== the twin's reader: names ===== -/
theorem wz_40 : wz (-40) = wz (-23) := sorry
theorem wz_41 : wz (-41) = wz (-24) := sorry
theorem wz_42 : wz (-42) = wz (-25) := sorry
theorem wz_43 : wz (-43) = wz (-26) := sorry
abbrev tPr : List (Int × Int) := [(280, 8), (280, 9), (280, 11), (280, 12), (280, 13), (280, 14), (280, 15)]
/-- how far the twin has read -/
def TS (v : Int → Int → Int) (b : Int → Int) (N : Int) (t : Tk) (R : Int → Int) (r : Int) : Prop := (TW v ∧ RDT v b N ∧ v 280 5 = r ∧ v 280 8 = 0) ∧ (TT v t ∧ TG0 b N 0 t) ∧ TRw v r R ∧ GOK R
/-- what may change -/
def KT (r : Int) (v v' : Int → Int → Int) : Prop := FW [282] tPr v v' ∧ ∀ j, (j < r ∨ r + 539 ≤ j) → v' 282 j = v 282 j
theorem KT.rf {r : Int} {v : Int → Int → Int} : KT r v v := sorry
theorem KT.tr {r : Int} {v v' v'' : Int → Int → Int} (h : KT r v v') (h' : KT r v' v'') : KT r v v'' := sorry
theorem KT.nx {r : Int} {v v' : Int → Int → Int} (k : FW [] nPt v v') : KT r v v' := sorry
theorem KT.up {r x z : Int} {v v' : Int → Int → Int} (h : KT r v v') (hx : r ≤ x ∧ x < r + 539) : KT r v (up2 v' 282 x z) := sorry
theorem KT.fa {r y w : Int} {v v' : Int → Int → Int} (h : KT r v v') : KT r v (up2 (up2 v' 280 8 y) 280 9 w) := sorry
/-- a fault -/
def FT (v : Int → Int → Int) (y w : Int) : Prop := v 280 8 = y ∧ v 280 9 = w
theorem ft_e {v : Int → Int → Int} {y w : Int} : FT (up2 (up2 v 280 8 y) 280 9 w) y w := sorry
theorem wrT {v : Int → Int → Int} {y w : Int} (h : v 280 8 = 0) : g_Mo_wrong y w v = up2 (up2 v 280 8 y) 280 9 w := sorry
theorem TRw.a0 {v : Int → Int → Int} {r : Int} {R : Int → Int} (h : TRw v r R) : v 282 r = R 0 := sorry
theorem TRw.up {v : Int → Int → Int} {r j z : Int} {R : Int → Int} (h : TRw v r R) (x : Int) (ex : x = r + j) : TRw (up2 v 282 x z) r (upr R j z) := sorry
theorem TRw.rw {v : Int → Int → Int} {r : Int} {R R' : Int → Int} (h : TRw v r R) (e : ∀ j, 0 ≤ j → j < 539 → R' j = R j) : TRw v r R' := sorry
theorem TS.f {v : Int → Int → Int} {b : Int → Int} {N r : Int} {t : Tk} {R : Int → Int} (h : TS v b N t R r) : (v 280 12 = t.1 ∧ v 280 13 = t.2.1 ∧ v 280 15 = t.2.1) ∧ (t.1 = 1 → 0 ≤ t.2.1 ∧ t.2.1 ≤ t.2.2.1 ∧ t.2.2.1 ≤ N) ∧ (t.1 ≠ 4 → v 280 11 = t.2.2.1 ∧ 0 ≤ t.2.2.1 ∧ t.2.2.1 ≤ N) ∧ (0 ≤ t.2.1 ∧ t.2.1 ≤ N) ∧ (0 ≤ N ∧ N ≤ 2000) := sorry
theorem TS.nx {v v' : Int → Int → Int} {b : Int → Int} {N r : Int} {t : Tk} {R : Int → Int} (h : TS v b N t R r) (h4 : t.1 ≠ 4) (k : FW [] nPt v v') (ct : TT v' (tkn mG b N t.2.2.1)) : TS v' b N (nxk b N t) R r := sorry
/-- the row changes -/
theorem TS.cs {v v' : Int → Int → Int} {b : Int → Int} {N r : Int} {t : Tk} {R R' : Int → Int} (h : TS v b N t R r) (k : FW [282] [] v v') (g1 : TRw v' r R') (g2 : GOK R') : TS v' b N t R' r := sorry
theorem sgT_1 {v : Int → Int → Int} {t : Tk} {c : Int} (h : TT v t) (e8 : v 280 8 = 0) (q : isSg t c) : f_Mo_sign c v = 1 := sorry
theorem sgT_0 {v : Int → Int → Int} {t : Tk} {c : Int} (h : TT v t) (e8 : v 280 8 = 0) (q : ¬ isSg t c) : f_Mo_sign c v = 0 := sorry
theorem sgT_f {v : Int → Int → Int} {c : Int} (h : v 280 8 ≠ 0) : f_Mo_sign c v = 0 := sorry
set_option maxRecDepth 100000 in
theorem sp_Mo_isName {l : Launch} {D : qD} {d : Nat} {N r : Int} {b R : Int → Int} {t : Tk} {h : qh} {Q : qQ} (ts : TS h.2 b N t R r) (h1 : isNm b t → Q (some (.inl 1)) h) (h0 : ¬ isNm b t → Q (some (.inl 0)) h) : qM l D (d + 6, 0, 0) m_Mo_isName [.inr (.inr 280)] h Q := sorry
theorem iv_nmT {l : Launch} {D : qD} {d : Nat} {K : qK} {ls : List (Option qv)} {st : List qv} {h : qh} {N r : Int} {b R : Int → Int} {t : Tk} (ts : TS h.2 b N t R r) (cs : q_cs st ≤ 8) (h1 : isNm b t → K ls (.inl 1 :: st) h) (h0 : ¬ isNm b t → K ls (.inl 0 :: st) h) : s_invV l D (d + 6, 0, 0) 18 m_Mo_isName 0 K ls (.inr (.inr 280) :: st) h := sorry
set_option maxRecDepth 100000 in
theorem sp_Mo_need {l : Launch} {D : qD} {d : Nat} {N r c : Int} {b R : Int → Int} {t : Tk} {h : qh} {Q : qQ} (ts : TS h.2 b N t R r) (h1 : isSg t c → ∀ v, KT r h.2 v → TS v b N (nxk b N t) R r → Q none (h.1, v)) (h0 : ¬ isSg t c → ∀ v, KT r h.2 v → FT v 1 t.2.1 → Q none (h.1, v)) : qM l D (d + 4, 0, 0) m_Mo_need [.inr (.inr 280), .inl c] h Q := sorry
set_option maxRecDepth 100000 in
theorem sp_Mo_need_f {l : Launch} {D : qD} {d : Nat} {c : Int} {h : qh} {Q : qQ} (e8 : 0 < h.2 280 8) (hq : Q none h) : qM l D (d + 1, 0, 0) m_Mo_need [.inr (.inr 280), .inl c] h Q := sorry
theorem iv_neT {l : Launch} {D : qD} {d : Nat} {K : qK} {ls : List (Option qv)} {st : List qv} {h : qh} {N r c : Int} {b R : Int → Int} {t : Tk} (ts : TS h.2 b N t R r) (cs : q_cs st ≤ 8) (h1 : isSg t c → ∀ v, KT r h.2 v → TS v b N (nxk b N t) R r → K ls st (h.1, v)) (h0 : ¬ isSg t c → ∀ v, KT r h.2 v → FT v 1 t.2.1 → K ls st (h.1, v)) : s_invV l D (d + 4, 0, 0) 18 m_Mo_need 1 K ls (.inl c :: .inr (.inr 280) :: st) h := sorry
theorem iv_nfT {l : Launch} {D : qD} {d : Nat} {K : qK} {ls : List (Option qv)} {st : List qv} {h : qh} {c : Int} (e8 : 0 < h.2 280 8) (cs : q_cs st ≤ 8) (hk : K ls st h) : s_invV l D (d + 1, 0, 0) 18 m_Mo_need 1 K ls (.inl c :: .inr (.inr 280) :: st) h := sorry
set_option maxRecDepth 100000 in
theorem sp_Mo_known {l : Launch} {D : qD} {d : Nat} {N r : Int} {b R : Int → Int} {t : Tk} {h : qh} {Q : qQ} (ts : TS h.2 b N t R r) (hn : isNm b t) (hq : Q (some (.inl (knw b t R))) h) : qM l D (d + 2, 0, 0) m_Mo_known [.inr (.inr 280)] h Q := sorry
theorem iv_knT {l : Launch} {D : qD} {d : Nat} {K : qK} {ls : List (Option qv)} {st : List qv} {h : qh} {N r : Int} {b R : Int → Int} {t : Tk} (ts : TS h.2 b N t R r) (hn : isNm b t) (cs : q_cs st ≤ 8) (hk : K ls (.inl (knw b t R) :: st) h) : s_invV l D (d + 2, 0, 0) 18 m_Mo_known 0 K ls (.inr (.inr 280) :: st) h := sorry
end
section
/-! ===== the twin's reader: a name that is met, a number in brackets ===== -/
theorem jnT_jnR {v : Int → Int → Int} {R : Int → Int} {r e a c : Int} (g1 : TRw v r R) (e5 : v 280 5 = r) (g2 : GOK R) (e0 : 0 ≤ e) (e1 : e < R 1) (ne : a ≠ c) : jnT v e a c ↔ jnR R e a c := sorry
theorem iv_beT {l : Launch} {D : qD} {d : Nat} {K : qK} {ls : List (Option qv)} {st : List qv} {h : qh} {N r a c : Int} {b R : Int → Int} {t : Tk} (ts : TS h.2 b N t R r) (ne : a ≠ c) (cs : q_cs st ≤ 8) (hj : jdR R a c → ∀ e : Int, 0 ≤ e → K ls (.inl e :: st) h) (hn : ¬ jdR R a c → K ls (.inl (-1) :: st) h) : s_invV l D (d + 3, 0, 0) 18 m_Mo_between 2 K ls (.inl c :: .inl a :: .inr (.inr 280) :: st) h := sorry
/-- a node more, k letters of its name are written -/
def aNp (R b : Int → Int) (t : Tk) (k : Int) : Int → Int := fun j => if j = 0 then R 0 + 1 else if j = 195 + R 0 then t.2.2.1 - t.2.1 else if 3 + 8 * R 0 ≤ j ∧ j < 3 + 8 * R 0 + k then b (t.2.1 + (j - (3 + 8 * R 0))) else R j
theorem aNp_0 {R b : Int → Int} {t : Tk} (n0 : 0 ≤ R 0) : upr (upr R 0 (R 0 + 1)) (195 + R 0) (t.2.2.1 - t.2.1) = aNp R b t 0 := sorry
theorem aNp_s {R b : Int → Int} {t : Tk} {k : Int} (n0 : 0 ≤ R 0 ∧ R 0 < 24) (k0 : 0 ≤ k ∧ k < 8) : upr (aNp R b t k) (3 + 8 * R 0 + k) (b (t.2.1 + k)) = aNp R b t (k + 1) := sorry
theorem aNp_e {R b : Int → Int} {t : Tk} {g : Int} (n0 : 0 ≤ R 0 ∧ R 0 < 24) (hl : 1 ≤ t.2.2.1 - t.2.1 ∧ t.2.2.1 - t.2.1 ≤ 8) : upr (upr (aNp R b t (t.2.2.1 - t.2.1)) (219 + R 0) 1) (243 + R 0) g = adN R b t g := sorry
set_option maxRecDepth 100000 in
theorem Mo_mt_122 {l : Launch} {D : qD} {d : Nat} {N r g bf i : Int} {b R : Int → Int} {t : Tk} {y : Option qv} {x4 : Int} {h : qh} {Q : qQ} (ts : TS h.2 b N t R r) (hn : isNm b t) (n24 : R 0 < 24) (hg : 0 ≤ g ∧ g < R 2) (i0 : i < 0) (hq : ∀ v, KT r h.2 v → TS v b N (nxk b N t) (adN R b t g) r → Q (some (.inl (R 0))) (h.1, v)) : w_Mo_met_122 l D (d + 6) (0, 0) (fun r h' => Q r ((h'.1.1, h.1.2.1, h.1.2.2), h'.2)) [some (.inr (.inr (280))), some (.inl (g)), some (.inl (bf)), some (.inl (i)), some (.inl (x4)), y] [] ((h.1.1, 0, 0), h.2) := sorry
set_option maxRecDepth 100000 in
theorem sp_Mo_met {l : Launch} {D : qD} {d : Nat} {N r g bf : Int} {b R : Int → Int} {t : Tk} {h : qh} {Q : qQ} (ts : TS h.2 b N t R r) (hg : 0 ≤ g ∧ g < R 2) (hb : bf = -1 ∨ (0 ≤ bf ∧ bf < R 0)) (h1 : ∀ v i t' R', pMet b N t R g bf = .inr (i, t', R') → KT r h.2 v → TS v b N t' R' r → Q (some (.inl i)) (h.1, v)) (h0 : ∀ v x p, pMet b N t R g bf = .inl (x, p) → 0 < x → KT r h.2 v → FT v x p → Q (some (.inl (-1))) (h.1, v)) : qM l D (d + 7, 0, 0) m_Mo_met [.inr (.inr 280), .inl g, .inl bf] h Q := sorry
theorem iv_mtT {l : Launch} {D : qD} {d : Nat} {K : qK} {ls : List (Option qv)} {st : List qv} {h : qh} {N r g bf : Int} {b R : Int → Int} {t : Tk} (ts : TS h.2 b N t R r) (hg : 0 ≤ g ∧ g < R 2) (hb : bf = -1 ∨ (0 ≤ bf ∧ bf < R 0)) (cs : q_cs st ≤ 8) (h1 : ∀ v i t' R', pMet b N t R g bf = .inr (i, t', R') → KT r h.2 v → TS v b N t' R' r → K ls (.inl i :: st) (h.1, v)) (h0 : ∀ v x p, pMet b N t R g bf = .inl (x, p) → 0 < x → KT r h.2 v → FT v x p → K ls (.inl (-1) :: st) (h.1, v)) : s_invV l D (d + 7, 0, 0) 18 m_Mo_met 2 K ls (.inl bf :: .inl g :: .inr (.inr 280) :: st) h := sorry
set_option maxRecDepth 100000 in
theorem sp_Mo_of_0 {l : Launch} {D : qD} {d : Nat} {z most : Int} {h : qh} {Q : qQ} (no : f_Mo_sign 91 h.2 = 0) (hq : Q (some (.inl 0)) h) : qM l D (d + 2, 0, 0) m_Mo_of [.inr (.inr 280), .inr (.inr z), .inl most] h Q := sorry
set_option maxRecDepth 100000 in
theorem Mo_of_2 {l : Launch} {D : qD} {d : Nat} {N r z most w : Int} {b R : Int → Int} {t : Tk} {v : Int → Int → Int} {h : qh} {Q : qQ} (ts : TS v b N t R r) (hz : z ≤ -2 ∧ -77 < z) (w1 : 1 ≤ w) (st : Q (some (.inl 0)) (h.1, up2 (up2 v 280 8 (if t.1 = 1 then 4 else 1)) 280 9 t.2.1)) : qR l D (d + 6, 0, 0) m_Mo_of 17 (fun r h' => Q r ((h'.1.1, h.1.2.1, h.1.2.2), h'.2)) [some (.inr (.inr (280))), some (.inr (.inr (z))), some (.inl (most)), some (.inl (w))] [] ((h.1.1, 0, 0), v) := sorry
set_option maxRecDepth 100000 in
theorem sp_Mo_of {l : Launch} {D : qD} {d : Nat} {N r z most : Int} {b R : Int → Int} {t : Tk} {h : qh} {Q : qQ} (ts : TS h.2 b N t R r) (sg : isSg t 91) (hz : z ≤ -2 ∧ -77 < z) (h1 : ∀ v w t', pOf b N (wz z) most t = .inr (w, t') → KT r h.2 v → TS v b N t' R r → Q (some (.inl w)) (h.1, v)) (h0 : ∀ v x p, pOf b N (wz z) most t = .inl (x, p) → 0 < x → KT r h.2 v → FT v x p → ∀ w : Int, Q (some (.inl w)) (h.1, v)) : qM l D (d + 6, 0, 0) m_Mo_of [.inr (.inr 280), .inr (.inr z), .inl most] h Q := sorry
theorem iv_ofT {l : Launch} {D : qD} {d : Nat} {K : qK} {ls : List (Option qv)} {st : List qv} {h : qh} {N r z most : Int} {b R : Int → Int} {t : Tk} (ts : TS h.2 b N t R r) (sg : isSg t 91) (hz : z ≤ -2 ∧ -77 < z) (cs : q_cs st ≤ 8) (h1 : ∀ v w t', pOf b N (wz z) most t = .inr (w, t') → KT r h.2 v → TS v b N t' R r → K ls (.inl w :: st) (h.1, v)) (h0 : ∀ v x p, pOf b N (wz z) most t = .inl (x, p) → 0 < x → KT r h.2 v → FT v x p → ∀ w : Int, K ls (.inl w :: st) (h.1, v)) : s_invV l D (d + 6, 0, 0) 18 m_Mo_of 2 K ls (.inl most :: .inr (.inr z) :: .inr (.inr 280) :: st) h := sorry
theorem iv_ozT {l : Launch} {D : qD} {d : Nat} {K : qK} {ls : List (Option qv)} {st : List qv} {h : qh} {z most : Int} (no : f_Mo_sign 91 h.2 = 0) (cs : q_cs st ≤ 8) (hk : K ls (.inl 0 :: st) h) : s_invV l D (d + 2, 0, 0) 18 m_Mo_of 2 K ls (.inl most :: .inr (.inr z) :: .inr (.inr 280) :: st) h := sorry
end
section
/-! ===== the twin's reader: edges ===== -/
theorem TRw_adE {v : Int → Int → Int} {r a c w : Int} {R : Int → Int} (g1 : TRw v r R) (e5 : v 280 5 = r) (m : 0 ≤ R 1 ∧ R 1 < 48) : TRw (g_Mo_newEdge a c w v) r (adE R a c w) := sorry
theorem KT_adE {v v' : Int → Int → Int} {r a c w : Int} {R : Int → Int} (k : KT r v v') (g1 : TRw v' r R) (e5 : v' 280 5 = r) (m : 0 ≤ R 1 ∧ R 1 < 48) : KT r v (g_Mo_newEdge a c w v') ∧ FW [282] [] v' (g_Mo_newEdge a c w v') := sorry
theorem KT.c5 {v v' : Int → Int → Int} {r : Int} (k : KT r v v') : v' 280 5 = v 280 5 ∧ v' 280 2 = v 280 2 := sorry
set_option maxRecDepth 100000 in
theorem Mo_eg_46f {l : Launch} {D : qD} {d : Nat} {g a f r : Int} {y4 y5 : Option qv} {v : Int → Int → Int} {h : qh} {Q : qQ} (y2 : v 280 2 = 282) (e5 : v 280 5 = r) (rb : 0 ≤ r ∧ r ≤ 66297) (e8 : 0 < v 280 8) (hq : Q none (h.1, v)) : qR l D (d + 3, 0, 0) m_Mo_edgeItem 46 (fun r h' => Q r ((h'.1.1, h.1.2.1, h.1.2.2), h'.2)) [some (.inr (.inr (280))), some (.inl (g)), some (.inl (a)), some (.inl (f)), y4, y5] [] ((h.1.1, 0, 0), v) := sorry
set_option maxRecDepth 100000 in
theorem Mo_eg_115 {l : Launch} {D : qD} {d : Nat} {N r f a : Int} {s : List Int} {b R : Int → Int} {t : Tk} {v : Int → Int → Int} {h : qh} {Q : qQ} (f0 : 0 ≤ f ∧ f ≤ R 1) (kv : KT r h.2 v) (ts : TS v b N t R r) (h1 : ∀ v t' R', pEw b N s f t R = cGo s t' R' → t.2.1 < t'.2.1 → R' 2 = R 2 → (∀ j, 459 ≤ j → R' j = R j) → KT r h.2 v → TS v b N t' R' r → Q none (h.1, v)) (h0 : ∀ v x p, pEw b N s f t R = cF x p → 0 < x → KT r h.2 v → FT v x p → Q none (h.1, v)) : ∀ (y4 y5 : Option qv), w_Mo_edgeItem_115 l D (d + 6) (0, 0) (fun r h' => Q r ((h'.1.1, h.1.2.1, h.1.2.2), h'.2)) [some (.inr (.inr (280))), some (.inl (s.headD 0)), some (.inl (a)), some (.inl (f)), y4, y5] [] ((h.1.1, 0, 0), v) := sorry
set_option maxRecDepth 100000 in
theorem Mo_eg_46 {l : Launch} {D : qD} {d : Nat} {N f r : Int} {s : List Int} {b R0 : Int → Int} {t0 : Tk} {h : qh} {Q : qQ} (h1 : ∀ v t' R', gtt b N (cGo s t0 R0) (cGo s t' R') → t0.2.1 < t'.2.1 → GSt R0 R' → KT r h.2 v → TS v b N t' R' r → Q none (h.1, v)) (h0 : ∀ v x p, gtt b N (cGo s t0 R0) (cF x p) → 0 < x → KT r h.2 v → FT v x p → Q none (h.1, v)) :
    ∀ (n : Nat) (v : Int → Int → Int) (t : Tk) (R : Int → Int) (a : Int) (y4 y5 : Option qv), N - t.2.1 ≤ n → t0.2.1 < t.2.1 → (0 ≤ a ∧ a < R 0) → (0 ≤ f ∧ f ≤ R 1) → (0 ≤ s.headD 0 ∧ s.headD 0 < R 2) → GSt R0 R → KT r h.2 v → TS v b N t R r → (isSg t 45 ∨ isSg t 62 → gtt b N (cGo s t0 R0) (cE s a f t R)) → (¬ (isSg t 45 ∨ isSg t 62) → gtt b N (cGo s t0 R0) (pEw b N s f t R)) → qR l D (d + 8, 0, 0) m_Mo_edgeItem 46 (fun r h' => Q r ((h'.1.1, h.1.2.1, h.1.2.2), h'.2)) [some (.inr (.inr (280))), some (.inl (s.headD 0)), some (.inl (a)), some (.inl (f)), y4, y5] [] ((h.1.1, 0, 0), v) := sorry
set_option maxRecDepth 100000 in
theorem sp_Mo_edgeItem {l : Launch} {D : qD} {d : Nat} {N r : Int} {s : List Int} {b R : Int → Int} {t : Tk} {h : qh} {Q : qQ} (ts : TS h.2 b N t R r) (hs : stp b N (cGo s t R) = pEd0 b N s t R) (hg : 0 ≤ s.headD 0 ∧ s.headD 0 < R 2) (h1 : ∀ v t' R', gtt b N (cGo s t R) (cGo s t' R') → t.2.1 < t'.2.1 → GSt R R' → KT r h.2 v → TS v b N t' R' r → Q none (h.1, v)) (h0 : ∀ v x p, gtt b N (cGo s t R) (cF x p) → 0 < x → KT r h.2 v → FT v x p → Q none (h.1, v)) : qM l D (d + 8, 0, 0) m_Mo_edgeItem [.inr (.inr 280), .inl (s.headD 0)] h Q := sorry
theorem iv_egT {l : Launch} {D : qD} {d : Nat} {K : qK} {ls : List (Option qv)} {st : List qv} {h : qh} {N r : Int} {s : List Int} {b R : Int → Int} {t : Tk} (ts : TS h.2 b N t R r) (hs : stp b N (cGo s t R) = pEd0 b N s t R) (hg : 0 ≤ s.headD 0 ∧ s.headD 0 < R 2) (cs : q_cs st ≤ 8) (h1 : ∀ v t' R', gtt b N (cGo s t R) (cGo s t' R') → t.2.1 < t'.2.1 → GSt R R' → KT r h.2 v → TS v b N t' R' r → K ls st (h.1, v)) (h0 : ∀ v x p, gtt b N (cGo s t R) (cF x p) → 0 < x → KT r h.2 v → FT v x p → K ls st (h.1, v)) : s_invV l D (d + 8, 0, 0) 18 m_Mo_edgeItem 1 K ls (.inl (s.headD 0) :: .inr (.inr 280) :: st) h := sorry
end
section
/-! ===== the twin's reader: items, groups, all ===== -/
def ITx (l : Launch) (D : qD) (b : Int → Int) (N r : Int) (k dd : Nat) : Prop := ∀ (s : List Int) (t : Tk) (R : Int → Int) (h : qh) (Q : qQ), s.length + k = 4 → TS h.2 b N t R r → SK R s → (t.1 ≠ 1 → stp b N (cGo s t R) = cF 1 t.2.1) → (∀ v t' R', gtt b N (cGo s t R) (cGo s t' R') → t.2.1 < t'.2.1 → GSt R R' → KT r h.2 v → TS v b N t' R' r → Q none (h.1, v)) → (∀ v x p, gtt b N (cGo s t R) (cF x p) → 0 < x → KT r h.2 v → FT v x p → Q none (h.1, v)) → qM l D (dd, 0, 0) m_Mo_item [.inr (.inr 280), .inl (s.headD 0), .inl (s.length : Int)] h Q
def GPT (l : Launch) (D : qD) (b : Int → Int) (N r : Int) (k dd : Nat) : Prop := ∀ (s : List Int) (t : Tk) (R : Int → Int) (h : qh) (Q : qQ), s.length + k = 4 → TS h.2 b N t R r → SK R s → t.1 = 1 → stp b N (cGo s t R) = pGrp b N s t R → (∀ v t' R', gtt b N (cGo s t R) (cGo s t' R') → t.2.1 < t'.2.1 → GSt R R' → KT r h.2 v → TS v b N t' R' r → Q none (h.1, v)) → (∀ v x p, gtt b N (cGo s t R) (cF x p) → 0 < x → KT r h.2 v → FT v x p → Q none (h.1, v)) → qM l D (dd, 0, 0) m_Mo_groupItem [.inr (.inr 280), .inl (s.headD 0), .inl (s.length : Int)] h Q
/-- a group more, k letters of its name are written -/
def aGp (R b : Int → Int) (t : Tk) (g k : Int) : Int → Int := fun j => if j = 2 then R 2 + 1 else if j = 531 + R 2 then g else if j = 523 + R 2 then t.2.2.1 - t.2.1 else if 459 + 8 * R 2 ≤ j ∧ j < 459 + 8 * R 2 + k then b (t.2.1 + (j - (459 + 8 * R 2))) else R j
theorem aGp_0 {R b : Int → Int} {t : Tk} {g : Int} (q0 : 1 ≤ R 2) : upr (upr (upr R 2 (R 2 + 1)) (531 + R 2) g) (523 + R 2) (t.2.2.1 - t.2.1) = aGp R b t g 0 := sorry
theorem aGp_s {R b : Int → Int} {t : Tk} {g k : Int} (q0 : 1 ≤ R 2 ∧ R 2 < 8) (k0 : 0 ≤ k ∧ k < 8) : upr (aGp R b t g k) (459 + 8 * R 2 + k) (b (t.2.1 + k)) = aGp R b t g (k + 1) := sorry
theorem aGp_e {R b : Int → Int} {t : Tk} {g : Int} : aGp R b t g (t.2.2.1 - t.2.1) = adG R b t g := sorry
set_option maxRecDepth 100000 in
theorem Mo_gi_45 {l : Launch} {D : qD} {d : Nat} {N r g dp : Int} {b R : Int → Int} {t : Tk} {v0 : Int → Int → Int} {h : qh} {Q : qQ} (k0 : KT r h.2 v0) (ts : TS v0 b N t R r) (hn : isNm b t) (q8 : R 2 < 8) (hg : 0 ≤ g ∧ g < R 2) (hk : ∀ v x, KT r h.2 v → TS v b N t (adG R b t g) r → w_Mo_groupItem_160 l D (d + 6) (0, 0) (fun r h' => Q r ((h'.1.1, h.1.2.1, h.1.2.2), h'.2)) [some (.inr (.inr (280))), some (.inl (g)), some (.inl (dp)), some (.inl (R 2)), some (.inl (x))] [] ((h.1.1, 0, 0), v)) : ∀ y3 y4 : Option qv, w_Mo_groupItem_45 l D (d + 6) (0, 0) (fun r h' => Q r ((h'.1.1, h.1.2.1, h.1.2.2), h'.2)) [some (.inr (.inr (280))), some (.inl (g)), some (.inl (dp)), y3, y4] [] ((h.1.1, 0, 0), v0) := sorry
set_option maxRecDepth 100000 in
theorem GPT_of {l : Launch} {D : qD} {b : Int → Int} {N r : Int} {k E : Nat} (ih : ∀ k', k = k' + 1 → ITx l D b N r k' (E + 10)) : GPT l D b N r k (E + 11) := sorry
set_option maxRecDepth 100000 in
theorem ITx_of {l : Launch} {D : qD} {b : Int → Int} {N r : Int} {k E : Nat} (gr : GPT l D b N r k (E + 11)) : ITx l D b N r k (E + 12) := sorry
theorem ITx_all {l : Launch} {D : qD} {b : Int → Int} {N r : Int} {d : Nat} : ∀ k : Nat, ITx l D b N r k (d + 2 * k + 12) := sorry
end
section
/-! ===== Long.bitCount, piece by piece (values and continuations as variables) ===== -/
theorem lb_1 {K : qK} {M x A1 A2 Y : Int} {h : qh} (a1 : z_lushr x 1 = A1) (a2 : z_land A1 M = A2) (e1 : w64 (x - A2) = Y) (hk : K [some (.inr (.inl Y)), none] [] h) : s_lload 0 (s_lload 0 (s_ic 1 (s_lushr (s_lc M (s_land (s_lsub (s_lstore 0 K))))))) [some (.inr (.inl x)), none] [] h := sorry
theorem lb_2 {K : qK} {M M' Y B1 B2 B3 Z : Int} {h : qh} (b1 : z_land Y M = B1) (b2 : z_lushr Y 2 = B2) (b3 : z_land B2 M' = B3) (e2 : w64 (B1 + B3) = Z) (hk : K [some (.inr (.inl Z)), none] [] h) : s_lload 0 (s_lc M (s_land (s_lload 0 (s_ic 2 (s_lushr (s_lc M' (s_land (s_ladd (s_lstore 0 K))))))))) [some (.inr (.inl Y)), none] [] h := sorry
theorem lb_3 {K : qK} {M Z C1 Z' W : Int} {h : qh} (c1 : z_lushr Z 4 = C1) (e3 : w64 (Z + C1) = Z') (c2 : z_land Z' M = W) (hk : K [some (.inr (.inl W)), none] [] h) : s_lload 0 (s_lload 0 (s_ic 4 (s_lushr (s_ladd (s_lc M (s_land (s_lstore 0 K))))))) [some (.inr (.inl Z)), none] [] h := sorry
theorem lb_4 {K : qK} {k W D1 W1 : Int} {h : qh} (d1 : z_lushr W k = D1) (e4 : w64 (W + D1) = W1) (hk : K [some (.inr (.inl W1)), none] [] h) : s_lload 0 (s_lload 0 (s_ic k (s_lushr (s_ladd (s_lstore 0 K))))) [some (.inr (.inl W)), none] [] h := sorry
theorem lb_5 {K : qK} {W R : Int} {h : qh} (d4 : z_iand (z_l2i W) 127 = R) (hk : K [some (.inr (.inl W)), none] [.inl R] h) : s_lload 0 (s_l2i (s_ic 127 (s_iand K))) [some (.inr (.inl W)), none] [] h := sorry
theorem lb_6 {Q : qQ} {R : Int} {ls : List (Option qv)} {h : qh} (hq : Q (some (.inl R)) h) : s_iret Q ls [.inl R] h := sorry
set_option maxRecDepth 100000 in
theorem lbc_walk {l : Launch} {D : qD} {d : Nat} {x A1 A2 Y B1 B2 B3 Z C1 Z' W D1 W1 D2 W2 D3 W3 R : Int} {h : qh} {Q : qQ} (a1 : z_lushr x 1 = A1) (a2 : z_land A1 6148914691236517205 = A2) (e1 : w64 (x - A2) = Y) (b1 : z_land Y 3689348814741910323 = B1) (b2 : z_lushr Y 2 = B2) (b3 : z_land B2 3689348814741910323 = B3) (e2 : w64 (B1 + B3) = Z) (c1 : z_lushr Z 4 = C1) (e3 : w64 (Z + C1) = Z') (c2 : z_land Z' 1085102592571150095 = W) (d1 : z_lushr W 8 = D1) (e4 : w64 (W + D1) = W1) (d2 : z_lushr W1 16 = D2) (e5 : w64 (W1 + D2) = W2) (d3 : z_lushr W2 32 = D3) (e6 : w64 (W2 + D3) = W3) (d4 : z_iand (z_l2i W3) 127 = R) (hq : Q (some (.inl R)) h) : qM l D (d + 1, 0, 0) m_Long_bitCount [.inr (.inl x)] h Q := sorry
set_option maxRecDepth 100000 in
theorem sp_Long_bitCount {l : Launch} {D : qD} {d : Nat} {x : Int} {h : qh} {Q : qQ} (h0 : 0 ≤ x) (h1 : x < 281474976710656) (hq : Q (some (.inl (cnt (btl x) 64))) h) : qM l D (d + 1, 0, 0) m_Long_bitCount [.inr (.inl x)] h Q := sorry
end
section
/-! ===== what holds between both sides, piece by piece ===== -/
/-- a graph's cell, so many cells being made -/
def gcl (nc g : Int) : Prop := (g = 18 ∨ g = 45 ∨ g = 72 ∨ g = 99) ∨ (399 ≤ g ∧ g + 12 ≤ nc ∧ (g - 399) % 12 = 0)
theorem gcl.g {nc g : Int} (h : gcl nc g) : isG g := sorry
theorem gcl.far {nc g : Int} (h : gcl nc g) : (1 ≤ g ∧ g + 11 < 111) ∨ 399 ≤ g := sorry
theorem gcl.wk {nc nc' g : Int} (h : gcl nc g) (le : nc ≤ nc') : gcl nc' g := sorry
/-- a cell that no graph of a place has -/
abbrev ogc (c : Int) : Prop := c < 399 ∧ ¬ (18 ≤ c ∧ c ≤ 29) ∧ ¬ (45 ≤ c ∧ c ≤ 56) ∧ ¬ (72 ≤ c ∧ c ≤ 83) ∧ ¬ (99 ≤ c ∧ c ≤ 110)
theorem ogc.o {nc g c : Int} (h : ogc c) (hg : gcl nc g) : c < g ∨ g + 11 < c := sorry
/-- the graphs stay as they are -/
def GRU (nc : Int) (v v' : Int → Int → Int) : Prop := ∀ g, gcl nc g → ∀ j : Int, 0 ≤ j → j ≤ 11 → v' (g + j) = v (g + j)
theorem GRU.fw {nc : Int} {C : List Int} {P : List (Int × Int)} {v v' : Int → Int → Int} (k : FW C P v v') (hC : ∀ c ∈ C, ogc c) (hP : ∀ p ∈ P, ogc p.1) : GRU nc v v' := sorry
theorem GRU.at0 {nc g : Int} {v v' : Int → Int → Int} (k : GRU nc v v') (hg : gcl nc g) : v' g = v g := sorry
/-- the cells of a place -/
abbrev pcO (gi : Int) : Int := 3 + 27 * gi
abbrev psO (gi : Int) : Int := 4 + 27 * gi
abbrev drO (gi : Int) : Int := 5 + 27 * gi
theorem isPs_O {gi : Int} (h : 0 ≤ gi ∧ gi < 4) : isPs gi (pcO gi) (psO gi) (drO gi) := sorry
theorem isPl_O {gi : Int} (h : 0 ≤ gi ∧ gi < 4) : isPl gi (pcO gi) (16 + 27 * gi) (17 + 27 * gi) := sorry
/-- the graph that a place has now -/
def gNow (v : Int → Int → Int) (gi : Int) : Int := v (psO gi) (v (pcO gi) 1)
/-- a place: its states on both sides -/
def PLC (nc : Int) (v : Int → Int → Int) (gi : Int) : Prop := ((v 283 gi = v (pcO gi) 1 ∧ v 284 gi = v (pcO gi) 2) ∧ 0 ≤ v (pcO gi) 1 ∧ v (pcO gi) 1 ≤ v (pcO gi) 2 ∧ v (pcO gi) 2 ≤ 30) ∧
  (∀ k, 0 ≤ k → k ≤ 30 → v (psO gi) k = -1 ∨ (gcl nc (v (psO gi) k) ∧ GA v (v (psO gi) k) ∧ ∀ x, 0 < x → x < 8 → v (v (psO gi) k + 10) x < x)) ∧
  (∀ k, 0 ≤ k → k ≤ v (pcO gi) 2 → gcl nc (v (psO gi) k) ∧ ∃ R, CR v (v (psO gi) k) R ∧ TRw v (539 * (31 * gi + k)) R ∧ GOK R)
theorem PLC.cg {nc gi : Int} {v v' : Int → Int → Int} (h : PLC nc v gi) (gu : GRU nc v v') (e1 : v' (pcO gi) 1 = v (pcO gi) 1 ∧ v' (pcO gi) 2 = v (pcO gi) 2) (e2 : v' (psO gi) = v (psO gi)) (e3 : v' 283 gi = v 283 gi ∧ v' 284 gi = v 284 gi) (e4 : v' 282 = v 282) : PLC nc v' gi := sorry
/-- no graph stands at two places -/
def GDS (v : Int → Int → Int) : Prop := ∀ gi k gj l : Int, (0 ≤ gi ∧ gi < 4) → (0 ≤ k ∧ k ≤ 30) → (0 ≤ gj ∧ gj < 4) → (0 ≤ l ∧ l ≤ 30) → v (psO gi) k ≠ -1 → v (psO gi) k = v (psO gj) l → gi = gj ∧ k = l
theorem GDS.cg {v v' : Int → Int → Int} (h : GDS v) (e : ∀ gi, (0 ≤ gi ∧ gi < 4) → v' (psO gi) = v (psO gi)) : GDS v' := sorry
/-- a drawing: what both sides keep of it -/
def DRN (v : Int → Int → Int) (gi : Int) (n m : Nat) (q : Int) : Prop := (v 316 gi = v (drO gi) 1 ∧ 0 ≤ v (drO gi) 1 ∧ v (drO gi) 1 ≤ 7) ∧ (0 < n ∧ ∀ i : Int, blw n i → (-1900000 ≤ v (drO gi + 1) i ∧ v (drO gi + 1) i ≤ 1900000) ∧ -1900000 ≤ v (drO gi + 2) i ∧ v (drO gi + 2) i ≤ 1900000) ∧
  (∃ X Y bm BX BY, DV v (drO gi) n m X Y bm BX BY ∧ ((∀ i, blw n i → v 317 (24 * gi + i) = X i ∧ v 318 (24 * gi + i) = Y i) ∧ ∀ e, blw m e → v 319 (48 * gi + e) = bm e ∧ ∀ k : Int, 0 ≤ k → k < bm e → v 320 (24 * (48 * gi + e) + k) = BX (24 * e + k) ∧ v 321 (24 * (48 * gi + e) + k) = BY (24 * e + k)) ∧ DB n m X Y bm BX BY) ∧
  (v (drO gi) 1 = 0 → (v (drO gi) 2 = v 322 gi ∧ v (drO gi) 3 = v 323 gi) ∧ (∀ i, blw n i → v (drO gi + 6) i = v 324 (24 * gi + i)) ∧ ∀ e, blw m e → v (drO gi + 10) e = v 325 (48 * gi + e) ∧ (v (drO gi + 10) e = 0 ∨ v (drO gi + 10) e = 1)) ∧
  (v (drO gi) 1 = 7 → v (drO gi) 4 = v 322 gi) ∧ (v (drO gi) 1 = 5 → v (drO gi) 2 = v 322 gi) ∧ (v (drO gi) 1 = 2 → ∀ i, blw n i → v (drO gi + 7) i = v 324 (24 * gi + i)) ∧
  (v (drO gi) 1 = 4 → (∀ i j : Int, blw n i → 0 ≤ j → j < 4 → v (drO gi + 8) (4 * i + j) = v 326 (4 * (24 * gi + i) + j)) ∧ ∀ i j : Int, 0 ≤ i → i < q → 0 ≤ j → j < 4 → v (drO gi + 9) (4 * i + j) = v 327 (4 * (8 * gi + i) + j))
def DRW (v : Int → Int → Int) (gi : Int) : Prop := (v (drO gi) 0 = 0 ∧ v 316 gi = -1) ∨ (v (drO gi) 0 = 1 ∧ DRN v gi (v (gNow v gi) 0).toNat (v (gNow v gi) 1).toNat (v (gNow v gi) 2))
theorem DRN.cg {v v' : Int → Int → Int} {gi q : Int} {n m : Nat} (h : DRN v gi n m q) (e0 : ∀ j : Int, 1 ≤ j → j ≤ 4 → v' (drO gi) j = v (drO gi) j) (e1 : ∀ j : Int, 1 ≤ j → j ≤ 10 → v' (drO gi + j) = v (drO gi + j)) (e2 : ∀ c : Int, 316 ≤ c → c ≤ 327 → v' c = v c) : DRN v' gi n m q := sorry
theorem DRW.cg {v v' : Int → Int → Int} {gi : Int} (h : DRW v gi) (eg : v' (gNow v gi) = v (gNow v gi)) (en : gNow v' gi = gNow v gi) (e0 : ∀ j : Int, 0 ≤ j → j ≤ 4 → v' (drO gi) j = v (drO gi) j) (e1 : ∀ j : Int, 1 ≤ j → j ≤ 10 → v' (drO gi + j) = v (drO gi + j)) (e2 : ∀ c : Int, 316 ≤ c → c ≤ 327 → v' c = v c) : DRW v' gi := sorry
/-- shades -/
def SHD (v : Int → Int → Int) (gi : Int) : Prop := (∀ k : Int, 0 ≤ k → k < 72 → v (16 + 27 * gi) k = v 328 (216 * gi + k) ∧ 0 ≤ v (16 + 27 * gi) k ∧ v (16 + 27 * gi) k ≤ 255) ∧ ∀ k : Int, 0 ≤ k → k < 144 → v (17 + 27 * gi) k = v 328 (216 * gi + 72 + k) ∧ 0 ≤ v (17 + 27 * gi) k ∧ v (17 + 27 * gi) k ≤ 255
theorem SHD.cg {v v' : Int → Int → Int} {gi : Int} (h : SHD v gi) (e1 : v' (16 + 27 * gi) = v (16 + 27 * gi)) (e2 : v' (17 + 27 * gi) = v (17 + 27 * gi)) (e3 : v' 328 = v 328) : SHD v' gi := sorry
/-- the shape that is kept -/
def SHK (v : Int → Int → Int) : Prop := v 0 8 = -1 ∨ ((0 ≤ v 0 8 ∧ v 0 8 < 4) ∧ shok v 135 (gNow v (v 0 8)))
/-- the web that is kept, or what bars it -/
def WBK (v : Int → Int → Int) : Prop := v 0 12 = -1 ∨ ((0 ≤ v 0 12 ∧ v 0 12 < 4) ∧ ((v 0 13 = 1 ∧ PL (v (gNow v (v 0 12) + 6)) (v (gNow v (v 0 12) + 7)) (blw (v (gNow v (v 0 12)) 1).toNat) ∧ WEB v (v (gNow v (v 0 12) + 6)) (v (gNow v (v 0 12) + 7)) (v (gNow v (v 0 12)) 0).toNat (v (gNow v (v 0 12)) 1).toNat) ∨ (v 0 13 = 0 ∧ ¬ PL (v (gNow v (v 0 12) + 6)) (v (gNow v (v 0 12) + 7)) (blw (v (gNow v (v 0 12)) 1).toNat) ∧ BAR (v (gNow v (v 0 12) + 6)) (v (gNow v (v 0 12) + 7)) (v (gNow v (v 0 12)) 0).toNat (v (gNow v (v 0 12)) 1).toNat (v 0 17) (v 0 18) (v 197))))
/-- the tape -/
def TAP (v : Int → Int → Int) : Prop := v 280 0 = v 0 1 ∧ (0 ≤ v 0 1 ∧ v 0 1 ≤ 2000) ∧ ∀ j : Int, 0 ≤ j → j < v 0 1 → v 281 j = v 1 j
/-- faults -/
def FTS (v : Int → Int → Int) : Prop := v 280 7 = v 0 5 ∧ (v 0 5 = 0 ∨ v 0 5 = 1) ∧ (v 0 6 = 0 ∨ v 0 6 = 1) ∧ (v 0 5 = 1 → v 0 6 = 0 → v 280 8 = v 111 8 ∧ v 111 9 = if v 280 8 = 0 then -1 else v 280 9) ∧ (v 0 5 = 1 → v 0 6 = 1 → v 280 8 = v 126 17 ∧ v 126 18 = if v 280 8 = 0 then -1 else v 280 9) ∧ ∀ k : Int, 0 < k → k < 8 → v 124 k < k
/-- likeness -/
def LKS (v : Int → Int → Int) : Prop := ((v 280 30 = 0 ∧ v 145 2 = -1) ∨ (v 280 30 = 1 ∧ v 145 2 = v 280 27)) ∧ ((v 280 25 = 0 ∧ v 145 3 = 0) ∨ (v 280 25 = 1 ∧ v 145 3 = v 280 26 ∧ (0 ≤ v 145 3 ∧ v 145 3 ≤ 24) ∧ ∀ i : Int, 0 ≤ i → i < v 145 3 → v 147 i = v 293 i))
/-- what is written -/
def WRT (v : Int → Int → Int) : Prop := v 0 28 = v 280 169 ∧ (0 ≤ v 0 28 ∧ v 0 28 ≤ 4000) ∧ ∀ i : Int, 0 ≤ i → i < v 0 28 → v 274 i = v 396 i
/-- dots -/
def DOS (v : Int → Int → Int) : Prop := (v 280 173 = v 0 32 ∧ v 280 174 = v 0 33) ∧ (0 ≤ v 0 32 ∧ v 0 32 ≤ 64) ∧ (0 ≤ v 0 33 ∧ v 0 33 ≤ 64) ∧ ∀ x y : Int, 0 ≤ x → x < v 0 32 → 0 ≤ y → y < v 0 33 → v 276 (v 0 32 * y + x) = v 398 (64 * y + x)
/-- both sides, all of it -/
def REL (nc : Int) (v : Int → Int → Int) : Prop := ((HW v ∧ TW v ∧ PRM v) ∧ 399 ≤ nc ∧ (nc - 399) % 12 = 0) ∧ ((∀ gi, (0 ≤ gi ∧ gi < 4) → PLC nc v gi) ∧ GDS v) ∧ (∀ gi, (0 ≤ gi ∧ gi < 4) → DRW v gi ∧ SHD v gi) ∧ (SHK v ∧ WBK v) ∧ (TAP v ∧ FTS v) ∧ (LKS v ∧ WRT v ∧ DOS v)
/-! ### frames -/
theorem FW.pt {C : List Int} {P : List (Int × Int)} {v v' : Int → Int → Int} (k : FW C P v v') (a j : Int) (h : decide (a ∉ C ∧ (a, j) ∉ P) = true) : v' a j = v a j := sorry
/-- these cells are free of C and P -/
def frC (C : List Int) (P : List (Int × Int)) (a : Int) : Bool := decide (a ∉ C) && P.all (fun p => decide (p.1 ≠ a))
theorem FW.ce {C : List Int} {P : List (Int × Int)} {v v' : Int → Int → Int} (k : FW C P v v') {a : Int} (h : frC C P a = true) : v' a = v a := sorry
theorem frC_al {C : List Int} {P : List (Int × Int)} {L : List Int} (h : L.all (frC C P) = true) {a : Int} (ha : a ∈ L) : frC C P a = true := sorry
theorem shok.cg {v v' : Int → Int → Int} {g : Int} (h : shok v 135 g) (e0 : v' 135 = v 135) (e1 : v' 136 = v 136 ∧ v' 137 = v 137 ∧ v' 138 = v 138 ∧ v' 139 = v 139 ∧ v' 140 = v 140) (eg : v' g = v g ∧ v' (g + 6) = v (g + 6) ∧ v' (g + 7) = v (g + 7) ∧ v' (g + 9) = v (g + 9)) : shok v' 135 g := sorry
theorem gNow.cg {v v' : Int → Int → Int} {gi : Int} (e1 : v' (pcO gi) 1 = v (pcO gi) 1) (e2 : v' (psO gi) = v (psO gi)) : gNow v' gi = gNow v gi := sorry
end
section
/-! ===== what holds between both sides: frames ===== -/
def chk (C : List Int) (P : List (Int × Int)) (L : List Int) (M : List (Int × Int)) : Bool := L.all (frC C P) && M.all (fun p => decide (p.1 ∉ C ∧ p ∉ P))
theorem chk.c {C : List Int} {P : List (Int × Int)} {L : List Int} {M : List (Int × Int)} {v v' : Int → Int → Int} (h : chk C P L M = true) (k : FW C P v v') (a : Int) (ha : a ∈ L) : v' a = v a := sorry
theorem chk.p {C : List Int} {P : List (Int × Int)} {L : List Int} {M : List (Int × Int)} {v v' : Int → Int → Int} (h : chk C P L M = true) (k : FW C P v v') (a j : Int) (ha : (a, j) ∈ M) : v' a j = v a j := sorry
def gch (C : List Int) (P : List (Int × Int)) : Bool := C.all (fun c => decide (ogc c)) && P.all (fun p => decide (ogc p.1))
theorem gch.u {nc : Int} {C : List Int} {P : List (Int × Int)} {v v' : Int → Int → Int} (h : gch C P = true) (k : FW C P v v') : GRU nc v v' := sorry
abbrev plL : List Int := [4, 31, 58, 85]
abbrev plM : List (Int × Int) := [(3, 1), (3, 2), (30, 1), (30, 2), (57, 1), (57, 2), (84, 1), (84, 2)]
theorem gi_4 {gi : Int} (h : 0 ≤ gi ∧ gi < 4) : gi = 0 ∨ gi = 1 ∨ gi = 2 ∨ gi = 3 := sorry
theorem pl_c {C : List Int} {P : List (Int × Int)} {v v' : Int → Int → Int} (h : chk C P plL plM = true) (k : FW C P v v') {gi : Int} (hg : 0 ≤ gi ∧ gi < 4) : v' (psO gi) = v (psO gi) ∧ v' (pcO gi) 1 = v (pcO gi) 1 ∧ v' (pcO gi) 2 = v (pcO gi) 2 := sorry
theorem pl_n {C : List Int} {P : List (Int × Int)} {v v' : Int → Int → Int} (h : chk C P plL plM = true) (k : FW C P v v') {gi : Int} (hg : 0 ≤ gi ∧ gi < 4) : gNow v' gi = gNow v gi := sorry
/-! ### piece by piece -/
def kBAS (C : List Int) (P : List (Int × Int)) : Bool := hwL.all (fun x => decide (x.1 ∉ C ∧ (x.1, x.2.1) ∉ P)) && decide ((280 : Int) ∉ C) && twr.all (fun j => decide (((280 : Int), j) ∉ P)) && chk C P [357, 358, 359] []
theorem BAS_fw {C : List Int} {P : List (Int × Int)} {v v' : Int → Int → Int} (h : HW v ∧ TW v ∧ PRM v) (k : FW C P v v') (hk : kBAS C P = true) : HW v' ∧ TW v' ∧ PRM v' := sorry
def kPLC (C : List Int) (P : List (Int × Int)) : Bool := gch C P && chk C P plL plM && chk C P [282, 283, 284] []
theorem PLC_fw {nc : Int} {C : List Int} {P : List (Int × Int)} {v v' : Int → Int → Int} (h : (∀ gi, (0 ≤ gi ∧ gi < 4) → PLC nc v gi) ∧ GDS v) (k : FW C P v v') (hk : kPLC C P = true) : (∀ gi, (0 ≤ gi ∧ gi < 4) → PLC nc v' gi) ∧ GDS v' := sorry
/-- the graph at hand is one of a place -/
theorem gNow_g {nc gi : Int} {v : Int → Int → Int} (h : PLC nc v gi) : gcl nc (gNow v gi) ∧ ∃ R, CR v (gNow v gi) R ∧ TRw v (539 * (31 * gi + v (pcO gi) 1)) R ∧ GOK R := sorry
abbrev drL : List Int := [5, 6, 7, 8, 9, 10, 11, 12, 13, 14, 15, 32, 33, 34, 35, 36, 37, 38, 39, 40, 41, 42, 59, 60, 61, 62, 63, 64, 65, 66, 67, 68, 69, 86, 87, 88, 89, 90, 91, 92, 93, 94, 95, 96, 316, 317, 318, 319, 320, 321, 322, 323, 324, 325, 326, 327]
def kDRW (C : List Int) (P : List (Int × Int)) : Bool := gch C P && chk C P plL plM && chk C P drL []
theorem DRW_fw {nc gi : Int} {C : List Int} {P : List (Int × Int)} {v v' : Int → Int → Int} (hp : PLC nc v gi) (h : DRW v gi) (hg : 0 ≤ gi ∧ gi < 4) (k : FW C P v v') (hk : kDRW C P = true) : DRW v' gi := sorry
def kSHD (C : List Int) (P : List (Int × Int)) : Bool := chk C P [16, 17, 43, 44, 70, 71, 97, 98, 328] []
theorem SHD_fw {gi : Int} {C : List Int} {P : List (Int × Int)} {v v' : Int → Int → Int} (h : SHD v gi) (hg : 0 ≤ gi ∧ gi < 4) (k : FW C P v v') (hk : kSHD C P = true) : SHD v' gi := sorry
def kSHK (C : List Int) (P : List (Int × Int)) : Bool := gch C P && chk C P plL plM && chk C P [135, 136, 137, 138, 139, 140] [(0, 8)]
theorem SHK_fw {nc : Int} {C : List Int} {P : List (Int × Int)} {v v' : Int → Int → Int} (hp : ∀ gi, (0 ≤ gi ∧ gi < 4) → PLC nc v gi) (h : SHK v) (k : FW C P v v') (hk : kSHK C P = true) : SHK v' := sorry
theorem WEB.cg {v v' : Int → Int → Int} {T H : Int → Int} {n E : Nat} (h : WEB v T H n E) (e : ∀ c : Int, 166 ≤ c → c ≤ 174 → v' c = v c) : WEB v' T H n E := sorry
def kWBK (C : List Int) (P : List (Int × Int)) : Bool := gch C P && chk C P plL plM && chk C P [166, 167, 168, 169, 170, 171, 172, 173, 174, 197] [(0, 12), (0, 13), (0, 17), (0, 18)]
theorem WBK_fw {nc : Int} {C : List Int} {P : List (Int × Int)} {v v' : Int → Int → Int} (hp : ∀ gi, (0 ≤ gi ∧ gi < 4) → PLC nc v gi) (h : WBK v) (k : FW C P v v') (hk : kWBK C P = true) : WBK v' := sorry
def kTAP (C : List Int) (P : List (Int × Int)) : Bool := chk C P [1, 281] [(0, 1), (280, 0)]
theorem TAP_fw {C : List Int} {P : List (Int × Int)} {v v' : Int → Int → Int} (h : TAP v) (k : FW C P v v') (hk : kTAP C P = true) : TAP v' := sorry
def kFTS (C : List Int) (P : List (Int × Int)) : Bool := chk C P [124] [(0, 5), (0, 6), (280, 7), (280, 8), (280, 9), (111, 8), (111, 9), (126, 17), (126, 18)]
theorem FTS_fw {C : List Int} {P : List (Int × Int)} {v v' : Int → Int → Int} (h : FTS v) (k : FW C P v v') (hk : kFTS C P = true) : FTS v' := sorry
def kLKS (C : List Int) (P : List (Int × Int)) : Bool := chk C P [147, 293] [(145, 2), (145, 3), (280, 25), (280, 26), (280, 27), (280, 30)]
theorem LKS_fw {C : List Int} {P : List (Int × Int)} {v v' : Int → Int → Int} (h : LKS v) (k : FW C P v v') (hk : kLKS C P = true) : LKS v' := sorry
def kWRT (C : List Int) (P : List (Int × Int)) : Bool := chk C P [274, 396] [(0, 28), (280, 169)]
theorem WRT_fw {C : List Int} {P : List (Int × Int)} {v v' : Int → Int → Int} (h : WRT v) (k : FW C P v v') (hk : kWRT C P = true) : WRT v' := sorry
def kDOS (C : List Int) (P : List (Int × Int)) : Bool := chk C P [276, 398] [(0, 32), (0, 33), (280, 173), (280, 174)]
theorem DOS_fw {C : List Int} {P : List (Int × Int)} {v v' : Int → Int → Int} (h : DOS v) (k : FW C P v v') (hk : kDOS C P = true) : DOS v' := sorry
/-- what is not looked at changes -/
theorem REL.fw {nc : Int} {C : List Int} {P : List (Int × Int)} {v v' : Int → Int → Int} (h : REL nc v) (k : FW C P v v') (b : kBAS C P = true) (p : kPLC C P = true) (d : kDRW C P = true ∧ kSHD C P = true) (s : kSHK C P = true ∧ kWBK C P = true) (t : kTAP C P = true ∧ kFTS C P = true) (u : kLKS C P = true ∧ kWRT C P = true ∧ kDOS C P = true) : REL nc v' := sorry
/-- an operation that makes nothing: both sides answer the same, and all holds again -/
def OP0 (l : Launch) (D : qD) (dd : Nat) (mc mt : qm) (as : List qv) : Prop := ∀ h : qh, REL h.1.1 h.2 → qM l D (dd, 0, 0) mc (.inr (.inr 0) :: as) h (fun r h1 => h1.1 = h.1 ∧ (∃ x : Int, r = some (.inl x)) ∧ qM l D (dd, 0, 0) mt (.inr (.inr 280) :: as) h1 (fun r' h2 => r' = r ∧ h2.1 = h1.1 ∧ REL h2.1.1 h2.2))
end
section
/-! ===== operations: octets, dots, the map, feed ===== -/
theorem op_octet {l : Launch} {D : qD} {d : Nat} {a : Int} : OP0 l D (d + 2) m_DH_octet m_Mo_octet [.inl a] := sorry
theorem op_map {l : Launch} {D : qD} {d : Nat} {a : Int} : OP0 l D (d + 2) m_DH_map m_Mo_map [.inl a] := sorry
theorem op_dot {l : Launch} {D : qD} {d : Nat} {a b : Int} : OP0 l D (d + 2) m_DH_dot m_Mo_dot [.inl a, .inl b] := sorry
/-! ### the tape -/
/-- byte j of a number -/
def by4 (x j : Int) : Int := z_i2b (z_ishr x (24 - 8 * j))
/-- so many bytes of a row of numbers come behind one another -/
def tpw (u : Int → Int) (f : Int → Int) (T k : Int) : Int → Int := fun j => if T ≤ j ∧ j < T + k then f (j - T) else u j
theorem tpw_0 {u f : Int → Int} {T : Int} : tpw u f T 0 = u := sorry
theorem tpw_s {v : Int → Int → Int} {c : Int} {u f : Int → Int} {T k z : Int} (e : v c = tpw u f T k) (k0 : 0 ≤ k) (ez : z = f k) : up2 v c (T + k) z c = tpw u f T (k + 1) := sorry
set_option maxRecDepth 100000 in
theorem sp_DH_tapeFour {l : Launch} {D : qD} {d : Nat} {x T : Int} {h : qh} {Q : qQ} (hw : HW h.2) (eT : h.2 0 1 = T) (tb : 0 ≤ T ∧ T + 4 ≤ 2000) (hq : ∀ v, FW [1] [(0, 1)] h.2 v → v 0 1 = T + 4 → v 1 = tpw (h.2 1) (by4 x) T 4 → Q none (h.1, v)) : qM l D (d + 1, 0, 0) m_DH_tapeFour [.inr (.inr 0), .inl x] h Q := sorry
/-- byte k of five numbers -/
def fd5 (a b c d e : Int) (k : Int) : Int := if k < 4 then by4 a k else if k < 8 then by4 b (k - 4) else if k < 12 then by4 c (k - 8) else if k < 16 then by4 d (k - 12) else by4 e (k - 16)
theorem fd5_c {u : Int → Int} {a b c d e T : Int} : tpw (tpw (tpw (tpw (tpw u (by4 a) T 4) (by4 b) (T + 4) 4) (by4 c) (T + 8) 4) (by4 d) (T + 12) 4) (by4 e) (T + 16) 4 = tpw u (fd5 a b c d e) T 20 := sorry
set_option maxRecDepth 100000 in
theorem sp_DH_feed {l : Launch} {D : qD} {dd : Nat} {a b c d e T : Int} {h : qh} {Q : qQ} (hw : HW h.2) (eT : h.2 0 1 = T) (tb : 0 ≤ T ∧ T ≤ 2000) (hq1 : T + 20 ≤ 2000 → ∀ v, FW [1] [(0, 1)] h.2 v → v 0 1 = T + 20 → v 1 = tpw (h.2 1) (fd5 a b c d e) T 20 → Q (some (.inl (T + 20))) (h.1, v)) (hq0 : 2000 < T + 20 → Q (some (.inl (-1))) h) : qM l D (dd + 2, 0, 0) m_DH_feed [.inr (.inr 0), .inl a, .inl b, .inl c, .inl d, .inl e] h Q := sorry
theorem iand_3 {k : Int} (h : 0 ≤ k ∧ k < 20) : z_iand k 3 = k % 4 := sorry
set_option maxRecDepth 100000 in
theorem sp_Mo_feed {l : Launch} {D : qD} {dd : Nat} {a b c d e T : Int} {h : qh} {Q : qQ} (hT : TW h.2) (eT : h.2 280 0 = T) (tb : 0 ≤ T ∧ T ≤ 2000) (hq1 : T + 20 ≤ 2000 → ∀ v, FW [281] [(280, 0)] h.2 v → v 280 0 = T + 20 → v 281 = tpw (h.2 281) (fd5 a b c d e) T 20 → Q (some (.inl (T + 20))) (h.1, v)) (hq0 : 2000 < T + 20 → Q (some (.inl (-1))) h) : qM l D (dd + 2, 0, 0) m_Mo_feed [.inr (.inr 280), .inl a, .inl b, .inl c, .inl d, .inl e] h Q := sorry
/-- new cells on both sides, told by what holds of the tape -/
theorem op_feed {l : Launch} {D : qD} {dd : Nat} {a b c d e : Int} : OP0 l D (dd + 2) m_DH_feed m_Mo_feed [.inl a, .inl b, .inl c, .inl d, .inl e] := sorry
end
section
/-! ===== a place's graph, as all the contracts see it ===== -/
theorem GOK.gv {R : Int → Int} (ok : GOK R) : GV (R 0).toNat (R 1).toNat (fun e => R (267 + e)) (fun e => R (315 + e)) (fun e => R (363 + e)) := sorry
theorem CR.c {v : Int → Int → Int} {g : Int} {R : Int → Int} (h : CR v g R) (ok : GOK R) (far : g + 11 < 187 ∨ 399 ≤ g) : CG v g (R 0).toNat (R 1).toNat (fun e => R (267 + e)) (fun e => R (315 + e)) (fun e => R (363 + e)) := sorry
theorem CR.ag {v : Int → Int → Int} {g : Int} {R : Int → Int} (h : CR v g R) : agr (fun e => R (267 + e)) (fun e => R (315 + e)) (v (g + 6)) (v (g + 7)) (blw (R 1).toNat) := sorry
theorem CR.gk {v : Int → Int → Int} {g : Int} {R : Int → Int} (h : CR v g R) (ok : GOK R) : gok v g := sorry
theorem TRw.ag {v : Int → Int → Int} {r : Int} {R : Int → Int} (h : TRw v r R) (ok : GOK R) (e5 : v 280 5 = r) : agr (fun e => R (267 + e)) (fun e => R (315 + e)) (tT v) (tH v) (blw (R 1).toNat) := sorry
theorem TRw.nm {v : Int → Int → Int} {r : Int} {R : Int → Int} (h : TRw v r R) (e5 : v 280 5 = r) : tn v = R 0 ∧ tm v = R 1 := sorry
theorem TRw.t {v : Int → Int → Int} {r : Int} {R : Int → Int} (h : TRw v r R) (ok : GOK R) (e5 : v 280 5 = r) : TG v r (R 0).toNat (R 1).toNat (fun e => R (267 + e)) (fun e => R (315 + e)) (fun e => R (363 + e)) := sorry
theorem TRw.ok {v : Int → Int → Int} {r : Int} {R : Int → Int} (h : TRw v r R) (ok : GOK R) (e5 : v 280 5 = r) : tok v := sorry
/-- neighbours, blocks, ways: the same on both sides -/
theorem gj_R {v : Int → Int → Int} {g : Int} {R : Int → Int} (h : CR v g R) : gj v g = aj (fun e => R (267 + e)) (fun e => R (315 + e)) (blw (R 1).toNat) := sorry
theorem tj_R {v : Int → Int → Int} {r : Int} {R : Int → Int} (h : TRw v r R) (ok : GOK R) (e5 : v 280 5 = r) : tj v = aj (fun e => R (267 + e)) (fun e => R (315 + e)) (blw (R 1).toNat) := sorry
/-- the place's graph: what is known of it -/
theorem REL.at {nc gi : Int} {v : Int → Int → Int} (h : REL nc v) (hg : 0 ≤ gi ∧ gi < 4) : ∃ (k g r : Int) (R : Int → Int), (v (pcO gi) 1 = k ∧ (0 ≤ k ∧ k < 31) ∧ v (psO gi) k = g ∧ gNow v gi = g) ∧ (v 283 gi = k ∧ r = 539 * (31 * gi + k)) ∧ gcl nc g ∧ CR v g R ∧ TRw v r R ∧ GOK R := sorry
/-- the row of a place's graph -/
def GRO (v : Int → Int → Int) (gi : Int) (R : Int → Int) : Prop := CR v (gNow v gi) R ∧ TRw v (539 * (31 * gi + v (pcO gi) 1)) R ∧ GOK R
theorem REL.gro {nc gi : Int} {v : Int → Int → Int} (h : REL nc v) (hg : 0 ≤ gi ∧ gi < 4) : ∃ R, GRO v gi R := sorry
theorem REL.ag {nc gi : Int} {v : Int → Int → Int} {R : Int → Int} (h : REL nc v) (hg : 0 ≤ gi ∧ gi < 4) (gr : GRO v gi R) : ∃ (k g r : Int), (v (pcO gi) 1 = k ∧ (0 ≤ k ∧ k < 31) ∧ v (psO gi) k = g ∧ gNow v gi = g) ∧ (v 283 gi = k ∧ r = 539 * (31 * gi + k)) ∧ gcl nc g ∧ CR v g R ∧ TRw v r R ∧ GOK R := sorry
theorem GRO.fw {nc gi : Int} {C : List Int} {P : List (Int × Int)} {v v' : Int → Int → Int} {R : Int → Int} (gr : GRO v gi R) (h : REL nc v) (hg : 0 ≤ gi ∧ gi < 4) (k : FW C P v v') (hk : kPLC C P = true) : GRO v' gi R := sorry
/-- the twin takes a place's row -/
theorem take_e {v : Int → Int → Int} {gi k r : Int} (e : v 283 gi = k) (er : r = 539 * (31 * gi + k)) : g_Mo_take gi v = up2 v 280 5 r := sorry
theorem TRw.tk {v : Int → Int → Int} {r x : Int} {R : Int → Int} (h : TRw v r R) : TRw (up2 v 280 5 x) r R := sorry
/-- a shape is looked at -/
abbrev shpC : List Int := [136, 137, 138, 139, 140, 141, 142, 143, 144]
abbrev shpP : List (Int × Int) := [(0, 8), (135, 6), (135, 7), (135, 8), (135, 12), (135, 13), (135, 14), (135, 15)]
theorem isS_135 : isS 135 := sorry
theorem HW.sa {v : Int → Int → Int} (h : HW v) : SA v 135 := sorry
theorem KL_fw {v v' : Int → Int → Int} (k : KL 135 v v') : FW shpC shpP v v' := sorry
set_option maxRecDepth 100000 in
theorem sp_DH_shape {l : Launch} {D : qD} {d : Nat} {nc gi : Int} {h : qh} {Q : qQ} (R : REL nc h.2) (hg : 0 ≤ gi ∧ gi < 4) (hq : ∀ v, FW shpC shpP h.2 v → v 0 8 = gi → shok v 135 (gNow h.2 gi) → Q (some (.inr (.inr 135))) (h.1, v)) : qM l D (d + 29, 0, 0) m_DH_shape [.inr (.inr 0), .inl gi] h Q := sorry
theorem iv_shp {l : Launch} {D : qD} {d : Nat} {K : qK} {ls : List (Option qv)} {st : List qv} {h : qh} {nc gi : Int} (R : REL nc h.2) (hg : 0 ≤ gi ∧ gi < 4) (cs : q_cs st ≤ 8) (hk : ∀ v, FW shpC shpP h.2 v → v 0 8 = gi → shok v 135 (gNow h.2 gi) → K ls (.inr (.inr 135) :: st) (h.1, v)) : s_invV l D (d + 29, 0, 0) 0 m_DH_shape 1 K ls (.inl gi :: .inr (.inr 0) :: st) h := sorry
theorem iv_gr {l : Launch} {D : qD} {d : Nat} {K : qK} {ls : List (Option qv)} {st : List qv} {h : qh} {gi g k : Int} (hw : HW h.2) (hg : 0 ≤ gi ∧ gi < 4) (ek : h.2 (pcO gi) 1 = k) (kb : 0 ≤ k ∧ k < 31) (eg : h.2 (psO gi) k = g) (cs : q_cs st ≤ 8) (hk : K ls (.inr (.inr g) :: st) h) : s_invV l D (d + 2, 0, 0) 0 m_DH_graph 1 K ls (.inl gi :: .inr (.inr 0) :: st) h := sorry
/-- the shape that was looked at is kept -/
theorem REL.sh {nc gi : Int} {v v' : Int → Int → Int} (R : REL nc v) (hg : 0 ≤ gi ∧ gi < 4) (k : FW shpC shpP v v') (e : v' 0 8 = gi) (so : shok v' 135 (gNow v gi)) : REL nc v' := sorry
/-- the twin's scratch does not count -/
theorem REL.tw {nc : Int} {C : List Int} {P : List (Int × Int)} {v v' : Int → Int → Int} (R : REL nc v) (k : FW C P v v') (hk : (kBAS C P && kPLC C P && kDRW C P && kSHD C P && kSHK C P && kWBK C P && kTAP C P && kFTS C P && kLKS C P && kWRT C P && kDOS C P) = true) : REL nc v' := sorry
end
section
/-! ===== operations that ask: far, count, group, letter ===== -/
theorem isPl_1 {gi : Int} {v : Int → Int → Int} (h : 0 ≤ gi ∧ gi < 4) : f_DH_isPlace gi v = 1 := sorry
theorem isPl_0 {gi : Int} {v : Int → Int → Int} (h : ¬ (0 ≤ gi ∧ gi < 4)) : f_DH_isPlace gi v = 0 := sorry
theorem isPT_1 {gi : Int} {v : Int → Int → Int} (h : 0 ≤ gi ∧ gi < 4) : f_Mo_isPlace gi v = 1 := sorry
theorem isPT_0 {gi : Int} {v : Int → Int → Int} (h : ¬ (0 ≤ gi ∧ gi < 4)) : f_Mo_isPlace gi v = 0 := sorry
theorem isNd_1 {g a : Int} {v : Int → Int → Int} (h : 0 ≤ a ∧ a < v g 0) : f_Gr_isNode g a v = 1 := sorry
theorem isNd_0 {g a : Int} {v : Int → Int → Int} (h : ¬ (0 ≤ a ∧ a < v g 0)) : f_Gr_isNode g a v = 0 := sorry
theorem isEd_1 {g a : Int} {v : Int → Int → Int} (h : 0 ≤ a ∧ a < v g 1) : f_Gr_isEdge g a v = 1 := sorry
theorem isEd_0 {g a : Int} {v : Int → Int → Int} (h : ¬ (0 ≤ a ∧ a < v g 1)) : f_Gr_isEdge g a v = 0 := sorry
theorem isGp_1 {g a : Int} {v : Int → Int → Int} (h : 0 ≤ a ∧ a < v g 2) : f_Gr_isGroup g a v = 1 := sorry
theorem isGp_0 {g a : Int} {v : Int → Int → Int} (h : ¬ (0 ≤ a ∧ a < v g 2)) : f_Gr_isGroup g a v = 0 := sorry
theorem pTake {gi k : Int} {v : Int → Int → Int} (h : 0 ≤ gi ∧ gi < 4) (e : v 283 gi = k) (kb : 0 ≤ k ∧ k < 31) : p_Mo_take gi v := sorry
/-- how far nodes are, by the bits of a shape -/
theorem rbt_gj {v : Int → Int → Int} {g : Int} (so : shok v 135 g) (ok : gok v g) : rbt (v 136) (v g 0) = gj v g := sorry
set_option maxRecDepth 100000 in
theorem sp_DH_far {l : Launch} {D : qD} {d : Nat} {nc gi a b : Int} {h : qh} {Q : qQ} (R : REL nc h.2)
    (hq1 : (0 ≤ gi ∧ gi < 4) → (0 ≤ a ∧ a < h.2 (gNow h.2 gi) 0) → (0 ≤ b ∧ b < h.2 (gNow h.2 gi) 0) → ∀ v z, REL nc v → FW shpC shpP h.2 v → ((∃ k : Nat, dst (gj h.2 (gNow h.2 gi)) a b k ∧ z = (k : Int)) ∨ (¬ rchs (gj h.2 (gNow h.2 gi)) a b ∧ z = -1)) → Q (some (.inl z)) (h.1, v))
    (hq0 : ¬ ((0 ≤ gi ∧ gi < 4) ∧ (0 ≤ a ∧ a < h.2 (gNow h.2 gi) 0) ∧ (0 ≤ b ∧ b < h.2 (gNow h.2 gi) 0)) → Q (some (.inl (-1))) h) : qM l D (d + 30, 0, 0) m_DH_far [.inr (.inr 0), .inl gi, .inl a, .inl b] h Q := sorry
set_option maxRecDepth 100000 in
theorem sp_Mo_far {l : Launch} {D : qD} {d : Nat} {nc gi a b : Int} {h : qh} {Q : qQ} (R : REL nc h.2)
    (hq1 : (0 ≤ gi ∧ gi < 4) → (0 ≤ a ∧ a < h.2 (gNow h.2 gi) 0) → (0 ≤ b ∧ b < h.2 (gNow h.2 gi) 0) → ∀ v z, REL nc v → ((∃ k : Nat, dst (gj h.2 (gNow h.2 gi)) a b k ∧ z = (k : Int)) ∨ (¬ rchs (gj h.2 (gNow h.2 gi)) a b ∧ z = -1)) → Q (some (.inl z)) (h.1, v))
    (hq0 : ¬ ((0 ≤ gi ∧ gi < 4) ∧ (0 ≤ a ∧ a < h.2 (gNow h.2 gi) 0) ∧ (0 ≤ b ∧ b < h.2 (gNow h.2 gi) 0)) → ∀ v, REL nc v → Q (some (.inl (-1))) (h.1, v)) : qM l D (d + 4, 0, 0) m_Mo_far [.inr (.inr 280), .inl gi, .inl a, .inl b] h Q := sorry
theorem op_far {l : Launch} {D : qD} {d : Nat} {gi a b : Int} : OP0 l D (d + 30) m_DH_far m_Mo_far [.inl gi, .inl a, .inl b] := sorry
end
section
/-! ===== operations that ask: count ===== -/
theorem bkR {v : Int → Int → Int} {g : Int} {R : Int → Int} (h : CR v g R) : bk (v (g + 6)) (v (g + 7)) (blw (v g 1).toNat) = bk (fun e => R (267 + e)) (fun e => R (315 + e)) (blw (R 1).toNat) := sorry
/-- ways that go as they are told -/
def dRR (R : Int → Int) (a x y : Int) : Prop := ∃ e, blw (R 1).toNat e ∧ ((R (267 + e) = x ∧ R (315 + e) = y) ∨ (a = 0 ∧ R (411 + e) = 0 ∧ R (315 + e) = x ∧ R (267 + e) = y))
theorem dR_R {v : Int → Int → Int} {g a : Int} {R : Int → Int} (h : CR v g R) : dR v g a = dRR R a := sorry
theorem tD_R {v : Int → Int → Int} {r a : Int} {R : Int → Int} (h : TRw v r R) (ok : GOK R) (e5 : v 280 5 = r) : tD v a = dRR R a := sorry
/-- what is counted -/
def CNT (v : Int → Int → Int) (gi : Int) (R : Int → Int) (what z : Int) : Prop :=
  (what = 0 ∧ z = R 0) ∨ (what = 1 ∧ z = R 1) ∨ (what = 2 ∧ z = R 2) ∨
  (what = 3 ∧ z = nums (rchs (aj (fun e => R (267 + e)) (fun e => R (315 + e)) (blw (R 1).toNat))) (R 0).toNat) ∨
  (what = 4 ∧ z = nums (bk (fun e => R (267 + e)) (fun e => R (315 + e)) (blw (R 1).toNat)) (R 1).toNat) ∨
  (what = 5 ∧ z = nums (sE (dRR R 0)) (R 0).toNat) ∨ (what = 6 ∧ z = v (pcO gi) 1) ∨ (what = 7 ∧ z = v (pcO gi) 2 - v (pcO gi) 1) ∨ ((what < 0 ∨ 7 < what) ∧ z = -1)
theorem CNT_un {v : Int → Int → Int} {gi what z z' : Int} {R : Int → Int} (h : CNT v gi R what z) (h' : CNT v gi R what z') : z = z' := sorry
set_option maxRecDepth 100000 in
theorem sp_DH_count {l : Launch} {D : qD} {d : Nat} {nc gi what : Int} {Ro : Int → Int} {h : qh} {Q : qQ} (R : REL nc h.2) (gr : (0 ≤ gi ∧ gi < 4) → GRO h.2 gi Ro)
    (hq1 : (0 ≤ gi ∧ gi < 4) → ∀ v z, REL nc v → FW shpC shpP h.2 v → CNT h.2 gi Ro what z → Q (some (.inl z)) (h.1, v))
    (hq0 : ¬ (0 ≤ gi ∧ gi < 4) → Q (some (.inl (-1))) h) : qM l D (d + 30, 0, 0) m_DH_count [.inr (.inr 0), .inl gi, .inl what] h Q := sorry
set_option maxRecDepth 100000 in
theorem sp_Mo_count {l : Launch} {D : qD} {d : Nat} {nc gi what : Int} {Ro : Int → Int} {h : qh} {Q : qQ} (R : REL nc h.2) (gr : (0 ≤ gi ∧ gi < 4) → GRO h.2 gi Ro)
    (hq1 : (0 ≤ gi ∧ gi < 4) → ∀ v z, REL nc v → CNT h.2 gi Ro what z → Q (some (.inl z)) (h.1, v))
    (hq0 : ¬ (0 ≤ gi ∧ gi < 4) → Q (some (.inl (-1))) h) : qM l D (d + 4, 0, 0) m_Mo_count [.inr (.inr 280), .inl gi, .inl what] h Q := sorry
theorem op_count {l : Launch} {D : qD} {d : Nat} {gi what : Int} : OP0 l D (d + 30) m_DH_count m_Mo_count [.inl gi, .inl what] := sorry
end
section
/-! ===== operations that ask: group, letter ===== -/
theorem inG_cg2 {A B : Int → Int} {G i : Int} (hA : ∀ k, 0 < k → k < G → A k = B k ∧ A k < k) : ∀ (n : Nat) (k : Int), k < G → inG A n k i = inG B n k i := sorry
theorem GOK.grv {R : Int → Int} (ok : GOK R) : GRV (R 0).toNat (R 2) (fun k => R (531 + k)) (fun i => R (243 + i)) (fun i => R (219 + i)) := sorry
/-- what is told of a group -/
def GRQ (R : Int → Int) (i what z : Int) : Prop := (what = 0 ∧ z = R (531 + i)) ∨ (what = 1 ∧ z = R (523 + i)) ∨ (what = 2 ∧ z = gsm (R 0).toNat (fun k => R (531 + k)) (fun i => R (243 + i)) (fun i => R (219 + i)) i) ∨ ((what < 0 ∨ 2 < what) ∧ z = -1)
theorem gsm_C {v : Int → Int → Int} {g : Int} {R : Int → Int} (h : CR v g R) (ok : GOK R) (i : Int) : smz (fun k => if inG (v (g + 10)) 8 (v (g + 5) k) i = 0 then 0 else v (g + 4) k) (v g 0).toNat = gsm (R 0).toNat (fun k => R (531 + k)) (fun i => R (243 + i)) (fun i => R (219 + i)) i := sorry
set_option maxRecDepth 100000 in
theorem sp_DH_group {l : Launch} {D : qD} {d : Nat} {nc gi i what : Int} {Ro : Int → Int} {h : qh} {Q : qQ} (R : REL nc h.2) (gr : (0 ≤ gi ∧ gi < 4) → GRO h.2 gi Ro)
    (hq1 : (0 ≤ gi ∧ gi < 4) → (0 ≤ i ∧ i < Ro 2) → ∀ z, GRQ Ro i what z → Q (some (.inl z)) h)
    (hq0 : ¬ ((0 ≤ gi ∧ gi < 4) ∧ (0 ≤ i ∧ i < Ro 2)) → Q (some (.inl (-1))) h) : qM l D (d + 3, 0, 0) m_DH_group [.inr (.inr 0), .inl gi, .inl i, .inl what] h Q := sorry
set_option maxRecDepth 100000 in
theorem sp_Mo_group {l : Launch} {D : qD} {d : Nat} {nc gi i what : Int} {Ro : Int → Int} {h : qh} {Q : qQ} (R : REL nc h.2) (gr : (0 ≤ gi ∧ gi < 4) → GRO h.2 gi Ro)
    (hq1 : (0 ≤ gi ∧ gi < 4) → (0 ≤ i ∧ i < Ro 2) → ∀ v z, REL nc v → GRQ Ro i what z → Q (some (.inl z)) (h.1, v))
    (hq0 : ¬ ((0 ≤ gi ∧ gi < 4) ∧ (0 ≤ i ∧ i < Ro 2)) → ∀ v, REL nc v → Q (some (.inl (-1))) (h.1, v)) : qM l D (d + 3, 0, 0) m_Mo_group [.inr (.inr 280), .inl gi, .inl i, .inl what] h Q := sorry
theorem op_group {l : Launch} {D : qD} {d : Nat} {gi i what : Int} : OP0 l D (d + 3) m_DH_group m_Mo_group [.inl gi, .inl i, .inl what] := sorry
end
section
/-! ===== operations that ask: letter ===== -/
/-- a letter of a name -/
def LTQ (R : Int → Int) (kind i k z : Int) : Prop := (kind = 0 ∧ (0 ≤ i ∧ i < R 0) ∧ (0 ≤ k ∧ k < R (195 + i)) ∧ z = R (3 + 8 * i + k)) ∨ (kind = 1 ∧ (0 ≤ i ∧ i < R 2) ∧ (0 ≤ k ∧ k < R (523 + i)) ∧ z = R (459 + 8 * i + k)) ∨ (¬ (kind = 0 ∧ (0 ≤ i ∧ i < R 0) ∧ (0 ≤ k ∧ k < R (195 + i))) ∧ ¬ (kind = 1 ∧ (0 ≤ i ∧ i < R 2) ∧ (0 ≤ k ∧ k < R (523 + i))) ∧ z = -1)
theorem LTQ_un {R : Int → Int} {kind i k z z' : Int} (h : LTQ R kind i k z) (h' : LTQ R kind i k z') : z' = z := sorry
theorem gnl {R : Int → Int} (ok : GOK R) {i : Int} (hi : 0 ≤ i ∧ i < R 2) : 0 ≤ R (523 + i) ∧ R (523 + i) ≤ 8 := sorry
set_option maxRecDepth 100000 in
theorem sp_DH_letter {l : Launch} {D : qD} {d : Nat} {nc gi kind i k : Int} {Ro : Int → Int} {h : qh} {Q : qQ} (R : REL nc h.2) (gr : (0 ≤ gi ∧ gi < 4) → GRO h.2 gi Ro)
    (hq1 : (0 ≤ gi ∧ gi < 4) → ∀ z, LTQ Ro kind i k z → Q (some (.inl z)) h)
    (hq0 : ¬ (0 ≤ gi ∧ gi < 4) → Q (some (.inl (-1))) h) : qM l D (d + 3, 0, 0) m_DH_letter [.inr (.inr 0), .inl gi, .inl kind, .inl i, .inl k] h Q := sorry
set_option maxRecDepth 100000 in
theorem sp_Mo_letter {l : Launch} {D : qD} {d : Nat} {nc gi kind i k : Int} {Ro : Int → Int} {h : qh} {Q : qQ} (R : REL nc h.2) (gr : (0 ≤ gi ∧ gi < 4) → GRO h.2 gi Ro)
    (hq1 : (0 ≤ gi ∧ gi < 4) → ∀ v z, REL nc v → LTQ Ro kind i k z → Q (some (.inl z)) (h.1, v))
    (hq0 : ¬ (0 ≤ gi ∧ gi < 4) → Q (some (.inl (-1))) h) : qM l D (d + 3, 0, 0) m_Mo_letter [.inr (.inr 280), .inl gi, .inl kind, .inl i, .inl k] h Q := sorry
theorem op_letter {l : Launch} {D : qD} {d : Nat} {gi kind i k : Int} : OP0 l D (d + 3) m_DH_letter m_Mo_letter [.inl gi, .inl kind, .inl i, .inl k] := sorry
end
section
/-! ===== operations that ask: edge ===== -/
abbrev rTl (R : Int → Int) : Int → Int := fun e => R (267 + e)
abbrev rHd (R : Int → Int) : Int → Int := fun e => R (315 + e)
/-- the numbers of blocks -/
abbrev BKN (R : Int → Int) (N : Int → Int) : Prop := num (bk (fun e => R (267 + e)) (fun e => R (315 + e)) (blw (R 1).toNat)) (R 1).toNat N
theorem BKN_un {R N N' : Int → Int} (h : BKN R N) (h' : BKN R N') : ∀ e, 0 ≤ e → e < R 1 → N e = N' e := sorry
/-- what is told of an edge -/
def EDQ (R : Int → Int) (e what z : Int) : Prop := (what = 0 ∧ z = R (267 + e)) ∨ (what = 1 ∧ z = R (315 + e)) ∨ (what = 2 ∧ z = R (363 + e)) ∨ (what = 3 ∧ z = R (411 + e)) ∨ (what = 4 ∧ ∃ N, BKN R N ∧ z = N e) ∨ (what = 5 ∧ (z = 0 ∨ z = 1) ∧ ∃ N, BKN R N ∧ (z = 1 ↔ ∀ f : Int, 0 ≤ f → f < R 1 → N f = N e → f = e)) ∨ ((what < 0 ∨ 5 < what) ∧ z = -1)
theorem EDQ_un {R : Int → Int} {e what z z' : Int} (he : 0 ≤ e ∧ e < R 1) (h : EDQ R e what z) (h' : EDQ R e what z') : z' = z := sorry
set_option maxRecDepth 100000 in
theorem sp_DH_edge {l : Launch} {D : qD} {d : Nat} {nc gi e what : Int} {Ro : Int → Int} {h : qh} {Q : qQ} (R : REL nc h.2) (gr : (0 ≤ gi ∧ gi < 4) → GRO h.2 gi Ro)
    (hq1 : (0 ≤ gi ∧ gi < 4) → (0 ≤ e ∧ e < Ro 1) → ∀ v z, REL nc v → FW shpC shpP h.2 v → EDQ Ro e what z → Q (some (.inl z)) (h.1, v))
    (hq0 : ¬ ((0 ≤ gi ∧ gi < 4) ∧ (0 ≤ e ∧ e < Ro 1)) → Q (some (.inl (-1))) h) : qM l D (d + 30, 0, 0) m_DH_edge [.inr (.inr 0), .inl gi, .inl e, .inl what] h Q := sorry
set_option maxRecDepth 100000 in
theorem sp_Mo_pb {l : Launch} {D : qD} {d : Nat} {nc r : Int} {Ro : Int → Int} {h : qh} {Q : qQ} (R1 : REL nc h.2) (tr1 : TRw h.2 r Ro) (ok : GOK Ro) (e5 : h.2 280 5 = r)
    (hq : ∀ v, FW [295, 296, 297] [(280, 31), (280, 32)] h.2 v → REL nc v → v 280 31 = Ro 0 → v 280 32 = Ro 1 → (∀ e, blw (Ro 1).toNat e → v 295 e = Ro (267 + e) ∧ v 296 e = Ro (315 + e) ∧ v 297 e = 1) → (∀ (Q' : qQ), (∀ v3, FW [287, 290, 300] [] v v3 → REL nc v3 → BKN Ro (v3 287) → Q' (some (.inl (nums (bk (fun e => Ro (267 + e)) (fun e => Ro (315 + e)) (blw (Ro 1).toNat)) (Ro 1).toNat))) (h.1, v3)) → qM l D (d + 3, 0, 0) m_Mo_blocks [.inr (.inr 280)] (h.1, v) Q') → Q none (h.1, v)) : qM l D (d + 3, 0, 0) m_Mo_plane [.inr (.inr 280)] h Q := sorry
set_option maxRecDepth 100000 in
theorem sp_Mo_edge {l : Launch} {D : qD} {d : Nat} {nc gi e what : Int} {Ro : Int → Int} {h : qh} {Q : qQ} (R : REL nc h.2) (gr : (0 ≤ gi ∧ gi < 4) → GRO h.2 gi Ro)
    (hq1 : (0 ≤ gi ∧ gi < 4) → (0 ≤ e ∧ e < Ro 1) → ∀ v z, REL nc v → EDQ Ro e what z → Q (some (.inl z)) (h.1, v))
    (hq0 : ¬ ((0 ≤ gi ∧ gi < 4) ∧ (0 ≤ e ∧ e < Ro 1)) → ∀ v, REL nc v → Q (some (.inl (-1))) (h.1, v)) : qM l D (d + 4, 0, 0) m_Mo_edge [.inr (.inr 280), .inl gi, .inl e, .inl what] h Q := sorry
theorem op_edge {l : Launch} {D : qD} {d : Nat} {gi e what : Int} : OP0 l D (d + 30) m_DH_edge m_Mo_edge [.inl gi, .inl e, .inl what] := sorry
end
section
/-! ===== how many blocks a node is of (the component's) ===== -/
theorem num_b {E : Int → Int → Prop} {m : Nat} {N : Int → Int} (h : num E m N) : ∀ (n : Nat) (e : Int), e.toNat ≤ n → 0 ≤ e → e < m → 0 ≤ N e ∧ N e < m := sorry
theorem BKN_b {R N : Int → Int} (h : BKN R N) (ok : GOK R) {e : Int} (e0 : 0 ≤ e) (e1 : e < R 1) : 0 ≤ N e ∧ N e < 48 := sorry
/-- blocks at a node -/
abbrev nBl (R N : Int → Int) (i : Int) : Int → Prop := fun b => ∃ e, (blw (R 1).toNat e ∧ inc (fun e => R (267 + e)) (fun e => R (315 + e)) e i) ∧ N e = b
theorem lor_r {x y : Int} (hx : 0 ≤ x ∧ x < 281474976710656) (hy : 0 ≤ y ∧ y < 281474976710656) : 0 ≤ z_lor x y ∧ z_lor x y < 281474976710656 := sorry
theorem lshl_r {j : Int} (h : 0 ≤ j ∧ j < 48) : 0 ≤ z_lshl 1 j ∧ z_lshl 1 j < 281474976710656 := sorry
theorem s_lshl_ap (K : qK) (ls : List (Option qv)) (x k : Int) (r : List qv) (h : qh) : s_lshl K ls (.inl k :: .inr (.inl x) :: r) h = K ls (.inr (.inl (z_lshl x k)) :: r) h := sorry
set_option maxRecDepth 100000 in
theorem sp_Sh_blocksOf {l : Launch} {D : qD} {d : Nat} {g i : Int} {R N : Int → Int} {h : qh} {Q : qQ} (gG : isG g) (z4 : h.2 135 4 = 140) (e15 : h.2 135 15 = g) (cr : CR h.2 g R) (ok : GOK R) (eN : h.2 140 = N) (bn : BKN R N) (hq : Q (some (.inl (cnt (nBl R N i) 48))) h) : qM l D (d + 2, 0, 0) m_Sh_blocksOf [.inr (.inr 135), .inl i] h Q := sorry
end
section
/-! ===== operations that ask: node ===== -/
abbrev rAj (R : Int → Int) : Int → Int → Prop := aj (fun e => R (267 + e)) (fun e => R (315 + e)) (blw (R 1).toNat)
/-- what is told of a node -/
def NDQ (R : Int → Int) (i what z : Int) : Prop := (what = 0 ∧ z = R (195 + i)) ∨ (what = 1 ∧ z = R (219 + i)) ∨ (what = 2 ∧ z = R (243 + i)) ∨ (what = 3 ∧ z = ((cnt (fun x => rAj R i x) (R 0).toNat : Nat) : Int)) ∨ (what = 4 ∧ ∃ N, num (rchs (rAj R)) (R 0).toNat N ∧ z = N i) ∨ (what = 5 ∧ ∃ N, BKN R N ∧ z = ((cnt (nBl R N i) 48 : Nat) : Int)) ∨ (what = 6 ∧ ∃ N, num (sE (dRR R 0)) (R 0).toNat N ∧ z = N i) ∨ (what = 7 ∧ ∃ k : Nat, z = k ∧ crn (rAj R) (R 0).toNat i k) ∨ ((what < 0 ∨ 7 < what) ∧ z = -1)
theorem nBl_cg {R N N' : Int → Int} {i : Int} (h : ∀ e, 0 ≤ e → e < R 1 → N e = N' e) : cnt (nBl R N i) 48 = cnt (nBl R N' i) 48 := sorry
theorem NDQ_un {R : Int → Int} {i what z z' : Int} (hi : 0 ≤ i ∧ i < R 0) (h : NDQ R i what z) (h' : NDQ R i what z') : z' = z := sorry
/-- the numbers that the shape keeps -/
theorem shR {v : Int → Int → Int} {g : Int} {R : Int → Int} (cv : CR v g R) (so : shok v 135 g) : (∀ x, blw (R 0).toNat x → i32 (v 136 x) ∧ ∀ y, 0 ≤ y → y < 32 → (bt (v 136 x) y ↔ rAj R x y)) ∧ num (rchs (rAj R)) (R 0).toNat (v 137) ∧ BKN R (v 140) ∧ num (sE (dRR R 0)) (R 0).toNat (v 138) ∧ ∀ i, blw (R 0).toNat i → ∃ k : Nat, v 139 i = k ∧ crn (rAj R) (R 0).toNat i k := sorry
/-- how many are near -/
theorem near_R {R : Int → Int} (ok : GOK R) {x i : Int} (hx : i32 x) (hb : ∀ y, 0 ≤ y → y < 32 → (bt x y ↔ rAj R i y)) : (0 ≤ x ∧ x < 33554432) ∧ cnt (bt x) 32 = cnt (fun y => rAj R i y) (R 0).toNat := sorry
set_option maxRecDepth 100000 in
theorem sp_DH_node {l : Launch} {D : qD} {d : Nat} {nc gi i what : Int} {Ro : Int → Int} {h : qh} {Q : qQ} (R : REL nc h.2) (gr : (0 ≤ gi ∧ gi < 4) → GRO h.2 gi Ro)
    (hq1 : (0 ≤ gi ∧ gi < 4) → (0 ≤ i ∧ i < Ro 0) → ∀ v z, REL nc v → FW shpC shpP h.2 v → NDQ Ro i what z → Q (some (.inl z)) (h.1, v))
    (hq0 : ¬ ((0 ≤ gi ∧ gi < 4) ∧ (0 ≤ i ∧ i < Ro 0)) → Q (some (.inl (-1))) h) : qM l D (d + 30, 0, 0) m_DH_node [.inr (.inr 0), .inl gi, .inl i, .inl what] h Q := sorry
set_option maxRecDepth 100000 in
theorem sp_Mo_node {l : Launch} {D : qD} {d : Nat} {nc gi i what : Int} {Ro : Int → Int} {h : qh} {Q : qQ} (R : REL nc h.2) (gr : (0 ≤ gi ∧ gi < 4) → GRO h.2 gi Ro)
    (hq1 : (0 ≤ gi ∧ gi < 4) → (0 ≤ i ∧ i < Ro 0) → ∀ v z, REL nc v → NDQ Ro i what z → Q (some (.inl z)) (h.1, v))
    (hq0 : ¬ ((0 ≤ gi ∧ gi < 4) ∧ (0 ≤ i ∧ i < Ro 0)) → ∀ v, REL nc v → Q (some (.inl (-1))) (h.1, v)) : qM l D (d + 5, 0, 0) m_Mo_node [.inr (.inr 280), .inl gi, .inl i, .inl what] h Q := sorry
theorem op_node {l : Launch} {D : qD} {d : Nat} {gi i what : Int} : OP0 l D (d + 30) m_DH_node m_Mo_node [.inl gi, .inl i, .inl what] := sorry
end
section
/-! ===== operations that ask: shade ===== -/
def shd0 (R : Int → Int) (gi kind i what : Int) : Prop := (0 ≤ gi ∧ gi < 4) ∧ (0 ≤ what ∧ what ≤ 2) ∧ kind = 0 ∧ 0 ≤ i ∧ i < R 0
def shd1 (R : Int → Int) (gi kind i what : Int) : Prop := (0 ≤ gi ∧ gi < 4) ∧ (0 ≤ what ∧ what ≤ 2) ∧ kind = 1 ∧ 0 ≤ i ∧ i < R 1
set_option maxRecDepth 100000 in
theorem sp_DH_shade {l : Launch} {D : qD} {d : Nat} {nc gi kind i what : Int} {Ro : Int → Int} {h : qh} {Q : qQ} (R : REL nc h.2) (gr : (0 ≤ gi ∧ gi < 4) → GRO h.2 gi Ro)
    (hq1 : shd0 Ro gi kind i what → Q (some (.inl (h.2 (16 + 27 * gi) (3 * i + what)))) h) (hq2 : shd1 Ro gi kind i what → Q (some (.inl (h.2 (17 + 27 * gi) (3 * i + what)))) h)
    (hq0 : ¬ shd0 Ro gi kind i what → ¬ shd1 Ro gi kind i what → Q (some (.inl (-1))) h) : qM l D (d + 3, 0, 0) m_DH_shade [.inr (.inr 0), .inl gi, .inl kind, .inl i, .inl what] h Q := sorry
set_option maxRecDepth 100000 in
theorem sp_Mo_shade {l : Launch} {D : qD} {d : Nat} {nc gi kind i what : Int} {Ro : Int → Int} {h : qh} {Q : qQ} (R : REL nc h.2) (gr : (0 ≤ gi ∧ gi < 4) → GRO h.2 gi Ro)
    (hq1 : shd0 Ro gi kind i what → ∀ v, REL nc v → Q (some (.inl (h.2 328 (216 * gi + (3 * i + what))))) (h.1, v)) (hq2 : shd1 Ro gi kind i what → ∀ v, REL nc v → Q (some (.inl (h.2 328 (216 * gi + 72 + (3 * i + what))))) (h.1, v))
    (hq0 : ¬ shd0 Ro gi kind i what → ¬ shd1 Ro gi kind i what → ∀ v, REL nc v → Q (some (.inl (-1))) (h.1, v)) : qM l D (d + 3, 0, 0) m_Mo_shade [.inr (.inr 280), .inl gi, .inl kind, .inl i, .inl what] h Q := sorry
theorem op_shade {l : Launch} {D : qD} {d : Nat} {gi kind i what : Int} : OP0 l D (d + 3) m_DH_shade m_Mo_shade [.inl gi, .inl kind, .inl i, .inl what] := sorry
end
section
/-! ===== operations on a drawing: at, put ===== -/
theorem REL.dr {nc gi : Int} {v : Int → Int → Int} {R : Int → Int} (h : REL nc v) (hg : 0 ≤ gi ∧ gi < 4) (gr : GRO v gi R) : (v (drO gi) 0 = 0 ∧ v 316 gi = -1) ∨ (v (drO gi) 0 = 1 ∧ DRN v gi (R 0).toNat (R 1).toNat (R 2)) := sorry
/-- whether there is a drawing -/
def isDr (v : Int → Int → Int) (gi : Int) : Prop := (0 ≤ gi ∧ gi < 4) ∧ v (drO gi) 0 = 1
theorem isDr_t {nc gi : Int} {v : Int → Int → Int} (h : REL nc v) (hg : 0 ≤ gi ∧ gi < 4) : 0 ≤ v 316 gi ↔ v (drO gi) 0 = 1 := sorry
theorem iv_dr {l : Launch} {D : qD} {d : Nat} {K : qK} {ls : List (Option qv)} {st : List qv} {h : qh} {nc gi : Int} (R : REL nc h.2) (cs : q_cs st ≤ 8) (h1 : isDr h.2 gi → K ls (.inr (.inr (drO gi)) :: st) h) (h0 : ¬ isDr h.2 gi → K ls (.inr (.inr (-1)) :: st) h) : s_invV l D (d + 2, 0, 0) 0 m_DH_drawing 1 K ls (.inl gi :: .inr (.inr 0) :: st) h := sorry
/-- what is told of points -/
def atF (n m : Int) (X Y bm BX BY : Int → Int) (what i k : Int) : Int :=
  if what = 0 then (if 0 ≤ i ∧ i < n then X i else -2147483648) else if what = 1 then (if 0 ≤ i ∧ i < n then Y i else -2147483648)
  else if 0 ≤ i ∧ i < m then (if what = 2 then bm i else if what = 3 then (if 0 ≤ k ∧ k < bm i then BX (24 * i + k) else -2147483648) else if what = 4 then (if 0 ≤ k ∧ k < bm i then BY (24 * i + k) else -2147483648) else -2147483648) else -2147483648
set_option maxRecDepth 100000 in
theorem sp_DH_at {l : Launch} {D : qD} {d : Nat} {nc gi what i k : Int} {Ro X Y bm BX BY : Int → Int} {h : qh} {Q : qQ} (R : REL nc h.2) (gr : (0 ≤ gi ∧ gi < 4) → GRO h.2 gi Ro) (dv : isDr h.2 gi → DV h.2 (drO gi) (Ro 0).toNat (Ro 1).toNat X Y bm BX BY ∧ DB (Ro 0).toNat (Ro 1).toNat X Y bm BX BY)
    (hq1 : isDr h.2 gi → Q (some (.inl (atF (Ro 0) (Ro 1) X Y bm BX BY what i k))) h) (hq0 : ¬ isDr h.2 gi → Q (some (.inl (-2147483648))) h) : qM l D (d + 3, 0, 0) m_DH_at [.inr (.inr 0), .inl gi, .inl what, .inl i, .inl k] h Q := sorry
set_option maxRecDepth 100000 in
theorem sp_Mo_at_1 {l : Launch} {D : qD} {d : Nat} {nc gi what i k : Int} {Ro X Y bm BX BY : Int → Int} {h : qh} {Q : qQ} (R : REL nc h.2) (gr : (0 ≤ gi ∧ gi < 4) → GRO h.2 gi Ro) (dv : isDr h.2 gi → ((∀ i, blw (Ro 0).toNat i → h.2 317 (24 * gi + i) = X i ∧ h.2 318 (24 * gi + i) = Y i) ∧ ∀ e, blw (Ro 1).toNat e → h.2 319 (48 * gi + e) = bm e ∧ ∀ k : Int, 0 ≤ k → k < bm e → h.2 320 (24 * (48 * gi + e) + k) = BX (24 * e + k) ∧ h.2 321 (24 * (48 * gi + e) + k) = BY (24 * e + k)) ∧ DB (Ro 0).toNat (Ro 1).toNat X Y bm BX BY)
    (hq1 : isDr h.2 gi → ∀ v, REL nc v → Q (some (.inl (atF (Ro 0) (Ro 1) X Y bm BX BY what i k))) (h.1, v)) (hq0 : ¬ isDr h.2 gi → Q (some (.inl (-2147483648))) h) : qM l D (d + 3, 0, 0) m_Mo_at_1 [.inr (.inr 280), .inl gi, .inl what, .inl i, .inl k] h Q := sorry
theorem op_at {l : Launch} {D : qD} {d : Nat} {gi what i k : Int} : OP0 l D (d + 3) m_DH_at m_Mo_at_1 [.inl gi, .inl what, .inl i, .inl k] := sorry
end
section
/-! ===== operations on a drawing: told ===== -/
/-- what is told of a drawing -/
def tldF (n m q w c s b : Int) (ly tu nu ar ga : Int → Int) (what i : Int) : Int := if what = 0 then (w) else if what = 1 then (if w = 0 then c else -1) else if what = 2 then (if w = 0 then s else -1) else if what = 3 then (if w = 0 ∧ 0 ≤ i ∧ i < n then ly i else -1) else if what = 4 then (if w = 0 ∧ 0 ≤ i ∧ i < m then tu i else -1) else if what = 5 then (if w = 7 then b else -1) else if 6 ≤ what ∧ what ≤ 9 then (if w = 4 ∧ 0 ≤ i ∧ i < n then ar (4 * i + (what - 6)) else -1) else if 10 ≤ what ∧ what ≤ 13 then (if w = 4 ∧ 0 ≤ i ∧ i < q then ga (4 * i + (what - 10)) else -1) else if what = 14 then (if w = 5 then c else -1) else if what = 15 then (if w = 2 ∧ 0 ≤ i ∧ i < n then nu i else -1) else -1
theorem tld_0 {n m q w c s b : Int} {ly tu nu ar ga : Int → Int} {what i : Int} (h : what = 0) : tldF n m q w c s b ly tu nu ar ga what i = w := sorry
theorem tld_1 {n m q w c s b : Int} {ly tu nu ar ga : Int → Int} {what i : Int} (h : what = 1) : tldF n m q w c s b ly tu nu ar ga what i = if w = 0 then c else -1 := sorry
theorem tld_2 {n m q w c s b : Int} {ly tu nu ar ga : Int → Int} {what i : Int} (h : what = 2) : tldF n m q w c s b ly tu nu ar ga what i = if w = 0 then s else -1 := sorry
theorem tld_3 {n m q w c s b : Int} {ly tu nu ar ga : Int → Int} {what i : Int} (h : what = 3) : tldF n m q w c s b ly tu nu ar ga what i = if w = 0 ∧ 0 ≤ i ∧ i < n then ly i else -1 := sorry
theorem tld_4 {n m q w c s b : Int} {ly tu nu ar ga : Int → Int} {what i : Int} (h : what = 4) : tldF n m q w c s b ly tu nu ar ga what i = if w = 0 ∧ 0 ≤ i ∧ i < m then tu i else -1 := sorry
theorem tld_5 {n m q w c s b : Int} {ly tu nu ar ga : Int → Int} {what i : Int} (h : what = 5) : tldF n m q w c s b ly tu nu ar ga what i = if w = 7 then b else -1 := sorry
theorem tld_6 {n m q w c s b : Int} {ly tu nu ar ga : Int → Int} {what i : Int} (h : 6 ≤ what ∧ what ≤ 9) : tldF n m q w c s b ly tu nu ar ga what i = if w = 4 ∧ 0 ≤ i ∧ i < n then ar (4 * i + (what - 6)) else -1 := sorry
theorem tld_7 {n m q w c s b : Int} {ly tu nu ar ga : Int → Int} {what i : Int} (h : 10 ≤ what ∧ what ≤ 13) : tldF n m q w c s b ly tu nu ar ga what i = if w = 4 ∧ 0 ≤ i ∧ i < q then ga (4 * i + (what - 10)) else -1 := sorry
theorem tld_8 {n m q w c s b : Int} {ly tu nu ar ga : Int → Int} {what i : Int} (h : what = 14) : tldF n m q w c s b ly tu nu ar ga what i = if w = 5 then c else -1 := sorry
theorem tld_9 {n m q w c s b : Int} {ly tu nu ar ga : Int → Int} {what i : Int} (h : what = 15) : tldF n m q w c s b ly tu nu ar ga what i = if w = 2 ∧ 0 ≤ i ∧ i < n then nu i else -1 := sorry
theorem tld_10 {n m q w c s b : Int} {ly tu nu ar ga : Int → Int} {what i : Int} (h : what < 0 ∨ 15 < what) : tldF n m q w c s b ly tu nu ar ga what i = -1 := sorry
theorem isD_s2 {o : Int} (h : isD o) : q_shp o = (2, 0) ∧ q_shp (o + 6) = (100, 24) ∧ q_shp (o + 7) = (100, 24) ∧ q_shp (o + 8) = (100, 96) ∧ q_shp (o + 9) = (100, 32) ∧ q_shp (o + 10) = (102, 48) ∧ (0 ≤ o ∧ o ≤ 198) := sorry
theorem isD_f2 {v : Int → Int → Int} {o : Int} (hw : HW v) (h : isD o) : v o 10 = o + 6 ∧ v o 11 = o + 7 ∧ v o 12 = o + 8 ∧ v o 13 = o + 9 ∧ v o 14 = o + 10 := sorry
abbrev tldC (v : Int → Int → Int) (gi : Int) (R : Int → Int) (what i : Int) : Int := tldF (R 0) (R 1) (R 2) (v (drO gi) 1) (v (drO gi) 2) (v (drO gi) 3) (v (drO gi) 4) (v (drO gi + 6)) (fun e => if v (drO gi + 10) e = 0 then 0 else 1) (v (drO gi + 7)) (v (drO gi + 8)) (v (drO gi + 9)) what i
abbrev tldT (v : Int → Int → Int) (gi : Int) (R : Int → Int) (what i : Int) : Int := tldF (R 0) (R 1) (R 2) (v 316 gi) (v 322 gi) (v 323 gi) (v 322 gi) (fun i => v 324 (24 * gi + i)) (fun e => v 325 (48 * gi + e)) (fun i => v 324 (24 * gi + i)) (fun x => v 326 (96 * gi + x)) (fun x => v 327 (32 * gi + x)) what i
theorem ite_cg {p : Prop} [Decidable p] {a b : Int} (h : p → a = b) : (if p then a else -1) = if p then b else -1 := sorry
theorem tld_eq {v : Int → Int → Int} {gi : Int} {R : Int → Int} {what i : Int} (h : DRN v gi (R 0).toNat (R 1).toNat (R 2)) : tldC v gi R what i = tldT v gi R what i := sorry
set_option maxRecDepth 100000 in
theorem dt_108 {l : Launch} {D : qD} {d : Nat} {gi what i o g nd : Int} {h : qh} {Q : qQ} (t0 : q_shp o = (2, 0)) (o0 : 0 ≤ o)  (st0 : Q (some (.inl (h.2 o 1))) h) : qR l D (d + 3, 0, 0) m_DH_told 108 (fun r h' => Q r ((h'.1.1, h.1.2.1, h.1.2.2), h'.2)) [some (.inr (.inr (0))), some (.inl (gi)), some (.inl (what)), some (.inl (i)), some (.inr (.inr (o))), some (.inr (.inr (g))), some (.inl (nd))] [] ((h.1.1, 0, 0), h.2) := sorry
set_option maxRecDepth 100000 in
theorem dt_114 {l : Launch} {D : qD} {d : Nat} {gi what i o g nd : Int} {h : qh} {Q : qQ} (t0 : q_shp o = (2, 0)) (o0 : 0 ≤ o)  (st0 : h.2 o 1 = 0 → Q (some (.inl (h.2 o 2))) h) (st1 : (¬ (h.2 o 1 = 0)) → Q (some (.inl (-1))) h) : qR l D (d + 3, 0, 0) m_DH_told 114 (fun r h' => Q r ((h'.1.1, h.1.2.1, h.1.2.2), h'.2)) [some (.inr (.inr (0))), some (.inl (gi)), some (.inl (what)), some (.inl (i)), some (.inr (.inr (o))), some (.inr (.inr (g))), some (.inl (nd))] [] ((h.1.1, 0, 0), h.2) := sorry
set_option maxRecDepth 100000 in
theorem dt_132 {l : Launch} {D : qD} {d : Nat} {gi what i o g nd : Int} {h : qh} {Q : qQ} (t0 : q_shp o = (2, 0)) (o0 : 0 ≤ o)  (st0 : h.2 o 1 = 0 → Q (some (.inl (h.2 o 3))) h) (st1 : (¬ (h.2 o 1 = 0)) → Q (some (.inl (-1))) h) : qR l D (d + 3, 0, 0) m_DH_told 132 (fun r h' => Q r ((h'.1.1, h.1.2.1, h.1.2.2), h'.2)) [some (.inr (.inr (0))), some (.inl (gi)), some (.inl (what)), some (.inl (i)), some (.inr (.inr (o))), some (.inr (.inr (g))), some (.inl (nd))] [] ((h.1.1, 0, 0), h.2) := sorry
set_option maxRecDepth 100000 in
theorem dt_150 {l : Launch} {D : qD} {d : Nat} {gi what i o g nd : Int} {h : qh} {Q : qQ} (t0 : q_shp o = (2, 0)) (o0 : 0 ≤ o) (f10 : h.2 o 10 = o + 6) (t6 : q_shp (o + 6) = (100, 24)) (nb : nd ≠ 0 → 0 ≤ i ∧ i < 24) (st0 : h.2 o 1 = 0 → nd ≠ 0 → Q (some (.inl (h.2 (o + 6) i))) h) (st1 : (¬ (h.2 o 1 = 0) ∨ ¬ (nd ≠ 0)) → Q (some (.inl (-1))) h) : qR l D (d + 3, 0, 0) m_DH_told 150 (fun r h' => Q r ((h'.1.1, h.1.2.1, h.1.2.2), h'.2)) [some (.inr (.inr (0))), some (.inl (gi)), some (.inl (what)), some (.inl (i)), some (.inr (.inr (o))), some (.inr (.inr (g))), some (.inl (nd))] [] ((h.1.1, 0, 0), h.2) := sorry
set_option maxRecDepth 100000 in
theorem dt_212 {l : Launch} {D : qD} {d : Nat} {gi what i o g nd : Int} {h : qh} {Q : qQ} (t0 : q_shp o = (2, 0)) (o0 : 0 ≤ o)  (st0 : h.2 o 1 = 7 → Q (some (.inl (h.2 o 4))) h) (st1 : (¬ (h.2 o 1 = 7)) → Q (some (.inl (-1))) h) : qR l D (d + 3, 0, 0) m_DH_told 212 (fun r h' => Q r ((h'.1.1, h.1.2.1, h.1.2.2), h'.2)) [some (.inr (.inr (0))), some (.inl (gi)), some (.inl (what)), some (.inl (i)), some (.inr (.inr (o))), some (.inr (.inr (g))), some (.inl (nd))] [] ((h.1.1, 0, 0), h.2) := sorry
set_option maxRecDepth 100000 in
theorem dt_232 {l : Launch} {D : qD} {d : Nat} {gi what i o g nd : Int} {h : qh} {Q : qQ} (t0 : q_shp o = (2, 0)) (o0 : 0 ≤ o)  (st0 : h.2 o 1 = 5 → Q (some (.inl (h.2 o 2))) h) (st1 : (¬ (h.2 o 1 = 5)) → Q (some (.inl (-1))) h) : qR l D (d + 3, 0, 0) m_DH_told 232 (fun r h' => Q r ((h'.1.1, h.1.2.1, h.1.2.2), h'.2)) [some (.inr (.inr (0))), some (.inl (gi)), some (.inl (what)), some (.inl (i)), some (.inr (.inr (o))), some (.inr (.inr (g))), some (.inl (nd))] [] ((h.1.1, 0, 0), h.2) := sorry
set_option maxRecDepth 100000 in
theorem dt_251 {l : Launch} {D : qD} {d : Nat} {gi what i o g nd : Int} {h : qh} {Q : qQ} (t0 : q_shp o = (2, 0)) (o0 : 0 ≤ o) (f11 : h.2 o 11 = o + 7) (t7 : q_shp (o + 7) = (100, 24)) (nb : nd ≠ 0 → 0 ≤ i ∧ i < 24) (st0 : h.2 o 1 = 2 → nd ≠ 0 → Q (some (.inl (h.2 (o + 7) i))) h) (st1 : (¬ (h.2 o 1 = 2) ∨ ¬ (nd ≠ 0)) → Q (some (.inl (-1))) h) : qR l D (d + 3, 0, 0) m_DH_told 251 (fun r h' => Q r ((h'.1.1, h.1.2.1, h.1.2.2), h'.2)) [some (.inr (.inr (0))), some (.inl (gi)), some (.inl (what)), some (.inl (i)), some (.inr (.inr (o))), some (.inr (.inr (g))), some (.inl (nd))] [] ((h.1.1, 0, 0), h.2) := sorry
set_option maxRecDepth 100000 in
theorem dt_175 {l : Launch} {D : qD} {d : Nat} {gi what i o g nd : Int} {h : qh} {Q : qQ} (t0 : q_shp o = (2, 0)) (o0 : 0 ≤ o) (gs : q_shp g = (3, 0)) (g0 : 0 ≤ g) (f14 : h.2 o 14 = o + 10) (t10 : q_shp (o + 10) = (102, 48)) {ed : Int} (fi : f_Gr_isEdge g i h.2 = ed) (eb : ed ≠ 0 → 0 ≤ i ∧ i < 48) (st0 : h.2 o 1 = 0 → ed ≠ 0 → h.2 (o + 10) i = 0 → Q (some (.inl 0)) h) (st2 : h.2 o 1 = 0 → ed ≠ 0 → h.2 (o + 10) i ≠ 0 → Q (some (.inl 1)) h) (st1 : (¬ (h.2 o 1 = 0) ∨ ed = 0) → Q (some (.inl (-1))) h) : qR l D (d + 3, 0, 0) m_DH_told 175 (fun r h' => Q r ((h'.1.1, h.1.2.1, h.1.2.2), h'.2)) [some (.inr (.inr (0))), some (.inl (gi)), some (.inl (what)), some (.inl (i)), some (.inr (.inr (o))), some (.inr (.inr (g))), some (.inl (nd))] [] ((h.1.1, 0, 0), h.2) := sorry
set_option maxRecDepth 100000 in
theorem dt_277 {l : Launch} {D : qD} {d : Nat} {gi what i o g nd : Int} {h : qh} {Q : qQ} (t0 : q_shp o = (2, 0)) (o0 : 0 ≤ o) (gs : q_shp g = (3, 0)) (g0 : 0 ≤ g) (f12 : h.2 o 12 = o + 8) (t8 : q_shp (o + 8) = (100, 96)) (f13 : h.2 o 13 = o + 9) (t9 : q_shp (o + 9) = (100, 32)) (nb : nd ≠ 0 → 0 ≤ i ∧ i < 24) {gp : Int} (fi : f_Gr_isGroup g i h.2 = gp) (gb : gp ≠ 0 → 0 ≤ i ∧ i < 8)
    (st0 : (6 ≤ what ∧ what ≤ 9) → h.2 o 1 = 4 → nd ≠ 0 → Q (some (.inl (h.2 (o + 8) (4 * i + what - 6)))) h) (st2 : (10 ≤ what ∧ what ≤ 13) → h.2 o 1 = 4 → gp ≠ 0 → Q (some (.inl (h.2 (o + 9) (4 * i + what - 10)))) h)
    (st1 : (¬ (h.2 o 1 = 4) ∨ what < 6 ∨ 13 < what ∨ ((6 ≤ what ∧ what ≤ 9) ∧ nd = 0) ∨ ((10 ≤ what ∧ what ≤ 13) ∧ gp = 0)) → Q (some (.inl (-1))) h) : qR l D (d + 3, 0, 0) m_DH_told 277 (fun r h' => Q r ((h'.1.1, h.1.2.1, h.1.2.2), h'.2)) [some (.inr (.inr (0))), some (.inl (gi)), some (.inl (what)), some (.inl (i)), some (.inr (.inr (o))), some (.inr (.inr (g))), some (.inl (nd))] [] ((h.1.1, 0, 0), h.2) := sorry
set_option maxRecDepth 100000 in
theorem sp_DH_told {l : Launch} {D : qD} {d : Nat} {nc gi what i : Int} {Ro : Int → Int} {h : qh} {Q : qQ} (R : REL nc h.2) (gr : (0 ≤ gi ∧ gi < 4) → GRO h.2 gi Ro) (hq1 : isDr h.2 gi → Q (some (.inl (tldC h.2 gi Ro what i))) h) (hq0 : ¬ isDr h.2 gi → Q (some (.inl (-1))) h) : qM l D (d + 3, 0, 0) m_DH_told [.inr (.inr 0), .inl gi, .inl what, .inl i] h Q := sorry
set_option maxRecDepth 100000 in
theorem mt_309 {l : Launch} {D : qD} {d : Nat} {gi what i w nd : Int} {v1 : Int → Int → Int} {h : qh} {Q : qQ} (hg : 0 ≤ gi ∧ gi < 4) (nb : nd ≠ 0 → 0 ≤ i ∧ i < 24) (y69 : v1 280 69 = 324) (st0 : (what = 15) → w = 2 → nd ≠ 0 → Q (some (.inl (v1 324 (24 * gi + i)))) (h.1, v1)) (st1 : (what = 15) → (¬ (w = 2) ∨ ¬ (nd ≠ 0)) → Q (some (.inl (-1))) (h.1, v1)) (nx : ¬ (what = 15) → Q (some (.inl (-1))) (h.1, v1)) : w_Mo_told_309 l D (d + 2) (0, 0) (fun r h' => Q r ((h'.1.1, h.1.2.1, h.1.2.2), h'.2)) [some (.inr (.inr (280))), some (.inl (gi)), some (.inl (what)), some (.inl (i)), some (.inl (w)), some (.inl (nd))] [] ((h.1.1, 0, 0), v1) := sorry
set_option maxRecDepth 100000 in
theorem mt_286 {l : Launch} {D : qD} {d : Nat} {gi what i w nd : Int} {v1 : Int → Int → Int} {h : qh} {Q : qQ} (hg : 0 ≤ gi ∧ gi < 4) (nb : nd ≠ 0 → 0 ≤ i ∧ i < 24) (y67 : v1 280 67 = 322) (st0 : (what = 14) → w = 5 → Q (some (.inl (v1 322 gi))) (h.1, v1)) (st1 : (what = 14) → (¬ (w = 5)) → Q (some (.inl (-1))) (h.1, v1)) (nx : ¬ (what = 14) → w_Mo_told_309 l D (d + 2) (0, 0) (fun r h' => Q r ((h'.1.1, h.1.2.1, h.1.2.2), h'.2)) [some (.inr (.inr (280))), some (.inl (gi)), some (.inl (what)), some (.inl (i)), some (.inl (w)), some (.inl (nd))] [] ((h.1.1, 0, 0), v1)) : w_Mo_told_286 l D (d + 2) (0, 0) (fun r h' => Q r ((h'.1.1, h.1.2.1, h.1.2.2), h'.2)) [some (.inr (.inr (280))), some (.inl (gi)), some (.inl (what)), some (.inl (i)), some (.inl (w)), some (.inl (nd))] [] ((h.1.1, 0, 0), v1) := sorry
set_option maxRecDepth 100000 in
theorem mt_232 {l : Launch} {D : qD} {d : Nat} {gi what i w nd : Int} {v1 : Int → Int → Int} {h : qh} {Q : qQ} (hg : 0 ≤ gi ∧ gi < 4) (nb : nd ≠ 0 → 0 ≤ i ∧ i < 24) (y72 : v1 280 72 = 327) {gp : Int} (fi : f_Mo_in i 0 (f_Mo_groups v1 - 1) v1 = gp) (gb : gp ≠ 0 → 0 ≤ i ∧ i < 8) (pg : p_Mo_groups v1) (y2 : v1 280 2 = 282) (gr : 1 ≤ f_Mo_groups v1 ∧ f_Mo_groups v1 ≤ 8) (st0 : (10 ≤ what ∧ what ≤ 13) → w = 4 → gp ≠ 0 → Q (some (.inl (v1 327 (4 * (8 * gi + i) + what - 10)))) (h.1, v1)) (st1 : (10 ≤ what ∧ what ≤ 13) → (¬ (w = 4) ∨ ¬ (gp ≠ 0)) → Q (some (.inl (-1))) (h.1, v1)) (nx : ¬ (10 ≤ what ∧ what ≤ 13) → w_Mo_told_286 l D (d + 2) (0, 0) (fun r h' => Q r ((h'.1.1, h.1.2.1, h.1.2.2), h'.2)) [some (.inr (.inr (280))), some (.inl (gi)), some (.inl (what)), some (.inl (i)), some (.inl (w)), some (.inl (nd))] [] ((h.1.1, 0, 0), v1)) : w_Mo_told_232 l D (d + 2) (0, 0) (fun r h' => Q r ((h'.1.1, h.1.2.1, h.1.2.2), h'.2)) [some (.inr (.inr (280))), some (.inl (gi)), some (.inl (what)), some (.inl (i)), some (.inl (w)), some (.inl (nd))] [] ((h.1.1, 0, 0), v1) := sorry
set_option maxRecDepth 100000 in
theorem mt_187 {l : Launch} {D : qD} {d : Nat} {gi what i w nd : Int} {v1 : Int → Int → Int} {h : qh} {Q : qQ} (hg : 0 ≤ gi ∧ gi < 4) (nb : nd ≠ 0 → 0 ≤ i ∧ i < 24) (y71 : v1 280 71 = 326) (st0 : (6 ≤ what ∧ what ≤ 9) → w = 4 → nd ≠ 0 → Q (some (.inl (v1 326 (4 * (24 * gi + i) + what - 6)))) (h.1, v1)) (st1 : (6 ≤ what ∧ what ≤ 9) → (¬ (w = 4) ∨ ¬ (nd ≠ 0)) → Q (some (.inl (-1))) (h.1, v1)) (nx : ¬ (6 ≤ what ∧ what ≤ 9) → w_Mo_told_232 l D (d + 2) (0, 0) (fun r h' => Q r ((h'.1.1, h.1.2.1, h.1.2.2), h'.2)) [some (.inr (.inr (280))), some (.inl (gi)), some (.inl (what)), some (.inl (i)), some (.inl (w)), some (.inl (nd))] [] ((h.1.1, 0, 0), v1)) : w_Mo_told_187 l D (d + 2) (0, 0) (fun r h' => Q r ((h'.1.1, h.1.2.1, h.1.2.2), h'.2)) [some (.inr (.inr (280))), some (.inl (gi)), some (.inl (what)), some (.inl (i)), some (.inl (w)), some (.inl (nd))] [] ((h.1.1, 0, 0), v1) := sorry
set_option maxRecDepth 100000 in
theorem mt_164 {l : Launch} {D : qD} {d : Nat} {gi what i w nd : Int} {v1 : Int → Int → Int} {h : qh} {Q : qQ} (hg : 0 ≤ gi ∧ gi < 4) (nb : nd ≠ 0 → 0 ≤ i ∧ i < 24) (y67 : v1 280 67 = 322) (st0 : (what = 5) → w = 7 → Q (some (.inl (v1 322 gi))) (h.1, v1)) (st1 : (what = 5) → (¬ (w = 7)) → Q (some (.inl (-1))) (h.1, v1)) (nx : ¬ (what = 5) → w_Mo_told_187 l D (d + 2) (0, 0) (fun r h' => Q r ((h'.1.1, h.1.2.1, h.1.2.2), h'.2)) [some (.inr (.inr (280))), some (.inl (gi)), some (.inl (what)), some (.inl (i)), some (.inl (w)), some (.inl (nd))] [] ((h.1.1, 0, 0), v1)) : w_Mo_told_164 l D (d + 2) (0, 0) (fun r h' => Q r ((h'.1.1, h.1.2.1, h.1.2.2), h'.2)) [some (.inr (.inr (280))), some (.inl (gi)), some (.inl (what)), some (.inl (i)), some (.inl (w)), some (.inl (nd))] [] ((h.1.1, 0, 0), v1) := sorry
set_option maxRecDepth 100000 in
theorem mt_124 {l : Launch} {D : qD} {d : Nat} {gi what i w nd : Int} {v1 : Int → Int → Int} {h : qh} {Q : qQ} (hg : 0 ≤ gi ∧ gi < 4) (nb : nd ≠ 0 → 0 ≤ i ∧ i < 24) (y70 : v1 280 70 = 325) {ed : Int} (fi : f_Mo_in i 0 (f_Mo_edges v1 - 1) v1 = ed) (eb : ed ≠ 0 → 0 ≤ i ∧ i < 48) (pe : p_Mo_edges v1) (y2 : v1 280 2 = 282) (er : 0 ≤ f_Mo_edges v1 ∧ f_Mo_edges v1 ≤ 48) (st0 : (what = 4) → w = 0 → ed ≠ 0 → Q (some (.inl (v1 325 (48 * gi + i)))) (h.1, v1)) (st1 : (what = 4) → (¬ (w = 0) ∨ ¬ (ed ≠ 0)) → Q (some (.inl (-1))) (h.1, v1)) (nx : ¬ (what = 4) → w_Mo_told_164 l D (d + 2) (0, 0) (fun r h' => Q r ((h'.1.1, h.1.2.1, h.1.2.2), h'.2)) [some (.inr (.inr (280))), some (.inl (gi)), some (.inl (what)), some (.inl (i)), some (.inl (w)), some (.inl (nd))] [] ((h.1.1, 0, 0), v1)) : w_Mo_told_124 l D (d + 2) (0, 0) (fun r h' => Q r ((h'.1.1, h.1.2.1, h.1.2.2), h'.2)) [some (.inr (.inr (280))), some (.inl (gi)), some (.inl (what)), some (.inl (i)), some (.inl (w)), some (.inl (nd))] [] ((h.1.1, 0, 0), v1) := sorry
set_option maxRecDepth 100000 in
theorem mt_93 {l : Launch} {D : qD} {d : Nat} {gi what i w nd : Int} {v1 : Int → Int → Int} {h : qh} {Q : qQ} (hg : 0 ≤ gi ∧ gi < 4) (nb : nd ≠ 0 → 0 ≤ i ∧ i < 24) (y69 : v1 280 69 = 324) (st0 : (what = 3) → w = 0 → nd ≠ 0 → Q (some (.inl (v1 324 (24 * gi + i)))) (h.1, v1)) (st1 : (what = 3) → (¬ (w = 0) ∨ ¬ (nd ≠ 0)) → Q (some (.inl (-1))) (h.1, v1)) (nx : ¬ (what = 3) → w_Mo_told_124 l D (d + 2) (0, 0) (fun r h' => Q r ((h'.1.1, h.1.2.1, h.1.2.2), h'.2)) [some (.inr (.inr (280))), some (.inl (gi)), some (.inl (what)), some (.inl (i)), some (.inl (w)), some (.inl (nd))] [] ((h.1.1, 0, 0), v1)) : w_Mo_told_93 l D (d + 2) (0, 0) (fun r h' => Q r ((h'.1.1, h.1.2.1, h.1.2.2), h'.2)) [some (.inr (.inr (280))), some (.inl (gi)), some (.inl (what)), some (.inl (i)), some (.inl (w)), some (.inl (nd))] [] ((h.1.1, 0, 0), v1) := sorry
set_option maxRecDepth 100000 in
theorem mt_72 {l : Launch} {D : qD} {d : Nat} {gi what i w nd : Int} {v1 : Int → Int → Int} {h : qh} {Q : qQ} (hg : 0 ≤ gi ∧ gi < 4) (nb : nd ≠ 0 → 0 ≤ i ∧ i < 24) (y68 : v1 280 68 = 323) (st0 : (what = 2) → w = 0 → Q (some (.inl (v1 323 gi))) (h.1, v1)) (st1 : (what = 2) → (¬ (w = 0)) → Q (some (.inl (-1))) (h.1, v1)) (nx : ¬ (what = 2) → w_Mo_told_93 l D (d + 2) (0, 0) (fun r h' => Q r ((h'.1.1, h.1.2.1, h.1.2.2), h'.2)) [some (.inr (.inr (280))), some (.inl (gi)), some (.inl (what)), some (.inl (i)), some (.inl (w)), some (.inl (nd))] [] ((h.1.1, 0, 0), v1)) : w_Mo_told_72 l D (d + 2) (0, 0) (fun r h' => Q r ((h'.1.1, h.1.2.1, h.1.2.2), h'.2)) [some (.inr (.inr (280))), some (.inl (gi)), some (.inl (what)), some (.inl (i)), some (.inl (w)), some (.inl (nd))] [] ((h.1.1, 0, 0), v1) := sorry
set_option maxRecDepth 100000 in
theorem mt_51 {l : Launch} {D : qD} {d : Nat} {gi what i w nd : Int} {v1 : Int → Int → Int} {h : qh} {Q : qQ} (hg : 0 ≤ gi ∧ gi < 4) (nb : nd ≠ 0 → 0 ≤ i ∧ i < 24) (y67 : v1 280 67 = 322) (st0 : (what = 1) → w = 0 → Q (some (.inl (v1 322 gi))) (h.1, v1)) (st1 : (what = 1) → (¬ (w = 0)) → Q (some (.inl (-1))) (h.1, v1)) (nx : ¬ (what = 1) → w_Mo_told_72 l D (d + 2) (0, 0) (fun r h' => Q r ((h'.1.1, h.1.2.1, h.1.2.2), h'.2)) [some (.inr (.inr (280))), some (.inl (gi)), some (.inl (what)), some (.inl (i)), some (.inl (w)), some (.inl (nd))] [] ((h.1.1, 0, 0), v1)) : w_Mo_told_51 l D (d + 2) (0, 0) (fun r h' => Q r ((h'.1.1, h.1.2.1, h.1.2.2), h'.2)) [some (.inr (.inr (280))), some (.inl (gi)), some (.inl (what)), some (.inl (i)), some (.inl (w)), some (.inl (nd))] [] ((h.1.1, 0, 0), v1) := sorry
set_option maxRecDepth 100000 in
theorem sp_Mo_told {l : Launch} {D : qD} {d : Nat} {nc gi what i : Int} {Ro : Int → Int} {h : qh} {Q : qQ} (R : REL nc h.2) (gr : (0 ≤ gi ∧ gi < 4) → GRO h.2 gi Ro) (hq1 : isDr h.2 gi → ∀ v, REL nc v → Q (some (.inl (tldT h.2 gi Ro what i))) (h.1, v)) (hq0 : ¬ isDr h.2 gi → Q (some (.inl (-1))) h) : qM l D (d + 3, 0, 0) m_Mo_told [.inr (.inr 280), .inl gi, .inl what, .inl i] h Q := sorry
theorem op_told {l : Launch} {D : qD} {d : Nat} {gi what i : Int} : OP0 l D (d + 3) m_DH_told m_Mo_told [.inl gi, .inl what, .inl i] := sorry
end
section
/-! ===== operations on a drawing: judge ===== -/
/-- an operation that makes nothing and answers a long -/
def OP1 (l : Launch) (D : qD) (dd : Nat) (mc mt : qm) (as : List qv) : Prop := ∀ h : qh, REL h.1.1 h.2 → qM l D (dd, 0, 0) mc (.inr (.inr 0) :: as) h (fun r h1 => h1.1 = h.1 ∧ (∃ x : Int, r = some (.inr (.inl x))) ∧ qM l D (dd, 0, 0) mt (.inr (.inr 280) :: as) h1 (fun r' h2 => r' = r ∧ h2.1 = h1.1 ∧ REL h2.1.1 h2.2))
abbrev tkP : List (Int × Int) := [(280, 5), (280, 139)]
theorem tkD_fw {v : Int → Int → Int} {gi : Int} : FW [] tkP v (tkD v gi) := sorry
theorem gcl.fr {nc g : Int} (h : gcl nc g) : g + 11 < 187 ∨ 399 ≤ g := sorry
/-- the twin's side of a drawing, behind take; what the component did ahead of it touches none of it -/
theorem JT_of {v v1 : Int → Int → Int} {gi r k : Int} {Ro X Y bm BX BY : Int → Int} (hT : TW v1) (e283 : v1 283 gi = k) (er : r = 539 * (31 * gi + k)) (tr : TRw v r Ro) (ok : GOK Ro)
    (dt : (∀ i, blw (Ro 0).toNat i → v 317 (24 * gi + i) = X i ∧ v 318 (24 * gi + i) = Y i) ∧ ∀ e, blw (Ro 1).toNat e → v 319 (48 * gi + e) = bm e ∧ ∀ k : Int, 0 ≤ k → k < bm e → v 320 (24 * (48 * gi + e) + k) = BX (24 * e + k) ∧ v 321 (24 * (48 * gi + e) + k) = BY (24 * e + k))
    (e : ∀ c : Int, (c = 282 ∨ (317 ≤ c ∧ c ≤ 321)) → v1 c = v c) : JT (tkD v1 gi) r gi (Ro 0).toNat (Ro 1).toNat (fun e => Ro (267 + e)) (fun e => Ro (315 + e)) (fun e => Ro (363 + e)) X Y bm BX BY := sorry
theorem op_judge {l : Launch} {D : qD} {d : Nat} {gi c : Int} : OP1 l D (d + 7) m_DH_judge m_Mo_judge [.inl gi, .inl c] := sorry
end
section
/-! ===== operations on a drawing: dots ===== -/
theorem op_dots {l : Launch} {D : qD} {d : Nat} {gi wd hh : Int} : OP0 l D (d + 5) m_DH_dots m_Mo_dots [.inl gi, .inl wd, .inl hh] := sorry
end
section
/-! ===== printed by gen/p_fault.py: the operation fault ===== -/
def s_or (A B : qK) : qK := fun ls st h => A ls st h ∨ B ls st h
theorem ok_or {A B T : qK} (a : qI A T) (b : qI B T) : qI (s_or A B) T := sorry
theorem ff_DH_214_4 : q_gF "DrawingHouse" 214 4 8 0 := sorry
theorem ff_DH_214_6 : q_gF "DrawingHouse" 214 6 17 0 := sorry
theorem ff_DH_219_4 : q_gF "DrawingHouse" 219 4 9 0 := sorry
theorem ff_DH_219_6 : q_gF "DrawingHouse" 219 6 18 0 := sorry
theorem ff_DH_183 : q_gF "DrawingHouse" 183 0 5 0 := sorry
theorem ff_DH_187 : q_gF "DrawingHouse" 187 0 6 0 := sorry
def w_DH_fault_52 (l : Launch) (D : qD) (d0 : Nat) (B : Nat × Nat) (Q : qQ) : qK := (s_iret Q)
theorem DH_fault_52 {l : Launch} {D : qD} {d0 : Nat} {B : Nat × Nat} {Q : qQ} : qI (w_DH_fault_52 l D d0 B Q) (qR l D (d0 + 1, B) m_DH_fault 52 Q) := sorry
def w_DH_fault_48 (l : Launch) (D : qD) (d0 : Nat) (B : Nat × Nat) (Q : qQ) : qK := (s_aload 2 (s_or (s_getI 4 9 (w_DH_fault_52 l D d0 B Q)) (s_getI 6 18 (w_DH_fault_52 l D d0 B Q))))
theorem DH_fault_48 {l : Launch} {D : qD} {d0 : Nat} {B : Nat × Nat} {Q : qQ} : qI (w_DH_fault_48 l D d0 B Q) (qR l D (d0 + 1, B) m_DH_fault 48 Q) := sorry
def w_DH_fault_41 (l : Launch) (D : qD) (d0 : Nat) (B : Nat × Nat) (Q : qQ) : qK := (s_aload 2 (s_or (s_getI 4 8 (w_DH_fault_52 l D d0 B Q)) (s_getI 6 17 (w_DH_fault_52 l D d0 B Q))))
theorem DH_fault_41 {l : Launch} {D : qD} {d0 : Nat} {B : Nat × Nat} {Q : qQ} : qI (w_DH_fault_41 l D d0 B Q) (qR l D (d0 + 1, B) m_DH_fault 41 Q) := sorry
def w_DH_fault_36 (l : Launch) (D : qD) (d0 : Nat) (B : Nat × Nat) (Q : qQ) : qK := (s_astore 2 (s_iload 1 (s_if_ne (w_DH_fault_48 l D d0 B Q) (w_DH_fault_41 l D d0 B Q))))
theorem DH_fault_36 {l : Launch} {D : qD} {d0 : Nat} {B : Nat × Nat} {Q : qQ} : qI (w_DH_fault_36 l D d0 B Q) (qR l D (d0 + 1, B) m_DH_fault 36 Q) := sorry
def w_DH_fault_32 (l : Launch) (D : qD) (d0 : Nat) (B : Nat × Nat) (Q : qQ) : qK := (s_aload 0 (s_getR 0 3 (w_DH_fault_36 l D d0 B Q)))
theorem DH_fault_32 {l : Launch} {D : qD} {d0 : Nat} {B : Nat × Nat} {Q : qQ} : qI (w_DH_fault_32 l D d0 B Q) (qR l D (d0 + 1, B) m_DH_fault 32 Q) := sorry
def w_DH_fault_18 (l : Launch) (D : qD) (d0 : Nat) (B : Nat × Nat) (Q : qQ) : qK := (s_aload 0 (s_getI 0 6 (s_if_eq (w_DH_fault_32 l D d0 B Q) (s_aload 0 (s_getR 0 4 (w_DH_fault_36 l D d0 B Q))))))
theorem DH_fault_18 {l : Launch} {D : qD} {d0 : Nat} {B : Nat × Nat} {Q : qQ} : qI (w_DH_fault_18 l D d0 B Q) (qR l D (d0 + 1, B) m_DH_fault 18 Q) := sorry
def w_DH_fault_16 (l : Launch) (D : qD) (d0 : Nat) (B : Nat × Nat) (Q : qQ) : qK := (s_ic (-1) (s_iret Q))
theorem DH_fault_16 {l : Launch} {D : qD} {d0 : Nat} {B : Nat × Nat} {Q : qQ} : qI (w_DH_fault_16 l D d0 B Q) (qR l D (d0 + 1, B) m_DH_fault 16 Q) := sorry
def w_DH_fault_0 (l : Launch) (D : qD) (d0 : Nat) (B : Nat × Nat) (Q : qQ) : qK := (s_aload 0 (s_getI 0 5 (s_if_eq (w_DH_fault_16 l D d0 B Q) (s_iload 1 (s_if_eq (w_DH_fault_18 l D d0 B Q) (s_iload 1 (s_ic (1) (s_icmp_eq (w_DH_fault_18 l D d0 B Q) (w_DH_fault_16 l D d0 B Q)))))))))
theorem DH_fault_0 {l : Launch} {D : qD} {d0 : Nat} {B : Nat × Nat} {Q : qQ} : qI (w_DH_fault_0 l D d0 B Q) (qR l D (d0 + 1, B) m_DH_fault 0 Q) := sorry
set_option maxRecDepth 100000 in
theorem sp_DH_fault {l : Launch} {D : qD} {d : Nat} {what : Int} {h : qh} {Q : qQ} (hw : HW h.2) (s0 : (h.2 0 5 = 0 ∨ ¬ (what = 0 ∨ what = 1)) → Q (some (.inl (-1))) h) (s1 : h.2 0 5 ≠ 0 → what = 0 → h.2 0 6 = 0 → Q (some (.inl (h.2 111 8))) h) (s2 : h.2 0 5 ≠ 0 → what = 1 → h.2 0 6 = 0 → Q (some (.inl (h.2 111 9))) h)
    (s3 : h.2 0 5 ≠ 0 → what = 0 → h.2 0 6 ≠ 0 → Q (some (.inl (h.2 126 17))) h) (s4 : h.2 0 5 ≠ 0 → what = 1 → h.2 0 6 ≠ 0 → Q (some (.inl (h.2 126 18))) h) : qM l D (d + 1, 0, 0) m_DH_fault [.inr (.inr 0), .inl what] h Q := sorry
theorem op_fault {l : Launch} {D : qD} {d : Nat} {what : Int} : OP0 l D (d + 2) m_DH_fault m_Mo_fault [.inl what] := sorry
end
section
/-! ===== the operation same ===== -/
set_option maxRecDepth 100000 in
theorem sp_DH_same {l : Launch} {D : qD} {d : Nat} {nc gi gj : Int} {RA RB : Int → Int} {h : qh} {Q : qQ} (R : REL nc h.2) (gA : (0 ≤ gi ∧ gi < 4) → GRO h.2 gi RA) (gB : (0 ≤ gj ∧ gj < 4) → GRO h.2 gj RB)
    (hq0 : ¬ ((0 ≤ gi ∧ gi < 4) ∧ 0 ≤ gj ∧ gj < 4) → Q (some (.inl (-1))) h)
    (hqn : (0 ≤ gi ∧ gi < 4) → (0 ≤ gj ∧ gj < 4) → ((RA 0).toNat ≠ (RB 0).toNat ∨ (RA 1).toNat ≠ (RB 1).toNat) → ∀ v, FW [] [(145, 2), (145, 4)] h.2 v → v 145 2 = 0 → Q (some (.inl 0)) (h.1, v))
    (hqy : (0 ≤ gi ∧ gi < 4) → (0 ≤ gj ∧ gj < 4) → (RA 0).toNat = (RB 0).toNat → (RA 1).toNat = (RB 1).toNat → ∀ (r stF : Int) (mpF dg dg' : Int → Int) (J J' : Int → Int → Int) (f : Nat), JCD (fun e => RA (267 + e)) (fun e => RA (315 + e)) (fun e => RA (411 + e)) (RA 1).toNat J → JCD (fun e => RB (267 + e)) (fun e => RB (315 + e)) (fun e => RB (411 + e)) (RB 1).toNat J' → (∀ i, blw (RA 0).toNat i → dg i = dgn (fun e => RA (267 + e)) (fun e => RA (315 + e)) i (RA 1).toNat) → (∀ i, blw (RB 0).toNat i → dg' i = dgn (fun e => RB (267 + e)) (fun e => RB (315 + e)) i (RB 1).toNat) → srch (ftC dg dg' J J') (RA 0).toNat f 0 (fun _ => -1) 0 = some (r, mpF, stF) → ∀ v, FW [146, 147, 148, 149, 150, 151] liP h.2 v → v 145 2 = stF → ((r = 1 ∧ v 145 3 = ((RA 0).toNat : Int) ∧ ∀ x, blw (RA 0).toNat x → v 147 x = mpF x) ∨ (r ≠ 1 ∧ v 145 3 = h.2 145 3 ∧ v 147 = h.2 147)) → Q (some (.inl r)) (h.1, v)) :
    qM l D (d + 4, 0, 0) m_DH_same [.inr (.inr 0), .inl gi, .inl gj] h Q := sorry
set_option maxRecDepth 100000 in
theorem sp_Mo_same {l : Launch} {D : qD} {d n m n2 m2 : Nat} {gi gj kA kB rA rB : Int} {h : qh} {Q : qQ} (hT : TW h.2) (hA : (0 ≤ gi ∧ gi < 4) → (0 ≤ gj ∧ gj < 4) → ((h.2 283 gi = kA ∧ h.2 283 gj = kB) ∧ ((0 ≤ kA ∧ kA < 31) ∧ 0 ≤ kB ∧ kB < 31) ∧ rA = 539 * (31 * gi + kA) ∧ rB = 539 * (31 * gj + kB)) ∧ (n ≤ 24 ∧ m ≤ 48 ∧ m2 ≤ 48) ∧ (h.2 282 rA = n ∧ h.2 282 (rA + 1) = m) ∧ h.2 282 rB = n2 ∧ h.2 282 (rB + 1) = m2)
    (hq0 : ¬ ((0 ≤ gi ∧ gi < 4) ∧ 0 ≤ gj ∧ gj < 4) → Q (some (.inl (-1))) h)
    (hqn : (0 ≤ gi ∧ gi < 4) → (0 ≤ gj ∧ gj < 4) → (n ≠ n2 ∨ m ≠ m2) → ∀ v, FW [] smP h.2 v → v 280 27 = 0 → v 280 30 = 1 → v 280 25 = h.2 280 25 → v 280 26 = h.2 280 26 → Q (some (.inl 0)) (h.1, v))
    (hqy : (0 ≤ gi ∧ gi < 4) → (0 ≤ gj ∧ gj < 4) → n = n2 → m = m2 → ∀ (r stF : Int) (mpF : Int → Int) (f : Nat), srch (ftT h.2 rA rB) n f 0 (fun _ => -1) 0 = some (r, mpF, stF) → ∀ v, FW [293, 294] smP h.2 v → v 280 27 = stF → v 280 30 = 1 → ((r = 1 ∧ v 280 25 = 1 ∧ v 280 26 = n ∧ ∀ x, blw n x → v 293 x = mpF x) ∨ (r ≠ 1 ∧ v 280 25 = h.2 280 25 ∧ v 280 26 = h.2 280 26 ∧ v 293 = h.2 293)) → Q (some (.inl r)) (h.1, v)) :
    qM l D (d + 3, 0, 0) m_Mo_same [.inr (.inr 280), .inl gi, .inl gj] h Q := sorry
theorem TRw.gr {v : Int → Int → Int} {r : Int} {R : Int → Int} (h : TRw v r R) (ok : GOK R) : (v 282 r = ((R 0).toNat : Int) ∧ v 282 (r + 1) = ((R 1).toNat : Int)) ∧ TGR v r (R 1).toNat (fun e => R (267 + e)) (fun e => R (315 + e)) (fun e => R (411 + e)) := sorry
/-- what is left: the likeness -/
theorem REL.lk {nc : Int} {v v' : Int → Int → Int} (R : REL nc v) (kk : FW [146, 147, 148, 149, 150, 151, 293, 294] (liP ++ smP) v v') (lk : LKS v') : REL nc v' := sorry
theorem op_same {l : Launch} {D : qD} {d : Nat} {gi gj : Int} : OP0 l D (d + 4) m_DH_same m_Mo_same [.inl gi, .inl gj] := sorry
end
section
/-! ===== a drawing changes: what the rest keeps ===== -/
theorem RWK_in {W H goal : Int} {op : Int → Prop} {c : Int → Int} (W0 : 0 < W) : ∀ {s : Nat} {p L D : Int} {T : List Int}, (0 ≤ p ∧ p < W * H) → RWK W H op c goal s p L D T → ∀ q ∈ T, 0 ≤ q ∧ q < W * H := sorry
abbrev drC (gi : Int) : List Int := [6 + 27 * gi, 7 + 27 * gi, 8 + 27 * gi, 9 + 27 * gi, 10 + 27 * gi, 268, 269, 270, 271, 317, 318, 319, 320, 321, 381, 382, 383, 384, 385, 386]
abbrev drP : List (Int × Int) := [(267, 2), (267, 3), (267, 4), (267, 5), (267, 8), (280, 5), (280, 139), (280, 144), (280, 145), (280, 146), (280, 147)]
/-- the twin's rows of a place are as they were -/
def TWK (v v' : Int → Int → Int) (gj : Int) : Prop := (∀ i : Int, 0 ≤ i → i < 24 → v' 317 (24 * gj + i) = v 317 (24 * gj + i) ∧ v' 318 (24 * gj + i) = v 318 (24 * gj + i)) ∧ ∀ e : Int, 0 ≤ e → e < 48 → v' 319 (48 * gj + e) = v 319 (48 * gj + e) ∧ ∀ k : Int, 0 ≤ k → k < 24 → v' 320 (24 * (48 * gj + e) + k) = v 320 (24 * (48 * gj + e) + k) ∧ v' 321 (24 * (48 * gj + e) + k) = v 321 (24 * (48 * gj + e) + k)
theorem DRN.c3 {v v' : Int → Int → Int} {gj q : Int} {n m : Nat} (h : DRN v gj n m q) (n24 : n ≤ 24) (m48 : m ≤ 48) (e0 : v' (drO gj) = v (drO gj)) (e1 : ∀ j : Int, 1 ≤ j → j ≤ 10 → v' (drO gj + j) = v (drO gj + j)) (e2 : ∀ c : Int, (c = 316 ∨ (322 ≤ c ∧ c ≤ 327)) → v' c = v c) (tw : TWK v v' gj) : DRN v' gj n m q := sorry
theorem drC_m {gi a : Int} (h : a ≠ 6 + 27 * gi ∧ a ≠ 7 + 27 * gi ∧ a ≠ 8 + 27 * gi ∧ a ≠ 9 + 27 * gi ∧ a ≠ 10 + 27 * gi) (h1 : ¬ (268 ≤ a ∧ a ≤ 271)) (h2 : ¬ (317 ≤ a ∧ a ≤ 321)) (h3 : ¬ (381 ≤ a ∧ a ≤ 386)) : a ∉ drC gi := sorry
theorem drP_m {a j : Int} (h : a ≠ 267 ∧ a ≠ 280) : (a, j) ∉ drP := sorry
/-- a drawing of one place is another one -/
theorem REL.dw {nc gi : Int} {v v' : Int → Int → Int} (R : REL nc v) (hg : 0 ≤ gi ∧ gi < 4) (k : FW (drC gi) drP v v') (tw : ∀ gj : Int, (0 ≤ gj ∧ gj < 4) → gj ≠ gi → TWK v v' gj) (dw : DRW v' gi) : REL nc v' := sorry
end
section
/-! ===== the operation put ===== -/
theorem DRN.pt {v v' : Int → Int → Int} {gi q : Int} {n m : Nat} (h : DRN v gi n m q) (e0 : v' (drO gi) = v (drO gi)) (e1 : ∀ j : Int, 6 ≤ j → j ≤ 10 → v' (drO gi + j) = v (drO gi + j)) (e2 : ∀ c : Int, (c = 316 ∨ (322 ≤ c ∧ c ≤ 327)) → v' c = v c)
    (nb : ∀ i : Int, blw n i → (-1900000 ≤ v' (drO gi + 1) i ∧ v' (drO gi + 1) i ≤ 1900000) ∧ -1900000 ≤ v' (drO gi + 2) i ∧ v' (drO gi + 2) i ≤ 1900000)
    (pts : ∃ X Y bm BX BY, DV v' (drO gi) n m X Y bm BX BY ∧ ((∀ i, blw n i → v' 317 (24 * gi + i) = X i ∧ v' 318 (24 * gi + i) = Y i) ∧ ∀ e, blw m e → v' 319 (48 * gi + e) = bm e ∧ ∀ k : Int, 0 ≤ k → k < bm e → v' 320 (24 * (48 * gi + e) + k) = BX (24 * e + k) ∧ v' 321 (24 * (48 * gi + e) + k) = BY (24 * e + k)) ∧ DB n m X Y bm BX BY) : DRN v' gi n m q := sorry
theorem isIn_1 {a : Int} {v : Int → Int → Int} (h : -1000000 ≤ a ∧ a ≤ 1000000) : f_DH_isIn a v = 1 := sorry
theorem isIn_0 {a : Int} {v : Int → Int → Int} (h : ¬ (-1000000 ≤ a ∧ a ≤ 1000000)) : f_DH_isIn a v = 0 := sorry
/-- a point may be put -/
def ptO (n m : Int) (bm : Int → Int) (i k x y : Int) : Prop := (-1000000 ≤ x ∧ x ≤ 1000000) ∧ (-1000000 ≤ y ∧ y ≤ 1000000) ∧ ((k = -1 ∧ 0 ≤ i ∧ i < n) ∨ (k ≠ -1 ∧ (0 ≤ i ∧ i < m) ∧ 0 ≤ k ∧ k < bm i))
set_option maxRecDepth 100000 in
theorem sp_DH_put {l : Launch} {D : qD} {d : Nat} {nc gi i k x y : Int} {Ro X Y bm BX BY : Int → Int} {h : qh} {Q : qQ} (R : REL nc h.2) (gr : (0 ≤ gi ∧ gi < 4) → GRO h.2 gi Ro) (dv : isDr h.2 gi → DV h.2 (drO gi) (Ro 0).toNat (Ro 1).toNat X Y bm BX BY ∧ DB (Ro 0).toNat (Ro 1).toNat X Y bm BX BY)
    (hqn : isDr h.2 gi → ptO (Ro 0) (Ro 1) bm i k x y → k = -1 → Q (some (.inl 1)) (h.1, up2 (up2 h.2 (drO gi + 1) i x) (drO gi + 2) i y))
    (hqb : isDr h.2 gi → ptO (Ro 0) (Ro 1) bm i k x y → k ≠ -1 → Q (some (.inl 1)) (h.1, up2 (up2 h.2 (drO gi + 4) (24 * i + k) x) (drO gi + 5) (24 * i + k) y))
    (hq0 : ¬ (isDr h.2 gi ∧ ptO (Ro 0) (Ro 1) bm i k x y) → Q (some (.inl 0)) h) : qM l D (d + 3, 0, 0) m_DH_put [.inr (.inr 0), .inl gi, .inl i, .inl k, .inl x, .inl y] h Q := sorry
set_option maxRecDepth 100000 in
theorem sp_Mo_put {l : Launch} {D : qD} {d : Nat} {gi i k x y nw r : Int} {Ro bm : Int → Int} {h : qh} {Q : qQ} (hT : TW h.2) (hp : (0 ≤ gi ∧ gi < 4) → (h.2 283 gi = nw ∧ (0 ≤ nw ∧ nw < 31) ∧ r = 539 * (31 * gi + nw)) ∧ TRw h.2 r Ro ∧ GOK Ro) (hb : (0 ≤ gi ∧ gi < 4) → 0 ≤ h.2 316 gi → ∀ e, blw (Ro 1).toNat e → h.2 319 (48 * gi + e) = bm e ∧ 0 ≤ bm e ∧ bm e ≤ 24)
    (hqn : (0 ≤ gi ∧ gi < 4) → 0 ≤ h.2 316 gi → ptO (Ro 0) (Ro 1) bm i k x y → k = -1 → ∀ v, FW [] [(280, 5)] h.2 v → Q (some (.inl 1)) (h.1, up2 (up2 v 317 (24 * gi + i) x) 318 (24 * gi + i) y))
    (hqb : (0 ≤ gi ∧ gi < 4) → 0 ≤ h.2 316 gi → ptO (Ro 0) (Ro 1) bm i k x y → k ≠ -1 → ∀ v, FW [] [(280, 5)] h.2 v → Q (some (.inl 1)) (h.1, up2 (up2 v 320 (24 * (48 * gi + i) + k) x) 321 (24 * (48 * gi + i) + k) y))
    (hq0 : ¬ (((0 ≤ gi ∧ gi < 4) ∧ 0 ≤ h.2 316 gi) ∧ ptO (Ro 0) (Ro 1) bm i k x y) → ∀ v, FW [] [(280, 5)] h.2 v → Q (some (.inl 0)) (h.1, v)) : qM l D (d + 3, 0, 0) m_Mo_put [.inr (.inr 280), .inl gi, .inl i, .inl k, .inl x, .inl y] h Q := sorry
end
section
/-! ===== the operation put: both sides ===== -/
/-- points of a drawing are put elsewhere -/
theorem REL.dp {nc gi : Int} {v v' : Int → Int → Int} {Ro : Int → Int} (R : REL nc v) (hg : 0 ≤ gi ∧ gi < 4) (gr : GRO v gi Ro) (o1 : v (drO gi) 0 = 1) (dn : DRN v gi (Ro 0).toNat (Ro 1).toNat (Ro 2)) (k : FW (drC gi) drP v v') (tw : ∀ gj : Int, (0 ≤ gj ∧ gj < 4) → gj ≠ gi → TWK v v' gj)
    (nb : ∀ i : Int, blw (Ro 0).toNat i → (-1900000 ≤ v' (drO gi + 1) i ∧ v' (drO gi + 1) i ≤ 1900000) ∧ -1900000 ≤ v' (drO gi + 2) i ∧ v' (drO gi + 2) i ≤ 1900000)
    (pts : ∃ X Y bm BX BY, DV v' (drO gi) (Ro 0).toNat (Ro 1).toNat X Y bm BX BY ∧ ((∀ i, blw (Ro 0).toNat i → v' 317 (24 * gi + i) = X i ∧ v' 318 (24 * gi + i) = Y i) ∧ ∀ e, blw (Ro 1).toNat e → v' 319 (48 * gi + e) = bm e ∧ ∀ k : Int, 0 ≤ k → k < bm e → v' 320 (24 * (48 * gi + e) + k) = BX (24 * e + k) ∧ v' 321 (24 * (48 * gi + e) + k) = BY (24 * e + k)) ∧ DB (Ro 0).toNat (Ro 1).toNat X Y bm BX BY) : REL nc v' := sorry
theorem drC_n {gi a : Int} (h : a ∉ drC gi) : (a ≠ 6 + 27 * gi ∧ a ≠ 7 + 27 * gi ∧ a ≠ 8 + 27 * gi ∧ a ≠ 9 + 27 * gi ∧ a ≠ 10 + 27 * gi) ∧ ¬ (268 ≤ a ∧ a ≤ 271) ∧ ¬ (317 ≤ a ∧ a ≤ 321) ∧ ¬ (381 ≤ a ∧ a ≤ 386) := sorry
theorem op_put {l : Launch} {D : qD} {d : Nat} {gi i k x y : Int} : OP0 l D (d + 3) m_DH_put m_Mo_put [.inl gi, .inl i, .inl k, .inl x, .inl y] := sorry
end
section
/-! ===== the operation route ===== -/
abbrev rtC (o : Int) : List Int := [268, 269, 270, 271, o + 3, o + 4, o + 5]
abbrev rtP : List (Int × Int) := [(267, 2), (267, 3), (267, 4), (267, 5), (267, 8)]
abbrev rtT : List Int := [319, 320, 321, 381, 382, 383, 384, 385, 386]
abbrev rtQ : List (Int × Int) := [(280, 144), (280, 145), (280, 146), (280, 147)]
set_option maxRecDepth 100000 in
theorem sp_DH_route {l : Launch} {D : qD} {d : Nat} {nc gi e : Int} {Ro X Y bm BX BY : Int → Int} {h : qh} {Q : qQ} (R : REL nc h.2) (gr : (0 ≤ gi ∧ gi < 4) → GRO h.2 gi Ro) (dv : isDr h.2 gi → DV h.2 (drO gi) (Ro 0).toNat (Ro 1).toNat X Y bm BX BY ∧ ∀ i, blw (Ro 0).toNat i → (-1900000 ≤ X i ∧ X i ≤ 1900000) ∧ -1900000 ≤ Y i ∧ Y i ≤ 1900000)
    (hq0 : ¬ (isDr h.2 gi ∧ 0 ≤ e ∧ e < Ro 1) → Q (some (.inl (-1))) h)
    (hq1 : isDr h.2 gi → (0 ≤ e ∧ e < Ro 1) → ∀ z lf tp W T v, RTR (Ro 0).toNat X Y (fun i => Ro (195 + i)) (Ro (267 + e)) (Ro (315 + e)) z lf tp W T → FW (rtC (drO gi)) rtP h.2 v → (z ≠ 0 → v (drO gi + 3) = h.2 (drO gi + 3) ∧ v (drO gi + 4) = h.2 (drO gi + 4) ∧ v (drO gi + 5) = h.2 (drO gi + 5)) → (z = 0 → BND (drO gi) e (fun k => Int.tmod (li T k) W + lf) (fun k => Int.tdiv (li T k) W + tp) T.length h.2 v) → Q (some (.inl z)) (h.1, v)) :
    qM l D (d + 5, 0, 0) m_DH_route [.inr (.inr 0), .inl gi, .inl e] h Q := sorry
set_option maxRecDepth 100000 in
theorem sp_Mo_route {l : Launch} {D : qD} {d : Nat} {gi r e : Int} {Ro X Y nm : Int → Int} {h : qh} {Q : qQ} (hT : TW h.2) (kb : (0 ≤ gi ∧ gi < 4) → 0 ≤ h.2 283 gi ∧ h.2 283 gi < 31)
    (hp : (0 ≤ gi ∧ gi < 4) → 0 ≤ h.2 316 gi → (TG (tkD h.2 gi) r (Ro 0).toNat (Ro 1).toNat (fun e => Ro (267 + e)) (fun e => Ro (315 + e)) (fun e => Ro (363 + e)) ∧ TD (tkD h.2 gi) r gi (Ro 0).toNat nm X Y) ∧ GOK Ro ∧ ∀ i, blw (Ro 0).toNat i → (0 ≤ nm i ∧ nm i ≤ 100) ∧ (-1900000 ≤ X i ∧ X i ≤ 1900000) ∧ -1900000 ≤ Y i ∧ Y i ≤ 1900000)
    (hq0 : ¬ ((0 ≤ gi ∧ gi < 4) ∧ 0 ≤ h.2 316 gi) → Q (some (.inl (-1))) h) (hq2 : (0 ≤ gi ∧ gi < 4) → 0 ≤ h.2 316 gi → ¬ (0 ≤ e ∧ e < Ro 1) → Q (some (.inl (-1))) (h.1, tkD h.2 gi))
    (hq1 : (0 ≤ gi ∧ gi < 4) → 0 ≤ h.2 316 gi → (0 ≤ e ∧ e < Ro 1) → ∀ z lf tp W T v, RTR (Ro 0).toNat X Y nm (Ro (267 + e)) (Ro (315 + e)) z lf tp W T → FW rtT rtQ (tkD h.2 gi) v → (z ≠ 0 → v 319 = (tkD h.2 gi) 319 ∧ v 320 = (tkD h.2 gi) 320 ∧ v 321 = (tkD h.2 gi) 321) → (z = 0 → BNT (48 * gi + e) (fun k => Int.tmod (li T k) W + lf) (fun k => Int.tdiv (li T k) W + tp) T.length (tkD h.2 gi) v) → Q (some (.inl z)) (h.1, v)) :
    qM l D (d + 5, 0, 0) m_Mo_route [.inr (.inr 280), .inl gi, .inl e] h Q := sorry
end
section
/-! ===== the operation route: both sides ===== -/
theorem RTR_in {n : Nat} {X Y nm : Int → Int} {a b lf tp W : Int} {T : List Int} (ha : blw n a) (bd : ∀ i, blw n i → (0 ≤ nm i ∧ nm i ≤ 100) ∧ (-1900000 ≤ X i ∧ X i ≤ 1900000) ∧ -1900000 ≤ Y i ∧ Y i ≤ 1900000) (q : RTR n X Y nm a b 0 lf tp W T) : T.length ≤ 24 ∧ ∀ k : Int, 0 ≤ k → k < T.length → cBd (Int.tmod (li T k) W + lf) ∧ cBd (Int.tdiv (li T k) W + tp) := sorry
/-- what a route may have touched on both sides -/
def RTF (gi : Int) (v0 v v2 : Int → Int → Int) : Prop := FW (drC gi) drP v0 v2 ∧ (v2 (drO gi + 1) = v0 (drO gi + 1) ∧ v2 (drO gi + 2) = v0 (drO gi + 2) ∧ v2 (drO gi + 3) = v (drO gi + 3) ∧ v2 (drO gi + 4) = v (drO gi + 4) ∧ v2 (drO gi + 5) = v (drO gi + 5)) ∧ (v2 317 = v0 317 ∧ v2 318 = v0 318) ∧ tkD v gi 319 = v0 319 ∧ tkD v gi 320 = v0 320 ∧ tkD v gi 321 = v0 321
theorem rt_kk {gi : Int} {v0 v v2 : Int → Int → Int} (hg : 0 ≤ gi ∧ gi < 4) (kv : FW (rtC (drO gi)) rtP v0 v) (k2 : FW rtT rtQ (tkD v gi) v2) : RTF gi v0 v v2 := sorry
set_option maxRecDepth 100000 in
theorem REL.rt1 {lf tp W : Int} {T : List Int} {nc gi e : Int} {Ro X Y bm BX BY : Int → Int} {v0 v v2 : Int → Int → Int} (R : REL nc v0) (hg : 0 ≤ gi ∧ gi < 4) (gr : GRO v0 gi Ro) (o1 : v0 (drO gi) 0 = 1) (dn : DRN v0 gi (Ro 0).toNat (Ro 1).toNat (Ro 2)) (dv : DV v0 (drO gi) (Ro 0).toNat (Ro 1).toNat X Y bm BX BY) (dt : (∀ i, blw (Ro 0).toNat i → v0 317 (24 * gi + i) = X i ∧ v0 318 (24 * gi + i) = Y i) ∧ ∀ e, blw (Ro 1).toNat e → v0 319 (48 * gi + e) = bm e ∧ ∀ k : Int, 0 ≤ k → k < bm e → v0 320 (24 * (48 * gi + e) + k) = BX (24 * e + k) ∧ v0 321 (24 * (48 * gi + e) + k) = BY (24 * e + k)) (dB : DB (Ro 0).toNat (Ro 1).toNat X Y bm BX BY) (m48 : Ro 1 ≤ 48) (he : 0 ≤ e ∧ e < Ro 1) (rtf : RTF gi v0 v v2) (t24 : T.length ≤ 24) (tb : ∀ k : Int, 0 ≤ k → k < T.length → cBd (Int.tmod (li T k) W + lf) ∧ cBd (Int.tdiv (li T k) W + tp)) (kz : BND (drO gi) e (fun k => Int.tmod (li T k) W + lf) (fun k => Int.tdiv (li T k) W + tp) T.length v0 v) (kz2 : BNT (48 * gi + e) (fun k => Int.tmod (li T k) W + lf) (fun k => Int.tdiv (li T k) W + tp) T.length (tkD v gi) v2) : REL nc v2 := sorry
set_option maxRecDepth 100000 in
theorem REL.rt0 {nc gi e : Int} {Ro X Y bm BX BY : Int → Int} {v0 v v2 : Int → Int → Int} (R : REL nc v0) (hg : 0 ≤ gi ∧ gi < 4) (gr : GRO v0 gi Ro) (o1 : v0 (drO gi) 0 = 1) (dn : DRN v0 gi (Ro 0).toNat (Ro 1).toNat (Ro 2)) (dv : DV v0 (drO gi) (Ro 0).toNat (Ro 1).toNat X Y bm BX BY) (dt : (∀ i, blw (Ro 0).toNat i → v0 317 (24 * gi + i) = X i ∧ v0 318 (24 * gi + i) = Y i) ∧ ∀ e, blw (Ro 1).toNat e → v0 319 (48 * gi + e) = bm e ∧ ∀ k : Int, 0 ≤ k → k < bm e → v0 320 (24 * (48 * gi + e) + k) = BX (24 * e + k) ∧ v0 321 (24 * (48 * gi + e) + k) = BY (24 * e + k)) (dB : DB (Ro 0).toNat (Ro 1).toNat X Y bm BX BY) (m48 : Ro 1 ≤ 48) (he : 0 ≤ e ∧ e < Ro 1) (rtf : RTF gi v0 v v2) (kn : v (drO gi + 3) = v0 (drO gi + 3) ∧ v (drO gi + 4) = v0 (drO gi + 4) ∧ v (drO gi + 5) = v0 (drO gi + 5)) (kn2 : v2 319 = tkD v gi 319 ∧ v2 320 = tkD v gi 320 ∧ v2 321 = tkD v gi 321) : REL nc v2 := sorry
theorem op_route {l : Launch} {D : qD} {d : Nat} {gi e : Int} : OP0 l D (d + 5) m_DH_route m_Mo_route [.inl gi, .inl e] := sorry
end
section
/-! ===== the operation label ===== -/
set_option maxRecDepth 100000 in
theorem sp_DH_label {l : Launch} {D : qD} {d : Nat} {nc gi e wh : Int} {Ro X Y bm BX BY : Int → Int} {h : qh} {Q : qQ} (R : REL nc h.2) (gr : (0 ≤ gi ∧ gi < 4) → GRO h.2 gi Ro) (dv : isDr h.2 gi → DV h.2 (drO gi) (Ro 0).toNat (Ro 1).toNat X Y bm BX BY ∧ DB (Ro 0).toNat (Ro 1).toNat X Y bm BX BY)
    (hq0 : ¬ (isDr h.2 gi ∧ (0 ≤ e ∧ e < Ro 1) ∧ (wh = 0 ∨ wh = 1)) → Q (some (.inl (-2147483648))) h)
    (hq1 : isDr h.2 gi → (0 ≤ e ∧ e < Ro 1) → (wh = 0 ∨ wh = 1) → ∀ r v, FW [277, 278, 279] [] h.2 v → LBQ (Ro 0).toNat (fun e => Ro (267 + e)) (fun e => Ro (315 + e)) (fun e => Ro (363 + e)) (fun i => Ro (195 + i)) X Y bm BX BY e wh r → Q (some (.inl r)) (h.1, v)) :
    qM l D (d + 3, 0, 0) m_DH_label [.inr (.inr 0), .inl gi, .inl e, .inl wh] h Q := sorry
set_option maxRecDepth 100000 in
theorem sp_Mo_label {l : Launch} {D : qD} {d : Nat} {gi r e wh : Int} {Ro X Y bm BX BY : Int → Int} {h : qh} {Q : qQ} (hT : TW h.2) (kb : (0 ≤ gi ∧ gi < 4) → 0 ≤ h.2 283 gi ∧ h.2 283 gi < 31)
    (hp : (0 ≤ gi ∧ gi < 4) → 0 ≤ h.2 316 gi → JT (tkD h.2 gi) r gi (Ro 0).toNat (Ro 1).toNat (fun e => Ro (267 + e)) (fun e => Ro (315 + e)) (fun e => Ro (363 + e)) X Y bm BX BY ∧ TNM (tkD h.2 gi) r (Ro 0).toNat (fun i => Ro (195 + i)) ∧ GOK Ro ∧ DB (Ro 0).toNat (Ro 1).toNat X Y bm BX BY)
    (hq0 : ¬ ((0 ≤ gi ∧ gi < 4) ∧ 0 ≤ h.2 316 gi) → Q (some (.inl (-2147483648))) h) (hq2 : (0 ≤ gi ∧ gi < 4) → 0 ≤ h.2 316 gi → ¬ ((0 ≤ e ∧ e < Ro 1) ∧ (wh = 0 ∨ wh = 1) ∧ 1 < Ro (363 + e)) → Q (some (.inl (-2147483648))) (h.1, tkD h.2 gi))
    (hq1 : (0 ≤ gi ∧ gi < 4) → 0 ≤ h.2 316 gi → (0 ≤ e ∧ e < Ro 1) → (wh = 0 ∨ wh = 1) → ∀ s v, FW [387, 388] lPt (tkD h.2 gi) v → LBQ (Ro 0).toNat (fun e => Ro (267 + e)) (fun e => Ro (315 + e)) (fun e => Ro (363 + e)) (fun i => Ro (195 + i)) X Y bm BX BY e wh s → Q (some (.inl s)) (h.1, v)) :
    qM l D (d + 5, 0, 0) m_Mo_label [.inr (.inr 280), .inl gi, .inl e, .inl wh] h Q := sorry
theorem LBQ_le {n : Nat} {t hd w nm X Y bm BX BY : Int → Int} {e wh r : Int} (a : LBQ n t hd w nm X Y bm BX BY e wh r) (h : w e ≤ 1) : r = -2147483648 := sorry
theorem op_label {l : Launch} {D : qD} {d : Nat} {gi e wh : Int} : OP0 l D (d + 5) m_DH_label m_Mo_label [.inl gi, .inl e, .inl wh] := sorry
end
section
/-! ===== the operation text ===== -/
theorem GOK.tx {R : Int → Int} (ok : GOK R) : TXB (R 0).toNat (R 1).toNat (R 2) (fun i => R (195 + i)) (fun x => R (3 + x)) (fun i => R (219 + i)) (fun i => R (243 + i)) (fun e => R (411 + e)) (fun k => R (531 + k)) (fun k => R (523 + k)) (fun x => R (459 + x)) := sorry
theorem CR.tx {v : Int → Int → Int} {g : Int} {R : Int → Int} (h : CR v g R) : TXC v g (R 0).toNat (R 1).toNat (R 2) (fun i => R (195 + i)) (fun x => R (3 + x)) (fun i => R (219 + i)) (fun i => R (243 + i)) (fun e => R (411 + e)) (fun k => R (531 + k)) (fun k => R (523 + k)) (fun x => R (459 + x)) := sorry
theorem TRw.tx {v : Int → Int → Int} {r : Int} {R : Int → Int} (h : TRw v r R) (ok : GOK R) : TXT v r (R 0).toNat (R 1).toNat (R 2) (fun i => R (195 + i)) (fun x => R (3 + x)) (fun i => R (219 + i)) (fun i => R (243 + i)) (fun e => R (411 + e)) (fun k => R (531 + k)) (fun k => R (523 + k)) (fun x => R (459 + x)) := sorry
/-- what is written -/
def wrL (R X Y bm BX BY : Int → Int) (wh : Int) : List Int := if wh = 0 then grT (R 0).toNat (R 1).toNat (R 2) (fun e => R (267 + e)) (fun e => R (315 + e)) (fun e => R (363 + e)) (fun i => R (195 + i)) (fun x => R (3 + x)) (fun i => R (219 + i)) (fun i => R (243 + i)) (fun e => R (411 + e)) (fun k => R (531 + k)) (fun k => R (523 + k)) (fun x => R (459 + x)) else drT (R 0).toNat (R 1).toNat (fun e => R (267 + e)) (fun e => R (315 + e)) (fun i => R (195 + i)) (fun x => R (3 + x)) X Y bm BX BY
set_option maxRecDepth 100000 in
theorem DH_tx_31 {l : Launch} {D : qD} {d : Nat} {nc gi wh : Int} {Ro X Y bm BX BY : Int → Int} {h : qh} {Q : qQ} (R : REL nc h.2) (hg : 0 ≤ gi ∧ gi < 4) (gr : GRO h.2 gi Ro) (dv : wh ≠ 0 → isDr h.2 gi ∧ DV h.2 (drO gi) (Ro 0).toNat (Ro 1).toNat X Y bm BX BY ∧ DB (Ro 0).toNat (Ro 1).toNat X Y bm BX BY)
    (hq1 : (wrL Ro X Y bm BX BY wh).length ≤ 4000 → ∀ v, FW [274, 275] [(0, 28), (0, 29)] h.2 v → v 0 28 = (wrL Ro X Y bm BX BY wh).length → (∀ (j : Nat) (c : Int), (wrL Ro X Y bm BX BY wh)[j]? = some c → v 274 j = c) → Q (some (.inl (wrL Ro X Y bm BX BY wh).length)) (h.1, v))
    (hq2 : 4000 < (wrL Ro X Y bm BX BY wh).length → ∀ v, FW [274, 275] [(0, 28), (0, 29)] h.2 v → v 0 28 = h.2 0 28 → v 274 = h.2 274 → Q (some (.inl (-1))) (h.1, v)) :
    w_DH_text_31 l D (d + 16) (0, 0) (fun r h' => Q r ((h'.1.1, h.1.2.1, h.1.2.2), h'.2)) [some (.inr (.inr (0))), some (.inl (gi)), some (.inl (wh))] [] ((h.1.1, 0, 0), h.2) := sorry
set_option maxRecDepth 100000 in
theorem sp_DH_text {l : Launch} {D : qD} {d : Nat} {nc gi wh : Int} {Ro X Y bm BX BY : Int → Int} {h : qh} {Q : qQ} (R : REL nc h.2) (gr : (0 ≤ gi ∧ gi < 4) → GRO h.2 gi Ro) (dv : isDr h.2 gi → DV h.2 (drO gi) (Ro 0).toNat (Ro 1).toNat X Y bm BX BY ∧ DB (Ro 0).toNat (Ro 1).toNat X Y bm BX BY)
    (hq0 : ¬ ((0 ≤ gi ∧ gi < 4) ∧ (wh = 0 ∨ (wh = 1 ∧ isDr h.2 gi))) → Q (some (.inl (-1))) h)
    (hq1 : (0 ≤ gi ∧ gi < 4) → (wh = 0 ∨ (wh = 1 ∧ isDr h.2 gi)) → (wrL Ro X Y bm BX BY wh).length ≤ 4000 → ∀ v, FW [274, 275] [(0, 28), (0, 29)] h.2 v → v 0 28 = (wrL Ro X Y bm BX BY wh).length → (∀ (j : Nat) (c : Int), (wrL Ro X Y bm BX BY wh)[j]? = some c → v 274 j = c) → Q (some (.inl (wrL Ro X Y bm BX BY wh).length)) (h.1, v))
    (hq2 : (0 ≤ gi ∧ gi < 4) → (wh = 0 ∨ (wh = 1 ∧ isDr h.2 gi)) → 4000 < (wrL Ro X Y bm BX BY wh).length → ∀ v, FW [274, 275] [(0, 28), (0, 29)] h.2 v → v 0 28 = h.2 0 28 → v 274 = h.2 274 → Q (some (.inl (-1))) (h.1, v)) :
    qM l D (d + 17, 0, 0) m_DH_text [.inr (.inr 0), .inl gi, .inl wh] h Q := sorry
end
section
/-! ===== the operation text: the twin, both sides ===== -/
set_option maxRecDepth 100000 in
theorem Mo_tx_31 {l : Launch} {D : qD} {d : Nat} {gi wh nw r : Int} {Ro X Y bm BX BY : Int → Int} {w : Int → Int → Int} {h : qh} {Q : qQ} (hT : TW w) (hg : 0 ≤ gi ∧ gi < 4) (e83 : w 283 gi = nw) (kb : 0 ≤ nw ∧ nw < 31) (er : r = 539 * (31 * gi + nw)) (tr : TRw w r Ro) (ok : GOK Ro) (dB : wh ≠ 0 → DB (Ro 0).toNat (Ro 1).toNat X Y bm BX BY)
    (dt : wh ≠ 0 → w 280 139 = gi ∧ (∀ i, blw (Ro 0).toNat i → w 317 (24 * gi + i) = X i ∧ w 318 (24 * gi + i) = Y i) ∧ ∀ e, blw (Ro 1).toNat e → w 319 (48 * gi + e) = bm e ∧ ∀ k : Int, 0 ≤ k → k < bm e → w 320 (24 * (48 * gi + e) + k) = BX (24 * e + k) ∧ w 321 (24 * (48 * gi + e) + k) = BY (24 * e + k))
    (hq1 : (wrL Ro X Y bm BX BY wh).length ≤ 4000 → ∀ v, FW [396, 397] [(280, 5), (280, 169), (280, 170)] w v → v 280 169 = (wrL Ro X Y bm BX BY wh).length → (∀ (j : Nat) (c : Int), (wrL Ro X Y bm BX BY wh)[j]? = some c → v 396 j = c) → Q (some (.inl (wrL Ro X Y bm BX BY wh).length)) (h.1, v))
    (hq2 : 4000 < (wrL Ro X Y bm BX BY wh).length → ∀ v, FW [397] [(280, 5), (280, 170)] w v → Q (some (.inl (-1))) (h.1, v)) :
    w_Mo_text_31 l D (d + 16) (0, 0) (fun r h' => Q r ((h'.1.1, h.1.2.1, h.1.2.2), h'.2)) [some (.inr (.inr (280))), some (.inl (gi)), some (.inl (wh)), none] [] ((h.1.1, 0, 0), w) := sorry
set_option maxRecDepth 100000 in
theorem sp_Mo_text {l : Launch} {D : qD} {d : Nat} {gi wh nw r : Int} {Ro X Y bm BX BY : Int → Int} {h : qh} {Q : qQ} (hT : TW h.2) (hp : (0 ≤ gi ∧ gi < 4) → (h.2 283 gi = nw ∧ (0 ≤ nw ∧ nw < 31) ∧ r = 539 * (31 * gi + nw)) ∧ TRw h.2 r Ro ∧ GOK Ro)
    (dt : (0 ≤ gi ∧ gi < 4) → 0 ≤ h.2 316 gi → DB (Ro 0).toNat (Ro 1).toNat X Y bm BX BY ∧ (∀ i, blw (Ro 0).toNat i → h.2 317 (24 * gi + i) = X i ∧ h.2 318 (24 * gi + i) = Y i) ∧ ∀ e, blw (Ro 1).toNat e → h.2 319 (48 * gi + e) = bm e ∧ ∀ k : Int, 0 ≤ k → k < bm e → h.2 320 (24 * (48 * gi + e) + k) = BX (24 * e + k) ∧ h.2 321 (24 * (48 * gi + e) + k) = BY (24 * e + k))
    (hq0 : ¬ ((0 ≤ gi ∧ gi < 4) ∧ (wh = 0 ∨ (wh = 1 ∧ 0 ≤ h.2 316 gi))) → Q (some (.inl (-1))) h)
    (hq1 : (0 ≤ gi ∧ gi < 4) → (wh = 0 ∨ (wh = 1 ∧ 0 ≤ h.2 316 gi)) → (wrL Ro X Y bm BX BY wh).length ≤ 4000 → ∀ v, FW [396, 397] [(280, 5), (280, 139), (280, 169), (280, 170)] h.2 v → v 280 169 = (wrL Ro X Y bm BX BY wh).length → (∀ (j : Nat) (c : Int), (wrL Ro X Y bm BX BY wh)[j]? = some c → v 396 j = c) → Q (some (.inl (wrL Ro X Y bm BX BY wh).length)) (h.1, v))
    (hq2 : (0 ≤ gi ∧ gi < 4) → (wh = 0 ∨ (wh = 1 ∧ 0 ≤ h.2 316 gi)) → 4000 < (wrL Ro X Y bm BX BY wh).length → ∀ v, FW [397] [(280, 5), (280, 139), (280, 170)] h.2 v → Q (some (.inl (-1))) (h.1, v)) :
    qM l D (d + 17, 0, 0) m_Mo_text [.inr (.inr 280), .inl gi, .inl wh] h Q := sorry
/-- what is left: what is written -/
theorem REL.wr {nc : Int} {v v' : Int → Int → Int} (R : REL nc v) (kk : FW [274, 275, 396, 397] [(0, 28), (0, 29), (280, 5), (280, 139), (280, 169), (280, 170)] v v') (wr : WRT v') : REL nc v' := sorry
theorem op_text {l : Launch} {D : qD} {d : Nat} {gi wh : Int} : OP0 l D (d + 17) m_DH_text m_Mo_text [.inl gi, .inl wh] := sorry
end
section
/-! ===== planar: plain rows; the component's final fields behind a plan ===== -/
theorem OUT_cg {T H T' H' : Int → Int} {N m : Nat} (q : agr T H T' H' (blw m)) : OUT T' H' N m ↔ OUT T H N m := sorry
theorem bS_cg {t h t' h' : Int → Int} {m : Nat} (q : agr t h t' h' (blw m)) : ∀ j : Nat, bS t' h' m j = bS t h m j := sorry
theorem BAR_cg {t h t' h' : Int → Int} {N m : Nat} {many kind : Int} {row : Int → Int} (q : agr t h t' h' (blw m)) (b : BAR t' h' N m many kind row) : BAR t h N m many kind row := sorry
/-- the one that has so many ahead of it -/
theorem cnt_ix {P : Int → Prop} : ∀ {m : Nat} {i : Nat}, i < cnt P m → ∃ e : Int, blw m e ∧ P e ∧ cnt P e.toNat = i := sorry
theorem BAR_un {t h : Int → Int} {N m : Nat} {many kind many' kind' : Int} {row row' : Int → Int} (a : BAR t h N m many kind row) (b : BAR t h N m many' kind' row') : (many = many' ∧ kind = kind') ∧ ∀ i : Int, 0 ≤ i → i < many → row i = row' i := sorry
def hwP : List (Int × Int × Int) := [(152, 0, 153), (152, 1, 154), (152, 4, 155), (152, 6, 156), (152, 9, 157), (152, 10, 158), (152, 11, 159), (152, 12, 160), (152, 13, 161), (152, 15, 162), (152, 16, 163), (152, 18, 164), (152, 19, 165), (166, 3, 167), (166, 4, 168), (166, 5, 169), (166, 6, 170), (166, 7, 171), (166, 8, 172), (166, 9, 173), (166, 10, 174), (175, 3, 176), (175, 4, 177), (175, 5, 178), (175, 6, 179), (175, 7, 180), (175, 8, 181), (175, 9, 182), (175, 10, 183), (175, 11, 184), (175, 12, 185), (175, 13, 186), (187, 0, 188), (187, 1, 189), (187, 2, 190), (187, 3, 191), (187, 4, 192), (187, 5, 193), (187, 9, 194), (187, 10, 195), (187, 11, 196)]
theorem HW.kp {v v' : Int → Int → Int} (h : HW v) (k : KP v v') : HW v' := sorry
end
section
/-! ===== planar: the component's plan ===== -/
set_option maxRecDepth 100000 in
theorem sp_DH_shape2 {l : Launch} {D : qD} {d : Nat} {nc gi g k : Int} {Ro : Int → Int} {h : qh} {Q : qQ} (hw : HW h.2) (hg : 0 ≤ gi ∧ gi < 4) (e1 : h.2 (pcO gi) 1 = k) (kb : 0 ≤ k ∧ k < 31) (eg : h.2 (psO gi) k = g) (en : gNow h.2 gi = g) (gc : gcl nc g) (cr : CR h.2 g Ro) (ok : GOK Ro) (sk : SHK h.2) (hq : ∀ v, FW shpC shpP h.2 v → v 0 8 = gi → shok v 135 g → Q (some (.inr (.inr 135))) (h.1, v)) : qM l D (d + 29, 0, 0) m_DH_shape [.inr (.inr 0), .inl gi] h Q := sorry
abbrev plnC : List Int := shpC ++ CPL
abbrev plnP : List (Int × Int) := shpP ++ [(0, 12), (0, 13), (0, 17), (0, 18)]
theorem HW.ef {v : Int → Int → Int} (h : HW v) : EF v := sorry
theorem HW.wf {v : Int → Int → Int} (h : HW v) : WF v := sorry
theorem HW.ga {v : Int → Int → Int} (h : HW v) : GA v 175 := sorry
theorem HW.s2 {v : Int → Int → Int} (h : HW v) : SA v 187 := sorry
/-- all holds again behind a plan -/
theorem REL.pln {nc gi g : Int} {v v3 v' : Int → Int → Int} (R : REL nc v) (hg : 0 ≤ gi ∧ gi < 4) (eg : gNow v gi = g) (gc : gcl nc g) (hw : HW v3) (k : KP v3 v') (kk : FW plnC plnP v v') (e8 : v' 0 8 = gi) (e12 : v' 0 12 = gi) (so : shok v' 135 g)
    (wb : (v' 0 13 = 1 ∧ PL (v' (g + 6)) (v' (g + 7)) (blw (v' g 1).toNat) ∧ WEB v' (v' (g + 6)) (v' (g + 7)) (v' g 0).toNat (v' g 1).toNat) ∨ (v' 0 13 = 0 ∧ ¬ PL (v' (g + 6)) (v' (g + 7)) (blw (v' g 1).toNat) ∧ BAR (v' (g + 6)) (v' (g + 7)) (v' g 0).toNat (v' g 1).toNat (v' 0 17) (v' 0 18) (v' 197))) : REL nc v' := sorry
set_option maxRecDepth 100000 in
theorem sp_DH_plan {l : Launch} {D : qD} {d : Nat} {nc gi : Int} {h : qh} {Q : qQ} (R : REL nc h.2) (hg : 0 ≤ gi ∧ gi < 4) (hq : ∀ v, REL nc v → v 0 12 = gi → FW plnC plnP h.2 v → Q none (h.1, v)) : qM l D (d + 30, 0, 0) m_DH_plan [.inr (.inr 0), .inl gi] h Q := sorry
theorem iv_pln {l : Launch} {D : qD} {d : Nat} {K : qK} {ls : List (Option qv)} {st : List qv} {h : qh} {nc gi : Int} (R : REL nc h.2) (hg : 0 ≤ gi ∧ gi < 4) (cs : q_cs st ≤ 8) (hk : ∀ v, REL nc v → v 0 12 = gi → FW plnC plnP h.2 v → K ls st (h.1, v)) : s_invV l D (d + 30, 0, 0) 0 m_DH_plan 1 K ls (.inl gi :: .inr (.inr 0) :: st) h := sorry
end
section
/-! ===== planar, turn: what is answered ===== -/
/-- the orders round the nodes -/
def PLO (R : Int → Int) (rot : Int → List Int) : Prop := WB (rTl R) (rHd R) (R 1).toNat (R 0).toNat rot ∧ ∀ i, blw (R 0).toNat i → ROT (rTl R) (rHd R) (R 1).toNat i (rot i)
/-- and the faces -/
def PLK (R : Int → Int) (rot : Int → List Int) (nf : Nat) (W : Nat → List Int) : Prop := PLO R rot ∧ FS (rTl R) (rHd R) (R 1).toNat rot nf W
theorem rot_of {v : Int → Int → Int} {N m : Nat} {T H : Int → Int} (hs : smp T H (blw m)) (hl : nlp T H (blw m)) (hr : ∀ e, blw m e → blw N (T e) ∧ blw N (H e)) (q : rotT v N m T H) : ∃ rot : Int → List Int, WB T H m N rot ∧ rowT v N rot ∧ ∀ i, blw N i → ROT T H m i (rot i) := sorry
theorem PLO_un {R : Int → Int} {rot rot' : Int → List Int} (h : PLO R rot) (h' : PLO R rot') : rot = rot' := sorry
theorem PLK_un {R : Int → Int} {rot rot' : Int → List Int} {nf nf' : Nat} {W W' : Nat → List Int} (h : PLK R rot nf W) (h' : PLK R rot' nf' W') : nf = nf' ∧ ∀ f, f < nf → W f = W' f := sorry
theorem ctW_ge {W : Nat → List Int} {f : Nat} : ∀ {n : Nat}, f < n → (W f).length ≤ (ctW W n).length := sorry
/-- how many, how long -/
theorem PLK_b {R : Int → Int} {rot : Int → List Int} {nf : Nat} {W : Nat → List Int} (h : PLK R rot nf W) (m48 : (R 1).toNat ≤ 48) : nf ≤ 48 ∧ (ctW W nf).length ≤ 96 ∧ ∀ f, f < nf → (W f).length ≤ 96 := sorry
theorem ctW_li {W : Nat → List Int} {f : Nat} {k : Int} (k0 : 0 ≤ k) (k1 : k < (W f).length) : ∀ {n : Nat}, f < n → li (ctW W n) ((ctW W f).length + k) = li (W f) k ∧ (ctW W f).length + k < (ctW W n).length := sorry
/-- planar -/
def PLQ (R : Int → Int) (what z : Int) : Prop := (what = 1 ∧ ((z = 1 ∧ OUT (rTl R) (rHd R) (R 0).toNat (R 1).toNat) ∨ (z = 0 ∧ ¬ OUT (rTl R) (rHd R) (R 0).toNat (R 1).toNat))) ∨
  (what ≠ 1 ∧ PL (rTl R) (rHd R) (blw (R 1).toNat) ∧ ((what = 0 ∧ z = 1) ∨ (what = 2 ∧ ∃ rot nf W, PLK R rot nf W ∧ z = (nf : Int)) ∨ ((what = 3 ∨ what = 4) ∧ z = -1))) ∨
  (what ≠ 1 ∧ ¬ PL (rTl R) (rHd R) (blw (R 1).toNat) ∧ ((what = 0 ∧ z = 0) ∨ (what = 2 ∧ z = -1) ∨ ((what = 3 ∨ what = 4) ∧ ∃ many kind row, BAR (rTl R) (rHd R) (R 0).toNat (R 1).toNat many kind row ∧ ((what = 3 ∧ z = kind) ∨ (what = 4 ∧ z = many)))))
theorem PLQ_un {R : Int → Int} {what z z' : Int} (h : PLQ R what z) (h' : PLQ R what z') : z' = z := sorry
/-- turn -/
def TNQ (R : Int → Int) (what i k z : Int) : Prop := ((what < 0 ∨ 2 < what ∨ i < 0 ∨ (k < 0 ∧ what ≠ 2)) ∧ z = -1) ∨ ((0 ≤ what ∧ what ≤ 2 ∧ 0 ≤ i ∧ (0 ≤ k ∨ what = 2)) ∧
  ((PL (rTl R) (rHd R) (blw (R 1).toNat) ∧ ((what = 0 ∧ ∃ rot, PLO R rot ∧ (((i < R 0 ∧ k < (rot i).length) ∧ z = li (rot i) k) ∨ (¬ (i < R 0 ∧ k < (rot i).length) ∧ z = -1))) ∨
      (what = 1 ∧ ∃ rot nf W, PLK R rot nf W ∧ (((i < (nf : Int) ∧ k < (W i.toNat).length) ∧ z = frD (rTl R) (rHd R) (li (W i.toNat) k)) ∨ (¬ (i < (nf : Int) ∧ k < (W i.toNat).length) ∧ z = -1))) ∨ (what = 2 ∧ z = -1))) ∨
   (¬ PL (rTl R) (rHd R) (blw (R 1).toNat) ∧ (((what = 0 ∨ what = 1) ∧ z = -1) ∨ (what = 2 ∧ ∃ many kind row, BAR (rTl R) (rHd R) (R 0).toNat (R 1).toNat many kind row ∧ ((i < many ∧ z = row i) ∨ (¬ i < many ∧ z = -1)))))))
theorem TNQ_un {R : Int → Int} {what i k z z' : Int} (h : TNQ R what i k z) (h' : TNQ R what i k z') : z' = z := sorry
/-- what the component knows behind a plan -/
def PKN (v : Int → Int → Int) (R : Int → Int) : Prop := (v 0 13 = 1 ∧ PL (rTl R) (rHd R) (blw (R 1).toNat) ∧ ∃ rot nf W, PLK R rot nf W ∧ rowC v (R 0).toNat rot ∧ v 166 2 = (nf : Int) ∧ ∀ f : Nat, f < nf → v 172 f = (W f).length ∧ ∀ k : Int, 0 ≤ k → k < (W f).length → v 171 (160 * f + k) = frD (rTl R) (rHd R) (li (W f) k)) ∨
  (v 0 13 = 0 ∧ ¬ PL (rTl R) (rHd R) (blw (R 1).toNat) ∧ BAR (rTl R) (rHd R) (R 0).toNat (R 1).toNat (v 0 17) (v 0 18) (v 197))
theorem pkn_of {nc gi : Int} {v : Int → Int → Int} {Ro : Int → Int} (R : REL nc v) (hg : 0 ≤ gi ∧ gi < 4) (gr : GRO v gi Ro) (e12 : v 0 12 = gi) : PKN v Ro := sorry
end
section
/-! ===== planar, turn: the component ===== -/
abbrev ouC : List Int := [153, 154, 155, 156, 157, 158, 159, 160, 161, 162, 163, 165]
abbrev ouP : List (Int × Int) := [(152, 2), (152, 5), (152, 7), (152, 8), (152, 14), (152, 17)]
set_option maxRecDepth 100000 in
theorem sp_DH_isOuter {l : Launch} {D : qD} {d : Nat} {nc gi : Int} {Ro : Int → Int} {h : qh} {Q : qQ} (R : REL nc h.2) (hg : 0 ≤ gi ∧ gi < 4) (gr : GRO h.2 gi Ro)
    (hq : ∀ v z, REL nc v → GRO v gi Ro → ((z = 1 ∧ OUT (rTl Ro) (rHd Ro) (Ro 0).toNat (Ro 1).toNat) ∨ (z = 0 ∧ ¬ OUT (rTl Ro) (rHd Ro) (Ro 0).toNat (Ro 1).toNat)) → Q (some (.inl z)) (h.1, v)) : qM l D (d + 30, 0, 0) m_DH_isOuter [.inr (.inr 0), .inl gi] h Q := sorry
theorem iv_out {l : Launch} {D : qD} {d : Nat} {K : qK} {ls : List (Option qv)} {st : List qv} {h : qh} {nc gi : Int} {Ro : Int → Int} (R : REL nc h.2) (hg : 0 ≤ gi ∧ gi < 4) (gr : GRO h.2 gi Ro) (cs : q_cs st ≤ 8) (hk : ∀ v z, REL nc v → GRO v gi Ro → ((z = 1 ∧ OUT (rTl Ro) (rHd Ro) (Ro 0).toNat (Ro 1).toNat) ∨ (z = 0 ∧ ¬ OUT (rTl Ro) (rHd Ro) (Ro 0).toNat (Ro 1).toNat)) → K ls (.inl z :: st) (h.1, v)) : s_invV l D (d + 30, 0, 0) 0 m_DH_isOuter 1 K ls (.inl gi :: .inr (.inr 0) :: st) h := sorry
set_option maxRecDepth 100000 in
theorem sp_DH_planar {l : Launch} {D : qD} {d : Nat} {nc gi what : Int} {Ro : Int → Int} {h : qh} {Q : qQ} (R : REL nc h.2) (gr : (0 ≤ gi ∧ gi < 4) → GRO h.2 gi Ro)
    (hq1 : (0 ≤ gi ∧ gi < 4) → (0 ≤ what ∧ what ≤ 4) → ∀ v z, REL nc v → GRO v gi Ro → PLQ Ro what z → Q (some (.inl z)) (h.1, v))
    (hq0 : ¬ ((0 ≤ gi ∧ gi < 4) ∧ (0 ≤ what ∧ what ≤ 4)) → Q (some (.inl (-1))) h) : qM l D (d + 31, 0, 0) m_DH_planar [.inr (.inr 0), .inl gi, .inl what] h Q := sorry
set_option maxRecDepth 100000 in
theorem sp_DH_turn {l : Launch} {D : qD} {d : Nat} {nc gi what i k : Int} {Ro : Int → Int} {h : qh} {Q : qQ} (R : REL nc h.2) (gr : (0 ≤ gi ∧ gi < 4) → GRO h.2 gi Ro)
    (hq1 : (0 ≤ gi ∧ gi < 4) → ∀ v z, REL nc v → GRO v gi Ro → TNQ Ro what i k z → Q (some (.inl z)) (h.1, v))
    (hq0 : ¬ (0 ≤ gi ∧ gi < 4) → Q (some (.inl (-1))) h) : qM l D (d + 31, 0, 0) m_DH_turn [.inr (.inr 0), .inl gi, .inl what, .inl i, .inl k] h Q := sorry
end
section
/-! ===== planar, turn: the twin ===== -/
abbrev ipC : List Int := [287, 290, 295, 296, 297, 298, 299, 300, 301, 302, 303, 304, 305, 306, 307, 308, 309, 310]
abbrev ipP : List (Int × Int) := [(280, 31), (280, 32), (280, 39), (280, 45), (280, 49)]
theorem ip_fw {nc r : Int} {Ro : Int → Int} {v v' : Int → Int → Int} (R : REL nc v) (tr : TRw v r Ro) (e5 : v 280 5 = r) (k : KS 280 [31, 32, 39, 45, 49] [287, 290, 295, 296, 297, 298, 299, 300, 301, 302, 303, 304, 305, 306, 307, 308, 309, 310] v v') : REL nc v' ∧ TRw v' r Ro ∧ v' 280 5 = r := sorry
set_option maxRecDepth 100000 in
theorem sp_Mo_iou {l : Launch} {D : qD} {d : Nat} {nc r : Int} {Ro : Int → Int} {h : qh} {Q : qQ} (R1 : REL nc h.2) (tr1 : TRw h.2 r Ro) (ok : GOK Ro) (e5 : h.2 280 5 = r)
    (hq : ∀ v z, REL nc v → ((z = 1 ∧ OUT (rTl Ro) (rHd Ro) (Ro 0).toNat (Ro 1).toNat) ∨ (z = 0 ∧ ¬ OUT (rTl Ro) (rHd Ro) (Ro 0).toNat (Ro 1).toNat)) → Q (some (.inl z)) (h.1, v)) : qM l D (d + 7, 0, 0) m_Mo_isOuter [.inr (.inr 280)] h Q := sorry
/-- the twin's plane and orders -/
def PTN (v : Int → Int → Int) (R : Int → Int) (rot : Int → List Int) : Prop := PLO R rot ∧ rowT v (R 0).toNat rot ∧ (v 280 31 = R 0 ∧ v 280 32 = R 1) ∧ ∀ e, blw (R 1).toNat e → v 295 e = rTl R e ∧ v 296 e = rHd R e ∧ v 297 e = 1
set_option maxRecDepth 100000 in
theorem sp_Mo_ipl {l : Launch} {D : qD} {d : Nat} {nc r : Int} {Ro : Int → Int} {h : qh} {Q : qQ} (R1 : REL nc h.2) (tr1 : TRw h.2 r Ro) (ok : GOK Ro) (e5 : h.2 280 5 = r)
    (q1 : PL (rTl Ro) (rHd Ro) (blw (Ro 1).toNat) → ∀ v rot, REL nc v → PTN v Ro rot → Q (some (.inl 1)) (h.1, v))
    (q0 : ¬ PL (rTl Ro) (rHd Ro) (blw (Ro 1).toNat) → ∀ v, REL nc v → TRw v r Ro → v 280 5 = r → Q (some (.inl 0)) (h.1, v)) : qM l D (d + 7, 0, 0) m_Mo_isPlanar [.inr (.inr 280)] h Q := sorry
set_option maxRecDepth 100000 in
theorem sp_Mo_gor {l : Launch} {D : qD} {d : Nat} {nc : Int} {Ro : Int → Int} {rot : Int → List Int} {h : qh} {Q : qQ} (R1 : REL nc h.2) (ok : GOK Ro) (pt : PTN h.2 Ro rot)
    (hq : ∀ v (n : Nat) (W : Nat → List Int), REL nc v → PLK Ro rot n W → v 280 53 = n → (∀ f : Nat, f ≤ n → v 313 f = (ctW W f).length) → (∀ k : Int, 0 ≤ k → k < (ctW W n).length → v 314 k = li (ctW W n) k) → (∀ e, blw (Ro 1).toNat e → v 295 e = rTl Ro e ∧ v 296 e = rHd Ro e) → Q none (h.1, v)) : qM l D (d + 3, 0, 0) m_Mo_goRound [.inr (.inr 280)] h Q := sorry
set_option maxRecDepth 100000 in
theorem sp_Mo_bar {l : Launch} {D : qD} {d : Nat} {nc r : Int} {Ro : Int → Int} {h : qh} {Q : qQ} (R1 : REL nc h.2) (tr1 : TRw h.2 r Ro) (ok : GOK Ro) (e5 : h.2 280 5 = r)
    (hq : ∀ v, REL nc v → BAR (rTl Ro) (rHd Ro) (Ro 0).toNat (Ro 1).toNat (v 280 58) (v 280 59) (v 315) → Q none (h.1, v)) : qM l D (d + 7, 0, 0) m_Mo_bar [.inr (.inr 280)] h Q := sorry
theorem iv_M0 {l : Launch} {D : qD} {d : Nat} {M : qm} {K : qK} {ls : List (Option qv)} {st : List qv} {h : qh} (cs : q_cs st ≤ 8) (hk : qM l D (d, 0, 0) M [.inr (.inr 280)] h (fun r h' => K ls (r.toList ++ st) h')) : s_invV l D (d, 0, 0) 18 M 0 K ls (.inr (.inr 280) :: st) h := sorry
set_option maxRecDepth 100000 in
theorem sp_Mo_planar {l : Launch} {D : qD} {d : Nat} {nc gi what : Int} {Ro : Int → Int} {h : qh} {Q : qQ} (R : REL nc h.2) (gr : (0 ≤ gi ∧ gi < 4) → GRO h.2 gi Ro)
    (hq1 : (0 ≤ gi ∧ gi < 4) → (0 ≤ what ∧ what ≤ 4) → ∀ v z, REL nc v → PLQ Ro what z → Q (some (.inl z)) (h.1, v))
    (hq0 : ¬ ((0 ≤ gi ∧ gi < 4) ∧ (0 ≤ what ∧ what ≤ 4)) → Q (some (.inl (-1))) h) : qM l D (d + 8, 0, 0) m_Mo_planar [.inr (.inr 280), .inl gi, .inl what] h Q := sorry
theorem op_planar {l : Launch} {D : qD} {d : Nat} {gi what : Int} : OP0 l D (d + 31) m_DH_planar m_Mo_planar [.inl gi, .inl what] := sorry
end
section
/-! ===== turn: the twin, both sides ===== -/
set_option maxRecDepth 100000 in
theorem sp_Mo_turn {l : Launch} {D : qD} {d : Nat} {nc gi what i k : Int} {Ro : Int → Int} {h : qh} {Q : qQ} (R : REL nc h.2) (gr : (0 ≤ gi ∧ gi < 4) → GRO h.2 gi Ro)
    (hq1 : (0 ≤ gi ∧ gi < 4) → ∀ v z, REL nc v → TNQ Ro what i k z → Q (some (.inl z)) (h.1, v))
    (hq0 : ¬ (0 ≤ gi ∧ gi < 4) → Q (some (.inl (-1))) h) : qM l D (d + 8, 0, 0) m_Mo_turn [.inr (.inr 280), .inl gi, .inl what, .inl i, .inl k] h Q := sorry
theorem op_turn {l : Launch} {D : qD} {d : Nat} {gi what i k : Int} : OP0 l D (d + 31) m_DH_turn m_Mo_turn [.inl gi, .inl what, .inl i, .inl k] := sorry
end
section
/-! ===== a call of a method that has handlers; what never throws returns ===== -/
def q_gW (own : String) (idx ci n : Nat) (M' : qm) : Prop := ci < 19 ∧ x_code M' ∧ Cond.initialized M'.1.cls ∈ q_G ∧ M'.2.2.1 ≤ 81 ∧ (M'.1.cls ≠ "java/lang/invoke/MethodHandle" ∧ M'.1.cls ≠ "java/lang/invoke/VarHandle") ∧ Cond.methodLink own idx M'.1 ∈ q_G ∧ Cond.instanceMethod M'.1 ∈ q_G ∧ Cond.selects (cr ci).1 M'.1 M'.1 ∈ q_G ∧ (parseMethodDescriptor M'.1.desc).map (fun d => d.parameters.length) = some n
section XW
variable {l : Launch} {D : qD} {d : qd} {M : qm} {pc : Nat} {K : qK}
set_option maxRecDepth 100000 in
theorem xc_tW {Q : xQ} {X : List (Option qv) → xX} {d0 : Nat} {B : Nat × Nat} {M' : qm} {idx n ci : Nat} (g : q_gW M.1.cls idx ci n M') (hd : decode M.2.1 pc = .ok (.invokevirtual idx, 3))
    (k : qI (K) (xR l D (d0 + 1, B) M (pc + 3) Q)) (kt : ∀ ls rest, x_TH l D (d0 + 1, B) M pc Q ls rest (X ls)) : qI (s_tinvV l D (d0, 0, 0) ci M' n K X) (xR l D (d0 + 1, B) M pc Q) := sorry
end XW
/-- what never throws returns -/
theorem xM.q {l : Launch} {D : qD} {d : qd} {M : qm} {as : List qv} {h : qh} {Q : qQ} (k : xM l D d M as h (Q, fun _ _ => False)) : qM l D d M as h Q := sorry
theorem xR.rg {l : Launch} {D : qD} {d : qd} {M : qm} {pc : Nat} {Q : xQ} {ls : List (Option qv)} {st : List qv} {h : qh} (k : (∀ (a : Nat) (i : Nat), a < h.1.1 → q_fit (q_shp a).1 (h.2 a i)) → xR l D d M pc Q ls st h) : xR l D d M pc Q ls st h := sorry
/-! printed by gen/gxd.py: read and style of the component: their code -/
theorem xt_DH_read : x_tb m_DH_read = [] := sorry
theorem lf_DH_200 : q_gF "DrawingHouse" 200 1 0 2 := sorry
theorem lf_DH_204 : q_gF "DrawingHouse" 204 4 0 2 := sorry
theorem lu_DH_179_4 : q_gU "DrawingHouse" 179 4 2 "DrawingHouse$Reader" ⟨"DrawingHouse$GraphReader", "take", "([BI)V"⟩ m_Re_take := sorry
theorem lf_DH_183 : q_gF "DrawingHouse" 183 0 5 0 := sorry
theorem lp_DH_183 : q_pF "DrawingHouse" 183 0 5 0 (.boolean) false := sorry
theorem lf_DH_187 : q_gF "DrawingHouse" 187 0 6 0 := sorry
theorem lp_DH_187 : q_pF "DrawingHouse" 187 0 6 0 (.boolean) false := sorry
theorem lw_DH_190 : q_gW "DrawingHouse" 190 4 0 m_GR_read := sorry
def w_DH_read_61 (l : Launch) (D : qD) (d0 : Nat) (B : Nat × Nat) (Q : xQ) : qK := (s_aload 0 (s_getR 0 2 (s_iload 1 (s_aald (s_astore 3 (s_aload 3 (s_ic (0) (s_putI 1 1 (s_aload 3 (s_ic (0) (s_putI 1 2 (s_aload 3 (s_getR 1 0 (s_ic (0) (s_aald (s_aload 0 (s_getR 0 3 (s_getR 4 0 (s_invV l D (d0, 0, 0) 3 m_Gr_copy 1 (s_aload 0 (s_iload 1 (s_invV l D (d0, 0, 0) 0 m_DH_changed 1 (s_aload 0 (s_iload 1 (s_invV l D (d0, 0, 0) 0 m_DH_graph 1 (s_getI 3 0 (s_iret Q.1)))))))))))))))))))))))))))
theorem DH_read_61 {l : Launch} {D : qD} {d0 : Nat} {B : Nat × Nat} {Q : xQ} : qI (w_DH_read_61 l D d0 B Q) (xR l D (d0 + 1, B) m_DH_read 61 Q) := sorry
def w_DH_read_22 (l : Launch) (D : qD) (d0 : Nat) (B : Nat × Nat) (Q : xQ) : qK := (s_aload 0 (s_getR 0 3 (s_aload 0 (s_getR 0 0 (s_iload 2 (s_invV l D (d0, 0, 0) 4 m_Re_take 2 (s_aload 0 (s_ic (0) (s_putI 0 1 (s_aload 0 (s_ic (1) (s_putZ 0 5 (s_aload 0 (s_ic (0) (s_putZ 0 6 (s_aload 0 (s_getR 0 3 (s_tinvV l D (d0, 0, 0) 4 m_GR_read 0 (s_if_ne (w_DH_read_61 l D d0 B Q) (s_ic (-1) (s_iret Q.1))) (fun _ => Q.2)))))))))))))))))))
theorem DH_read_22 {l : Launch} {D : qD} {d0 : Nat} {B : Nat × Nat} {Q : xQ} : qI (w_DH_read_22 l D d0 B Q) (xR l D (d0 + 1, B) m_DH_read 22 Q) := sorry
def w_DH_read_19 (l : Launch) (D : qD) (d0 : Nat) (B : Nat × Nat) (Q : xQ) : qK := (s_ic (-2) (s_iret Q.1))
theorem DH_read_19 {l : Launch} {D : qD} {d0 : Nat} {B : Nat × Nat} {Q : xQ} : qI (w_DH_read_19 l D d0 B Q) (xR l D (d0 + 1, B) m_DH_read 19 Q) := sorry
def w_DH_read_0 (l : Launch) (D : qD) (d0 : Nat) (B : Nat × Nat) (Q : xQ) : qK := (s_iload 1 (s_DH_isPlace d0 (s_if_eq (w_DH_read_19 l D d0 B Q) (s_iload 2 (s_if_lt (w_DH_read_19 l D d0 B Q) (s_iload 2 (s_aload 0 (s_getI 0 1 (s_icmp_le (w_DH_read_22 l D d0 B Q) (w_DH_read_19 l D d0 B Q))))))))))
theorem DH_read_0 {l : Launch} {D : qD} {d0 : Nat} {B : Nat × Nat} {Q : xQ} : qI (w_DH_read_0 l D d0 B Q) (xR l D (d0 + 1, B) m_DH_read 0 Q) := sorry
end
section
/-! ===== a place's graph is another one: what holds between both sides then ===== -/
/-- only what S names may change -/
def FV (S : Int → Int → Prop) (v v' : Int → Int → Int) : Prop := ∀ a j, ¬ S a j → v' a j = v a j
theorem FV.rf {S : Int → Int → Prop} {v : Int → Int → Int} : FV S v v := sorry
theorem FV.tr {S : Int → Int → Prop} {v v' v'' : Int → Int → Int} (h : FV S v v') (h' : FV S v' v'') : FV S v v'' := sorry
theorem FV.wk {S S' : Int → Int → Prop} {v v' : Int → Int → Int} (h : FV S v v') (q : ∀ a j, S a j → S' a j) : FV S' v v' := sorry
theorem FV.c {S : Int → Int → Prop} {v v' : Int → Int → Int} (h : FV S v v') {a : Int} (q : ∀ j, ¬ S a j) : v' a = v a := sorry
theorem FV.up {S : Int → Int → Prop} {v v' : Int → Int → Int} {a j z : Int} (h : FV S v v') (q : S a j) : FV S v (up2 v' a j z) := sorry
theorem FV.fw {C : List Int} {P : List (Int × Int)} {v v' : Int → Int → Int} (k : FW C P v v') : FV (fun a j => a ∈ C ∨ (a, j) ∈ P) v v' := sorry
/-- what a change of the place gi may touch; its graph is g then -/
def zcS (gi g : Int) (a j : Int) : Prop :=
  (a = 0 ∧ (j = 1 ∨ j = 5 ∨ j = 6 ∨ j = 8 ∨ j = 12)) ∨ (a = 111 ∧ 3 ≤ j ∧ j ≤ 9) ∨ a = 112 ∨ (a = 114 ∧ 0 ≤ j ∧ j ≤ 2) ∨ (115 ≤ a ∧ a ≤ 125) ∨ a = 275 ∨
  (a = 3 + 27 * gi ∧ (j = 1 ∨ j = 2)) ∨ a = 4 + 27 * gi ∨ (a = 5 + 27 * gi ∧ j = 0) ∨ a = 16 + 27 * gi ∨ a = 17 + 27 * gi ∨ (g ≤ a ∧ a ≤ g + 11 ∧ (a = g → 399 ≤ g ∨ (0 ≤ j ∧ j ≤ 2))) ∨
  (a = 280 ∧ (j = 0 ∨ j = 5 ∨ (7 ≤ j ∧ j ≤ 15))) ∨ a = 282 ∨ a = 285 ∨ (a = 283 ∧ j = gi) ∨ (a = 284 ∧ j = gi) ∨ (a = 316 ∧ j = gi) ∨ (a = 328 ∧ 216 * gi ≤ j ∧ j < 216 * gi + 216)
/-- the same, whatever the place -/
def zcB1 (a j : Int) : Bool := decide (¬ ((a = 0 ∧ (j = 1 ∨ j = 5 ∨ j = 6 ∨ j = 8 ∨ j = 12)) ∨ (a = 111 ∧ 3 ≤ j ∧ j ≤ 9) ∨ a = 112 ∨ (a = 114 ∧ 0 ≤ j ∧ j ≤ 2) ∨ (115 ≤ a ∧ a ≤ 125) ∨ a = 275))
def zcB2 (a j : Int) : Bool := decide (¬ (((a = 3 ∨ a = 30 ∨ a = 57 ∨ a = 84) ∧ (j = 1 ∨ j = 2)) ∨ (a = 4 ∨ a = 31 ∨ a = 58 ∨ a = 85) ∨ ((a = 5 ∨ a = 32 ∨ a = 59 ∨ a = 86) ∧ j = 0)))
def zcB3 (a j : Int) : Bool := decide (¬ ((a = 16 ∨ a = 43 ∨ a = 70 ∨ a = 97) ∨ (a = 17 ∨ a = 44 ∨ a = 71 ∨ a = 98) ∨ ((a = 18 ∨ a = 45 ∨ a = 72 ∨ a = 99) ∧ 0 ≤ j ∧ j ≤ 2)))
def zcB4 (a : Int) : Bool := decide (¬ ((19 ≤ a ∧ a ≤ 29) ∨ (46 ≤ a ∧ a ≤ 56) ∨ (73 ≤ a ∧ a ≤ 83) ∨ (100 ≤ a ∧ a ≤ 110) ∨ 399 ≤ a))
def zcB5 (a j : Int) : Bool := decide (¬ ((a = 280 ∧ (j = 0 ∨ j = 5 ∨ (7 ≤ j ∧ j ≤ 15))) ∨ a = 282 ∨ a = 285 ∨ a = 283 ∨ a = 284 ∨ a = 316 ∨ a = 328))
def zcB (a j : Int) : Bool := zcB1 a j && zcB2 a j && zcB3 a j && zcB4 a && zcB5 a j
theorem gcl_l {nc g : Int} (h : gcl nc g) : (g = 18 ∨ g = 45 ∨ g = 72 ∨ g = 99) ∨ 399 ≤ g := sorry
theorem zcB_a {gi a o : Int} (hg : 0 ≤ gi ∧ gi < 4) (e : a = o + 27 * gi) : a = o ∨ a = o + 27 ∨ a = o + 54 ∨ a = o + 81 := sorry
theorem zcB_g {g a j : Int} (gl : (g = 18 ∨ g = 45 ∨ g = 72 ∨ g = 99) ∨ 399 ≤ g) (s : g ≤ a ∧ a ≤ g + 11 ∧ (a = g → 399 ≤ g ∨ (0 ≤ j ∧ j ≤ 2))) : ((a = 18 ∨ a = 45 ∨ a = 72 ∨ a = 99) ∧ 0 ≤ j ∧ j ≤ 2) ∨ (19 ≤ a ∧ a ≤ 29) ∨ (46 ≤ a ∧ a ≤ 56) ∨ (73 ≤ a ∧ a ≤ 83) ∨ (100 ≤ a ∧ a ≤ 110) ∨ 399 ≤ a := sorry
theorem zcB_no {nc gi g a j : Int} (hg : 0 ≤ gi ∧ gi < 4) (gc : gcl nc g) (b : zcB a j = true) : ¬ zcS gi g a j := sorry
theorem HW.fv {nc gi g : Int} {v v' : Int → Int → Int} (h : HW v) (hg : 0 ≤ gi ∧ gi < 4) (gc : gcl nc g) (k : FV (zcS gi g) v v') : HW v' := sorry
theorem TW.fv {nc gi g : Int} {v v' : Int → Int → Int} (h : TW v) (hg : 0 ≤ gi ∧ gi < 4) (gc : gcl nc g) (k : FV (zcS gi g) v v') : TW v' := sorry
/-- two graphs do not share cells -/
theorem gcl_ap {nc g g' : Int} (h : gcl nc g) (h' : gcl nc g') (ne : g ≠ g') : g' + 11 < g ∨ g + 11 < g' := sorry
/-- a cell of another graph stays -/
theorem ch_gr0 {gi g g' j i : Int} (hg : 0 ≤ gi ∧ gi < 4) (gl : (g' = 18 ∨ g' = 45 ∨ g' = 72 ∨ g' = 99) ∨ 399 ≤ g') (ap : g' + 11 < g ∨ g + 11 < g') (j0 : 0 ≤ j) (j1 : j ≤ 11) (s : zcS gi g (g' + j) i) : False := sorry
theorem ch_gr {nc gi g g' : Int} {v v' : Int → Int → Int} (hg : 0 ≤ gi ∧ gi < 4) (gc : gcl nc g) (gc' : gcl nc g') (ne : g ≠ g') (k : FV (zcS gi g) v v') : ∀ j : Int, 0 ≤ j → j ≤ 11 → v' (g' + j) = v (g' + j) := sorry
theorem ch_ce {nc gi g : Int} {v v' : Int → Int → Int} (hg : 0 ≤ gi ∧ gi < 4) (gc : gcl nc g) (k : FV (zcS gi g) v v') (a : Int) (b : ∀ j, zcB a j = true) : v' a = v a := sorry
theorem ch_pt {nc gi g : Int} {v v' : Int → Int → Int} (hg : 0 ≤ gi ∧ gi < 4) (gc : gcl nc g) (k : FV (zcS gi g) v v') (a j : Int) (b : zcB a j = true) : v' a j = v a j := sorry
/-- cells that no change touches -/
def zcN1 (a : Int) : Bool := decide (a < 399 ∧ 0 < a ∧ a ≠ 111 ∧ a ≠ 112 ∧ a ≠ 114 ∧ ¬ (115 ≤ a ∧ a ≤ 125) ∧ a ≠ 275 ∧ a ≠ 280 ∧ ¬ (282 ≤ a ∧ a ≤ 285) ∧ a ≠ 316 ∧ a ≠ 328)
def zcN2 (a : Int) : Bool := decide (¬ (3 ≤ a ∧ a ≤ 5) ∧ ¬ (30 ≤ a ∧ a ≤ 32) ∧ ¬ (57 ≤ a ∧ a ≤ 59) ∧ ¬ (84 ≤ a ∧ a ≤ 86) ∧ ¬ (16 ≤ a ∧ a ≤ 29) ∧ ¬ (43 ≤ a ∧ a ≤ 56) ∧ ¬ (70 ≤ a ∧ a ≤ 83) ∧ ¬ (97 ≤ a ∧ a ≤ 110))
def zcN (a : Int) : Bool := zcN1 a && zcN2 a
theorem zcN_of {a : Int} (h : 126 ≤ a ∧ a < 399 ∧ a ≠ 275 ∧ a ≠ 280 ∧ ¬ (282 ≤ a ∧ a ≤ 285) ∧ a ≠ 316 ∧ a ≠ 328) : zcN a = true := sorry
theorem ch_n0 {gi g a j : Int} (hg : 0 ≤ gi ∧ gi < 4) (gl : (g = 18 ∨ g = 45 ∨ g = 72 ∨ g = 99) ∨ 399 ≤ g) (b1 : a < 399 ∧ 0 < a ∧ a ≠ 111 ∧ a ≠ 112 ∧ a ≠ 114 ∧ ¬ (115 ≤ a ∧ a ≤ 125) ∧ a ≠ 275 ∧ a ≠ 280 ∧ ¬ (282 ≤ a ∧ a ≤ 285) ∧ a ≠ 316 ∧ a ≠ 328) (b2 : ¬ (3 ≤ a ∧ a ≤ 5) ∧ ¬ (30 ≤ a ∧ a ≤ 32) ∧ ¬ (57 ≤ a ∧ a ≤ 59) ∧ ¬ (84 ≤ a ∧ a ≤ 86) ∧ ¬ (16 ≤ a ∧ a ≤ 29) ∧ ¬ (43 ≤ a ∧ a ≤ 56) ∧ ¬ (70 ≤ a ∧ a ≤ 83) ∧ ¬ (97 ≤ a ∧ a ≤ 110)) (s : zcS gi g a j) : False := sorry
theorem ch_n {nc gi g : Int} {v v' : Int → Int → Int} (hg : 0 ≤ gi ∧ gi < 4) (gc : gcl nc g) (k : FV (zcS gi g) v v') (a : Int) (b : zcN a = true) : v' a = v a := sorry
/-- what another place has -/
theorem ch_pl0 {gi gj g a i : Int} (hg : 0 ≤ gi ∧ gi < 4) (hj : 0 ≤ gj ∧ gj < 4) (ne : gj ≠ gi) (gl : (g = 18 ∨ g = 45 ∨ g = 72 ∨ g = 99) ∨ 399 ≤ g) (ha : 3 + 27 * gj ≤ a ∧ a ≤ 17 + 27 * gj) (s : zcS gi g a i) : False := sorry
theorem ch_pl {nc gi gj g : Int} {v v' : Int → Int → Int} (hg : 0 ≤ gi ∧ gi < 4) (hj : 0 ≤ gj ∧ gj < 4) (ne : gj ≠ gi) (gc : gcl nc g) (k : FV (zcS gi g) v v') (a : Int) (ha : 3 + 27 * gj ≤ a ∧ a ≤ 17 + 27 * gj) : v' a = v a := sorry
theorem ch_pt0 {gi gj g i : Int} (hj : 0 ≤ gj ∧ gj < 4) (ne : gj ≠ gi) (gl : (g = 18 ∨ g = 45 ∨ g = 72 ∨ g = 99) ∨ 399 ≤ g) (hg : 0 ≤ gi ∧ gi < 4) (a : Int) (ha : ((a = 283 ∨ a = 284 ∨ a = 316) ∧ i = gj) ∨ (a = 328 ∧ 216 * gj ≤ i ∧ i < 216 * gj + 216)) (s : zcS gi g a i) : False := sorry
theorem DRN.cg2 {v v' : Int → Int → Int} {gi q : Int} {n m : Nat} (h : DRN v gi n m q) (e0 : ∀ j : Int, 1 ≤ j → j ≤ 4 → v' (drO gi) j = v (drO gi) j) (e1 : ∀ j : Int, 1 ≤ j → j ≤ 10 → v' (drO gi + j) = v (drO gi + j)) (e6 : v' 316 gi = v 316 gi) (e2 : ∀ c : Int, 317 ≤ c → c ≤ 327 → v' c = v c) : DRN v' gi n m q := sorry
theorem DRW.cg2 {v v' : Int → Int → Int} {gi : Int} (h : DRW v gi) (eg : v' (gNow v gi) = v (gNow v gi)) (en : gNow v' gi = gNow v gi) (e0 : ∀ j : Int, 0 ≤ j → j ≤ 4 → v' (drO gi) j = v (drO gi) j) (e1 : ∀ j : Int, 1 ≤ j → j ≤ 10 → v' (drO gi + j) = v (drO gi + j)) (e6 : v' 316 gi = v 316 gi) (e2 : ∀ c : Int, 317 ≤ c → c ≤ 327 → v' c = v c) : DRW v' gi := sorry
/-- the graph of another place is not g -/
theorem ch_ne {nc gi gj g k : Int} {v : Int → Int → Int} (R : REL nc v) (hg : 0 ≤ gi ∧ gi < 4) (hj : 0 ≤ gj ∧ gj < 4) (ne : gj ≠ gi) (own : nc ≤ g ∨ ∃ k, (0 ≤ k ∧ k ≤ 30) ∧ v (psO gi) k = g) (gn : g ≠ -1) (kb : 0 ≤ k ∧ k ≤ 30) (gc : gcl nc (v (psO gj) k)) : g ≠ v (psO gj) k := sorry
end
section
/-! THE CLAIM OUT OF ONE WALK OF THE LAW'S BODY. Your part is whole_start (and what it stands on); all else here is the same for every law, but numbers. -/
def R_law : String := "DrawingHouseLaw"
def lw_P (b : Addr) (xs : List Int32) (args : Array Value) (s : State) : Prop := args = #[.ref b] ∧ s.IntsAt b xs ∧ xs.length ≤ 24576 ∧ (Jvm.Cond.and given_1 narrow_1).before args s = true
def lw_Q (_ : Array Value) (s : State) (o : Outcome) (t : State) : Prop := o = .returned (some (.int 1)) ∧ Framed s o t [] 608192 7228522
def lw_Z (below : List Frame) (a : Array Value) (s : State) : State → Prop := fun t => ∃ o, t.status = .running ∧ Ended t below o ∧ lw_Q a s o t
/-- the law's own end, with 1 on the stack, nothing written that was there before, its room as the claim has it -/
theorem lw_ret {p : Program} {l : Launch} {e : Env} {s : State} {m : MethodId} {below : List Frame} {meth : Method} {c : Code} {b : Nat} (hx : p.tables.exec = Jvm.exec) (hb : c.code = code) (hr : meth.sig.returnType = ret) (hlocks : meth.locks = false) {pc : Nat} {H : Heap} {ls : Array Slot} (hdg : decode code pc = .ok (.ireturn, 1)) : W p l e room_1 s m #[Value.ref b] below meth c H [] 608192 7228522 (lw_Z below #[Value.ref b] s) (F0 m pc ls [.int 1]) := sorry
/-- what holds at the law's entry: the machine, the code, the tables' words (any of lw_tbl by 'hts w (by decide +kernel)'), the script of L ints xs at the cell b, what the Statement gives of the start (any of its parts by flat_of_before) -/
def lw_At (p : Program) (s : State) (m : MethodId) (meth : Method) (c : Code) (b L : Nat) (xs : Nat → Int32) : Prop :=
  p.tables.exec = Jvm.exec ∧ c.code = code ∧ meth.sig.returnType = ret ∧ c.maxLocals = 4 ∧ s.vm.findClass R_law = some m.cls ∧ (∀ w ∈ lw_tbl, w.before #[Value.ref b] s = true) ∧ va_X b L xs s s.heap ∧ b < s.heap.size ∧ meth.locks = false ∧ (Jvm.Cond.and given_1 narrow_1).before #[Value.ref b] s = true
end
section
/-! ===== the law's own body, step by step ===== -/
/-- what is given while the law runs -/
def lC (p : Program) (s : State) (m : MethodId) (meth : Method) (c : Code) (b L : Nat) (xs : Nat → Int32) (D : qD) : Prop :=
  lw_At p s m meth c b L xs ∧ q_W D s ∧ D.2.2.1 = s.heap.size ∧ L ≤ 24576
/-- from here, with these locals, this stack and this heap, the law comes to its end with true -/
def lR (p : Program) (l : Launch) (e : Env) (s : State) (m : MethodId) (below : List Frame) (meth : Method) (c : Code) (b : Nat) (D : qD) (pc : Nat) (lv : List (Nat × Value)) (st : List qv) (h : qh) : Prop :=
  ∀ (H : Heap) (locs : List Loc) (cells slots : Nat) (lsA : Array Slot), q_HR D h H → va_S (q_A D) s.heap H locs → cells + h.1.2.1 ≤ 608192 → slots + h.1.2.2 ≤ 7228522 → lv_has lsA 4 lv → (∀ v ∈ st, qok h.1.1 v) →
    W p l e room_1 s m #[Value.ref b] below meth c H locs cells slots (lw_Z below #[Value.ref b] s) (F0 m pc lsA (st.map (qtv D)))
/-- the law's locals in its loop: the script, the component, the twin, the place -/
def lvL (b : Nat) (D : qD) (i : Int) : List (Nat × Value) := [(0, .ref b), (1, .ref (D.2.2.1 + 0)), (2, .ref (D.2.2.1 + 280)), (3, .int (Int32.ofInt i))]
section LAWS
variable {p : Program} {l : Launch} {e : Env} {s : State} {m : MethodId} {below : List Frame} {meth : Method} {c : Code} {b L : Nat} {xs : Nat → Int32} {D : qD}
theorem la_x {pc : Nat} {i : Int} {st : List qv} {h : qh} (X : lC p s m meth c b L xs D) (hd : decode code pc = .ok (.aload_n 1, 1)) (hn : 0 < h.1.1)
    (kk : lR p l e s m below meth c b D (pc + 1) (lvL b D i) (.inr (.inr 0) :: st) h) : lR p l e s m below meth c b D pc (lvL b D i) st h := sorry
theorem la_m {pc : Nat} {i : Int} {st : List qv} {h : qh} (X : lC p s m meth c b L xs D) (hd : decode code pc = .ok (.aload_n 2, 1)) (hn : 280 < h.1.1)
    (kk : lR p l e s m below meth c b D (pc + 1) (lvL b D i) (.inr (.inr 280) :: st) h) : lR p l e s m below meth c b D pc (lvL b D i) st h := sorry
theorem la_arg {pc k : Nat} {i : Int} {st : List qv} {h : qh} (X : lC p s m meth c b L xs D) (hi : 0 ≤ i ∧ i + 6 ≤ L) (hk : k ≤ 5)
    (d0 : decode code pc = .ok (.aload_n 0, 1)) (d1 : decode code (pc + 1) = .ok (.iload_n 3, 1)) (d2 : decode code (pc + 1 + 1) = .ok (.iconst (k : Int), 1)) (d3 : decode code (pc + 1 + 1 + 1) = .ok (.iadd, 1)) (d4 : decode code (pc + 1 + 1 + 1 + 1) = .ok (.iaload, 1))
    (kk : lR p l e s m below meth c b D (pc + 5) (lvL b D i) (.inl (xs (i.toNat + k)).toInt :: st) h) : lR p l e s m below meth c b D pc (lvL b D i) st h := sorry
theorem la_after {d' : qd} {pc : Nat} {lv : List (Nat × Value)} {st rest as : List qv} {h : qh} {K : qQ}
    (hrun : ∀ (H : Heap) (locs : List Loc) (cells slots : Nat) (lsA : Array Slot), q_HR D h H → (∀ v ∈ st, qok h.1.1 v) → va_S (q_A D) s.heap H locs → cells + h.1.2.1 ≤ 608192 → slots + h.1.2.2 ≤ 7228522 → lv_has lsA 4 lv →
      va_Run p l e room_1 s m #[Value.ref b] below meth c H locs cells slots d'.2.1 d'.2.2 (F0 m pc lsA (st.map (qtv D))) (rest.map (qtv D)) (q_P D (fun r h' => K r ((h'.1.1, h.1.2.1 - d'.2.1, h.1.2.2 - d'.2.2), h'.2)) (as.map (qtv D)).toArray) (q_A D))
    (hrest : ∀ v ∈ rest, v ∈ st) (hd1 : d'.2.1 ≤ h.1.2.1) (hd2 : d'.2.2 ≤ h.1.2.2) (k : ∀ (r : Option qv) (h' : qh), K r h' → lR p l e s m below meth c b D (pc + 3) lv (r.toList ++ rest) h') : lR p l e s m below meth c b D pc lv st h := sorry
set_option maxRecDepth 100000 in
theorem la_call {d' : qd} {M' : qm} {idx ci n pc : Nat} {lv : List (Nat × Value)} {st : List qv} (rest as : List qv) {b0 : Int} {h : qh} {K : qQ} (X : lC p s m meth c b L xs D) (hd0 : d'.1 ≤ 800) (g : q_gV "DrawingHouseLaw" idx ci n M') (hd : decode code pc = .ok (.invokevirtual idx, 3))
    (est : st = as.reverse ++ .inr (.inr b0) :: rest) (hn : as.length = n) (hb0 : 0 ≤ b0) (hsh : (q_shp b0).1 = ci) (hcs : q_cs rest ≤ 8) (hM : qM l D d' M' (.inr (.inr b0) :: as) h K)
    (k : ∀ (r : Option qv) (h' : qh), K r h' → lR p l e s m below meth c b D (pc + 3) lv (r.toList ++ rest) h') : lR p l e s m below meth c b D pc lv st h := sorry
set_option maxRecDepth 100000 in
theorem la_ini {d' : qd} {M' : qm} {idx pc : Nat} {lv : List (Nat × Value)} (rest : List qv) {b0 : Int} {h : qh} {K : qQ} (X : lC p s m meth c b L xs D) (hd0 : d'.1 ≤ 800) (g : q_gI "DrawingHouseLaw" idx 0 M') (hd : decode code pc = .ok (.invokespecial idx, 3))
    (hb0 : 0 ≤ b0) (hcs : q_cs rest ≤ 8) (hM : qM l D d' M' [.inr (.inr b0)] h K)
    (k : ∀ (r : Option qv) (h' : qh), K r h' → lR p l e s m below meth c b D (pc + 3) lv (r.toList ++ rest) h') : lR p l e s m below meth c b D pc lv (.inr (.inr b0) :: rest) h := sorry
set_option maxRecDepth 100000 in
theorem la_new {idx ci n pc : Nat} {lv : List (Nat × Value)} {st : List qv} {h : qh} (X : lC p s m meth c b L xs D) (hcl : q_clok ci (cr ci)) (hci : ci < 19) (hdv : ∀ k, k < (cr ci).2.2 → (parseFieldDescriptor ((cr ci).2.1 k).2.2.1).map defaultValue = some (q_dv (q_ft ci k))) (hl : Cond.classLink "DrawingHouseLaw" idx (cr ci).1 ∈ q_G) (hi : Cond.instantiable (cr ci).1 n ∈ q_G) (hini : Cond.initialized (cr ci).1 ∈ q_G) (hd : decode code pc = .ok (.new idx, 3))
    (k0 : q_shp h.1.1 = (ci, 0)) (k1 : 1 ≤ h.1.2.1) (k2 : n ≤ h.1.2.2) (kk : lR p l e s m below meth c b D (pc + 3) lv (.inr (.inr (h.1.1 : Int)) :: st) ((h.1.1 + 1, h.1.2.1 - 1, h.1.2.2 - n), nw2 h.2 h.1.1 (fun j => qdf (q_ft ci j.toNat)))) : lR p l e s m below meth c b D pc lv st h := sorry
theorem la_dup {pc : Nat} {lv : List (Nat × Value)} {z : Int} {st : List qv} {h : qh} (X : lC p s m meth c b L xs D) (hd : decode code pc = .ok (.dup, 1))
    (kk : lR p l e s m below meth c b D (pc + 1) lv (.inr (.inr z) :: .inr (.inr z) :: st) h) : lR p l e s m below meth c b D pc lv (.inr (.inr z) :: st) h := sorry
theorem la_st {k : Fin 4} {j : Nat} {pc : Nat} {lv lv' : List (Nat × Value)} {z : Int} {st : List qv} {h : qh} (X : lC p s m meth c b L xs D) (hd : decode code pc = .ok (.astore_n k, 1)) (hk : (k : Nat) = j) (hj : j < 4) (hz : 0 ≤ z) (hlv : (j, Value.ref (D.2.2.1 + z.toNat)) :: lv.filter (fun q => !(q.1 == j) && !(q.1 + 1 == j && q.2.category == 2)) = lv')
    (kk : lR p l e s m below meth c b D (pc + 1) lv' st h) : lR p l e s m below meth c b D pc lv (.inr (.inr z) :: st) h := sorry
theorem la_i0 {pc : Nat} {h : qh} (X : lC p s m meth c b L xs D) (h0 : decode code pc = .ok (.iconst 0, 1)) (h1 : decode code (pc + 1) = .ok (.istore_n 3, 1))
    (kk : lR p l e s m below meth c b D (pc + 2) (lvL b D 0) [] h) : lR p l e s m below meth c b D pc [(2, .ref (D.2.2.1 + 280)), (1, .ref (D.2.2.1 + 0)), (0, .ref b)] [] h := sorry
theorem la_eq {pc : Nat} {lv : List (Nat × Value)} {z : Int} {h : qh} {off : Int} (X : lC p s m meth c b L xs D) (hd : decode code pc = .ok (.if_icmp .eq off, 3)) (ht : (pc : Int) + off = ((1295 : Nat) : Int))
    (kk : lR p l e s m below meth c b D 1295 lv [] h) : lR p l e s m below meth c b D pc lv [.inl z, .inl z] h := sorry
theorem la_leq {pc : Nat} {lv : List (Nat × Value)} {z : Int} {h : qh} {off : Int} (X : lC p s m meth c b L xs D) (hd : decode code pc = .ok (.lcmp, 1)) (hd1 : decode code (pc + 1) = .ok (.ifCond .eq off, 3)) (ht : ((pc + 1 : Nat) : Int) + off = ((1295 : Nat) : Int))
    (kk : lR p l e s m below meth c b D 1295 lv [] h) : lR p l e s m below meth c b D pc lv [.inr (.inl z), .inr (.inl z)] h := sorry
theorem la_next {i : Int} {h : qh} (X : lC p s m meth c b L xs D) (kk : lR p l e s m below meth c b D 18 (lvL b D (i + 6)) [] h) : lR p l e s m below meth c b D 1295 (lvL b D i) [] h := sorry
theorem la_end {lv : List (Nat × Value)} {h : qh} (X : lC p s m meth c b L xs D) : lR p l e s m below meth c b D 1301 lv [] h := sorry
theorem la_head {i : Int} {h : qh} (X : lC p s m meth c b L xs D) (hi : 0 ≤ i ∧ i ≤ 30000) (kt : (L : Int) < i + 6 → lR p l e s m below meth c b D 1301 (lvL b D i) [] h) (kf : i + 6 ≤ (L : Int) → lR p l e s m below meth c b D 27 (lvL b D i) [] h) : lR p l e s m below meth c b D 18 (lvL b D i) [] h := sorry
def la_tg : List Nat := [160, 223, 256, 279, 312, 355, 398, 441, 494, 547, 580, 623, 656, 679, 712, 765, 808, 861, 904, 967, 1000, 1043, 1077, 1110, 1163, 1196, 1219, 1262]
theorem la_sw {i : Int} {h : qh} (X : lC p s m meth c b L xs D) (hi : 0 ≤ i ∧ i + 6 ≤ L) (ko : ∀ (k t : Nat), la_tg[k]? = some t → lR p l e s m below meth c b D t (lvL b D i) [] h) (kd : lR p l e s m below meth c b D 1295 (lvL b D i) [] h) : lR p l e s m below meth c b D 27 (lvL b D i) [] h := sorry
end LAWS
end
section
/-! printed by gen/p_law.py: the law, operation by operation; its loop -/
/-- an operation of both sides answers the same int, and all holds again; the component may make ec cells with es slots -/
def OPL (RL : Int → (Int → Int → Int) → Prop) (l : Launch) (D : qD) (dd ec es : Nat) (mc mt : qm) (as : List qv) : Prop := ∀ h : qh, RL h.1.1 h.2 → ec ≤ h.1.2.1 → es ≤ h.1.2.2 →
  qM l D (dd, ec, es) mc (.inr (.inr 0) :: as) h (fun r h1 => 399 ≤ h1.1.1 ∧ (∃ x : Int, r = some (.inl x)) ∧ (h1.1.2.1 = h.1.2.1 - ec ∧ h1.1.2.2 = h.1.2.2 - es) ∧ qM l D (dd, 0, 0) mt (.inr (.inr 280) :: as) h1 (fun r' h2 => r' = r ∧ (h2.1.2.1 = h1.1.2.1 ∧ h2.1.2.2 = h1.1.2.2) ∧ RL h2.1.1 h2.2))
/-- the same with a long -/
def OPJ (RL : Int → (Int → Int → Int) → Prop) (l : Launch) (D : qD) (dd ec es : Nat) (mc mt : qm) (as : List qv) : Prop := ∀ h : qh, RL h.1.1 h.2 → ec ≤ h.1.2.1 → es ≤ h.1.2.2 →
  qM l D (dd, ec, es) mc (.inr (.inr 0) :: as) h (fun r h1 => 399 ≤ h1.1.1 ∧ (∃ x : Int, r = some (.inr (.inl x))) ∧ (h1.1.2.1 = h.1.2.1 - ec ∧ h1.1.2.2 = h.1.2.2 - es) ∧ qM l D (dd, 0, 0) mt (.inr (.inr 280) :: as) h1 (fun r' h2 => r' = r ∧ (h2.1.2.1 = h1.1.2.1 ∧ h2.1.2.2 = h1.1.2.2) ∧ RL h2.1.1 h2.2))
theorem lm_Lw_13 : q_gV "DrawingHouseLaw" 13 0 5 m_DH_feed := sorry
theorem lm_Lw_17 : q_gV "DrawingHouseLaw" 17 18 5 m_Mo_feed := sorry
theorem lm_Lw_18 : q_gV "DrawingHouseLaw" 18 0 2 m_DH_read := sorry
theorem lm_Lw_22 : q_gV "DrawingHouseLaw" 22 18 2 m_Mo_read := sorry
theorem lm_Lw_23 : q_gV "DrawingHouseLaw" 23 0 1 m_DH_fault := sorry
theorem lm_Lw_27 : q_gV "DrawingHouseLaw" 27 18 1 m_Mo_fault := sorry
theorem lm_Lw_28 : q_gV "DrawingHouseLaw" 28 0 2 m_DH_count := sorry
theorem lm_Lw_31 : q_gV "DrawingHouseLaw" 31 18 2 m_Mo_count := sorry
theorem lm_Lw_32 : q_gV "DrawingHouseLaw" 32 0 3 m_DH_node := sorry
theorem lm_Lw_36 : q_gV "DrawingHouseLaw" 36 18 3 m_Mo_node := sorry
theorem lm_Lw_37 : q_gV "DrawingHouseLaw" 37 0 3 m_DH_edge := sorry
theorem lm_Lw_40 : q_gV "DrawingHouseLaw" 40 18 3 m_Mo_edge := sorry
theorem lm_Lw_41 : q_gV "DrawingHouseLaw" 41 0 3 m_DH_group := sorry
theorem lm_Lw_44 : q_gV "DrawingHouseLaw" 44 18 3 m_Mo_group := sorry
theorem lm_Lw_45 : q_gV "DrawingHouseLaw" 45 0 4 m_DH_letter := sorry
theorem lm_Lw_49 : q_gV "DrawingHouseLaw" 49 18 4 m_Mo_letter := sorry
theorem lm_Lw_50 : q_gV "DrawingHouseLaw" 50 0 4 m_DH_change := sorry
theorem lm_Lw_53 : q_gV "DrawingHouseLaw" 53 18 4 m_Mo_change := sorry
theorem lm_Lw_54 : q_gV "DrawingHouseLaw" 54 0 2 m_DH_back := sorry
theorem lm_Lw_58 : q_gV "DrawingHouseLaw" 58 18 2 m_Mo_back := sorry
theorem lm_Lw_59 : q_gV "DrawingHouseLaw" 59 0 3 m_DH_far := sorry
theorem lm_Lw_62 : q_gV "DrawingHouseLaw" 62 18 3 m_Mo_far := sorry
theorem lm_Lw_63 : q_gV "DrawingHouseLaw" 63 0 2 m_DH_same := sorry
theorem lm_Lw_66 : q_gV "DrawingHouseLaw" 66 18 2 m_Mo_same := sorry
theorem lm_Lw_67 : q_gV "DrawingHouseLaw" 67 0 1 m_DH_map := sorry
theorem lm_Lw_70 : q_gV "DrawingHouseLaw" 70 18 1 m_Mo_map := sorry
theorem lm_Lw_71 : q_gV "DrawingHouseLaw" 71 0 2 m_DH_planar := sorry
theorem lm_Lw_74 : q_gV "DrawingHouseLaw" 74 18 2 m_Mo_planar := sorry
theorem lm_Lw_75 : q_gV "DrawingHouseLaw" 75 0 4 m_DH_turn := sorry
theorem lm_Lw_78 : q_gV "DrawingHouseLaw" 78 18 4 m_Mo_turn := sorry
theorem lm_Lw_79 : q_gV "DrawingHouseLaw" 79 0 3 m_DH_draw := sorry
theorem lm_Lw_82 : q_gV "DrawingHouseLaw" 82 18 3 m_Mo_draw := sorry
theorem lm_Lw_83 : q_gV "DrawingHouseLaw" 83 0 4 m_DH_at := sorry
theorem lm_Lw_86 : q_gV "DrawingHouseLaw" 86 18 4 m_Mo_at_1 := sorry
theorem lm_Lw_87 : q_gV "DrawingHouseLaw" 87 0 3 m_DH_told := sorry
theorem lm_Lw_90 : q_gV "DrawingHouseLaw" 90 18 3 m_Mo_told := sorry
theorem lm_Lw_91 : q_gV "DrawingHouseLaw" 91 0 5 m_DH_put := sorry
theorem lm_Lw_95 : q_gV "DrawingHouseLaw" 95 18 5 m_Mo_put := sorry
theorem lm_Lw_96 : q_gV "DrawingHouseLaw" 96 0 2 m_DH_route := sorry
theorem lm_Lw_99 : q_gV "DrawingHouseLaw" 99 18 2 m_Mo_route := sorry
theorem lm_Lw_100 : q_gV "DrawingHouseLaw" 100 0 3 m_DH_label := sorry
theorem lm_Lw_103 : q_gV "DrawingHouseLaw" 103 18 3 m_Mo_label := sorry
theorem lm_Lw_104 : q_gV "DrawingHouseLaw" 104 0 2 m_DH_judge := sorry
theorem lm_Lw_108 : q_gV "DrawingHouseLaw" 108 18 2 m_Mo_judge := sorry
theorem lm_Lw_109 : q_gV "DrawingHouseLaw" 109 0 2 m_DH_style := sorry
theorem lm_Lw_112 : q_gV "DrawingHouseLaw" 112 18 2 m_Mo_style := sorry
theorem lm_Lw_113 : q_gV "DrawingHouseLaw" 113 0 4 m_DH_shade := sorry
theorem lm_Lw_116 : q_gV "DrawingHouseLaw" 116 18 4 m_Mo_shade := sorry
theorem lm_Lw_117 : q_gV "DrawingHouseLaw" 117 0 2 m_DH_text := sorry
theorem lm_Lw_120 : q_gV "DrawingHouseLaw" 120 18 2 m_Mo_text := sorry
theorem lm_Lw_121 : q_gV "DrawingHouseLaw" 121 0 1 m_DH_octet := sorry
theorem lm_Lw_124 : q_gV "DrawingHouseLaw" 124 18 1 m_Mo_octet := sorry
theorem lm_Lw_125 : q_gV "DrawingHouseLaw" 125 0 3 m_DH_dots := sorry
theorem lm_Lw_128 : q_gV "DrawingHouseLaw" 128 18 3 m_Mo_dots := sorry
theorem lm_Lw_129 : q_gV "DrawingHouseLaw" 129 0 2 m_DH_dot := sorry
theorem lm_Lw_132 : q_gV "DrawingHouseLaw" 132 18 2 m_Mo_dot := sorry
theorem la_o0 {p : Program} {l : Launch} {e : Env} {s : State} {m : MethodId} {below : List Frame} {meth : Method} {c : Code} {b L : Nat} {xs : Nat → Int32} {D : qD} (X : lC p s m meth c b L xs D) {RL : Int → (Int → Int → Int) → Prop} (hRL : ∀ nc v, RL nc v → 399 ≤ nc) {dd ec es : Nat} (hdd : dd ≤ 800) {i : Int} (hi : 0 ≤ i ∧ i + 6 ≤ L) (o : ∀ a1 a2 a3 a4 a5 : Int, OPL RL l D dd ec es m_DH_feed m_Mo_feed [.inl a1, .inl a2, .inl a3, .inl a4, .inl a5]) {h : qh} (R : RL h.1.1 h.2) (e1 : ec ≤ h.1.2.1) (e2 : es ≤ h.1.2.2)
    (k : ∀ h2 : qh, RL h2.1.1 h2.2 → h2.1.2.1 = h.1.2.1 - ec → h2.1.2.2 = h.1.2.2 - es → lR p l e s m below meth c b D 1295 (lvL b D i) [] h2) : lR p l e s m below meth c b D 160 (lvL b D i) [] h := sorry
theorem la_o1 {p : Program} {l : Launch} {e : Env} {s : State} {m : MethodId} {below : List Frame} {meth : Method} {c : Code} {b L : Nat} {xs : Nat → Int32} {D : qD} (X : lC p s m meth c b L xs D) {RL : Int → (Int → Int → Int) → Prop} (hRL : ∀ nc v, RL nc v → 399 ≤ nc) {dd ec es : Nat} (hdd : dd ≤ 800) {i : Int} (hi : 0 ≤ i ∧ i + 6 ≤ L) (o : ∀ a1 a2 : Int, OPL RL l D dd ec es m_DH_read m_Mo_read [.inl a1, .inl a2]) {h : qh} (R : RL h.1.1 h.2) (e1 : ec ≤ h.1.2.1) (e2 : es ≤ h.1.2.2)
    (k : ∀ h2 : qh, RL h2.1.1 h2.2 → h2.1.2.1 = h.1.2.1 - ec → h2.1.2.2 = h.1.2.2 - es → lR p l e s m below meth c b D 1295 (lvL b D i) [] h2) : lR p l e s m below meth c b D 223 (lvL b D i) [] h := sorry
theorem la_o2 {p : Program} {l : Launch} {e : Env} {s : State} {m : MethodId} {below : List Frame} {meth : Method} {c : Code} {b L : Nat} {xs : Nat → Int32} {D : qD} (X : lC p s m meth c b L xs D) {RL : Int → (Int → Int → Int) → Prop} (hRL : ∀ nc v, RL nc v → 399 ≤ nc) {dd ec es : Nat} (hdd : dd ≤ 800) {i : Int} (hi : 0 ≤ i ∧ i + 6 ≤ L) (o : ∀ a1 : Int, OPL RL l D dd ec es m_DH_fault m_Mo_fault [.inl a1]) {h : qh} (R : RL h.1.1 h.2) (e1 : ec ≤ h.1.2.1) (e2 : es ≤ h.1.2.2)
    (k : ∀ h2 : qh, RL h2.1.1 h2.2 → h2.1.2.1 = h.1.2.1 - ec → h2.1.2.2 = h.1.2.2 - es → lR p l e s m below meth c b D 1295 (lvL b D i) [] h2) : lR p l e s m below meth c b D 256 (lvL b D i) [] h := sorry
theorem la_o3 {p : Program} {l : Launch} {e : Env} {s : State} {m : MethodId} {below : List Frame} {meth : Method} {c : Code} {b L : Nat} {xs : Nat → Int32} {D : qD} (X : lC p s m meth c b L xs D) {RL : Int → (Int → Int → Int) → Prop} (hRL : ∀ nc v, RL nc v → 399 ≤ nc) {dd ec es : Nat} (hdd : dd ≤ 800) {i : Int} (hi : 0 ≤ i ∧ i + 6 ≤ L) (o : ∀ a1 a2 : Int, OPL RL l D dd ec es m_DH_count m_Mo_count [.inl a1, .inl a2]) {h : qh} (R : RL h.1.1 h.2) (e1 : ec ≤ h.1.2.1) (e2 : es ≤ h.1.2.2)
    (k : ∀ h2 : qh, RL h2.1.1 h2.2 → h2.1.2.1 = h.1.2.1 - ec → h2.1.2.2 = h.1.2.2 - es → lR p l e s m below meth c b D 1295 (lvL b D i) [] h2) : lR p l e s m below meth c b D 279 (lvL b D i) [] h := sorry
theorem la_o4 {p : Program} {l : Launch} {e : Env} {s : State} {m : MethodId} {below : List Frame} {meth : Method} {c : Code} {b L : Nat} {xs : Nat → Int32} {D : qD} (X : lC p s m meth c b L xs D) {RL : Int → (Int → Int → Int) → Prop} (hRL : ∀ nc v, RL nc v → 399 ≤ nc) {dd ec es : Nat} (hdd : dd ≤ 800) {i : Int} (hi : 0 ≤ i ∧ i + 6 ≤ L) (o : ∀ a1 a2 a3 : Int, OPL RL l D dd ec es m_DH_node m_Mo_node [.inl a1, .inl a2, .inl a3]) {h : qh} (R : RL h.1.1 h.2) (e1 : ec ≤ h.1.2.1) (e2 : es ≤ h.1.2.2)
    (k : ∀ h2 : qh, RL h2.1.1 h2.2 → h2.1.2.1 = h.1.2.1 - ec → h2.1.2.2 = h.1.2.2 - es → lR p l e s m below meth c b D 1295 (lvL b D i) [] h2) : lR p l e s m below meth c b D 312 (lvL b D i) [] h := sorry
theorem la_o5 {p : Program} {l : Launch} {e : Env} {s : State} {m : MethodId} {below : List Frame} {meth : Method} {c : Code} {b L : Nat} {xs : Nat → Int32} {D : qD} (X : lC p s m meth c b L xs D) {RL : Int → (Int → Int → Int) → Prop} (hRL : ∀ nc v, RL nc v → 399 ≤ nc) {dd ec es : Nat} (hdd : dd ≤ 800) {i : Int} (hi : 0 ≤ i ∧ i + 6 ≤ L) (o : ∀ a1 a2 a3 : Int, OPL RL l D dd ec es m_DH_edge m_Mo_edge [.inl a1, .inl a2, .inl a3]) {h : qh} (R : RL h.1.1 h.2) (e1 : ec ≤ h.1.2.1) (e2 : es ≤ h.1.2.2)
    (k : ∀ h2 : qh, RL h2.1.1 h2.2 → h2.1.2.1 = h.1.2.1 - ec → h2.1.2.2 = h.1.2.2 - es → lR p l e s m below meth c b D 1295 (lvL b D i) [] h2) : lR p l e s m below meth c b D 355 (lvL b D i) [] h := sorry
theorem la_o6 {p : Program} {l : Launch} {e : Env} {s : State} {m : MethodId} {below : List Frame} {meth : Method} {c : Code} {b L : Nat} {xs : Nat → Int32} {D : qD} (X : lC p s m meth c b L xs D) {RL : Int → (Int → Int → Int) → Prop} (hRL : ∀ nc v, RL nc v → 399 ≤ nc) {dd ec es : Nat} (hdd : dd ≤ 800) {i : Int} (hi : 0 ≤ i ∧ i + 6 ≤ L) (o : ∀ a1 a2 a3 : Int, OPL RL l D dd ec es m_DH_group m_Mo_group [.inl a1, .inl a2, .inl a3]) {h : qh} (R : RL h.1.1 h.2) (e1 : ec ≤ h.1.2.1) (e2 : es ≤ h.1.2.2)
    (k : ∀ h2 : qh, RL h2.1.1 h2.2 → h2.1.2.1 = h.1.2.1 - ec → h2.1.2.2 = h.1.2.2 - es → lR p l e s m below meth c b D 1295 (lvL b D i) [] h2) : lR p l e s m below meth c b D 398 (lvL b D i) [] h := sorry
theorem la_o7 {p : Program} {l : Launch} {e : Env} {s : State} {m : MethodId} {below : List Frame} {meth : Method} {c : Code} {b L : Nat} {xs : Nat → Int32} {D : qD} (X : lC p s m meth c b L xs D) {RL : Int → (Int → Int → Int) → Prop} (hRL : ∀ nc v, RL nc v → 399 ≤ nc) {dd ec es : Nat} (hdd : dd ≤ 800) {i : Int} (hi : 0 ≤ i ∧ i + 6 ≤ L) (o : ∀ a1 a2 a3 a4 : Int, OPL RL l D dd ec es m_DH_letter m_Mo_letter [.inl a1, .inl a2, .inl a3, .inl a4]) {h : qh} (R : RL h.1.1 h.2) (e1 : ec ≤ h.1.2.1) (e2 : es ≤ h.1.2.2)
    (k : ∀ h2 : qh, RL h2.1.1 h2.2 → h2.1.2.1 = h.1.2.1 - ec → h2.1.2.2 = h.1.2.2 - es → lR p l e s m below meth c b D 1295 (lvL b D i) [] h2) : lR p l e s m below meth c b D 441 (lvL b D i) [] h := sorry
theorem la_o8 {p : Program} {l : Launch} {e : Env} {s : State} {m : MethodId} {below : List Frame} {meth : Method} {c : Code} {b L : Nat} {xs : Nat → Int32} {D : qD} (X : lC p s m meth c b L xs D) {RL : Int → (Int → Int → Int) → Prop} (hRL : ∀ nc v, RL nc v → 399 ≤ nc) {dd ec es : Nat} (hdd : dd ≤ 800) {i : Int} (hi : 0 ≤ i ∧ i + 6 ≤ L) (o : ∀ a1 a2 a3 a4 : Int, OPL RL l D dd ec es m_DH_change m_Mo_change [.inl a1, .inl a2, .inl a3, .inl a4]) {h : qh} (R : RL h.1.1 h.2) (e1 : ec ≤ h.1.2.1) (e2 : es ≤ h.1.2.2)
    (k : ∀ h2 : qh, RL h2.1.1 h2.2 → h2.1.2.1 = h.1.2.1 - ec → h2.1.2.2 = h.1.2.2 - es → lR p l e s m below meth c b D 1295 (lvL b D i) [] h2) : lR p l e s m below meth c b D 494 (lvL b D i) [] h := sorry
theorem la_o9 {p : Program} {l : Launch} {e : Env} {s : State} {m : MethodId} {below : List Frame} {meth : Method} {c : Code} {b L : Nat} {xs : Nat → Int32} {D : qD} (X : lC p s m meth c b L xs D) {RL : Int → (Int → Int → Int) → Prop} (hRL : ∀ nc v, RL nc v → 399 ≤ nc) {dd ec es : Nat} (hdd : dd ≤ 800) {i : Int} (hi : 0 ≤ i ∧ i + 6 ≤ L) (o : ∀ a1 a2 : Int, OPL RL l D dd ec es m_DH_back m_Mo_back [.inl a1, .inl a2]) {h : qh} (R : RL h.1.1 h.2) (e1 : ec ≤ h.1.2.1) (e2 : es ≤ h.1.2.2)
    (k : ∀ h2 : qh, RL h2.1.1 h2.2 → h2.1.2.1 = h.1.2.1 - ec → h2.1.2.2 = h.1.2.2 - es → lR p l e s m below meth c b D 1295 (lvL b D i) [] h2) : lR p l e s m below meth c b D 547 (lvL b D i) [] h := sorry
theorem la_o10 {p : Program} {l : Launch} {e : Env} {s : State} {m : MethodId} {below : List Frame} {meth : Method} {c : Code} {b L : Nat} {xs : Nat → Int32} {D : qD} (X : lC p s m meth c b L xs D) {RL : Int → (Int → Int → Int) → Prop} (hRL : ∀ nc v, RL nc v → 399 ≤ nc) {dd ec es : Nat} (hdd : dd ≤ 800) {i : Int} (hi : 0 ≤ i ∧ i + 6 ≤ L) (o : ∀ a1 a2 a3 : Int, OPL RL l D dd ec es m_DH_far m_Mo_far [.inl a1, .inl a2, .inl a3]) {h : qh} (R : RL h.1.1 h.2) (e1 : ec ≤ h.1.2.1) (e2 : es ≤ h.1.2.2)
    (k : ∀ h2 : qh, RL h2.1.1 h2.2 → h2.1.2.1 = h.1.2.1 - ec → h2.1.2.2 = h.1.2.2 - es → lR p l e s m below meth c b D 1295 (lvL b D i) [] h2) : lR p l e s m below meth c b D 580 (lvL b D i) [] h := sorry
theorem la_o11 {p : Program} {l : Launch} {e : Env} {s : State} {m : MethodId} {below : List Frame} {meth : Method} {c : Code} {b L : Nat} {xs : Nat → Int32} {D : qD} (X : lC p s m meth c b L xs D) {RL : Int → (Int → Int → Int) → Prop} (hRL : ∀ nc v, RL nc v → 399 ≤ nc) {dd ec es : Nat} (hdd : dd ≤ 800) {i : Int} (hi : 0 ≤ i ∧ i + 6 ≤ L) (o : ∀ a1 a2 : Int, OPL RL l D dd ec es m_DH_same m_Mo_same [.inl a1, .inl a2]) {h : qh} (R : RL h.1.1 h.2) (e1 : ec ≤ h.1.2.1) (e2 : es ≤ h.1.2.2)
    (k : ∀ h2 : qh, RL h2.1.1 h2.2 → h2.1.2.1 = h.1.2.1 - ec → h2.1.2.2 = h.1.2.2 - es → lR p l e s m below meth c b D 1295 (lvL b D i) [] h2) : lR p l e s m below meth c b D 623 (lvL b D i) [] h := sorry
theorem la_o12 {p : Program} {l : Launch} {e : Env} {s : State} {m : MethodId} {below : List Frame} {meth : Method} {c : Code} {b L : Nat} {xs : Nat → Int32} {D : qD} (X : lC p s m meth c b L xs D) {RL : Int → (Int → Int → Int) → Prop} (hRL : ∀ nc v, RL nc v → 399 ≤ nc) {dd ec es : Nat} (hdd : dd ≤ 800) {i : Int} (hi : 0 ≤ i ∧ i + 6 ≤ L) (o : ∀ a1 : Int, OPL RL l D dd ec es m_DH_map m_Mo_map [.inl a1]) {h : qh} (R : RL h.1.1 h.2) (e1 : ec ≤ h.1.2.1) (e2 : es ≤ h.1.2.2)
    (k : ∀ h2 : qh, RL h2.1.1 h2.2 → h2.1.2.1 = h.1.2.1 - ec → h2.1.2.2 = h.1.2.2 - es → lR p l e s m below meth c b D 1295 (lvL b D i) [] h2) : lR p l e s m below meth c b D 656 (lvL b D i) [] h := sorry
theorem la_o13 {p : Program} {l : Launch} {e : Env} {s : State} {m : MethodId} {below : List Frame} {meth : Method} {c : Code} {b L : Nat} {xs : Nat → Int32} {D : qD} (X : lC p s m meth c b L xs D) {RL : Int → (Int → Int → Int) → Prop} (hRL : ∀ nc v, RL nc v → 399 ≤ nc) {dd ec es : Nat} (hdd : dd ≤ 800) {i : Int} (hi : 0 ≤ i ∧ i + 6 ≤ L) (o : ∀ a1 a2 : Int, OPL RL l D dd ec es m_DH_planar m_Mo_planar [.inl a1, .inl a2]) {h : qh} (R : RL h.1.1 h.2) (e1 : ec ≤ h.1.2.1) (e2 : es ≤ h.1.2.2)
    (k : ∀ h2 : qh, RL h2.1.1 h2.2 → h2.1.2.1 = h.1.2.1 - ec → h2.1.2.2 = h.1.2.2 - es → lR p l e s m below meth c b D 1295 (lvL b D i) [] h2) : lR p l e s m below meth c b D 679 (lvL b D i) [] h := sorry
theorem la_o14 {p : Program} {l : Launch} {e : Env} {s : State} {m : MethodId} {below : List Frame} {meth : Method} {c : Code} {b L : Nat} {xs : Nat → Int32} {D : qD} (X : lC p s m meth c b L xs D) {RL : Int → (Int → Int → Int) → Prop} (hRL : ∀ nc v, RL nc v → 399 ≤ nc) {dd ec es : Nat} (hdd : dd ≤ 800) {i : Int} (hi : 0 ≤ i ∧ i + 6 ≤ L) (o : ∀ a1 a2 a3 a4 : Int, OPL RL l D dd ec es m_DH_turn m_Mo_turn [.inl a1, .inl a2, .inl a3, .inl a4]) {h : qh} (R : RL h.1.1 h.2) (e1 : ec ≤ h.1.2.1) (e2 : es ≤ h.1.2.2)
    (k : ∀ h2 : qh, RL h2.1.1 h2.2 → h2.1.2.1 = h.1.2.1 - ec → h2.1.2.2 = h.1.2.2 - es → lR p l e s m below meth c b D 1295 (lvL b D i) [] h2) : lR p l e s m below meth c b D 712 (lvL b D i) [] h := sorry
theorem la_o15 {p : Program} {l : Launch} {e : Env} {s : State} {m : MethodId} {below : List Frame} {meth : Method} {c : Code} {b L : Nat} {xs : Nat → Int32} {D : qD} (X : lC p s m meth c b L xs D) {RL : Int → (Int → Int → Int) → Prop} (hRL : ∀ nc v, RL nc v → 399 ≤ nc) {dd ec es : Nat} (hdd : dd ≤ 800) {i : Int} (hi : 0 ≤ i ∧ i + 6 ≤ L) (o : ∀ a1 a2 a3 : Int, OPL RL l D dd ec es m_DH_draw m_Mo_draw [.inl a1, .inl a2, .inl a3]) {h : qh} (R : RL h.1.1 h.2) (e1 : ec ≤ h.1.2.1) (e2 : es ≤ h.1.2.2)
    (k : ∀ h2 : qh, RL h2.1.1 h2.2 → h2.1.2.1 = h.1.2.1 - ec → h2.1.2.2 = h.1.2.2 - es → lR p l e s m below meth c b D 1295 (lvL b D i) [] h2) : lR p l e s m below meth c b D 765 (lvL b D i) [] h := sorry
theorem la_o16 {p : Program} {l : Launch} {e : Env} {s : State} {m : MethodId} {below : List Frame} {meth : Method} {c : Code} {b L : Nat} {xs : Nat → Int32} {D : qD} (X : lC p s m meth c b L xs D) {RL : Int → (Int → Int → Int) → Prop} (hRL : ∀ nc v, RL nc v → 399 ≤ nc) {dd ec es : Nat} (hdd : dd ≤ 800) {i : Int} (hi : 0 ≤ i ∧ i + 6 ≤ L) (o : ∀ a1 a2 a3 a4 : Int, OPL RL l D dd ec es m_DH_at m_Mo_at_1 [.inl a1, .inl a2, .inl a3, .inl a4]) {h : qh} (R : RL h.1.1 h.2) (e1 : ec ≤ h.1.2.1) (e2 : es ≤ h.1.2.2)
    (k : ∀ h2 : qh, RL h2.1.1 h2.2 → h2.1.2.1 = h.1.2.1 - ec → h2.1.2.2 = h.1.2.2 - es → lR p l e s m below meth c b D 1295 (lvL b D i) [] h2) : lR p l e s m below meth c b D 808 (lvL b D i) [] h := sorry
theorem la_o17 {p : Program} {l : Launch} {e : Env} {s : State} {m : MethodId} {below : List Frame} {meth : Method} {c : Code} {b L : Nat} {xs : Nat → Int32} {D : qD} (X : lC p s m meth c b L xs D) {RL : Int → (Int → Int → Int) → Prop} (hRL : ∀ nc v, RL nc v → 399 ≤ nc) {dd ec es : Nat} (hdd : dd ≤ 800) {i : Int} (hi : 0 ≤ i ∧ i + 6 ≤ L) (o : ∀ a1 a2 a3 : Int, OPL RL l D dd ec es m_DH_told m_Mo_told [.inl a1, .inl a2, .inl a3]) {h : qh} (R : RL h.1.1 h.2) (e1 : ec ≤ h.1.2.1) (e2 : es ≤ h.1.2.2)
    (k : ∀ h2 : qh, RL h2.1.1 h2.2 → h2.1.2.1 = h.1.2.1 - ec → h2.1.2.2 = h.1.2.2 - es → lR p l e s m below meth c b D 1295 (lvL b D i) [] h2) : lR p l e s m below meth c b D 861 (lvL b D i) [] h := sorry
theorem la_o18 {p : Program} {l : Launch} {e : Env} {s : State} {m : MethodId} {below : List Frame} {meth : Method} {c : Code} {b L : Nat} {xs : Nat → Int32} {D : qD} (X : lC p s m meth c b L xs D) {RL : Int → (Int → Int → Int) → Prop} (hRL : ∀ nc v, RL nc v → 399 ≤ nc) {dd ec es : Nat} (hdd : dd ≤ 800) {i : Int} (hi : 0 ≤ i ∧ i + 6 ≤ L) (o : ∀ a1 a2 a3 a4 a5 : Int, OPL RL l D dd ec es m_DH_put m_Mo_put [.inl a1, .inl a2, .inl a3, .inl a4, .inl a5]) {h : qh} (R : RL h.1.1 h.2) (e1 : ec ≤ h.1.2.1) (e2 : es ≤ h.1.2.2)
    (k : ∀ h2 : qh, RL h2.1.1 h2.2 → h2.1.2.1 = h.1.2.1 - ec → h2.1.2.2 = h.1.2.2 - es → lR p l e s m below meth c b D 1295 (lvL b D i) [] h2) : lR p l e s m below meth c b D 904 (lvL b D i) [] h := sorry
theorem la_o19 {p : Program} {l : Launch} {e : Env} {s : State} {m : MethodId} {below : List Frame} {meth : Method} {c : Code} {b L : Nat} {xs : Nat → Int32} {D : qD} (X : lC p s m meth c b L xs D) {RL : Int → (Int → Int → Int) → Prop} (hRL : ∀ nc v, RL nc v → 399 ≤ nc) {dd ec es : Nat} (hdd : dd ≤ 800) {i : Int} (hi : 0 ≤ i ∧ i + 6 ≤ L) (o : ∀ a1 a2 : Int, OPL RL l D dd ec es m_DH_route m_Mo_route [.inl a1, .inl a2]) {h : qh} (R : RL h.1.1 h.2) (e1 : ec ≤ h.1.2.1) (e2 : es ≤ h.1.2.2)
    (k : ∀ h2 : qh, RL h2.1.1 h2.2 → h2.1.2.1 = h.1.2.1 - ec → h2.1.2.2 = h.1.2.2 - es → lR p l e s m below meth c b D 1295 (lvL b D i) [] h2) : lR p l e s m below meth c b D 967 (lvL b D i) [] h := sorry
theorem la_o20 {p : Program} {l : Launch} {e : Env} {s : State} {m : MethodId} {below : List Frame} {meth : Method} {c : Code} {b L : Nat} {xs : Nat → Int32} {D : qD} (X : lC p s m meth c b L xs D) {RL : Int → (Int → Int → Int) → Prop} (hRL : ∀ nc v, RL nc v → 399 ≤ nc) {dd ec es : Nat} (hdd : dd ≤ 800) {i : Int} (hi : 0 ≤ i ∧ i + 6 ≤ L) (o : ∀ a1 a2 a3 : Int, OPL RL l D dd ec es m_DH_label m_Mo_label [.inl a1, .inl a2, .inl a3]) {h : qh} (R : RL h.1.1 h.2) (e1 : ec ≤ h.1.2.1) (e2 : es ≤ h.1.2.2)
    (k : ∀ h2 : qh, RL h2.1.1 h2.2 → h2.1.2.1 = h.1.2.1 - ec → h2.1.2.2 = h.1.2.2 - es → lR p l e s m below meth c b D 1295 (lvL b D i) [] h2) : lR p l e s m below meth c b D 1000 (lvL b D i) [] h := sorry
theorem la_o21 {p : Program} {l : Launch} {e : Env} {s : State} {m : MethodId} {below : List Frame} {meth : Method} {c : Code} {b L : Nat} {xs : Nat → Int32} {D : qD} (X : lC p s m meth c b L xs D) {RL : Int → (Int → Int → Int) → Prop} (hRL : ∀ nc v, RL nc v → 399 ≤ nc) {dd ec es : Nat} (hdd : dd ≤ 800) {i : Int} (hi : 0 ≤ i ∧ i + 6 ≤ L) (o : ∀ a1 a2 : Int, OPJ RL l D dd ec es m_DH_judge m_Mo_judge [.inl a1, .inl a2]) {h : qh} (R : RL h.1.1 h.2) (e1 : ec ≤ h.1.2.1) (e2 : es ≤ h.1.2.2)
    (k : ∀ h2 : qh, RL h2.1.1 h2.2 → h2.1.2.1 = h.1.2.1 - ec → h2.1.2.2 = h.1.2.2 - es → lR p l e s m below meth c b D 1295 (lvL b D i) [] h2) : lR p l e s m below meth c b D 1043 (lvL b D i) [] h := sorry
theorem la_o22 {p : Program} {l : Launch} {e : Env} {s : State} {m : MethodId} {below : List Frame} {meth : Method} {c : Code} {b L : Nat} {xs : Nat → Int32} {D : qD} (X : lC p s m meth c b L xs D) {RL : Int → (Int → Int → Int) → Prop} (hRL : ∀ nc v, RL nc v → 399 ≤ nc) {dd ec es : Nat} (hdd : dd ≤ 800) {i : Int} (hi : 0 ≤ i ∧ i + 6 ≤ L) (o : ∀ a1 a2 : Int, OPL RL l D dd ec es m_DH_style m_Mo_style [.inl a1, .inl a2]) {h : qh} (R : RL h.1.1 h.2) (e1 : ec ≤ h.1.2.1) (e2 : es ≤ h.1.2.2)
    (k : ∀ h2 : qh, RL h2.1.1 h2.2 → h2.1.2.1 = h.1.2.1 - ec → h2.1.2.2 = h.1.2.2 - es → lR p l e s m below meth c b D 1295 (lvL b D i) [] h2) : lR p l e s m below meth c b D 1077 (lvL b D i) [] h := sorry
theorem la_o23 {p : Program} {l : Launch} {e : Env} {s : State} {m : MethodId} {below : List Frame} {meth : Method} {c : Code} {b L : Nat} {xs : Nat → Int32} {D : qD} (X : lC p s m meth c b L xs D) {RL : Int → (Int → Int → Int) → Prop} (hRL : ∀ nc v, RL nc v → 399 ≤ nc) {dd ec es : Nat} (hdd : dd ≤ 800) {i : Int} (hi : 0 ≤ i ∧ i + 6 ≤ L) (o : ∀ a1 a2 a3 a4 : Int, OPL RL l D dd ec es m_DH_shade m_Mo_shade [.inl a1, .inl a2, .inl a3, .inl a4]) {h : qh} (R : RL h.1.1 h.2) (e1 : ec ≤ h.1.2.1) (e2 : es ≤ h.1.2.2)
    (k : ∀ h2 : qh, RL h2.1.1 h2.2 → h2.1.2.1 = h.1.2.1 - ec → h2.1.2.2 = h.1.2.2 - es → lR p l e s m below meth c b D 1295 (lvL b D i) [] h2) : lR p l e s m below meth c b D 1110 (lvL b D i) [] h := sorry
theorem la_o24 {p : Program} {l : Launch} {e : Env} {s : State} {m : MethodId} {below : List Frame} {meth : Method} {c : Code} {b L : Nat} {xs : Nat → Int32} {D : qD} (X : lC p s m meth c b L xs D) {RL : Int → (Int → Int → Int) → Prop} (hRL : ∀ nc v, RL nc v → 399 ≤ nc) {dd ec es : Nat} (hdd : dd ≤ 800) {i : Int} (hi : 0 ≤ i ∧ i + 6 ≤ L) (o : ∀ a1 a2 : Int, OPL RL l D dd ec es m_DH_text m_Mo_text [.inl a1, .inl a2]) {h : qh} (R : RL h.1.1 h.2) (e1 : ec ≤ h.1.2.1) (e2 : es ≤ h.1.2.2)
    (k : ∀ h2 : qh, RL h2.1.1 h2.2 → h2.1.2.1 = h.1.2.1 - ec → h2.1.2.2 = h.1.2.2 - es → lR p l e s m below meth c b D 1295 (lvL b D i) [] h2) : lR p l e s m below meth c b D 1163 (lvL b D i) [] h := sorry
theorem la_o25 {p : Program} {l : Launch} {e : Env} {s : State} {m : MethodId} {below : List Frame} {meth : Method} {c : Code} {b L : Nat} {xs : Nat → Int32} {D : qD} (X : lC p s m meth c b L xs D) {RL : Int → (Int → Int → Int) → Prop} (hRL : ∀ nc v, RL nc v → 399 ≤ nc) {dd ec es : Nat} (hdd : dd ≤ 800) {i : Int} (hi : 0 ≤ i ∧ i + 6 ≤ L) (o : ∀ a1 : Int, OPL RL l D dd ec es m_DH_octet m_Mo_octet [.inl a1]) {h : qh} (R : RL h.1.1 h.2) (e1 : ec ≤ h.1.2.1) (e2 : es ≤ h.1.2.2)
    (k : ∀ h2 : qh, RL h2.1.1 h2.2 → h2.1.2.1 = h.1.2.1 - ec → h2.1.2.2 = h.1.2.2 - es → lR p l e s m below meth c b D 1295 (lvL b D i) [] h2) : lR p l e s m below meth c b D 1196 (lvL b D i) [] h := sorry
theorem la_o26 {p : Program} {l : Launch} {e : Env} {s : State} {m : MethodId} {below : List Frame} {meth : Method} {c : Code} {b L : Nat} {xs : Nat → Int32} {D : qD} (X : lC p s m meth c b L xs D) {RL : Int → (Int → Int → Int) → Prop} (hRL : ∀ nc v, RL nc v → 399 ≤ nc) {dd ec es : Nat} (hdd : dd ≤ 800) {i : Int} (hi : 0 ≤ i ∧ i + 6 ≤ L) (o : ∀ a1 a2 a3 : Int, OPL RL l D dd ec es m_DH_dots m_Mo_dots [.inl a1, .inl a2, .inl a3]) {h : qh} (R : RL h.1.1 h.2) (e1 : ec ≤ h.1.2.1) (e2 : es ≤ h.1.2.2)
    (k : ∀ h2 : qh, RL h2.1.1 h2.2 → h2.1.2.1 = h.1.2.1 - ec → h2.1.2.2 = h.1.2.2 - es → lR p l e s m below meth c b D 1295 (lvL b D i) [] h2) : lR p l e s m below meth c b D 1219 (lvL b D i) [] h := sorry
theorem la_o27 {p : Program} {l : Launch} {e : Env} {s : State} {m : MethodId} {below : List Frame} {meth : Method} {c : Code} {b L : Nat} {xs : Nat → Int32} {D : qD} (X : lC p s m meth c b L xs D) {RL : Int → (Int → Int → Int) → Prop} (hRL : ∀ nc v, RL nc v → 399 ≤ nc) {dd ec es : Nat} (hdd : dd ≤ 800) {i : Int} (hi : 0 ≤ i ∧ i + 6 ≤ L) (o : ∀ a1 a2 : Int, OPL RL l D dd ec es m_DH_dot m_Mo_dot [.inl a1, .inl a2]) {h : qh} (R : RL h.1.1 h.2) (e1 : ec ≤ h.1.2.1) (e2 : es ≤ h.1.2.2)
    (k : ∀ h2 : qh, RL h2.1.1 h2.2 → h2.1.2.1 = h.1.2.1 - ec → h2.1.2.2 = h.1.2.2 - es → lR p l e s m below meth c b D 1295 (lvL b D i) [] h2) : lR p l e s m below meth c b D 1262 (lvL b D i) [] h := sorry
/-- all operations -/
def LOPS (RL : Int → (Int → Int → Int) → Prop) (l : Launch) (D : qD) : Prop :=
  (∀ a1 a2 a3 a4 a5 : Int, OPL RL l D 700 0 0 m_DH_feed m_Mo_feed [.inl a1, .inl a2, .inl a3, .inl a4, .inl a5]) ∧
  (∀ a1 a2 : Int, OPL RL l D 700 0 0 m_DH_read m_Mo_read [.inl a1, .inl a2]) ∧
  (∀ a1 : Int, OPL RL l D 700 0 0 m_DH_fault m_Mo_fault [.inl a1]) ∧
  (∀ a1 a2 : Int, OPL RL l D 700 0 0 m_DH_count m_Mo_count [.inl a1, .inl a2]) ∧
  (∀ a1 a2 a3 : Int, OPL RL l D 700 0 0 m_DH_node m_Mo_node [.inl a1, .inl a2, .inl a3]) ∧
  (∀ a1 a2 a3 : Int, OPL RL l D 700 0 0 m_DH_edge m_Mo_edge [.inl a1, .inl a2, .inl a3]) ∧
  (∀ a1 a2 a3 : Int, OPL RL l D 700 0 0 m_DH_group m_Mo_group [.inl a1, .inl a2, .inl a3]) ∧
  (∀ a1 a2 a3 a4 : Int, OPL RL l D 700 0 0 m_DH_letter m_Mo_letter [.inl a1, .inl a2, .inl a3, .inl a4]) ∧
  (∀ a1 a2 a3 a4 : Int, OPL RL l D 700 12 550 m_DH_change m_Mo_change [.inl a1, .inl a2, .inl a3, .inl a4]) ∧
  (∀ a1 a2 : Int, OPL RL l D 700 0 0 m_DH_back m_Mo_back [.inl a1, .inl a2]) ∧
  (∀ a1 a2 a3 : Int, OPL RL l D 700 0 0 m_DH_far m_Mo_far [.inl a1, .inl a2, .inl a3]) ∧
  (∀ a1 a2 : Int, OPL RL l D 700 0 0 m_DH_same m_Mo_same [.inl a1, .inl a2]) ∧
  (∀ a1 : Int, OPL RL l D 700 0 0 m_DH_map m_Mo_map [.inl a1]) ∧
  (∀ a1 a2 : Int, OPL RL l D 700 0 0 m_DH_planar m_Mo_planar [.inl a1, .inl a2]) ∧
  (∀ a1 a2 a3 a4 : Int, OPL RL l D 700 0 0 m_DH_turn m_Mo_turn [.inl a1, .inl a2, .inl a3, .inl a4]) ∧
  (∀ a1 a2 a3 : Int, OPL RL l D 700 0 0 m_DH_draw m_Mo_draw [.inl a1, .inl a2, .inl a3]) ∧
  (∀ a1 a2 a3 a4 : Int, OPL RL l D 700 0 0 m_DH_at m_Mo_at_1 [.inl a1, .inl a2, .inl a3, .inl a4]) ∧
  (∀ a1 a2 a3 : Int, OPL RL l D 700 0 0 m_DH_told m_Mo_told [.inl a1, .inl a2, .inl a3]) ∧
  (∀ a1 a2 a3 a4 a5 : Int, OPL RL l D 700 0 0 m_DH_put m_Mo_put [.inl a1, .inl a2, .inl a3, .inl a4, .inl a5]) ∧
  (∀ a1 a2 : Int, OPL RL l D 700 0 0 m_DH_route m_Mo_route [.inl a1, .inl a2]) ∧
  (∀ a1 a2 a3 : Int, OPL RL l D 700 0 0 m_DH_label m_Mo_label [.inl a1, .inl a2, .inl a3]) ∧
  (∀ a1 a2 : Int, OPJ RL l D 700 0 0 m_DH_judge m_Mo_judge [.inl a1, .inl a2]) ∧
  (∀ a1 a2 : Int, OPL RL l D 700 0 0 m_DH_style m_Mo_style [.inl a1, .inl a2]) ∧
  (∀ a1 a2 a3 a4 : Int, OPL RL l D 700 0 0 m_DH_shade m_Mo_shade [.inl a1, .inl a2, .inl a3, .inl a4]) ∧
  (∀ a1 a2 : Int, OPL RL l D 700 0 0 m_DH_text m_Mo_text [.inl a1, .inl a2]) ∧
  (∀ a1 : Int, OPL RL l D 700 0 0 m_DH_octet m_Mo_octet [.inl a1]) ∧
  (∀ a1 a2 a3 : Int, OPL RL l D 700 0 0 m_DH_dots m_Mo_dots [.inl a1, .inl a2, .inl a3]) ∧
  (∀ a1 a2 : Int, OPL RL l D 700 0 0 m_DH_dot m_Mo_dot [.inl a1, .inl a2])
theorem la_loop {p : Program} {l : Launch} {e : Env} {s : State} {m : MethodId} {below : List Frame} {meth : Method} {c : Code} {b L : Nat} {xs : Nat → Int32} {D : qD} (X : lC p s m meth c b L xs D) {RL : Int → (Int → Int → Int) → Prop} (hRL : ∀ nc v, RL nc v → 399 ≤ nc) (O : LOPS RL l D) : ∀ (n : Nat) (i : Int) (h : qh), 0 ≤ i → i ≤ 30000 → (L : Int) < i + 6 * (n : Int) + 6 → RL h.1.1 h.2 → 12 * n ≤ h.1.2.1 → 550 * n ≤ h.1.2.2 → lR p l e s m below meth c b D 18 (lvL b D i) [] h := sorry
end
section
/-! printed by gen/p_start.py: the world at the entry of the law -/
theorem kn_all {s : State} {args : Array Value} (hG : ∀ w ∈ q_G, w.before args s = true) : ∀ ci : Nat, ci < 19 → ∃ (cC : ClassId) (iS : Nat → Nat), u_Kn s (cr ci).1 (cr ci).2.1 (cr ci).2.2 cC iS := sorry
theorem sr_mem : ∀ e ∈ q_sr, Cond.stringRef e.1 e.2.1 e.2.2.1 ∈ tables_1 := sorry
/-- what the start says of the String constants -/
def srN (e : String × Nat × String × Nat) : List Cond :=
  [Cond.exactly (.string e.1 e.2.1) "java/lang/String", Cond.eq (.field (.string e.1 e.2.1) "java/lang/String" "coder" "B") (.int 0), Cond.arrayOf (.field (.string e.1 e.2.1) "java/lang/String" "value" "[B") .byte, Cond.eq (.length (.field (.string e.1 e.2.1) "java/lang/String" "value" "[B")) (.int (Int32.ofNat (q_sb.getD e.2.2.2 []).length))] ++ (List.range (q_sb.getD e.2.2.2 []).length).map (fun j => Cond.eq (.elem (.field (.string e.1 e.2.1) "java/lang/String" "value" "[B") (.int (Int32.ofNat j))) (.int ((q_sb.getD e.2.2.2 []).getD j 0)))
set_option maxRecDepth 100000 in
theorem sr_need : List.isSublist (q_sr.flatMap srN) (flatC narrow_1) = true := sorry
theorem sr_in {e : String × Nat × String × Nat} (he : e ∈ q_sr) {w : Cond} (hw : w ∈ srN e) : w ∈ flatC narrow_1 := sorry
theorem sr_num : ∀ i : Nat, i < 75 → ∃ e, e ∈ q_sr ∧ e.2.2.2 = i := sorry
theorem sr_one {e e' : String × Nat × String × Nat} (h : e ∈ q_sr) (h' : e' ∈ q_sr) (q : e.2.2.2 = e'.2.2.2) : e = e' := sorry
theorem sr_len : ∀ e ∈ q_sr, e.2.2.2 < 75 := sorry
theorem sb_len : ∀ i : Nat, (q_sb.getD i []).length < 2 ^ 31 := sorry
theorem str_at {s : State} {args : Array Value} {A : Nat → Prop} (hA : ∀ a : Nat, a < s.heap.size → ¬ A a) (hN : ∀ w ∈ flatC narrow_1, w.before args s = true) {e : String × Nat × String × Nat} (he : e ∈ q_sr) :
    ∃ q : Nat × Nat, (Term.string e.1 e.2.1).eval args s none [] s = some (.ref q.1) ∧ va_O "java/lang/String" q.1 A s s.heap ∧ va_OF "java/lang/String" "coder" "B" (.int 0) q.1 A s s.heap ∧ va_OF "java/lang/String" "value" "[B" (.ref q.2) q.1 A s s.heap ∧ va_T .byte q.2 (q_sb.getD e.2.2.2 []).length (fun j => .int ((q_sb.getD e.2.2.2 []).getD j 0)) A s s.heap := sorry
theorem arr_at {s : State} {args : Array Value} (hT : ∀ w ∈ tables_1, w.before args s = true) (t : Nat) : ∃ cA : ClassId, 100 ≤ t → t < 107 → ArrOfT s cA (q_aty t) ∧ va_RA s cA (q_aty t) := sorry
theorem q_start {p : Program} {s : State} {m : MethodId} {meth : Method} {c : Code} {b L : Nat} {xs : Nat → Int32} (C0 : lw_At p s m meth c b L xs) : ∃ D : qD, q_W D s ∧ D.2.2.1 = s.heap.size := sorry
end
section
/-! printed by gen/p_begin.py: the law from its entry, given what the operations and the constructors do -/
theorem li_Lw_9 : q_gI "DrawingHouseLaw" 9 0 m_DH_init := sorry
theorem li_Lw_12 : q_gI "DrawingHouseLaw" 12 0 m_Mo_init := sorry
/-- what both constructors do: together they make 397 cells, and leave what the operations want -/
def LINI (RL : Int → (Int → Int → Int) → Prop) (l : Launch) (D : qD) : Prop := ∃ S1 S2 : Nat, S1 + S2 ≤ 4900000 ∧
  qM l D (700, 279, S1) m_DH_init [.inr (.inr 0)] ((1, 608191, 7228485), nw2 (fun _ _ => 0) 0 (fun j => qdf (q_ft 0 j.toNat))) (fun r h1 => r = none ∧ h1.1 = (280, 608191 - 279, 7228485 - S1) ∧
    qM l D (700, 118, S2) m_Mo_init [.inr (.inr 280)] ((281, 608191 - 279 - 1, 7228485 - S1 - 176), nw2 h1.2 280 (fun j => qdf (q_ft 18 j.toNat))) (fun r' h2 => r' = none ∧ h2.1 = (399, 608191 - 279 - 1 - 118, 7228485 - S1 - 176 - S2) ∧ RL 399 h2.2))
set_option maxRecDepth 100000 in
theorem hdvL_0 : ∀ k, k < (cr 0).2.2 → (parseFieldDescriptor ((cr 0).2.1 k).2.2.1).map defaultValue = some (q_dv (q_ft 0 k)) := sorry
set_option maxRecDepth 100000 in
theorem hdvL_18 : ∀ k, k < (cr 18).2.2 → (parseFieldDescriptor ((cr 18).2.1 k).2.2.1).map defaultValue = some (q_dv (q_ft 18 k)) := sorry
theorem la_begin {p : Program} {l : Launch} {e : Env} {s : State} {m : MethodId} {below : List Frame} {meth : Method} {c : Code} {b L : Nat} {xs : Nat → Int32} {D : qD} (X : lC p s m meth c b L xs D) {RL : Int → (Int → Int → Int) → Prop} (hRL : ∀ nc v, RL nc v → 399 ≤ nc) (O : LOPS RL l D) (I : LINI RL l D) :
    lR p l e s m below meth c b D 0 [(0, .ref b)] [] ((0, 608192, 7228522), fun _ _ => 0) := sorry
set_option maxRecDepth 100000 in
theorem whole_of {p : Program} {e : Env} {s : State} {m : MethodId} {below : List Frame} {meth : Method} {c : Code} (l : Launch) {b L : Nat} {xs : Nat → Int32} {RL : Int → (Int → Int → Int) → Prop} (hRL : ∀ nc v, RL nc v → 399 ≤ nc) (O : ∀ D : qD, LOPS RL l D) (I : ∀ D : qD, LINI RL l D) (hL : L ≤ 24576) (C0 : lw_At p s m meth c b L xs) :
    W p l e room_1 s m #[Value.ref b] below meth c s.heap [] 0 0 (lw_Z below #[Value.ref b] s) (entryFrame m ([Value.ref b] : List Value).toArray 4) := sorry
end
