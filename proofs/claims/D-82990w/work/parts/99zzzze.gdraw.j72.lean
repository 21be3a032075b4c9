section
/-! ===== the grid: Grid.draw ===== -/
/-- what Grid.draw leaves as it was -/
def KGD (v v' : Int → Int → Int) : Prop := (∀ a : Int, (a < 166 ∨ 174 < a) → (a < 238 ∨ 245 < a) → a ≠ 199 → a ≠ 200 → a ≠ 201 → v' a = v a) ∧ (∀ j : Int, j ≠ 1 → j ≠ 2 → v' 166 j = v 166 j) ∧ ∀ j : Int, j ≠ 7 → v' 238 j = v 238 j
theorem KGD.tr {v v' v'' : Int → Int → Int} (h : KGD v v') (h' : KGD v' v'') : KGD v v'' := sorry
theorem KGD.w {v v' : Int → Int → Int} {F C : List Int} (k : KS 166 F C v v') (hF : ∀ j, j ∈ F → j = 1 ∨ j = 2) (hC : ∀ c, c ∈ C → 167 ≤ c ∧ c ≤ 174) : KGD v v' := sorry
theorem KGD.g {v v' : Int → Int → Int} {F C : List Int} (k : KS 238 F C v v') (hF : ∀ j, j ∈ F → j = 7) (hC : ∀ c, c ∈ C → 239 ≤ c ∧ c ≤ 245) : KGD v v' := sorry
theorem KGD.s {v v' : Int → Int → Int} {C : List Int} (k : KS 198 [] C v v') (hC : ∀ c, c ∈ C → 199 ≤ c ∧ c ≤ 201) : KGD v v' := sorry
set_option maxRecDepth 100000 in
theorem sp_Gd_draw {l : Launch} {D : qD} {d N m0 : Nat} {t0 h0 : Int → Int} {r0 : Int → List Int} {h : qh} {Q : qQ} (hF : WF h.2) (eN : h.2 166 0 = N) (em : h.2 166 1 = m0) (eT : ∀ e, blw m0 e → h.2 167 e = t0 e ∧ h.2 168 e = h0 e) (N0 : N ≤ 24) (m80 : m0 ≤ 80) (G : GI t0 h0 m0 N r0) (hrow : rowC h.2 N r0) (b1 : h.2 238 1 = 240) (b2 : h.2 238 2 = 241) (b3 : h.2 238 3 = 242) (b4 : h.2 238 4 = 243) (b5 : h.2 238 5 = 244) (b6 : h.2 238 6 = 245) (s5 : h.2 198 5 = 199) (s6 : h.2 198 6 = 200) (s7 : h.2 198 7 = 201)
    (hq : ∀ v, KGD h.2 v → GRID t0 h0 m0 N r0 (v 199) (v 200) → (∀ e : Int, 0 ≤ e → e < 48 → v 201 e = 0) → Q none (h.1, v)) :
    qM l D (d + 7, 0, 0) m_Gd_draw [.inr (.inr 238), .inr (.inr 166), .inr (.inr 198)] h Q := sorry
end
section
/-! ===== the twin's grid: who may leave ===== -/
theorem jn1_of {t h : Int → Int} {e x : Int} (i : inc t h e x) : jn1 t h e x (oth t h e x) := sorry
set_option maxRecDepth 100000 in
theorem sp_Mo_eo {l : Launch} {D : qD} {d m : Nat} {a b : Int} {t h' : Int → Int} {h : qh} {Q : qQ} (hF : MF h.2) (em : h.2 280 32 = m) (eT : ∀ e, blw m e → (h.2 295 e = t e ∧ h.2 296 e = h' e) ∧ h.2 297 e = 1) (m0 : m ≤ 80) (hl : nlp t h' (blw m)) (hq : ∀ z, ((z = -1 ∧ ¬ ∃ e, blw m e ∧ jn1 t h' e a b) ∨ (0 ≤ z ∧ ∃ e, blw m e ∧ jn1 t h' e a b)) → Q (some (.inl z)) h) : qM l D (d + 2, 0, 0) m_Mo_edgeOf [.inr (.inr 280), .inl a, .inl b] h Q := sorry
set_option maxRecDepth 100000 in
theorem sp_Mo_mayLeave {l : Launch} {D : qD} {d m : Nat} {p : Int} {t h' : Int → Int} {c : List Int} {h : qh} {Q : qQ} (hF : MF h.2) (a122 : h.2 280 122 = 368) (em : h.2 280 32 = m) (eT : ∀ e, blw m e → (h.2 295 e = t e ∧ h.2 296 e = h' e) ∧ h.2 297 e = 1) (m0 : m ≤ 80) (hl : nlp t h' (blw m)) (eu : h.2 280 121 = c.length) (hc : ∀ j : Int, 0 ≤ j → j < c.length → h.2 368 j = li c j) (c24 : c.length ≤ 24) (nd : c.Nodup) (p0 : 0 < p ∧ p + 1 < c.length)
    (hq : ∀ z, (z = 1 ∧ ncd t h' m c p) ∨ (z = 0 ∧ ¬ ncd t h' m c p) → Q (some (.inl z)) h) : qM l D (d + 3, 0, 0) m_Mo_mayLeave [.inr (.inr 280), .inl p] h Q := sorry
end
section
/-! printed by gen/hw.py: what the final fields of the component hold; frames -/
def hwL : List (Int × Int × Int) := [(0, 0, 1), (0, 2, 2), (0, 3, 111), (0, 4, 126), (0, 7, 135), (0, 9, 145), (0, 10, 152), (0, 11, 166), (0, 14, 175), (0, 15, 187), (0, 16, 197), (0, 19, 198), (0, 20, 209), (0, 21, 238), (0, 22, 246), (0, 23, 253), (0, 24, 267), (0, 25, 272), (0, 26, 273), (0, 27, 274), (0, 30, 275), (0, 31, 276), (0, 34, 277), (0, 35, 278), (0, 36, 279), (3, 0, 4), (3, 3, 5), (3, 4, 16), (3, 5, 17), (5, 5, 6), (5, 6, 7), (5, 7, 8), (5, 8, 9), (5, 9, 10), (5, 10, 11), (5, 11, 12), (5, 12, 13), (5, 13, 14), (5, 14, 15), (18, 3, 19), (18, 4, 20), (18, 5, 21), (18, 6, 22), (18, 7, 23), (18, 8, 24), (18, 9, 25), (18, 10, 26), (18, 11, 27), (18, 12, 28), (18, 13, 29), (30, 0, 31), (30, 3, 32), (30, 4, 43), (30, 5, 44), (32, 5, 33), (32, 6, 34), (32, 7, 35), (32, 8, 36), (32, 9, 37), (32, 10, 38), (32, 11, 39), (32, 12, 40), (32, 13, 41), (32, 14, 42), (45, 3, 46), (45, 4, 47), (45, 5, 48), (45, 6, 49), (45, 7, 50), (45, 8, 51), (45, 9, 52), (45, 10, 53), (45, 11, 54), (45, 12, 55), (45, 13, 56), (57, 0, 58), (57, 3, 59), (57, 4, 70), (57, 5, 71), (59, 5, 60), (59, 6, 61), (59, 7, 62), (59, 8, 63), (59, 9, 64), (59, 10, 65), (59, 11, 66), (59, 12, 67), (59, 13, 68), (59, 14, 69), (72, 3, 73), (72, 4, 74), (72, 5, 75), (72, 6, 76), (72, 7, 77), (72, 8, 78), (72, 9, 79), (72, 10, 80), (72, 11, 81), (72, 12, 82), (72, 13, 83), (84, 0, 85), (84, 3, 86), (84, 4, 97), (84, 5, 98), (86, 5, 87), (86, 6, 88), (86, 7, 89), (86, 8, 90), (86, 9, 91), (86, 10, 92), (86, 11, 93), (86, 12, 94), (86, 13, 95), (86, 14, 96), (99, 3, 100), (99, 4, 101), (99, 5, 102), (99, 6, 103), (99, 7, 104), (99, 8, 105), (99, 9, 106), (99, 10, 107), (99, 11, 108), (99, 12, 109), (99, 13, 110), (111, 0, 114), (111, 1, 112), (111, 2, 113), (114, 3, 115), (114, 4, 116), (114, 5, 117), (114, 6, 118), (114, 7, 119), (114, 8, 120), (114, 9, 121), (114, 10, 122), (114, 11, 123), (114, 12, 124), (114, 13, 125), (126, 0, 129), (126, 1, 130), (126, 6, 131), (126, 7, 132), (126, 8, 133), (126, 9, 134), (126, 10, 127), (126, 11, 128), (135, 0, 136), (135, 1, 137), (135, 2, 138), (135, 3, 139), (135, 4, 140), (135, 5, 141), (135, 9, 142), (135, 10, 143), (135, 11, 144), (145, 0, 146), (145, 1, 147), (145, 5, 148), (145, 6, 149), (145, 7, 150), (145, 8, 151), (152, 0, 153), (152, 1, 154), (152, 4, 155), (152, 6, 156), (152, 9, 157), (152, 10, 158), (152, 11, 159), (152, 12, 160), (152, 13, 161), (152, 15, 162), (152, 16, 163), (152, 18, 164), (152, 19, 165), (166, 3, 167), (166, 4, 168), (166, 5, 169), (166, 6, 170), (166, 7, 171), (166, 8, 172), (166, 9, 173), (166, 10, 174), (175, 3, 176), (175, 4, 177), (175, 5, 178), (175, 6, 179), (175, 7, 180), (175, 8, 181), (175, 9, 182), (175, 10, 183), (175, 11, 184), (175, 12, 185), (175, 13, 186), (187, 0, 188), (187, 1, 189), (187, 2, 190), (187, 3, 191), (187, 4, 192), (187, 5, 193), (187, 9, 194), (187, 10, 195), (187, 11, 196), (198, 5, 199), (198, 6, 200), (198, 7, 201), (198, 8, 202), (198, 9, 203), (198, 10, 204), (198, 11, 205), (198, 12, 206), (198, 13, 207), (198, 14, 208), (209, 0, 210), (209, 3, 217), (209, 4, 218), (209, 5, 219), (209, 6, 220), (209, 7, 221), (209, 8, 222), (209, 9, 223), (209, 10, 224), (209, 11, 225), (209, 14, 226), (209, 15, 227), (209, 16, 228), (209, 18, 229), (209, 19, 230), (209, 20, 231), (209, 21, 232), (209, 22, 233), (209, 23, 234), (209, 24, 235), (209, 25, 236), (209, 26, 237), (210, 2, 211), (210, 3, 212), (210, 4, 213), (210, 5, 214), (210, 6, 215), (210, 7, 216), (238, 0, 239), (238, 1, 240), (238, 2, 241), (238, 3, 242), (238, 4, 243), (238, 5, 244), (238, 6, 245), (246, 0, 247), (246, 1, 248), (246, 2, 249), (246, 3, 250), (246, 4, 251), (246, 5, 252), (253, 3, 254), (253, 4, 255), (253, 5, 256), (253, 6, 257), (253, 7, 258), (253, 8, 259), (253, 9, 260), (253, 10, 261), (253, 11, 262), (253, 12, 263), (253, 13, 264), (253, 14, 265), (253, 15, 266), (267, 0, 268), (267, 1, 269), (267, 6, 270), (267, 7, 271), (2, 0, 3), (2, 1, 30), (2, 2, 57), (2, 3, 84)]
def hwC : List Int := [0, 2, 3, 5, 18, 30, 32, 45, 57, 59, 72, 84, 86, 99, 111, 114, 126, 135, 145, 152, 166, 175, 187, 198, 209, 210, 238, 246, 253, 267]
def HW (v : Int → Int → Int) : Prop := ∀ x ∈ hwL, v x.1 x.2.1 = x.2.2
theorem HW.get {v : Int → Int → Int} (h : HW v) (i : Nat) {a k z : Int} (e : hwL[i]? = some (a, k, z)) : v a k = z := sorry
theorem hwL_c : ∀ x ∈ hwL, x.1 ∈ hwC := sorry
theorem HW.f0_0 {v : Int → Int → Int} (h : HW v) : v 0 0 = 1 := sorry
theorem HW.f0_2 {v : Int → Int → Int} (h : HW v) : v 0 2 = 2 := sorry
theorem HW.f0_3 {v : Int → Int → Int} (h : HW v) : v 0 3 = 111 := sorry
theorem HW.f0_4 {v : Int → Int → Int} (h : HW v) : v 0 4 = 126 := sorry
theorem HW.f0_7 {v : Int → Int → Int} (h : HW v) : v 0 7 = 135 := sorry
theorem HW.f0_9 {v : Int → Int → Int} (h : HW v) : v 0 9 = 145 := sorry
theorem HW.f0_10 {v : Int → Int → Int} (h : HW v) : v 0 10 = 152 := sorry
theorem HW.f0_11 {v : Int → Int → Int} (h : HW v) : v 0 11 = 166 := sorry
theorem HW.f0_14 {v : Int → Int → Int} (h : HW v) : v 0 14 = 175 := sorry
theorem HW.f0_15 {v : Int → Int → Int} (h : HW v) : v 0 15 = 187 := sorry
theorem HW.f0_16 {v : Int → Int → Int} (h : HW v) : v 0 16 = 197 := sorry
theorem HW.f0_19 {v : Int → Int → Int} (h : HW v) : v 0 19 = 198 := sorry
theorem HW.f0_20 {v : Int → Int → Int} (h : HW v) : v 0 20 = 209 := sorry
theorem HW.f0_21 {v : Int → Int → Int} (h : HW v) : v 0 21 = 238 := sorry
theorem HW.f0_22 {v : Int → Int → Int} (h : HW v) : v 0 22 = 246 := sorry
theorem HW.f0_23 {v : Int → Int → Int} (h : HW v) : v 0 23 = 253 := sorry
theorem HW.f0_24 {v : Int → Int → Int} (h : HW v) : v 0 24 = 267 := sorry
theorem HW.f0_25 {v : Int → Int → Int} (h : HW v) : v 0 25 = 272 := sorry
theorem HW.f0_26 {v : Int → Int → Int} (h : HW v) : v 0 26 = 273 := sorry
theorem HW.f0_27 {v : Int → Int → Int} (h : HW v) : v 0 27 = 274 := sorry
theorem HW.f0_30 {v : Int → Int → Int} (h : HW v) : v 0 30 = 275 := sorry
theorem HW.f0_31 {v : Int → Int → Int} (h : HW v) : v 0 31 = 276 := sorry
theorem HW.f0_34 {v : Int → Int → Int} (h : HW v) : v 0 34 = 277 := sorry
theorem HW.f0_35 {v : Int → Int → Int} (h : HW v) : v 0 35 = 278 := sorry
theorem HW.f0_36 {v : Int → Int → Int} (h : HW v) : v 0 36 = 279 := sorry
theorem HW.f3_0 {v : Int → Int → Int} (h : HW v) : v 3 0 = 4 := sorry
theorem HW.f3_3 {v : Int → Int → Int} (h : HW v) : v 3 3 = 5 := sorry
theorem HW.f3_4 {v : Int → Int → Int} (h : HW v) : v 3 4 = 16 := sorry
theorem HW.f3_5 {v : Int → Int → Int} (h : HW v) : v 3 5 = 17 := sorry
theorem HW.f5_5 {v : Int → Int → Int} (h : HW v) : v 5 5 = 6 := sorry
theorem HW.f5_6 {v : Int → Int → Int} (h : HW v) : v 5 6 = 7 := sorry
theorem HW.f5_7 {v : Int → Int → Int} (h : HW v) : v 5 7 = 8 := sorry
theorem HW.f5_8 {v : Int → Int → Int} (h : HW v) : v 5 8 = 9 := sorry
theorem HW.f5_9 {v : Int → Int → Int} (h : HW v) : v 5 9 = 10 := sorry
theorem HW.f5_10 {v : Int → Int → Int} (h : HW v) : v 5 10 = 11 := sorry
theorem HW.f5_11 {v : Int → Int → Int} (h : HW v) : v 5 11 = 12 := sorry
theorem HW.f5_12 {v : Int → Int → Int} (h : HW v) : v 5 12 = 13 := sorry
theorem HW.f5_13 {v : Int → Int → Int} (h : HW v) : v 5 13 = 14 := sorry
theorem HW.f5_14 {v : Int → Int → Int} (h : HW v) : v 5 14 = 15 := sorry
theorem HW.f18_3 {v : Int → Int → Int} (h : HW v) : v 18 3 = 19 := sorry
theorem HW.f18_4 {v : Int → Int → Int} (h : HW v) : v 18 4 = 20 := sorry
theorem HW.f18_5 {v : Int → Int → Int} (h : HW v) : v 18 5 = 21 := sorry
theorem HW.f18_6 {v : Int → Int → Int} (h : HW v) : v 18 6 = 22 := sorry
theorem HW.f18_7 {v : Int → Int → Int} (h : HW v) : v 18 7 = 23 := sorry
theorem HW.f18_8 {v : Int → Int → Int} (h : HW v) : v 18 8 = 24 := sorry
theorem HW.f18_9 {v : Int → Int → Int} (h : HW v) : v 18 9 = 25 := sorry
theorem HW.f18_10 {v : Int → Int → Int} (h : HW v) : v 18 10 = 26 := sorry
theorem HW.f18_11 {v : Int → Int → Int} (h : HW v) : v 18 11 = 27 := sorry
theorem HW.f18_12 {v : Int → Int → Int} (h : HW v) : v 18 12 = 28 := sorry
theorem HW.f18_13 {v : Int → Int → Int} (h : HW v) : v 18 13 = 29 := sorry
theorem HW.f30_0 {v : Int → Int → Int} (h : HW v) : v 30 0 = 31 := sorry
theorem HW.f30_3 {v : Int → Int → Int} (h : HW v) : v 30 3 = 32 := sorry
theorem HW.f30_4 {v : Int → Int → Int} (h : HW v) : v 30 4 = 43 := sorry
theorem HW.f30_5 {v : Int → Int → Int} (h : HW v) : v 30 5 = 44 := sorry
theorem HW.f32_5 {v : Int → Int → Int} (h : HW v) : v 32 5 = 33 := sorry
theorem HW.f32_6 {v : Int → Int → Int} (h : HW v) : v 32 6 = 34 := sorry
theorem HW.f32_7 {v : Int → Int → Int} (h : HW v) : v 32 7 = 35 := sorry
theorem HW.f32_8 {v : Int → Int → Int} (h : HW v) : v 32 8 = 36 := sorry
theorem HW.f32_9 {v : Int → Int → Int} (h : HW v) : v 32 9 = 37 := sorry
theorem HW.f32_10 {v : Int → Int → Int} (h : HW v) : v 32 10 = 38 := sorry
theorem HW.f32_11 {v : Int → Int → Int} (h : HW v) : v 32 11 = 39 := sorry
theorem HW.f32_12 {v : Int → Int → Int} (h : HW v) : v 32 12 = 40 := sorry
theorem HW.f32_13 {v : Int → Int → Int} (h : HW v) : v 32 13 = 41 := sorry
theorem HW.f32_14 {v : Int → Int → Int} (h : HW v) : v 32 14 = 42 := sorry
theorem HW.f45_3 {v : Int → Int → Int} (h : HW v) : v 45 3 = 46 := sorry
theorem HW.f45_4 {v : Int → Int → Int} (h : HW v) : v 45 4 = 47 := sorry
theorem HW.f45_5 {v : Int → Int → Int} (h : HW v) : v 45 5 = 48 := sorry
theorem HW.f45_6 {v : Int → Int → Int} (h : HW v) : v 45 6 = 49 := sorry
theorem HW.f45_7 {v : Int → Int → Int} (h : HW v) : v 45 7 = 50 := sorry
theorem HW.f45_8 {v : Int → Int → Int} (h : HW v) : v 45 8 = 51 := sorry
theorem HW.f45_9 {v : Int → Int → Int} (h : HW v) : v 45 9 = 52 := sorry
theorem HW.f45_10 {v : Int → Int → Int} (h : HW v) : v 45 10 = 53 := sorry
theorem HW.f45_11 {v : Int → Int → Int} (h : HW v) : v 45 11 = 54 := sorry
theorem HW.f45_12 {v : Int → Int → Int} (h : HW v) : v 45 12 = 55 := sorry
theorem HW.f45_13 {v : Int → Int → Int} (h : HW v) : v 45 13 = 56 := sorry
theorem HW.f57_0 {v : Int → Int → Int} (h : HW v) : v 57 0 = 58 := sorry
theorem HW.f57_3 {v : Int → Int → Int} (h : HW v) : v 57 3 = 59 := sorry
theorem HW.f57_4 {v : Int → Int → Int} (h : HW v) : v 57 4 = 70 := sorry
theorem HW.f57_5 {v : Int → Int → Int} (h : HW v) : v 57 5 = 71 := sorry
theorem HW.f59_5 {v : Int → Int → Int} (h : HW v) : v 59 5 = 60 := sorry
theorem HW.f59_6 {v : Int → Int → Int} (h : HW v) : v 59 6 = 61 := sorry
theorem HW.f59_7 {v : Int → Int → Int} (h : HW v) : v 59 7 = 62 := sorry
theorem HW.f59_8 {v : Int → Int → Int} (h : HW v) : v 59 8 = 63 := sorry
theorem HW.f59_9 {v : Int → Int → Int} (h : HW v) : v 59 9 = 64 := sorry
theorem HW.f59_10 {v : Int → Int → Int} (h : HW v) : v 59 10 = 65 := sorry
theorem HW.f59_11 {v : Int → Int → Int} (h : HW v) : v 59 11 = 66 := sorry
theorem HW.f59_12 {v : Int → Int → Int} (h : HW v) : v 59 12 = 67 := sorry
theorem HW.f59_13 {v : Int → Int → Int} (h : HW v) : v 59 13 = 68 := sorry
theorem HW.f59_14 {v : Int → Int → Int} (h : HW v) : v 59 14 = 69 := sorry
theorem HW.f72_3 {v : Int → Int → Int} (h : HW v) : v 72 3 = 73 := sorry
theorem HW.f72_4 {v : Int → Int → Int} (h : HW v) : v 72 4 = 74 := sorry
theorem HW.f72_5 {v : Int → Int → Int} (h : HW v) : v 72 5 = 75 := sorry
theorem HW.f72_6 {v : Int → Int → Int} (h : HW v) : v 72 6 = 76 := sorry
theorem HW.f72_7 {v : Int → Int → Int} (h : HW v) : v 72 7 = 77 := sorry
theorem HW.f72_8 {v : Int → Int → Int} (h : HW v) : v 72 8 = 78 := sorry
theorem HW.f72_9 {v : Int → Int → Int} (h : HW v) : v 72 9 = 79 := sorry
theorem HW.f72_10 {v : Int → Int → Int} (h : HW v) : v 72 10 = 80 := sorry
theorem HW.f72_11 {v : Int → Int → Int} (h : HW v) : v 72 11 = 81 := sorry
theorem HW.f72_12 {v : Int → Int → Int} (h : HW v) : v 72 12 = 82 := sorry
theorem HW.f72_13 {v : Int → Int → Int} (h : HW v) : v 72 13 = 83 := sorry
theorem HW.f84_0 {v : Int → Int → Int} (h : HW v) : v 84 0 = 85 := sorry
theorem HW.f84_3 {v : Int → Int → Int} (h : HW v) : v 84 3 = 86 := sorry
theorem HW.f84_4 {v : Int → Int → Int} (h : HW v) : v 84 4 = 97 := sorry
theorem HW.f84_5 {v : Int → Int → Int} (h : HW v) : v 84 5 = 98 := sorry
theorem HW.f86_5 {v : Int → Int → Int} (h : HW v) : v 86 5 = 87 := sorry
theorem HW.f86_6 {v : Int → Int → Int} (h : HW v) : v 86 6 = 88 := sorry
theorem HW.f86_7 {v : Int → Int → Int} (h : HW v) : v 86 7 = 89 := sorry
theorem HW.f86_8 {v : Int → Int → Int} (h : HW v) : v 86 8 = 90 := sorry
theorem HW.f86_9 {v : Int → Int → Int} (h : HW v) : v 86 9 = 91 := sorry
theorem HW.f86_10 {v : Int → Int → Int} (h : HW v) : v 86 10 = 92 := sorry
theorem HW.f86_11 {v : Int → Int → Int} (h : HW v) : v 86 11 = 93 := sorry
theorem HW.f86_12 {v : Int → Int → Int} (h : HW v) : v 86 12 = 94 := sorry
theorem HW.f86_13 {v : Int → Int → Int} (h : HW v) : v 86 13 = 95 := sorry
theorem HW.f86_14 {v : Int → Int → Int} (h : HW v) : v 86 14 = 96 := sorry
theorem HW.f99_3 {v : Int → Int → Int} (h : HW v) : v 99 3 = 100 := sorry
theorem HW.f99_4 {v : Int → Int → Int} (h : HW v) : v 99 4 = 101 := sorry
theorem HW.f99_5 {v : Int → Int → Int} (h : HW v) : v 99 5 = 102 := sorry
theorem HW.f99_6 {v : Int → Int → Int} (h : HW v) : v 99 6 = 103 := sorry
theorem HW.f99_7 {v : Int → Int → Int} (h : HW v) : v 99 7 = 104 := sorry
theorem HW.f99_8 {v : Int → Int → Int} (h : HW v) : v 99 8 = 105 := sorry
theorem HW.f99_9 {v : Int → Int → Int} (h : HW v) : v 99 9 = 106 := sorry
theorem HW.f99_10 {v : Int → Int → Int} (h : HW v) : v 99 10 = 107 := sorry
theorem HW.f99_11 {v : Int → Int → Int} (h : HW v) : v 99 11 = 108 := sorry
theorem HW.f99_12 {v : Int → Int → Int} (h : HW v) : v 99 12 = 109 := sorry
theorem HW.f99_13 {v : Int → Int → Int} (h : HW v) : v 99 13 = 110 := sorry
theorem HW.f111_0 {v : Int → Int → Int} (h : HW v) : v 111 0 = 114 := sorry
theorem HW.f111_1 {v : Int → Int → Int} (h : HW v) : v 111 1 = 112 := sorry
theorem HW.f111_2 {v : Int → Int → Int} (h : HW v) : v 111 2 = 113 := sorry
theorem HW.f114_3 {v : Int → Int → Int} (h : HW v) : v 114 3 = 115 := sorry
theorem HW.f114_4 {v : Int → Int → Int} (h : HW v) : v 114 4 = 116 := sorry
theorem HW.f114_5 {v : Int → Int → Int} (h : HW v) : v 114 5 = 117 := sorry
theorem HW.f114_6 {v : Int → Int → Int} (h : HW v) : v 114 6 = 118 := sorry
theorem HW.f114_7 {v : Int → Int → Int} (h : HW v) : v 114 7 = 119 := sorry
theorem HW.f114_8 {v : Int → Int → Int} (h : HW v) : v 114 8 = 120 := sorry
theorem HW.f114_9 {v : Int → Int → Int} (h : HW v) : v 114 9 = 121 := sorry
theorem HW.f114_10 {v : Int → Int → Int} (h : HW v) : v 114 10 = 122 := sorry
theorem HW.f114_11 {v : Int → Int → Int} (h : HW v) : v 114 11 = 123 := sorry
theorem HW.f114_12 {v : Int → Int → Int} (h : HW v) : v 114 12 = 124 := sorry
theorem HW.f114_13 {v : Int → Int → Int} (h : HW v) : v 114 13 = 125 := sorry
theorem HW.f126_0 {v : Int → Int → Int} (h : HW v) : v 126 0 = 129 := sorry
theorem HW.f126_1 {v : Int → Int → Int} (h : HW v) : v 126 1 = 130 := sorry
theorem HW.f126_6 {v : Int → Int → Int} (h : HW v) : v 126 6 = 131 := sorry
theorem HW.f126_7 {v : Int → Int → Int} (h : HW v) : v 126 7 = 132 := sorry
theorem HW.f126_8 {v : Int → Int → Int} (h : HW v) : v 126 8 = 133 := sorry
theorem HW.f126_9 {v : Int → Int → Int} (h : HW v) : v 126 9 = 134 := sorry
theorem HW.f126_10 {v : Int → Int → Int} (h : HW v) : v 126 10 = 127 := sorry
theorem HW.f126_11 {v : Int → Int → Int} (h : HW v) : v 126 11 = 128 := sorry
theorem HW.f135_0 {v : Int → Int → Int} (h : HW v) : v 135 0 = 136 := sorry
theorem HW.f135_1 {v : Int → Int → Int} (h : HW v) : v 135 1 = 137 := sorry
theorem HW.f135_2 {v : Int → Int → Int} (h : HW v) : v 135 2 = 138 := sorry
theorem HW.f135_3 {v : Int → Int → Int} (h : HW v) : v 135 3 = 139 := sorry
theorem HW.f135_4 {v : Int → Int → Int} (h : HW v) : v 135 4 = 140 := sorry
theorem HW.f135_5 {v : Int → Int → Int} (h : HW v) : v 135 5 = 141 := sorry
theorem HW.f135_9 {v : Int → Int → Int} (h : HW v) : v 135 9 = 142 := sorry
theorem HW.f135_10 {v : Int → Int → Int} (h : HW v) : v 135 10 = 143 := sorry
theorem HW.f135_11 {v : Int → Int → Int} (h : HW v) : v 135 11 = 144 := sorry
theorem HW.f145_0 {v : Int → Int → Int} (h : HW v) : v 145 0 = 146 := sorry
theorem HW.f145_1 {v : Int → Int → Int} (h : HW v) : v 145 1 = 147 := sorry
theorem HW.f145_5 {v : Int → Int → Int} (h : HW v) : v 145 5 = 148 := sorry
theorem HW.f145_6 {v : Int → Int → Int} (h : HW v) : v 145 6 = 149 := sorry
theorem HW.f145_7 {v : Int → Int → Int} (h : HW v) : v 145 7 = 150 := sorry
theorem HW.f145_8 {v : Int → Int → Int} (h : HW v) : v 145 8 = 151 := sorry
theorem HW.f152_0 {v : Int → Int → Int} (h : HW v) : v 152 0 = 153 := sorry
theorem HW.f152_1 {v : Int → Int → Int} (h : HW v) : v 152 1 = 154 := sorry
theorem HW.f152_4 {v : Int → Int → Int} (h : HW v) : v 152 4 = 155 := sorry
theorem HW.f152_6 {v : Int → Int → Int} (h : HW v) : v 152 6 = 156 := sorry
theorem HW.f152_9 {v : Int → Int → Int} (h : HW v) : v 152 9 = 157 := sorry
theorem HW.f152_10 {v : Int → Int → Int} (h : HW v) : v 152 10 = 158 := sorry
theorem HW.f152_11 {v : Int → Int → Int} (h : HW v) : v 152 11 = 159 := sorry
theorem HW.f152_12 {v : Int → Int → Int} (h : HW v) : v 152 12 = 160 := sorry
theorem HW.f152_13 {v : Int → Int → Int} (h : HW v) : v 152 13 = 161 := sorry
theorem HW.f152_15 {v : Int → Int → Int} (h : HW v) : v 152 15 = 162 := sorry
theorem HW.f152_16 {v : Int → Int → Int} (h : HW v) : v 152 16 = 163 := sorry
theorem HW.f152_18 {v : Int → Int → Int} (h : HW v) : v 152 18 = 164 := sorry
theorem HW.f152_19 {v : Int → Int → Int} (h : HW v) : v 152 19 = 165 := sorry
theorem HW.f166_3 {v : Int → Int → Int} (h : HW v) : v 166 3 = 167 := sorry
theorem HW.f166_4 {v : Int → Int → Int} (h : HW v) : v 166 4 = 168 := sorry
theorem HW.f166_5 {v : Int → Int → Int} (h : HW v) : v 166 5 = 169 := sorry
theorem HW.f166_6 {v : Int → Int → Int} (h : HW v) : v 166 6 = 170 := sorry
theorem HW.f166_7 {v : Int → Int → Int} (h : HW v) : v 166 7 = 171 := sorry
theorem HW.f166_8 {v : Int → Int → Int} (h : HW v) : v 166 8 = 172 := sorry
theorem HW.f166_9 {v : Int → Int → Int} (h : HW v) : v 166 9 = 173 := sorry
theorem HW.f166_10 {v : Int → Int → Int} (h : HW v) : v 166 10 = 174 := sorry
theorem HW.f175_3 {v : Int → Int → Int} (h : HW v) : v 175 3 = 176 := sorry
theorem HW.f175_4 {v : Int → Int → Int} (h : HW v) : v 175 4 = 177 := sorry
theorem HW.f175_5 {v : Int → Int → Int} (h : HW v) : v 175 5 = 178 := sorry
theorem HW.f175_6 {v : Int → Int → Int} (h : HW v) : v 175 6 = 179 := sorry
theorem HW.f175_7 {v : Int → Int → Int} (h : HW v) : v 175 7 = 180 := sorry
theorem HW.f175_8 {v : Int → Int → Int} (h : HW v) : v 175 8 = 181 := sorry
theorem HW.f175_9 {v : Int → Int → Int} (h : HW v) : v 175 9 = 182 := sorry
theorem HW.f175_10 {v : Int → Int → Int} (h : HW v) : v 175 10 = 183 := sorry
theorem HW.f175_11 {v : Int → Int → Int} (h : HW v) : v 175 11 = 184 := sorry
theorem HW.f175_12 {v : Int → Int → Int} (h : HW v) : v 175 12 = 185 := sorry
theorem HW.f175_13 {v : Int → Int → Int} (h : HW v) : v 175 13 = 186 := sorry
theorem HW.f187_0 {v : Int → Int → Int} (h : HW v) : v 187 0 = 188 := sorry
theorem HW.f187_1 {v : Int → Int → Int} (h : HW v) : v 187 1 = 189 := sorry
theorem HW.f187_2 {v : Int → Int → Int} (h : HW v) : v 187 2 = 190 := sorry
theorem HW.f187_3 {v : Int → Int → Int} (h : HW v) : v 187 3 = 191 := sorry
theorem HW.f187_4 {v : Int → Int → Int} (h : HW v) : v 187 4 = 192 := sorry
theorem HW.f187_5 {v : Int → Int → Int} (h : HW v) : v 187 5 = 193 := sorry
theorem HW.f187_9 {v : Int → Int → Int} (h : HW v) : v 187 9 = 194 := sorry
theorem HW.f187_10 {v : Int → Int → Int} (h : HW v) : v 187 10 = 195 := sorry
theorem HW.f187_11 {v : Int → Int → Int} (h : HW v) : v 187 11 = 196 := sorry
theorem HW.f198_5 {v : Int → Int → Int} (h : HW v) : v 198 5 = 199 := sorry
theorem HW.f198_6 {v : Int → Int → Int} (h : HW v) : v 198 6 = 200 := sorry
theorem HW.f198_7 {v : Int → Int → Int} (h : HW v) : v 198 7 = 201 := sorry
theorem HW.f198_8 {v : Int → Int → Int} (h : HW v) : v 198 8 = 202 := sorry
theorem HW.f198_9 {v : Int → Int → Int} (h : HW v) : v 198 9 = 203 := sorry
theorem HW.f198_10 {v : Int → Int → Int} (h : HW v) : v 198 10 = 204 := sorry
theorem HW.f198_11 {v : Int → Int → Int} (h : HW v) : v 198 11 = 205 := sorry
theorem HW.f198_12 {v : Int → Int → Int} (h : HW v) : v 198 12 = 206 := sorry
theorem HW.f198_13 {v : Int → Int → Int} (h : HW v) : v 198 13 = 207 := sorry
theorem HW.f198_14 {v : Int → Int → Int} (h : HW v) : v 198 14 = 208 := sorry
theorem HW.f209_0 {v : Int → Int → Int} (h : HW v) : v 209 0 = 210 := sorry
theorem HW.f209_3 {v : Int → Int → Int} (h : HW v) : v 209 3 = 217 := sorry
theorem HW.f209_4 {v : Int → Int → Int} (h : HW v) : v 209 4 = 218 := sorry
theorem HW.f209_5 {v : Int → Int → Int} (h : HW v) : v 209 5 = 219 := sorry
theorem HW.f209_6 {v : Int → Int → Int} (h : HW v) : v 209 6 = 220 := sorry
theorem HW.f209_7 {v : Int → Int → Int} (h : HW v) : v 209 7 = 221 := sorry
theorem HW.f209_8 {v : Int → Int → Int} (h : HW v) : v 209 8 = 222 := sorry
theorem HW.f209_9 {v : Int → Int → Int} (h : HW v) : v 209 9 = 223 := sorry
theorem HW.f209_10 {v : Int → Int → Int} (h : HW v) : v 209 10 = 224 := sorry
theorem HW.f209_11 {v : Int → Int → Int} (h : HW v) : v 209 11 = 225 := sorry
theorem HW.f209_14 {v : Int → Int → Int} (h : HW v) : v 209 14 = 226 := sorry
theorem HW.f209_15 {v : Int → Int → Int} (h : HW v) : v 209 15 = 227 := sorry
theorem HW.f209_16 {v : Int → Int → Int} (h : HW v) : v 209 16 = 228 := sorry
theorem HW.f209_18 {v : Int → Int → Int} (h : HW v) : v 209 18 = 229 := sorry
theorem HW.f209_19 {v : Int → Int → Int} (h : HW v) : v 209 19 = 230 := sorry
theorem HW.f209_20 {v : Int → Int → Int} (h : HW v) : v 209 20 = 231 := sorry
theorem HW.f209_21 {v : Int → Int → Int} (h : HW v) : v 209 21 = 232 := sorry
theorem HW.f209_22 {v : Int → Int → Int} (h : HW v) : v 209 22 = 233 := sorry
theorem HW.f209_23 {v : Int → Int → Int} (h : HW v) : v 209 23 = 234 := sorry
theorem HW.f209_24 {v : Int → Int → Int} (h : HW v) : v 209 24 = 235 := sorry
theorem HW.f209_25 {v : Int → Int → Int} (h : HW v) : v 209 25 = 236 := sorry
theorem HW.f209_26 {v : Int → Int → Int} (h : HW v) : v 209 26 = 237 := sorry
theorem HW.f210_2 {v : Int → Int → Int} (h : HW v) : v 210 2 = 211 := sorry
theorem HW.f210_3 {v : Int → Int → Int} (h : HW v) : v 210 3 = 212 := sorry
theorem HW.f210_4 {v : Int → Int → Int} (h : HW v) : v 210 4 = 213 := sorry
theorem HW.f210_5 {v : Int → Int → Int} (h : HW v) : v 210 5 = 214 := sorry
theorem HW.f210_6 {v : Int → Int → Int} (h : HW v) : v 210 6 = 215 := sorry
theorem HW.f210_7 {v : Int → Int → Int} (h : HW v) : v 210 7 = 216 := sorry
theorem HW.f238_0 {v : Int → Int → Int} (h : HW v) : v 238 0 = 239 := sorry
theorem HW.f238_1 {v : Int → Int → Int} (h : HW v) : v 238 1 = 240 := sorry
theorem HW.f238_2 {v : Int → Int → Int} (h : HW v) : v 238 2 = 241 := sorry
theorem HW.f238_3 {v : Int → Int → Int} (h : HW v) : v 238 3 = 242 := sorry
theorem HW.f238_4 {v : Int → Int → Int} (h : HW v) : v 238 4 = 243 := sorry
theorem HW.f238_5 {v : Int → Int → Int} (h : HW v) : v 238 5 = 244 := sorry
theorem HW.f238_6 {v : Int → Int → Int} (h : HW v) : v 238 6 = 245 := sorry
theorem HW.f246_0 {v : Int → Int → Int} (h : HW v) : v 246 0 = 247 := sorry
theorem HW.f246_1 {v : Int → Int → Int} (h : HW v) : v 246 1 = 248 := sorry
theorem HW.f246_2 {v : Int → Int → Int} (h : HW v) : v 246 2 = 249 := sorry
theorem HW.f246_3 {v : Int → Int → Int} (h : HW v) : v 246 3 = 250 := sorry
theorem HW.f246_4 {v : Int → Int → Int} (h : HW v) : v 246 4 = 251 := sorry
theorem HW.f246_5 {v : Int → Int → Int} (h : HW v) : v 246 5 = 252 := sorry
theorem HW.f253_3 {v : Int → Int → Int} (h : HW v) : v 253 3 = 254 := sorry
theorem HW.f253_4 {v : Int → Int → Int} (h : HW v) : v 253 4 = 255 := sorry
theorem HW.f253_5 {v : Int → Int → Int} (h : HW v) : v 253 5 = 256 := sorry
theorem HW.f253_6 {v : Int → Int → Int} (h : HW v) : v 253 6 = 257 := sorry
theorem HW.f253_7 {v : Int → Int → Int} (h : HW v) : v 253 7 = 258 := sorry
theorem HW.f253_8 {v : Int → Int → Int} (h : HW v) : v 253 8 = 259 := sorry
theorem HW.f253_9 {v : Int → Int → Int} (h : HW v) : v 253 9 = 260 := sorry
theorem HW.f253_10 {v : Int → Int → Int} (h : HW v) : v 253 10 = 261 := sorry
theorem HW.f253_11 {v : Int → Int → Int} (h : HW v) : v 253 11 = 262 := sorry
theorem HW.f253_12 {v : Int → Int → Int} (h : HW v) : v 253 12 = 263 := sorry
theorem HW.f253_13 {v : Int → Int → Int} (h : HW v) : v 253 13 = 264 := sorry
theorem HW.f253_14 {v : Int → Int → Int} (h : HW v) : v 253 14 = 265 := sorry
theorem HW.f253_15 {v : Int → Int → Int} (h : HW v) : v 253 15 = 266 := sorry
theorem HW.f267_0 {v : Int → Int → Int} (h : HW v) : v 267 0 = 268 := sorry
theorem HW.f267_1 {v : Int → Int → Int} (h : HW v) : v 267 1 = 269 := sorry
theorem HW.f267_6 {v : Int → Int → Int} (h : HW v) : v 267 6 = 270 := sorry
theorem HW.f267_7 {v : Int → Int → Int} (h : HW v) : v 267 7 = 271 := sorry
theorem HW.f2_0 {v : Int → Int → Int} (h : HW v) : v 2 0 = 3 := sorry
theorem HW.f2_1 {v : Int → Int → Int} (h : HW v) : v 2 1 = 30 := sorry
theorem HW.f2_2 {v : Int → Int → Int} (h : HW v) : v 2 2 = 57 := sorry
theorem HW.f2_3 {v : Int → Int → Int} (h : HW v) : v 2 3 = 84 := sorry
theorem HW.of {v v' : Int → Int → Int} (h : HW v) (e : ∀ x ∈ hwL, v' x.1 x.2.1 = v x.1 x.2.1) : HW v' := sorry
theorem HW.up {v : Int → Int → Int} {a k z : Int} (h : HW v) (ha : a ∉ hwC) : HW (up2 v a k z) := sorry
theorem HW.fl {v : Int → Int → Int} {a k z : Int} (h : HW v) (ha : hwL.all (fun x => decide (¬ (x.1 = a ∧ x.2.1 = k))) = true) : HW (up2 v a k z) := sorry
/-- nothing has changed but whole cells C and the places P -/
def FW (C : List Int) (P : List (Int × Int)) (v v' : Int → Int → Int) : Prop := ∀ a k, a ∉ C → (a, k) ∉ P → v' a k = v a k
theorem FW.rf {C : List Int} {P : List (Int × Int)} {v : Int → Int → Int} : FW C P v v := sorry
theorem FW.tr {C : List Int} {P : List (Int × Int)} {v v' v'' : Int → Int → Int} (h : FW C P v v') (h' : FW C P v' v'') : FW C P v v'' := sorry
theorem FW.wk {C C' : List Int} {P P' : List (Int × Int)} {v v' : Int → Int → Int} (h : FW C P v v') (hC : ∀ a, a ∈ C → a ∈ C') (hP : ∀ p, p ∈ P → p ∈ P' ∨ p.1 ∈ C') : FW C' P' v v' := sorry
theorem FW.up {C : List Int} {P : List (Int × Int)} {v v' : Int → Int → Int} {a k z : Int} (h : FW C P v v') (ha : a ∈ C) : FW C P v (up2 v' a k z) := sorry
theorem FW.fl {C : List Int} {P : List (Int × Int)} {v v' : Int → Int → Int} {a k z : Int} (h : FW C P v v') (ha : (a, k) ∈ P) : FW C P v (up2 v' a k z) := sorry
theorem FW.c {C : List Int} {P : List (Int × Int)} {v v' : Int → Int → Int} (h : FW C P v v') (a : Int) (ha : a ∉ C) (hp : P.all (fun p => decide (p.1 ≠ a)) = true) : v' a = v a := sorry
theorem FW.ks {s : Int} {F C : List Int} {v v' : Int → Int → Int} (h : KS s F C v v') : FW C (F.map (fun j => (s, j))) v v' := sorry
theorem HW.fw {C : List Int} {P : List (Int × Int)} {v v' : Int → Int → Int} (h : HW v) (k : FW C P v v') (hk : hwL.all (fun x => decide (x.1 ∉ C ∧ (x.1, x.2.1) ∉ P)) = true) : HW v' := sorry
theorem TW.pt {v v' : Int → Int → Int} (h : TW v) (e : ∀ j ∈ twr, v' 280 j = v 280 j) : TW v' := sorry
theorem TW.fw {C : List Int} {P : List (Int × Int)} {v v' : Int → Int → Int} (h : TW v) (k : FW C P v v') (h0 : (280 : Int) ∉ C) (hk : twr.all (fun j => decide (((280 : Int), j) ∉ P)) = true) : TW v' := sorry
end
section
/-! ===== methods that may throw: the judgement xR, the contract xM ===== -/
abbrev xX : Type := Int → qh → Prop
abbrev xQ : Type := qQ × xX
abbrev xG : Type := Array Value → State → Outcome → State → Prop
def x_End (first t : State) (L : List Loc) (k n : Nat) : Prop := first.WarmedH t.vm ∧ first.sameButNew ({ t with vm := first.vm } : State) L k n
def x_Met (l : Launch) (y : MethodName) (ws : List Cond) (rm : Room) (Pc : Array Value → State → Prop) (Qc : xG) (mc ms : Nat) (free : Addr → Prop) : Prop :=
  MetFree l y (headSpec ws rm) Pc (fun _ _ _ _ _ => True) (fun a st o t => Qc a st o t ∧ ∃ L, x_End st t L mc ms ∧ ∀ q ∈ L, free q.base)
def x_Q (below : List Frame) (Qc : xG) (a : Array Value) (s : State) (mc ms : Nat) (free : Addr → Prop) : State → Prop := fun t =>
  ∃ o, t.status = .running ∧ Ended t below o ∧ Qc a s o t ∧ ∃ L, x_End s t L mc ms ∧ ∀ q ∈ L, free q.base
theorem x_Met.ofW {l : Launch} {y : MethodName} {ws : List Cond} {rm : Room} {Pc : Array Value → State → Prop} {Qc : xG} {mc ms : Nat} {free : Addr → Prop} {cc : ByteArray} {maxL : Nat} {ret : Option FieldType} (hy : plainName y.cls = true)
    (his : ∀ (args : Array Value) (s : State) (m : MethodId), (headSpec ws rm).pre.before args s = true → s.methodNamed? y = some m → ∃ meth c, s.vm.method? m = some meth ∧ meth.code = some c ∧ c.code = cc ∧ c.maxLocals = maxL ∧ meth.sig.returnType = ret ∧ meth.locks = false)
    (body : ∀ p e s m args below meth c s₁, BodyLoose p l y (headSpec ws rm) cc maxL ret e s m args below meth c s₁ → c.maxLocals = maxL → Pc args s →
      W p l e (headSpec ws rm).room s m args below meth c s.heap [] 0 0 (x_Q below Qc args s mc ms free) (entryFrame m args maxL)) : x_Met l y ws rm Pc Qc mc ms free := sorry
/-- the tables of handlers of the methods with a try -/
def x_tb (M : qm) : List (Nat × Nat × Nat × Nat) := if M.1.name = "read" then (if M.1.cls = "DrawingHouse$GraphReader" then [(7, 26, 27, 42)] else if M.1.cls = "DrawingHouse$Style" then [(15, 44, 45, 99)] else []) else []
def x_T (M : qm) (c : Code) : Prop := c.exceptionTable.toList.map (fun h => (h.startPc, h.endPc, h.handlerPc, h.catchType)) = x_tb M
def x_P (D : qD) (Q : xQ) : xG := fun _ s o t =>
  (∃ (r : Option qv) (h' : qh), Q.1 r h' ∧ (∀ v, r = some v → qok h'.1.1 v) ∧ o = .returned (r.map (qtv D)) ∧ q_HR D h' t.heap ∧ va_F (q_A D) s t) ∨
  (∃ (z : Int) (h' : qh), Q.2 z h' ∧ 0 ≤ z ∧ z < h'.1.1 ∧ o = .threw (D.2.2.1 + z.toNat) ∧ q_HR D h' t.heap ∧ va_F (q_A D) s t)
def xR (l : Launch) (D : qD) (d : qd) (M : qm) (pc : Nat) (Q : xQ) (ls : List (Option qv)) (st : List qv) (h : qh) : Prop :=
  ∀ (p : Program) (e : Env) (R : Room) (s : State) (m : MethodId) (args : Array Value) (below : List Frame) (meth : Method) (c : Code) (H : Heap) (locs : List Loc) (cells slots : Nat) (lsA : Array Slot),
    x_T M c → q_C M p s m args meth c → q_W D s → q_HR D h H → (∀ v, some v ∈ ls → qok h.1.1 v) → (∀ v ∈ st, qok h.1.1 v) → va_S (q_A D) s.heap H locs → q_Rm d h R cells slots → lv_has lsA M.2.2.1 (qls D 0 ls) →
    W p l e R s m args below meth c H locs cells slots (x_Q below (x_P D Q) args s d.2.1 d.2.2 (q_A D)) (F0 m pc lsA (st.map (qtv D)))
def xM (l : Launch) (D : qD) (d : qd) (M : qm) (as : List qv) (h : qh) (Q : xQ) : Prop :=
  d.2.1 ≤ h.1.2.1 ∧ d.2.2 ≤ h.1.2.2 ∧
    x_Met l M.1 q_G { frames := d.1, cells := d.2.1, slots := d.2.2, locals := 100 * d.1 } (va_Pc (as.map (qtv D)) (fun U => q_HR D h U.heap ∧ q_W D U ∧ ∀ v ∈ as, qok h.1.1 v)) (x_P D ((fun r h' => Q.1 r ((h'.1.1, h.1.2.1 - d.2.1, h.1.2.2 - d.2.2), h'.2)), (fun z h' => Q.2 z ((h'.1.1, h.1.2.1 - d.2.1, h.1.2.2 - d.2.2), h'.2)))) d.2.1 d.2.2 (q_A D)
theorem xR.mono {l : Launch} {D : qD} {d : qd} {M : qm} {pc : Nat} {Q Q' : xQ} {ls : List (Option qv)} {st : List qv} {h : qh} (hQ : ∀ r h', Q.1 r h' → Q'.1 r h') (hX : ∀ z h', Q.2 z h' → Q'.2 z h') (k : xR l D d M pc Q ls st h) : xR l D d M pc Q' ls st h := sorry
theorem xM.mono {l : Launch} {D : qD} {d : qd} {M : qm} {as : List qv} {h : qh} {Q Q' : xQ} (hQ : ∀ r h', Q.1 r h' → Q'.1 r h') (hX : ∀ z h', Q.2 z h' → Q'.2 z h') (k : xM l D d M as h Q) : xM l D d M as h Q' := sorry
/-- what does not throw -/
theorem xR.of {l : Launch} {D : qD} {d : qd} {M : qm} {pc : Nat} {Q : xQ} {ls : List (Option qv)} {st : List qv} {h : qh} (k : qR l D d M pc Q.1 ls st h) : xR l D d M pc Q ls st h := sorry
def x_code (M : qm) : Prop := (x_tb M = [] ∧ Cond.code M.1 M.2.1 M.2.2.1 M.2.2.2 ∈ q_G) ∨ Cond.codeWith M.1 M.2.1 M.2.2.1 M.2.2.2 (x_tb M) ∈ q_G
theorem x_meth {M : qm} (h : x_code M) {args : Array Value} {s : State} (hts : ∀ w ∈ q_G, w.before args s = true) {mk : MethodId} (hn : s.methodNamed? M.1 = some mk) :
    ∃ meth c, s.vm.method? mk = some meth ∧ meth.code = some c ∧ c.code = M.2.1 ∧ c.maxLocals = M.2.2.1 ∧ meth.sig.returnType = M.2.2.2 ∧ meth.locks = false ∧ parseMethodDescriptor M.1.desc = some meth.sig ∧ x_T M c := sorry
set_option maxRecDepth 100000 in
theorem xM.of {l : Launch} {D : qD} {d : qd} {M : qm} {Q : xQ} {as : List qv} {h : qh} (hp : plainName M.1.cls = true) (hc : x_code M) (hlen : (q_ent as).length ≤ M.2.2.1) (h1 : d.2.1 ≤ h.1.2.1) (h2 : d.2.2 ≤ h.1.2.2)
    (k : xR l D d M 0 ((fun r h' => Q.1 r ((h'.1.1, h.1.2.1 - d.2.1, h.1.2.2 - d.2.2), h'.2)), (fun z h' => Q.2 z ((h'.1.1, h.1.2.1 - d.2.1, h.1.2.2 - d.2.2), h'.2))) (q_ent as ++ List.replicate (M.2.2.1 - (q_ent as).length) none) [] ((h.1.1, d.2.1, d.2.2), h.2)) : xM l D d M as h Q := sorry
set_option maxRecDepth 100000 in
theorem xM.o0 {l : Launch} {D : qD} {M : qm} {d0 : Nat} {as : List qv} {h : qh} {Q : xQ} (N : Nat) (hN : M.2.2.1 = N) (hp : plainName M.1.cls = true) (hc : x_code M) (hlen : (q_ent as).length ≤ N)
    (k : xR l D (d0, 0, 0) M 0 ((fun r h' => Q.1 r ((h'.1.1, h.1.2.1, h.1.2.2), h'.2)), (fun z h' => Q.2 z ((h'.1.1, h.1.2.1, h.1.2.2), h'.2))) (q_ent as ++ List.replicate (N - (q_ent as).length) none) [] ((h.1.1, 0, 0), h.2)) : xM l D (d0, 0, 0) M as h Q := sorry
/-! ### leaving by a throw -/
def s_athrow (X : xX) : qK := fun _ st h => match st with
  | .inr (.inr z) :: _ => 0 ≤ z ∧ X z h
  | _ => False
theorem x_out {M : qm} {c : Code} {pc : Nat} (hX : x_T M c) (ho : ∀ r ∈ x_tb M, ¬ (r.1 ≤ pc ∧ pc < r.2.1)) : ∀ x ∈ c.exceptionTable.toList, covers x pc = false := sorry
set_option maxRecDepth 100000 in
theorem x_leave {l : Launch} {D : qD} {d : qd} {M : qm} {pc : Nat} {Q : xQ} {ls : List (Option qv)} {h h' : qh} {z : Int} {p : Program} {e : Env} {R : Room} {s : State} {m : MethodId} {args : Array Value} {below : List Frame} {meth : Method} {c : Code} {locs : List Loc} {cells slots : Nat} {T : State} {g : JFrame}
    (hX : x_T M c) (hC : q_C M p s m args meth c) (ho : ∀ r ∈ x_tb M, ¬ (r.1 ≤ g.pc ∧ g.pc < r.2.1)) (hH : q_HR D h' T.heap) (hS : va_S (q_A D) s.heap T.heap locs) (h1 : cells ≤ d.2.1) (h2 : slots ≤ d.2.2) (hg : g.method = m) (hlk : g.locked = none) (hen : g.entered = []) (z0 : 0 ≤ z) (z1 : z < h'.1.1) (hz : Q.2 z h') (X : Stand p l e R s m args below meth c T locs cells slots) :
    ∃ t, Steps p.tables e below ((T.setTop g).pushFrame (.throwing (D.2.2.1 + z.toNat))) t ∧ x_Q below (x_P D Q) args s d.2.1 d.2.2 (q_A D) t := sorry
set_option maxRecDepth 100000 in
theorem xk_athrow {l : Launch} {D : qD} {d : qd} {M : qm} {pc : Nat} {Q : xQ} (ho : ∀ r ∈ x_tb M, ¬ (r.1 ≤ pc ∧ pc < r.2.1)) (hd : decode M.2.1 pc = .ok (.athrow, 1)) : qI (s_athrow Q.2) (xR l D d M pc Q) := sorry
end
section
/-! ===== calls that may throw, and where it is caught ===== -/
section XC
variable {p : Program} {l : Launch} {e : Env} {R : Room} {s : State} {m : MethodId} {args : Array Value} {below : List Frame} {meth : Method} {c : Code} {U : State} {locs : List Loc} {cells slots : Nat}
theorem x_hp (T : State) (g : JFrame) : (T.setTop g).heap = T.heap := sorry
theorem x_go {y : MethodName} {ws : List Cond} {rm : Room} {Pc : Array Value → State → Prop} {Qc : xG} {mc ms : Nat} {free : Addr → Prop} (hM : x_Met l y ws rm Pc Qc mc ms free) (X : Stand p l e R s m args below meth c U locs cells slots)
    {g : JFrame} (hg : g.method = m) (hsize : g.locals.size = c.maxLocals) {ig : Instr} {len : Nat} (hdg : decode c.code g.pc = .ok (ig, len)) {mk : MethodId} {a : Array Value} (hn : U.methodNamed? y = some mk) {methY : Method} {cY : Code} (hmY : U.vm.method? mk = some methY) (hcY : methY.code = some cY)
    {kY : Class} (hkY : U.vm.classes[mk.cls]? = some kY) (hinitY : kY.init = .initialized) (hpre : (headSpec ws rm).pre.before a U = true) (hf : rm.frames + 1 ≤ R.frames) (hlo : 2 * g.monitorRoom + (g.stack.map fun v => v.category).sum + (cY.maxLocals + 11) + rm.locals ≤ R.locals) (hc : cells + rm.cells ≤ R.cells) (hs : slots + rm.slots ≤ R.slots) (hP : Pc a (U.calling g mk a)) :
    ∃ (o : Outcome) (t T' : State) (L : List Loc), Stand p l e R s m args below meth c T' (locs ++ L) (cells + mc) (slots + ms) ∧ (∀ q ∈ L, free q.base) ∧ T'.heap = t.heap ∧ Qc a (U.calling g mk a) o t ∧
      (∀ v, o = .returned v → Steps p.tables e below (doInvoke e (U.setTop g) [] mk a).1 (T'.setTop { g with pc := g.pc + len, stack := v.toList ++ g.stack })) ∧
      (∀ x, o = .threw x → Steps p.tables e below (doInvoke e (U.setTop g) [] mk a).1 ((T'.setTop g).pushFrame (.throwing x))) := sorry
/-- what a call that may throw comes to -/
def x_Run (p : Program) (l : Launch) (e : Env) (R : Room) (s : State) (m : MethodId) (args : Array Value) (below : List Frame) (meth : Method) (c : Code) (H : Heap) (locs : List Loc) (cells slots mc ms : Nat) (g : JFrame) (rest : List Value) (Qa : State → Outcome → State → Prop) (free : Addr → Prop) : Prop :=
  ∀ T : State, T.heap = H → Stand p l e R s m args below meth c T locs cells slots → ∃ (o : Outcome) (st₀ t T' : State) (L : List Loc), st₀.heap = H ∧ Stand p l e R s m args below meth c T' (locs ++ L) (cells + mc) (slots + ms) ∧ (∀ q ∈ L, free q.base) ∧ T'.heap = t.heap ∧ Qa st₀ o t ∧
    (∀ v, o = .returned v → ∀ target, Steps p.tables e below (T'.setTop { g with pc := g.pc + 3, stack := v.toList ++ rest }) target → Steps p.tables e below (T.setTop g) target) ∧
    (∀ x, o = .threw x → ∀ target, Steps p.tables e below ((T'.setTop { g with stack := rest }).pushFrame (.throwing x)) target → Steps p.tables e below (T.setTop g) target)
theorem x_heapC (U : State) (g : JFrame) (mk : MethodId) (a : Array Value) : (U.calling g mk a).heap = U.heap := sorry
set_option maxRecDepth 100000 in
/-- the callee's own facts at a point of the walk -/
theorem x_at {M' : qm} {d' : qd} {as : List qv} {D : qD} {h : qh} {Q : xQ} (hM : xM l D d' M' as h Q) (hc : x_code M') (hi : Cond.initialized M'.1.cls ∈ q_G) (hml : M'.2.2.1 ≤ 81) (hts : ∀ w ∈ q_G, w.before args s = true) (hW : q_W D s) (hok : ∀ v ∈ as, qok h.1.1 v) {d0 : Nat} {d2 : Nat × Nat} (hd0 : d'.1 ≤ d0) {H : Heap} (hH : q_HR D h H) (hS : va_S (q_A D) s.heap H locs) (hR : q_Rm (d0 + 1, d2) h R cells slots)
    (X : Stand p l e R s m args below meth c U locs cells slots) (hU : U.heap = H) {g : JFrame} (hg : g.method = m) (hsize : g.locals.size = c.maxLocals) {ig : Instr} {len : Nat} (hdg : decode c.code g.pc = .ok (ig, len)) (hw : 2 * g.monitorRoom + (g.stack.map fun v => v.category).sum ≤ 8) {mk : MethodId} (hn : s.methodNamed? M'.1 = some mk) :
    ∃ (o : Outcome) (t T' : State) (L : List Loc), Stand p l e R s m args below meth c T' (locs ++ L) (cells + d'.2.1) (slots + d'.2.2) ∧ (∀ q ∈ L, q_A D q.base) ∧ T'.heap = t.heap ∧ x_P D ((fun r h' => Q.1 r ((h'.1.1, h.1.2.1 - d'.2.1, h.1.2.2 - d'.2.2), h'.2)), (fun z h' => Q.2 z ((h'.1.1, h.1.2.1 - d'.2.1, h.1.2.2 - d'.2.2), h'.2))) (as.map (qtv D)).toArray (U.calling g mk (as.map (qtv D)).toArray) o t ∧
      (∀ v, o = .returned v → Steps p.tables e below (doInvoke e (U.setTop g) [] mk (as.map (qtv D)).toArray).1 (T'.setTop { g with pc := g.pc + len, stack := v.toList ++ g.stack })) ∧
      (∀ x, o = .threw x → Steps p.tables e below (doInvoke e (U.setTop g) [] mk (as.map (qtv D)).toArray).1 ((T'.setTop g).pushFrame (.throwing x))) := sorry
set_option maxRecDepth 100000 in
theorem x_find {d : Bool} {acts : List Action} {E : CtlPost} {Q : Handler → Pre} {f : JFrame} {a : Addr} {S : State} {x : ExceptionTableEntry} {tl : List ExceptionTableEntry} {cc : ClassId} {cell : Cell} {vm' : Vm} (hx : covers x f.pc = true) (h0 : x.catchType ≠ 0) (hg : (Jvm.resolveClass f.method.cls x.catchType).Gives e.toSetting S.vm (.ok cc) vm') (hsz : vm'.classes.size ≤ S.vm.classes.size)
    (hcell : S.heap[a]? = some cell) (hobj : ∀ k, cell.vm ≠ .statics k) (hk : ∃ k, vm'.classes[cell.cls]? = some k) (hcl : ∃ k, vm'.classes[cc]? = some k) (hfit : vm'.assignable cell.cls cc = true) :
    wp (findHandler.go f a (x :: tl)) Q E e d acts S ↔ Q (.found x.handlerPc) d acts (S.setVm vm') := sorry
end XC
end
section
/-! ===== behind a call that may throw ===== -/
theorem x_sv (A : State) (vm' : Vm) (fs : List Frame) : (A.setVm vm').setFrames fs = (A.setFrames fs).setVm vm' := sorry
def x_TH (l : Launch) (D : qD) (d : qd) (M : qm) (pc : Nat) (Q : xQ) (ls : List (Option qv)) (rest : List qv) (X : xX) : Prop :=
  ∀ {p : Program} {e : Env} {R : Room} {s : State} {m : MethodId} {args : Array Value} {below : List Frame} {meth : Method} {c : Code} {locs : List Loc} {cells slots : Nat} {lsA : Array Slot} {T : State} {z : Int} {h' : qh},
      X z h' → 0 ≤ z → z < h'.1.1 → x_T M c → q_C M p s m args meth c → q_W D s → q_HR D h' T.heap → (∀ v, some v ∈ ls → qok h'.1.1 v) → va_S (q_A D) s.heap T.heap locs → q_Rm d h' R cells slots → lv_has lsA M.2.2.1 (qls D 0 ls) → Stand p l e R s m args below meth c T locs cells slots →
      ∃ t, Steps p.tables e below ((T.setTop (F0 m pc lsA (rest.map (qtv D)))).pushFrame (.throwing (D.2.2.1 + z.toNat))) t ∧ x_Q below (x_P D Q) args s d.2.1 d.2.2 (q_A D) t
section XA
variable {l : Launch} {D : qD} {d : qd} {M : qm} {pc : Nat} {Q : xQ} {K : qK} {X : xX}
set_option maxRecDepth 100000 in
theorem x_afterT {d' : qd} {ls : List (Option qv)} {st rest : List qv} {h : qh} {as : List qv}
    (hrun : ∀ {p : Program} {e : Env} {R : Room} {s : State} {m : MethodId} {args : Array Value} {below : List Frame} {meth : Method} {c : Code} {H : Heap} {locs : List Loc} {cells slots : Nat} {lsA : Array Slot},
      x_T M c → q_C M p s m args meth c → q_W D s → q_HR D h H → (∀ v ∈ st, qok h.1.1 v) → va_S (q_A D) s.heap H locs → q_Rm d h R cells slots → lv_has lsA M.2.2.1 (qls D 0 ls) →
      x_Run p l e R s m args below meth c H locs cells slots d'.2.1 d'.2.2 (F0 m pc lsA (st.map (qtv D))) (rest.map (qtv D)) (x_P D ((fun r h' => K ls (r.toList ++ rest) ((h'.1.1, h.1.2.1 - d'.2.1, h.1.2.2 - d'.2.2), h'.2)), (fun z h' => X z ((h'.1.1, h.1.2.1 - d'.2.1, h.1.2.2 - d'.2.2), h'.2))) (as.map (qtv D)).toArray) (q_A D))
    (hrest : ∀ v ∈ rest, v ∈ st) (hd1 : d'.2.1 ≤ h.1.2.1) (hd2 : d'.2.2 ≤ h.1.2.2) (k : qI (K) (xR l D d M (pc + 3) Q))
    (kt : x_TH l D d M pc Q ls rest X) : xR l D d M pc Q ls st h := sorry
set_option maxRecDepth 100000 in
/-- no handler: it goes on to the caller -/
theorem x_pass (ho : ∀ r ∈ x_tb M, ¬ (r.1 ≤ pc ∧ pc < r.2.1)) (hQ : ∀ z h', X z h' → Q.2 z h') {ls : List (Option qv)} {rest : List qv} : x_TH l D d M pc Q ls rest X := sorry
set_option maxRecDepth 100000 in
/-- the handler takes it -/
theorem x_take {s0 e0 hpc idx : Nat} (ho : x_tb M = [(s0, e0, hpc, idx)]) (hp : s0 ≤ pc ∧ pc < e0) (hi : idx ≠ 0) (hlk : Cond.classLink M.1.cls idx (cr 5).1 ∈ q_G) (hw5 : q_cl[5]? = some (cr 5)) {ls : List (Option qv)} (hQ : ∀ z h', X z h' → (q_shp z).1 = 5 ∧ xR l D d M hpc Q ls [.inr (.inr z)] h') {rest : List qv} : x_TH l D d M pc Q ls rest X := sorry
end XA
end
section
/-! ===== the rules once more, for methods that may throw: printed by gen/xcopy.py ===== -/
section XCP
variable {l : Launch} {D : qD} {d : qd} {M : qm} {pc : Nat} {Q : xQ} {K : qK}
theorem xR.st {l : Launch} {D : qD} {d : qd} {M : qm} {pc pc' : Nat} {Q : xQ} {ls : List (Option qv)} {st st' : List qv} {h : qh}
    (hok : (∀ v, some v ∈ ls → qok h.1.1 v) → (∀ v ∈ st, qok h.1.1 v) → ∀ v ∈ st', qok h.1.1 v)
    (hs : ∀ {p : Program} {e : Env} {R : Room} {s : State} {m : MethodId} {args : Array Value} {below : List Frame} {meth : Method} {c : Code} {H : Heap} {locs : List Loc} {cells slots : Nat} {lsA : Array Slot} {Qw : State → Prop},
      q_C M p s m args meth c → lv_has lsA M.2.2.1 (qls D 0 ls) → (∀ v, some v ∈ ls → qok h.1.1 v) → (∀ v ∈ st, qok h.1.1 v) → W p l e R s m args below meth c H locs cells slots Qw (F0 m pc' lsA (st'.map (qtv D))) → W p l e R s m args below meth c H locs cells slots Qw (F0 m pc lsA (st.map (qtv D))))
    (k : xR l D d M pc' Q ls st' h) : xR l D d M pc Q ls st h := sorry
theorem xk_iconst {z : Int} (hd : decode M.2.1 pc = .ok (.iconst z, 1)) (hr : r32 z) (k : qI (K) (xR l D d M (pc + 1) Q)) : qI (s_ic z K) (xR l D d M pc Q) := sorry
theorem xk_bipush {z : Int} (hd : decode M.2.1 pc = .ok (.bipush z, 2)) (hr : r32 z) (hz : (Int8.ofInt z).toInt32 = Int32.ofInt z) (k : qI (K) (xR l D d M (pc + 2) Q)) : qI (s_ic z K) (xR l D d M pc Q) := sorry
theorem xk_sipush {z : Int} (hd : decode M.2.1 pc = .ok (.sipush z, 3)) (hr : r32 z) (hz : (Int16.ofInt z).toInt32 = Int32.ofInt z) (k : qI (K) (xR l D d M (pc + 3) Q)) : qI (s_ic z K) (xR l D d M pc Q) := sorry
theorem xk_ldc {z : Int} {i : Nat} (hd : decode M.2.1 pc = .ok (.ldc i, 2)) (hr : r32 z) (hw : Cond.constant M.1.cls i (Int32.ofInt z) ∈ q_G) (k : qI (K) (xR l D d M (pc + 2) Q)) : qI (s_ic z K) (xR l D d M pc Q) := sorry
theorem xk_ldcw {z : Int} {i : Nat} (hd : decode M.2.1 pc = .ok (.ldc_w i, 3)) (hr : r32 z) (hw : Cond.constant M.1.cls i (Int32.ofInt z) ∈ q_G) (k : qI (K) (xR l D d M (pc + 3) Q)) : qI (s_ic z K) (xR l D d M pc Q) := sorry
theorem xk_lconst {z : Int} {n : Fin 2} (hd : decode M.2.1 pc = .ok (.lconst n, 1)) (hr : r64 z) (hz : Int64.ofNat (n : Nat) = Int64.ofInt z) (k : qI (K) (xR l D d M (pc + 1) Q)) : qI (s_lc z K) (xR l D d M pc Q) := sorry
theorem xk_ldc2 {z : Int} {i : Nat} (hd : decode M.2.1 pc = .ok (.ldc2_w i, 3)) (hr : r64 z) (hw : Cond.constantLong M.1.cls i (Int64.ofInt z) ∈ q_G) (k : qI (K) (xR l D d M (pc + 3) Q)) : qI (s_lc z K) (xR l D d M pc Q) := sorry
theorem xk_null (hd : decode M.2.1 pc = .ok (.aconst_null, 1)) (k : qI (K) (xR l D d M (pc + 1) Q)) : qI (s_null K) (xR l D d M pc Q) := sorry
theorem xk_iload_n {i : Nat} (j : Fin 4) (hj : (j : Nat) = i) (hd : decode M.2.1 pc = .ok (.iload_n j, 1)) (k : qI (K) (xR l D d M (pc + 1) Q)) : qI (s_iload i K) (xR l D d M pc Q) := sorry
theorem xk_iload {i : Nat} (hd : decode M.2.1 pc = .ok (.iload i, 2)) (k : qI (K) (xR l D d M (pc + 2) Q)) : qI (s_iload i K) (xR l D d M pc Q) := sorry
theorem xk_lload_n {i : Nat} (j : Fin 4) (hj : (j : Nat) = i) (hd : decode M.2.1 pc = .ok (.lload_n j, 1)) (k : qI (K) (xR l D d M (pc + 1) Q)) : qI (s_lload i K) (xR l D d M pc Q) := sorry
theorem xk_lload {i : Nat} (hd : decode M.2.1 pc = .ok (.lload i, 2)) (k : qI (K) (xR l D d M (pc + 2) Q)) : qI (s_lload i K) (xR l D d M pc Q) := sorry
theorem xk_aload_n {i : Nat} (j : Fin 4) (hj : (j : Nat) = i) (hd : decode M.2.1 pc = .ok (.aload_n j, 1)) (k : qI (K) (xR l D d M (pc + 1) Q)) : qI (s_aload i K) (xR l D d M pc Q) := sorry
theorem xk_aload {i : Nat} (hd : decode M.2.1 pc = .ok (.aload i, 2)) (k : qI (K) (xR l D d M (pc + 2) Q)) : qI (s_aload i K) (xR l D d M pc Q) := sorry
theorem xR.ls {pc' : Nat} {ls ls' : List (Option qv)} {st st' : List qv} {h : qh}
    (hok : (∀ v, some v ∈ ls → qok h.1.1 v) → (∀ v ∈ st, qok h.1.1 v) → (∀ v, some v ∈ ls' → qok h.1.1 v) ∧ ∀ v ∈ st', qok h.1.1 v)
    (hs : ∀ {p : Program} {e : Env} {R : Room} {s : State} {m : MethodId} {args : Array Value} {below : List Frame} {meth : Method} {c : Code} {H : Heap} {locs : List Loc} {cells slots : Nat} {lsA : Array Slot} {Qw : State → Prop},
      q_C M p s m args meth c → lv_has lsA M.2.2.1 (qls D 0 ls) → (∀ v, some v ∈ ls → qok h.1.1 v) → (∀ v ∈ st, qok h.1.1 v) → (∀ lsB : Array Slot, lv_has lsB M.2.2.1 (qls D 0 ls') → W p l e R s m args below meth c H locs cells slots Qw (F0 m pc' lsB (st'.map (qtv D)))) → W p l e R s m args below meth c H locs cells slots Qw (F0 m pc lsA (st.map (qtv D))))
    (k : xR l D d M pc' Q ls' st' h) : xR l D d M pc Q ls st h := sorry
theorem xk_istore_n {i : Nat} (j : Fin 4) (hj : (j : Nat) = i) (hd : decode M.2.1 pc = .ok (.istore_n j, 1)) (hi : i < M.2.2.1) (k : qI (K) (xR l D d M (pc + 1) Q)) : qI (s_istore i K) (xR l D d M pc Q) := sorry
theorem xk_istore {i : Nat} (hd : decode M.2.1 pc = .ok (.istore i, 2)) (hi : (i : Nat) < M.2.2.1) (k : qI (K) (xR l D d M (pc + 2) Q)) : qI (s_istore i K) (xR l D d M pc Q) := sorry
theorem xk_lstore_n {i : Nat} (j : Fin 4) (hj : (j : Nat) = i) (hd : decode M.2.1 pc = .ok (.lstore_n j, 1)) (hi : i + 1 < M.2.2.1) (k : qI (K) (xR l D d M (pc + 1) Q)) : qI (s_lstore i K) (xR l D d M pc Q) := sorry
theorem xk_lstore {i : Nat} (hd : decode M.2.1 pc = .ok (.lstore i, 2)) (hi : (i : Nat) + 1 < M.2.2.1) (k : qI (K) (xR l D d M (pc + 2) Q)) : qI (s_lstore i K) (xR l D d M pc Q) := sorry
theorem xk_astore_n {i : Nat} (j : Fin 4) (hj : (j : Nat) = i) (hd : decode M.2.1 pc = .ok (.astore_n j, 1)) (hi : i < M.2.2.1) (k : qI (K) (xR l D d M (pc + 1) Q)) : qI (s_astore i K) (xR l D d M pc Q) := sorry
theorem xk_astore {i : Nat} (hd : decode M.2.1 pc = .ok (.astore i, 2)) (hi : (i : Nat) < M.2.2.1) (k : qI (K) (xR l D d M (pc + 2) Q)) : qI (s_astore i K) (xR l D d M pc Q) := sorry
theorem xk_iinc {i : Nat} {n : Int} (hd : decode M.2.1 pc = .ok (.iinc i n, 3)) (hi : i < M.2.2.1) (k : qI (K) (xR l D d M (pc + 3) Q)) : qI (s_iinc i n K) (xR l D d M pc Q) := sorry
theorem xk_iadd (hd : decode M.2.1 pc = .ok (.iadd, 1)) (k : qI (K) (xR l D d M (pc + 1) Q)) : qI (s_iadd K) (xR l D d M pc Q) := sorry
theorem xk_isub (hd : decode M.2.1 pc = .ok (.isub, 1)) (k : qI (K) (xR l D d M (pc + 1) Q)) : qI (s_isub K) (xR l D d M pc Q) := sorry
theorem xk_imul (hd : decode M.2.1 pc = .ok (.imul, 1)) (k : qI (K) (xR l D d M (pc + 1) Q)) : qI (s_imul K) (xR l D d M pc Q) := sorry
theorem xk_iand (hd : decode M.2.1 pc = .ok (.iand, 1)) (k : qI (K) (xR l D d M (pc + 1) Q)) : qI (s_iand K) (xR l D d M pc Q) := sorry
theorem xk_ior (hd : decode M.2.1 pc = .ok (.ior, 1)) (k : qI (K) (xR l D d M (pc + 1) Q)) : qI (s_ior K) (xR l D d M pc Q) := sorry
theorem xk_ixor (hd : decode M.2.1 pc = .ok (.ixor, 1)) (k : qI (K) (xR l D d M (pc + 1) Q)) : qI (s_ixor K) (xR l D d M pc Q) := sorry
theorem xk_ishl (hd : decode M.2.1 pc = .ok (.ishl, 1)) (k : qI (K) (xR l D d M (pc + 1) Q)) : qI (s_ishl K) (xR l D d M pc Q) := sorry
theorem xk_ishr (hd : decode M.2.1 pc = .ok (.ishr, 1)) (k : qI (K) (xR l D d M (pc + 1) Q)) : qI (s_ishr K) (xR l D d M pc Q) := sorry
theorem xR.br {c : Prop} {pc1 pc2 : Nat} {ls : List (Option qv)} {st st' : List qv} {h : qh}
    (hok : (∀ v ∈ st, qok h.1.1 v) → ∀ v ∈ st', qok h.1.1 v)
    (hs : ∀ {p : Program} {e : Env} {R : Room} {s : State} {m : MethodId} {args : Array Value} {below : List Frame} {meth : Method} {c0 : Code} {H : Heap} {locs : List Loc} {cells slots : Nat} {lsA : Array Slot} {Qw : State → Prop},
      q_C M p s m args meth c0 → (∀ v ∈ st, qok h.1.1 v) → (c → W p l e R s m args below meth c0 H locs cells slots Qw (F0 m pc1 lsA (st'.map (qtv D)))) → (¬ c → W p l e R s m args below meth c0 H locs cells slots Qw (F0 m pc2 lsA (st'.map (qtv D)))) → W p l e R s m args below meth c0 H locs cells slots Qw (F0 m pc lsA (st.map (qtv D))))
    (k1 : c → xR l D d M pc1 Q ls st' h) (k2 : ¬ c → xR l D d M pc2 Q ls st' h) : xR l D d M pc Q ls st h := sorry
theorem xk_icmp_eq {off : Int} {t : Nat} {T : qK} (hd : decode M.2.1 pc = .ok (.if_icmp .eq off, 3)) (ht : (pc : Int) + off = (t : Int)) (kt : qI (T) (xR l D d M t Q)) (k : qI (K) (xR l D d M (pc + 3) Q)) : qI (s_icmp_eq T K) (xR l D d M pc Q) := sorry
theorem xk_if_eq {off : Int} {t : Nat} {T : qK} (hd : decode M.2.1 pc = .ok (.ifCond .eq off, 3)) (ht : (pc : Int) + off = (t : Int)) (kt : qI (T) (xR l D d M t Q)) (k : qI (K) (xR l D d M (pc + 3) Q)) : qI (s_if_eq T K) (xR l D d M pc Q) := sorry
theorem xk_icmp_ne {off : Int} {t : Nat} {T : qK} (hd : decode M.2.1 pc = .ok (.if_icmp .ne off, 3)) (ht : (pc : Int) + off = (t : Int)) (kt : qI (T) (xR l D d M t Q)) (k : qI (K) (xR l D d M (pc + 3) Q)) : qI (s_icmp_ne T K) (xR l D d M pc Q) := sorry
theorem xk_if_ne {off : Int} {t : Nat} {T : qK} (hd : decode M.2.1 pc = .ok (.ifCond .ne off, 3)) (ht : (pc : Int) + off = (t : Int)) (kt : qI (T) (xR l D d M t Q)) (k : qI (K) (xR l D d M (pc + 3) Q)) : qI (s_if_ne T K) (xR l D d M pc Q) := sorry
theorem xk_icmp_lt {off : Int} {t : Nat} {T : qK} (hd : decode M.2.1 pc = .ok (.if_icmp .lt off, 3)) (ht : (pc : Int) + off = (t : Int)) (kt : qI (T) (xR l D d M t Q)) (k : qI (K) (xR l D d M (pc + 3) Q)) : qI (s_icmp_lt T K) (xR l D d M pc Q) := sorry
theorem xk_if_lt {off : Int} {t : Nat} {T : qK} (hd : decode M.2.1 pc = .ok (.ifCond .lt off, 3)) (ht : (pc : Int) + off = (t : Int)) (kt : qI (T) (xR l D d M t Q)) (k : qI (K) (xR l D d M (pc + 3) Q)) : qI (s_if_lt T K) (xR l D d M pc Q) := sorry
theorem xk_icmp_ge {off : Int} {t : Nat} {T : qK} (hd : decode M.2.1 pc = .ok (.if_icmp .ge off, 3)) (ht : (pc : Int) + off = (t : Int)) (kt : qI (T) (xR l D d M t Q)) (k : qI (K) (xR l D d M (pc + 3) Q)) : qI (s_icmp_ge T K) (xR l D d M pc Q) := sorry
theorem xk_if_ge {off : Int} {t : Nat} {T : qK} (hd : decode M.2.1 pc = .ok (.ifCond .ge off, 3)) (ht : (pc : Int) + off = (t : Int)) (kt : qI (T) (xR l D d M t Q)) (k : qI (K) (xR l D d M (pc + 3) Q)) : qI (s_if_ge T K) (xR l D d M pc Q) := sorry
theorem xk_icmp_gt {off : Int} {t : Nat} {T : qK} (hd : decode M.2.1 pc = .ok (.if_icmp .gt off, 3)) (ht : (pc : Int) + off = (t : Int)) (kt : qI (T) (xR l D d M t Q)) (k : qI (K) (xR l D d M (pc + 3) Q)) : qI (s_icmp_gt T K) (xR l D d M pc Q) := sorry
theorem xk_if_gt {off : Int} {t : Nat} {T : qK} (hd : decode M.2.1 pc = .ok (.ifCond .gt off, 3)) (ht : (pc : Int) + off = (t : Int)) (kt : qI (T) (xR l D d M t Q)) (k : qI (K) (xR l D d M (pc + 3) Q)) : qI (s_if_gt T K) (xR l D d M pc Q) := sorry
theorem xk_icmp_le {off : Int} {t : Nat} {T : qK} (hd : decode M.2.1 pc = .ok (.if_icmp .le off, 3)) (ht : (pc : Int) + off = (t : Int)) (kt : qI (T) (xR l D d M t Q)) (k : qI (K) (xR l D d M (pc + 3) Q)) : qI (s_icmp_le T K) (xR l D d M pc Q) := sorry
theorem xk_if_le {off : Int} {t : Nat} {T : qK} (hd : decode M.2.1 pc = .ok (.ifCond .le off, 3)) (ht : (pc : Int) + off = (t : Int)) (kt : qI (T) (xR l D d M t Q)) (k : qI (K) (xR l D d M (pc + 3) Q)) : qI (s_if_le T K) (xR l D d M pc Q) := sorry
theorem xk_goto {off : Int} {t : Nat} (hd : decode M.2.1 pc = .ok (.goto off, 3)) (ht : (pc : Int) + off = (t : Int)) (kt : qI (K) (xR l D d M t Q)) : qI (K) (xR l D d M pc Q) := sorry
/-- the end of a block: the next one begins -/
theorem xk_to : qI (xR l D d M pc Q) (xR l D d M pc Q) := sorry
set_option maxRecDepth 100000 in
/-- a step that may change the heap's contents (no new cells) -/
theorem xR.hp {pc' : Nat} {ls : List (Option qv)} {st st' : List qv} {h h' : qh} (h1' : h'.1 = h.1)
    (hok : (∀ v ∈ st, qok h.1.1 v) → ∀ v ∈ st', qok h.1.1 v)
    (hs : ∀ {p : Program} {e : Env} {R : Room} {s : State} {m : MethodId} {args : Array Value} {below : List Frame} {meth : Method} {c : Code} {H : Heap} {locs : List Loc} {cells slots : Nat} {lsA : Array Slot} {Qw : State → Prop},
      q_C M p s m args meth c → q_W D s → q_HR D h H → (∀ v ∈ st, qok h.1.1 v) → va_S (q_A D) s.heap H locs → (∀ (H' : Heap) (locs' : List Loc), q_HR D h' H' → va_S (q_A D) s.heap H' locs' → W p l e R s m args below meth c H' locs' cells slots Qw (F0 m pc' lsA (st'.map (qtv D)))) → W p l e R s m args below meth c H locs cells slots Qw (F0 m pc lsA (st.map (qtv D))))
    (k : xR l D d M pc' Q ls st' h') : xR l D d M pc Q ls st h := sorry
set_option maxRecDepth 100000 in
theorem x_getW {idx ci k t : Nat} {r0 : vw_C} (hcl : q_clok ci r0) (hk : k < r0.2.2) (hc : ci < 100) (hF : q_FL M.1.cls idx (r0.2.1 k)) (ht : q_ft ci k = t) (hd : decode M.2.1 pc = .ok (.getfield idx, 3))
    {ls : List (Option qv)} {a : Int} {r : List qv} {h : qh} (h0 : 0 ≤ a) (hs : (q_shp a).1 = ci) (kk : xR l D d M (pc + 3) Q ls (qty t (h.2 a k) :: r) h) : xR l D d M pc Q ls (.inr (.inr a) :: r) h := sorry
set_option maxRecDepth 100000 in
theorem xk_getI {idx ci k : Nat} {r0 : vw_C} (hcl : q_clok ci r0) (hk : k < r0.2.2) (hc : ci < 100) (hF : q_FL M.1.cls idx (r0.2.1 k)) (ht : q_ft ci k = 0) (hd : decode M.2.1 pc = .ok (.getfield idx, 3)) (kk : qI (K) (xR l D d M (pc + 3) Q)) : qI (s_getI ci k K) (xR l D d M pc Q) := sorry
set_option maxRecDepth 100000 in
theorem xk_getL {idx ci k : Nat} {r0 : vw_C} (hcl : q_clok ci r0) (hk : k < r0.2.2) (hc : ci < 100) (hF : q_FL M.1.cls idx (r0.2.1 k)) (ht : q_ft ci k = 1) (hd : decode M.2.1 pc = .ok (.getfield idx, 3)) (kk : qI (K) (xR l D d M (pc + 3) Q)) : qI (s_getL ci k K) (xR l D d M pc Q) := sorry
set_option maxRecDepth 100000 in
theorem xk_getR {idx ci k : Nat} {r0 : vw_C} (hcl : q_clok ci r0) (hk : k < r0.2.2) (hc : ci < 100) (hF : q_FL M.1.cls idx (r0.2.1 k)) (ht : q_ft ci k = 2) (hd : decode M.2.1 pc = .ok (.getfield idx, 3)) (kk : qI (K) (xR l D d M (pc + 3) Q)) : qI (s_getR ci k K) (xR l D d M pc Q) := sorry
set_option maxRecDepth 100000 in
theorem x_ald {len : Nat} {t tc : Nat} {ls : List (Option qv)} {i a : Int} {r : List qv} {h : qh} (ht : 100 ≤ t) (htc : q_ae t = tc) (h0 : 0 ≤ a) (hs : (q_shp a).1 = t) (hi0 : 0 ≤ i) (hi1 : i < (q_shp a).2)
    (hstep : ∀ {p : Program} {e : Env} {R : Room} {s : State} {m : MethodId} {args : Array Value} {below : List Frame} {meth : Method} {c : Code} {H : Heap} {locs : List Loc} {cells slots : Nat} {lsA : Array Slot} {Qw : State → Prop} {ad : Nat} {cell : Cell} {j : Int32} {v : Value} {rest : List Value},
      q_C M p s m args meth c → q_W D s → H[ad]? = some cell → s.isArrayOf cell (q_aty t) → cell.vm ≠ .unknown → ¬ (j < 0 ∨ cell.slots.size ≤ j.toNatClampNeg) → cell.slots[j.toNatClampNeg]? = some v → W p l e R s m args below meth c H locs cells slots Qw (F0 m (pc + len) lsA (v :: rest)) → W p l e R s m args below meth c H locs cells slots Qw (F0 m pc lsA (.int j :: .ref ad :: rest)))
    (ht2 : t < 107) (kk : xR l D d M (pc + len) Q ls (qty tc (h.2 a i) :: r) h) : xR l D d M pc Q ls (.inl i :: .inr (.inr a) :: r) h := sorry
set_option maxRecDepth 100000 in
theorem xk_iald (hd : decode M.2.1 pc = .ok (.iaload, 1)) (kk : qI (K) (xR l D d M (pc + 1) Q)) : qI (s_iald K) (xR l D d M pc Q) := sorry
set_option maxRecDepth 100000 in
theorem xk_bald (hd : decode M.2.1 pc = .ok (.baload, 1)) (kk : qI (K) (xR l D d M (pc + 1) Q)) : qI (s_bald K) (xR l D d M pc Q) := sorry
set_option maxRecDepth 100000 in
theorem xk_lald (hd : decode M.2.1 pc = .ok (.laload, 1)) (kk : qI (K) (xR l D d M (pc + 1) Q)) : qI (s_lald K) (xR l D d M pc Q) := sorry
set_option maxRecDepth 100000 in
theorem xk_aald (hd : decode M.2.1 pc = .ok (.aaload, 1)) (kk : qI (K) (xR l D d M (pc + 1) Q)) : qI (s_aald K) (xR l D d M pc Q) := sorry
set_option maxRecDepth 100000 in
theorem x_putW {idx ci k t : Nat} {r0 : vw_C} {ty : FieldType} {z : Int} (hcl : q_clok ci r0) (hcd : q_cld r0) (hk : k < r0.2.2) (hc : ci < 100) (hF : q_FL M.1.cls idx (r0.2.1 k)) (ht : q_ft ci k = t) (hty : parseFieldDescriptor (r0.2.1 k).2.2.1 = some ty)
    (hfin : (r0.2.1 k).2.2.2 = false ∨ ((r0.2.1 k).1 = M.1.cls ∧ M.1.name = "<init>")) (hd : decode M.2.1 pc = .ok (.putfield idx, 3))
    {ls : List (Option qv)} {a : Int} {r : List qv} {h : qh} (h0 : 0 ≤ a) (hs : (q_shp a).1 = ci) (hn : ∀ D : qD, narrow ty (qtv D (qty t z)) = qtv D (qty t z)) (hfit : ∀ D : qD, fits ty (qtv D (qty t z)) = true)
    (kk : xR l D d M (pc + 3) Q ls r (q_up h a k z)) : xR l D d M pc Q ls (qty t z :: .inr (.inr a) :: r) h := sorry
set_option maxRecDepth 100000 in
theorem xk_putI {idx ci k : Nat} {r0 : vw_C} (hcl : q_clok ci r0) (hcd : q_cld r0) (hk : k < r0.2.2) (hc : ci < 100) (hF : q_FL M.1.cls idx (r0.2.1 k)) (ht : q_ft ci k = 0) (hty : parseFieldDescriptor (r0.2.1 k).2.2.1 = some .int) (hfin : (r0.2.1 k).2.2.2 = false ∨ ((r0.2.1 k).1 = M.1.cls ∧ M.1.name = "<init>")) (hd : decode M.2.1 pc = .ok (.putfield idx, 3)) (kk : qI (K) (xR l D d M (pc + 3) Q)) : qI (s_putI ci k K) (xR l D d M pc Q) := sorry
set_option maxRecDepth 100000 in
theorem xk_putZ {idx ci k : Nat} {r0 : vw_C} (hcl : q_clok ci r0) (hcd : q_cld r0) (hk : k < r0.2.2) (hc : ci < 100) (hF : q_FL M.1.cls idx (r0.2.1 k)) (ht : q_ft ci k = 0) (hty : parseFieldDescriptor (r0.2.1 k).2.2.1 = some .boolean) (hfin : (r0.2.1 k).2.2.2 = false ∨ ((r0.2.1 k).1 = M.1.cls ∧ M.1.name = "<init>")) (hd : decode M.2.1 pc = .ok (.putfield idx, 3)) (kk : qI (K) (xR l D d M (pc + 3) Q)) : qI (s_putZ ci k K) (xR l D d M pc Q) := sorry
set_option maxRecDepth 100000 in
theorem xk_putL {idx ci k : Nat} {r0 : vw_C} (hcl : q_clok ci r0) (hcd : q_cld r0) (hk : k < r0.2.2) (hc : ci < 100) (hF : q_FL M.1.cls idx (r0.2.1 k)) (ht : q_ft ci k = 1) (hty : parseFieldDescriptor (r0.2.1 k).2.2.1 = some .long) (hfin : (r0.2.1 k).2.2.2 = false ∨ ((r0.2.1 k).1 = M.1.cls ∧ M.1.name = "<init>")) (hd : decode M.2.1 pc = .ok (.putfield idx, 3)) (kk : qI (K) (xR l D d M (pc + 3) Q)) : qI (s_putL ci k K) (xR l D d M pc Q) := sorry
set_option maxRecDepth 100000 in
theorem xk_putR {idx ci k : Nat} {r0 : vw_C} {ty : FieldType} (hcl : q_clok ci r0) (hcd : q_cld r0) (hk : k < r0.2.2) (hc : ci < 100) (hF : q_FL M.1.cls idx (r0.2.1 k)) (ht : q_ft ci k = 2) (hty : parseFieldDescriptor (r0.2.1 k).2.2.1 = some ty) (hrt : (∃ n, ty = .object n) ∨ ∃ t, ty = .array t) (hfin : (r0.2.1 k).2.2.2 = false ∨ ((r0.2.1 k).1 = M.1.cls ∧ M.1.name = "<init>")) (hd : decode M.2.1 pc = .ok (.putfield idx, 3)) (kk : qI (K) (xR l D d M (pc + 3) Q)) : qI (s_putR ci k K) (xR l D d M pc Q) := sorry
set_option maxRecDepth 100000 in
theorem x_ast {t tc : Nat} {ls : List (Option qv)} {z i a : Int} {r : List qv} {h : qh} (hft : q_fit t z) (ht : 100 ≤ t) (ht2 : t < 107) (htc : q_ae t = tc) (h0 : 0 ≤ a) (hs : (q_shp a).1 = t) (hi0 : 0 ≤ i) (hi1 : i < (q_shp a).2)
    (hstep : ∀ {p : Program} {e : Env} {R : Room} {s : State} {m : MethodId} {args : Array Value} {below : List Frame} {meth : Method} {c : Code} {H : Heap} {locs : List Loc} {cells slots : Nat} {lsA : Array Slot} {Qw : State → Prop} {ad : Nat} {cell : Cell} {j : Int32} {rest : List Value},
      q_C M p s m args meth c → q_W D s → H[ad]? = some cell → s.isArrayOf cell (q_aty t) → cell.vm ≠ .unknown → ¬ (j < 0 ∨ cell.slots.size ≤ j.toNatClampNeg) →
      (∀ H' : Heap, H'[ad]? = some (cell.setSlot j.toNatClampNeg (qtv D (qty tc z))) → H'.size = H.size → (∀ q, q ≠ ad → H'[q]? = H[q]?) → W p l e R s m args below meth c H' (locs ++ [⟨ad, j.toNatClampNeg⟩]) cells slots Qw (F0 m (pc + 1) lsA rest)) → W p l e R s m args below meth c H locs cells slots Qw (F0 m pc lsA (qtv D (qty tc z) :: .int j :: .ref ad :: rest)))
    (kk : xR l D d M (pc + 1) Q ls r (q_up h a i z)) : xR l D d M pc Q ls (qty tc z :: .inl i :: .inr (.inr a) :: r) h := sorry
set_option maxRecDepth 100000 in
theorem xk_iast (hd : decode M.2.1 pc = .ok (.iastore, 1)) (kk : qI (K) (xR l D d M (pc + 1) Q)) : qI (s_iast K) (xR l D d M pc Q) := sorry
set_option maxRecDepth 100000 in
theorem xk_bast (hd : decode M.2.1 pc = .ok (.bastore, 1)) (kk : qI (K) (xR l D d M (pc + 1) Q)) : qI (s_bast K) (xR l D d M pc Q) := sorry
set_option maxRecDepth 100000 in
theorem xk_last (hd : decode M.2.1 pc = .ok (.lastore, 1)) (kk : qI (K) (xR l D d M (pc + 1) Q)) : qI (s_last K) (xR l D d M pc Q) := sorry
/-- behind a call -/
theorem x_after {d' : qd} {ls : List (Option qv)} {st rest : List qv} {h : qh} {as : List qv}
    (hrun : ∀ {p : Program} {e : Env} {R : Room} {s : State} {m : MethodId} {args : Array Value} {below : List Frame} {meth : Method} {c : Code} {H : Heap} {locs : List Loc} {cells slots : Nat} {lsA : Array Slot},
      q_C M p s m args meth c → q_W D s → q_HR D h H → (∀ v ∈ st, qok h.1.1 v) → va_S (q_A D) s.heap H locs → q_Rm d h R cells slots → lv_has lsA M.2.2.1 (qls D 0 ls) →
      va_Run p l e R s m args below meth c H locs cells slots d'.2.1 d'.2.2 (F0 m pc lsA (st.map (qtv D))) (rest.map (qtv D)) (q_P D (fun r h' => K ls (r.toList ++ rest) ((h'.1.1, h.1.2.1 - d'.2.1, h.1.2.2 - d'.2.2), h'.2)) (as.map (qtv D)).toArray) (q_A D))
    (hrest : ∀ v ∈ rest, v ∈ st) (hd1 : d'.2.1 ≤ h.1.2.1) (hd2 : d'.2.2 ≤ h.1.2.2) (k : qI (K) (xR l D d M (pc + 3) Q)) : xR l D d M pc Q ls st h := sorry
set_option maxRecDepth 100000 in
theorem xk_invS {d0 : Nat} {B : Nat × Nat} {d' : qd} {M' : qm} {idx n : Nat} (hd0 : d'.1 ≤ d0) (hc : q_code M') (hl : Cond.methodLink M.1.cls idx M'.1 ∈ q_G) (hs : Cond.static M'.1 ∈ q_G) (hn : (parseMethodDescriptor M'.1.desc).map (fun d => d.parameters.length) = some n) (hd : decode M.2.1 pc = .ok (.invokestatic idx, 3))
    (k : qI (K) (xR l D (d0 + 1, B) M (pc + 3) Q)) : qI (s_invS l D d' M' n K) (xR l D (d0 + 1, B) M pc Q) := sorry
set_option maxRecDepth 100000 in
theorem xk_invV {d0 : Nat} {B : Nat × Nat} {d' : qd} {M' : qm} {idx n ci : Nat} {r0 : vw_C} (hd0 : d'.1 ≤ d0) (hcl : q_cl[ci]? = some r0) (hr : M'.1.cls = r0.1) (hci : ci < 100) (hc : q_code M') (hl : Cond.methodLink M.1.cls idx M'.1 ∈ q_G ∨ ∃ host, Cond.methodLinkNest M.1.cls idx M'.1 host ∈ q_N) (hs : Cond.instanceMethod M'.1 ∈ q_G) (hse : Cond.selects r0.1 M'.1 M'.1 ∈ q_G) (hn : (parseMethodDescriptor M'.1.desc).map (fun d => d.parameters.length) = some n) (hd : decode M.2.1 pc = .ok (.invokevirtual idx, 3))
    (k : qI (K) (xR l D (d0 + 1, B) M (pc + 3) Q)) : qI (s_invV l D d' ci M' n K) (xR l D (d0 + 1, B) M pc Q) := sorry
theorem xk_idiv (hd : decode M.2.1 pc = .ok (.idiv, 1)) (k : qI (K) (xR l D d M (pc + 1) Q)) : qI (s_idiv K) (xR l D d M pc Q) := sorry
theorem xk_irem (hd : decode M.2.1 pc = .ok (.irem, 1)) (k : qI (K) (xR l D d M (pc + 1) Q)) : qI (s_irem K) (xR l D d M pc Q) := sorry
theorem xk_ineg (hd : decode M.2.1 pc = .ok (.ineg, 1)) (k : qI (K) (xR l D d M (pc + 1) Q)) : qI (s_ineg K) (xR l D d M pc Q) := sorry
theorem xk_ladd (hd : decode M.2.1 pc = .ok (.ladd, 1)) (k : qI (K) (xR l D d M (pc + 1) Q)) : qI (s_ladd K) (xR l D d M pc Q) := sorry
theorem xk_lsub (hd : decode M.2.1 pc = .ok (.lsub, 1)) (k : qI (K) (xR l D d M (pc + 1) Q)) : qI (s_lsub K) (xR l D d M pc Q) := sorry
theorem xk_lmul (hd : decode M.2.1 pc = .ok (.lmul, 1)) (k : qI (K) (xR l D d M (pc + 1) Q)) : qI (s_lmul K) (xR l D d M pc Q) := sorry
theorem xk_lneg (hd : decode M.2.1 pc = .ok (.lneg, 1)) (k : qI (K) (xR l D d M (pc + 1) Q)) : qI (s_lneg K) (xR l D d M pc Q) := sorry
theorem xk_ldiv (hd : decode M.2.1 pc = .ok (.ldiv, 1)) (k : qI (K) (xR l D d M (pc + 1) Q)) : qI (s_ldiv K) (xR l D d M pc Q) := sorry
theorem xk_lrem (hd : decode M.2.1 pc = .ok (.lrem, 1)) (k : qI (K) (xR l D d M (pc + 1) Q)) : qI (s_lrem K) (xR l D d M pc Q) := sorry
theorem xk_lshl (hd : decode M.2.1 pc = .ok (.lshl, 1)) (k : qI (K) (xR l D d M (pc + 1) Q)) : qI (s_lshl K) (xR l D d M pc Q) := sorry
theorem xk_lshr (hd : decode M.2.1 pc = .ok (.lshr, 1)) (k : qI (K) (xR l D d M (pc + 1) Q)) : qI (s_lshr K) (xR l D d M pc Q) := sorry
theorem xk_lor (hd : decode M.2.1 pc = .ok (.lor, 1)) (k : qI (K) (xR l D d M (pc + 1) Q)) : qI (s_lor K) (xR l D d M pc Q) := sorry
theorem xk_land (hd : decode M.2.1 pc = .ok (.land, 1)) (k : qI (K) (xR l D d M (pc + 1) Q)) : qI (s_land K) (xR l D d M pc Q) := sorry
theorem xk_lcmp (hd : decode M.2.1 pc = .ok (.lcmp, 1)) (k : qI (K) (xR l D d M (pc + 1) Q)) : qI (s_lcmp K) (xR l D d M pc Q) := sorry
theorem xk_i2l (hd : decode M.2.1 pc = .ok (.i2l, 1)) (k : qI (K) (xR l D d M (pc + 1) Q)) : qI (s_i2l K) (xR l D d M pc Q) := sorry
theorem xk_l2i (hd : decode M.2.1 pc = .ok (.l2i, 1)) (k : qI (K) (xR l D d M (pc + 1) Q)) : qI (s_l2i K) (xR l D d M pc Q) := sorry
theorem xk_i2b (hd : decode M.2.1 pc = .ok (.i2b, 1)) (k : qI (K) (xR l D d M (pc + 1) Q)) : qI (s_i2b K) (xR l D d M pc Q) := sorry
theorem xk_dup (hd : decode M.2.1 pc = .ok (.dup, 1)) (k : qI (K) (xR l D d M (pc + 1) Q)) : qI (s_dup K) (xR l D d M pc Q) := sorry
theorem xk_pop (hd : decode M.2.1 pc = .ok (.pop, 1)) (k : qI (K) (xR l D d M (pc + 1) Q)) : qI (s_pop K) (xR l D d M pc Q) := sorry
theorem xk_dup2 (hd : decode M.2.1 pc = .ok (.dup2, 1)) (k : qI (K) (xR l D d M (pc + 1) Q)) : qI (s_dup2 K) (xR l D d M pc Q) := sorry
theorem xk_dupx1 (hd : decode M.2.1 pc = .ok (.dup_x1, 1)) (k : qI (K) (xR l D d M (pc + 1) Q)) : qI (s_dupx1 K) (xR l D d M pc Q) := sorry
set_option maxRecDepth 100000 in
theorem xk_alen (hd : decode M.2.1 pc = .ok (.arraylength, 1)) (k : qI (K) (xR l D d M (pc + 1) Q)) : qI (s_alen K) (xR l D d M pc Q) := sorry
theorem xk_ifnull {off : Int} {t : Nat} {T : qK} (hd : decode M.2.1 pc = .ok (.ifnull off, 3)) (ht : (pc : Int) + off = (t : Int)) (kt : qI (T) (xR l D d M t Q)) (k : qI (K) (xR l D d M (pc + 3) Q)) : qI (s_ifnull T K) (xR l D d M pc Q) := sorry
theorem xk_ifnon {off : Int} {t : Nat} {T : qK} (hd : decode M.2.1 pc = .ok (.ifnonnull off, 3)) (ht : (pc : Int) + off = (t : Int)) (kt : qI (T) (xR l D d M t Q)) (k : qI (K) (xR l D d M (pc + 3) Q)) : qI (s_ifnon T K) (xR l D d M pc Q) := sorry
theorem xg_I {idx ci k : Nat} {kz : Int} (hz : (k : Int) = kz) (g : q_gF M.1.cls idx ci k 0) (hd : decode M.2.1 pc = .ok (.getfield idx, 3)) (kk : qI (K) (xR l D d M (pc + 3) Q)) : qI (s_getI ci kz K) (xR l D d M pc Q) := sorry
theorem xg_L {idx ci k : Nat} {kz : Int} (hz : (k : Int) = kz) (g : q_gF M.1.cls idx ci k 1) (hd : decode M.2.1 pc = .ok (.getfield idx, 3)) (kk : qI (K) (xR l D d M (pc + 3) Q)) : qI (s_getL ci kz K) (xR l D d M pc Q) := sorry
theorem xg_R {idx ci k : Nat} {kz : Int} (hz : (k : Int) = kz) (g : q_gF M.1.cls idx ci k 2) (hd : decode M.2.1 pc = .ok (.getfield idx, 3)) (kk : qI (K) (xR l D d M (pc + 3) Q)) : qI (s_getR ci kz K) (xR l D d M pc Q) := sorry
theorem xp_I {idx ci k : Nat} {kz : Int} {ini : Bool} (hz : (k : Int) = kz) (g : q_pF M.1.cls idx ci k 0 .int ini) (hi : ini = true → M.1.name = "<init>") (hd : decode M.2.1 pc = .ok (.putfield idx, 3)) (kk : qI (K) (xR l D d M (pc + 3) Q)) : qI (s_putI ci kz K) (xR l D d M pc Q) := sorry
theorem xp_Z {idx ci k : Nat} {kz : Int} {ini : Bool} (hz : (k : Int) = kz) (g : q_pF M.1.cls idx ci k 0 .boolean ini) (hi : ini = true → M.1.name = "<init>") (hd : decode M.2.1 pc = .ok (.putfield idx, 3)) (kk : qI (K) (xR l D d M (pc + 3) Q)) : qI (s_putZ ci kz K) (xR l D d M pc Q) := sorry
theorem xp_L {idx ci k : Nat} {kz : Int} {ini : Bool} (hz : (k : Int) = kz) (g : q_pF M.1.cls idx ci k 1 .long ini) (hi : ini = true → M.1.name = "<init>") (hd : decode M.2.1 pc = .ok (.putfield idx, 3)) (kk : qI (K) (xR l D d M (pc + 3) Q)) : qI (s_putL ci kz K) (xR l D d M pc Q) := sorry
theorem xp_R {idx ci k : Nat} {kz : Int} {ty : FieldType} {ini : Bool} (hz : (k : Int) = kz) (g : q_pF M.1.cls idx ci k 2 ty ini) (hrt : (∃ n, ty = .object n) ∨ ∃ t, ty = .array t) (hi : ini = true → M.1.name = "<init>") (hd : decode M.2.1 pc = .ok (.putfield idx, 3)) (kk : qI (K) (xR l D d M (pc + 3) Q)) : qI (s_putR ci kz K) (xR l D d M pc Q) := sorry
theorem xc_V {d0 : Nat} {B : Nat × Nat} {M' : qm} {idx n ci : Nat} (g : q_gV M.1.cls idx ci n M') (hd : decode M.2.1 pc = .ok (.invokevirtual idx, 3))
    (k : qI (K) (xR l D (d0 + 1, B) M (pc + 3) Q)) : qI (s_invV l D (d0, 0, 0) ci M' n K) (xR l D (d0 + 1, B) M pc Q) := sorry
theorem xc_S {d0 : Nat} {B : Nat × Nat} {M' : qm} {idx n : Nat} (g : q_gS M.1.cls idx n M') (hd : decode M.2.1 pc = .ok (.invokestatic idx, 3))
    (k : qI (K) (xR l D (d0 + 1, B) M (pc + 3) Q)) : qI (s_invS l D (d0, 0, 0) M' n K) (xR l D (d0 + 1, B) M pc Q) := sorry
set_option maxRecDepth 100000 in
theorem xk_acopy {idx : Nat} (hd0 : 0 < d.1) (hl : Cond.methodLink M.1.cls idx arraycopyName ∈ q_G) (hn : Cond.native arraycopyName ∈ q_G) (hs : Cond.static arraycopyName ∈ q_G) (hi : Cond.initialized "java/lang/System" ∈ q_G) (hnw : nativeFrameWords "java/lang/System" "arraycopy" 5 + 19 ≤ 100) (hd : decode M.2.1 pc = .ok (.invokestatic idx, 3)) (k : qI K (xR l D d M (pc + 3) Q)) : qI (s_acopy K) (xR l D d M pc Q) := sorry
theorem xk_iret (hr : M.2.2.2 = some .int) (hd : decode M.2.1 pc = .ok (.ireturn, 1)) : qI (s_iret Q.1) (xR l D d M pc Q) := sorry
theorem xk_zret (hr : M.2.2.2 = some .boolean) (hd : decode M.2.1 pc = .ok (.ireturn, 1)) : qI (s_zret Q.1) (xR l D d M pc Q) := sorry
theorem xk_vret (hr : M.2.2.2 = none) (hd : decode M.2.1 pc = .ok (.return_, 1)) : qI (s_vret Q.1) (xR l D d M pc Q) := sorry
end XCP
end
section
/-! ===== calls by an inherited or abstract name; static calls in the nest; calls that may throw ===== -/
theorem x_stk {st : List qv} {n : Nat} (h1 : n + 1 ≤ st.length) {b : Int} {r0 : List qv} (ed : st.drop n = .inr (.inr b) :: r0) : st.drop (n + 1) = r0 ∧ (st.take (n + 1)).reverse = .inr (.inr b) :: (st.take n).reverse := sorry
/-- a method y that a receiver of class ci takes for x, which own's entry idx names (declared in owner) -/
def q_gU (own : String) (idx ci n : Nat) (owner : String) (x : MethodName) (M' : qm) : Prop := ci < 19 ∧ x_code M' ∧ Cond.initialized M'.1.cls ∈ q_G ∧ M'.2.2.1 ≤ 81 ∧ (owner ≠ "java/lang/invoke/MethodHandle" ∧ owner ≠ "java/lang/invoke/VarHandle") ∧ Cond.methodLink own idx x ∈ q_G ∧ Cond.sameMethod x.cls owner x.name x.desc ∈ q_G ∧ (Cond.declares ⟨owner, x.name, x.desc⟩ ∈ q_N ∨ (Cond.instanceMethod ⟨owner, x.name, x.desc⟩ ∈ q_G ∧ ∃ b mx r, Cond.code ⟨owner, x.name, x.desc⟩ b mx r ∈ q_G)) ∧ Cond.selects (cr ci).1 x M'.1 ∈ q_G ∧ Cond.instanceMethod M'.1 ∈ q_G ∧ (parseMethodDescriptor x.desc).map (fun d => d.parameters.length) = some n
theorem q_decl {D : qD} {s : State} {args : Array Value} {y : MethodName} (hW : q_W D s) (hts : ∀ w ∈ q_G, w.before args s = true) (h : Cond.declares y ∈ q_N ∨ (Cond.instanceMethod y ∈ q_G ∧ ∃ b mx r, Cond.code y b mx r ∈ q_G)) : va_Decl s y := sorry
section XI
variable {l : Launch} {D : qD} {d : qd} {M : qm} {pc : Nat} {K : qK}
set_option maxRecDepth 100000 in
theorem oc_U {Q : qQ} {d0 : Nat} {B : Nat × Nat} {M' : qm} {idx n ci : Nat} {owner : String} {x : MethodName} (g : q_gU M.1.cls idx ci n owner x M') (hcd : Cond.code M'.1 M'.2.1 M'.2.2.1 M'.2.2.2 ∈ q_G) (hd : decode M.2.1 pc = .ok (.invokevirtual idx, 3))
    (k : qI (K) (qR l D (d0 + 1, B) M (pc + 3) Q)) : qI (s_invV l D (d0, 0, 0) ci M' n K) (qR l D (d0 + 1, B) M pc Q) := sorry
def q_gSN (own : String) (idx n : Nat) (M' : qm) : Prop := q_code M' ∧ (∃ host, Cond.methodLinkNest own idx M'.1 host ∈ q_N) ∧ Cond.static M'.1 ∈ q_G ∧ (parseMethodDescriptor M'.1.desc).map (fun d => d.parameters.length) = some n
set_option maxRecDepth 100000 in
theorem oc_SN {Q : qQ} {d0 : Nat} {B : Nat × Nat} {M' : qm} {idx n : Nat} (g : q_gSN M.1.cls idx n M') (hd : decode M.2.1 pc = .ok (.invokestatic idx, 3))
    (k : qI (K) (qR l D (d0 + 1, B) M (pc + 3) Q)) : qI (s_invS l D (d0, 0, 0) M' n K) (qR l D (d0 + 1, B) M pc Q) := sorry
set_option maxRecDepth 100000 in
theorem xc_U {Q : xQ} {d0 : Nat} {B : Nat × Nat} {M' : qm} {idx n ci : Nat} {owner : String} {x : MethodName} (g : q_gU M.1.cls idx ci n owner x M') (hcd : Cond.code M'.1 M'.2.1 M'.2.2.1 M'.2.2.2 ∈ q_G) (hd : decode M.2.1 pc = .ok (.invokevirtual idx, 3))
    (k : qI (K) (xR l D (d0 + 1, B) M (pc + 3) Q)) : qI (s_invV l D (d0, 0, 0) ci M' n K) (xR l D (d0 + 1, B) M pc Q) := sorry
def s_tinvV (l : Launch) (D : qD) (d' : qd) (ci : Nat) (M' : qm) (n : Nat) (K : qK) (X : List (Option qv) → xX) : qK := fun ls st h =>
  n + 1 ≤ st.length ∧ q_cs (st.drop (n + 1)) ≤ 8 ∧ (match st.drop n with | .inr (.inr b) :: _ => 0 ≤ b ∧ (q_shp b).1 = ci | _ => False) ∧ xM l D d' M' (st.take (n + 1)).reverse h ((fun r h' => K ls (r.toList ++ st.drop (n + 1)) h'), X ls)
set_option maxRecDepth 100000 in
theorem xc_tU {Q : xQ} {X : List (Option qv) → xX} {d0 : Nat} {B : Nat × Nat} {M' : qm} {idx n ci : Nat} {owner : String} {x : MethodName} (g : q_gU M.1.cls idx ci n owner x M') (hd : decode M.2.1 pc = .ok (.invokevirtual idx, 3))
    (k : qI (K) (xR l D (d0 + 1, B) M (pc + 3) Q)) (kt : ∀ ls rest, x_TH l D (d0 + 1, B) M pc Q ls rest (X ls)) : qI (s_tinvV l D (d0, 0, 0) ci M' n K X) (xR l D (d0 + 1, B) M pc Q) := sorry
set_option maxRecDepth 100000 in
theorem xc_tV {Q : xQ} {X : List (Option qv) → xX} {d0 : Nat} {B : Nat × Nat} {M' : qm} {idx n ci : Nat} (g : q_gV M.1.cls idx ci n M') (gx : x_tb M' = []) (hl : Cond.methodLink M.1.cls idx M'.1 ∈ q_G) (hd : decode M.2.1 pc = .ok (.invokevirtual idx, 3))
    (k : qI (K) (xR l D (d0 + 1, B) M (pc + 3) Q)) (kt : ∀ ls rest, x_TH l D (d0 + 1, B) M pc Q ls rest (X ls)) : qI (s_tinvV l D (d0, 0, 0) ci M' n K X) (xR l D (d0 + 1, B) M pc Q) := sorry
end XI
end
section
/-! ===== String constants, statics; byte and char answers ===== -/
theorem qrf_c (D : qD) (i : Nat) : qrf D (-(i : Int) - 2) = .ref (D.2.2.2 i) := sorry
def s_sc (z : Int) (K : qK) : qK := fun ls st h => K ls (.inr (.inr z) :: st) h
section XS
variable {l : Launch} {D : qD} {d : qd} {M : qm} {pc : Nat} {K : qK}
theorem ok_ldcS {Q : qQ} {i idx : Nat} {tx : String} {z : Int} (hz : z = -(i : Int) - 2) (hm : (M.1.cls, idx, tx, i) ∈ q_sr) (hd : decode M.2.1 pc = .ok (.ldc idx, 2)) (k : qI K (qR l D d M (pc + 2) Q)) : qI (s_sc z K) (qR l D d M pc Q) := sorry
theorem xk_ldcS {Q : xQ} {i idx : Nat} {tx : String} {z : Int} (hz : z = -(i : Int) - 2) (hm : (M.1.cls, idx, tx, i) ∈ q_sr) (hd : decode M.2.1 pc = .ok (.ldc idx, 2)) (k : qI K (xR l D d M (pc + 2) Q)) : qI (s_sc z K) (xR l D d M pc Q) := sorry
theorem x_ldcw {p : Program} {e : Env} {R : Room} {s : State} {m : MethodId} {args : Array Value} {below : List Frame} {meth : Method} {c : Code} {T : State} {locs : List Loc} {cells slots : Nat}
    (X : Stand p l e R s m args below meth c T locs cells slots) (hexec : p.tables.exec = Jvm.exec) {own text : String} {index : Nat} {a : Addr} (hown : s.vm.findClass own = some m.cls)
    (hconst : (Cond.stringRef own index text).before args s = true) (hev : (Term.string own index).eval args s none [] s = some (.ref a)) {g : JFrame} (hg : g.method = m) (hdg : decode c.code g.pc = .ok (.ldc_w index, 3)) :
    ∀ target, Steps p.tables e below (T.setTop { g with pc := g.pc + 3, stack := .ref a :: g.stack }) target → Steps p.tables e below (T.setTop g) target := sorry
theorem ok_ldcwS {Q : qQ} {i idx : Nat} {tx : String} {z : Int} (hz : z = -(i : Int) - 2) (hm : (M.1.cls, idx, tx, i) ∈ q_sr) (hd : decode M.2.1 pc = .ok (.ldc_w idx, 3)) (k : qI K (qR l D d M (pc + 3) Q)) : qI (s_sc z K) (qR l D d M pc Q) := sorry
/-- a String's coder, its bytes -/
def s_strC (K : qK) : qK := fun ls st h => match st with
  | .inr (.inr z) :: r => (z ≤ -2 ∧ -77 < z) ∧ K ls (.inl 0 :: r) h
  | _ => False
def s_strV (K : qK) : qK := fun ls st h => match st with
  | .inr (.inr z) :: r => (z ≤ -2 ∧ -77 < z) ∧ K ls (.inr (.inr (z - 1000)) :: r) h
  | _ => False
theorem x_cn {z : Int} (h : z ≤ -2 ∧ -77 < z) : ∃ i : Nat, i < q_ns ∧ z = -(i : Int) - 2 := sorry
theorem ok_strC {Q : qQ} {idx : Nat} (hl : Cond.fieldLink M.1.cls idx "java/lang/String" "coder" "B" ∈ q_G) (hd : decode M.2.1 pc = .ok (.getfield idx, 3)) (k : qI K (qR l D d M (pc + 3) Q)) : qI (s_strC K) (qR l D d M pc Q) := sorry
theorem ok_strV {Q : qQ} {idx : Nat} (hl : Cond.fieldLink M.1.cls idx "java/lang/String" "value" "[B" ∈ q_G) (hd : decode M.2.1 pc = .ok (.getfield idx, 3)) (k : qI K (qR l D d M (pc + 3) Q)) : qI (s_strV K) (qR l D d M pc Q) := sorry
/-- the bytes of a String constant -/
def q_sbz (z : Int) : List Int32 := q_sb.getD (-z - 1002).toNat []
def s_alenC (K : qK) : qK := fun ls st h => match st with
  | .inr (.inr z) :: r => (z ≤ -1002 ∧ -1077 < z) ∧ K ls (.inl ((q_sbz z).length : Int) :: r) h
  | _ => False
def s_baldC (K : qK) : qK := fun ls st h => match st with
  | .inl j :: .inr (.inr z) :: r => (z ≤ -1002 ∧ -1077 < z) ∧ (0 ≤ j ∧ j < (q_sbz z).length) ∧ K ls (.inl ((q_sbz z).getD j.toNat 0).toInt :: r) h
  | _ => False
theorem x_cm {z : Int} (h : z ≤ -1002 ∧ -1077 < z) : ∃ i : Nat, i < q_ns ∧ z = -((1000 + i : Nat) : Int) - 2 := sorry
theorem q_sb_len : ∀ i, i < q_ns → (q_sb.getD i []).length ≤ 20 := sorry
theorem ok_alenC {Q : qQ} (hd : decode M.2.1 pc = .ok (.arraylength, 1)) (k : qI K (qR l D d M (pc + 1) Q)) : qI (s_alenC K) (qR l D d M pc Q) := sorry
theorem ok_baldC {Q : qQ} (hd : decode M.2.1 pc = .ok (.baload, 1)) (k : qI K (qR l D d M (pc + 1) Q)) : qI (s_baldC K) (qR l D d M pc Q) := sorry
/-- a static that is an int, one that is a reference -/
theorem ok_csS {Q : qQ} {idx : Nat} (hl : Cond.fieldLink M.1.cls idx "java/lang/String" "COMPACT_STRINGS" "Z" ∈ q_G) (hd : decode M.2.1 pc = .ok (.getstatic idx, 3)) (k : qI K (qR l D d M (pc + 3) Q)) : qI (s_ic 1 K) (qR l D d M pc Q) := sorry
def s_gst (n : Int) (K : qK) : qK := fun ls st h => K ls (.inr (.inr (-1)) :: st) h ∧ K ls (.inr (.inr (-n - 2)) :: st) h
theorem ok_gst {Q : qQ} {idx n : Nat} {nz : Int} (hn : (n : Int) = nz) {C f ty : String} (hm : (C, f, ty, n) ∈ q_zqs) (hl : Cond.fieldLink M.1.cls idx C f ty ∈ q_G) (hd : decode M.2.1 pc = .ok (.getstatic idx, 3)) (k : qI K (qR l D d M (pc + 3) Q)) : qI (s_gst nz K) (qR l D d M pc Q) := sorry
def z_i2c (x : Int) : Int := ((Int32.ofInt x).toUInt32 % 65536).toInt32.toInt
def s_i2c (K : qK) : qK := fun ls st h => match st with
  | .inl x :: r => K ls (.inl (z_i2c x) :: r) h
  | _ => False
theorem ok_i2c {Q : qQ} (hd : decode M.2.1 pc = .ok (.i2c, 1)) (k : qI K (qR l D d M (pc + 1) Q)) : qI (s_i2c K) (qR l D d M pc Q) := sorry
def s_cret (Q : qQ) : qK := fun _ st h => match st with
  | [.inl z] => (0 ≤ z ∧ z ≤ 127) ∧ Q (some (.inl z)) h
  | _ => False
theorem x_nb {z : Int} (h : 0 ≤ z ∧ z ≤ 127) : narrow .byte (.int (Int32.ofInt z)) = .int (Int32.ofInt z) := sorry
theorem x_nc {z : Int} (h : 0 ≤ z ∧ z ≤ 127) : narrow .char (.int (Int32.ofInt z)) = .int (Int32.ofInt z) := sorry
theorem ok_cret {Q : qQ} {ty : FieldType} (hty : ty = .byte ∨ ty = .char) (hr : M.2.2.2 = some ty) (hd : decode M.2.1 pc = .ok (.ireturn, 1)) : qI (s_cret Q) (qR l D d M pc Q) := sorry
/-- a call on a String constant -/
def s_invC (l : Launch) (D : qD) (d' : qd) (M' : qm) (n : Nat) (K : qK) : qK := fun ls st h =>
  n + 1 ≤ st.length ∧ q_cs (st.drop (n + 1)) ≤ 8 ∧ (match st.drop n with | .inr (.inr b) :: _ => b ≤ -2 ∧ -77 < b | _ => False) ∧ qM l D d' M' (st.take (n + 1)).reverse h (fun r h' => K ls (r.toList ++ st.drop (n + 1)) h')
def q_gC (own : String) (idx n : Nat) (M' : qm) : Prop := q_code M' ∧ Cond.methodLink own idx M'.1 ∈ q_G ∧ Cond.instanceMethod M'.1 ∈ q_G ∧ Cond.selects "java/lang/String" M'.1 M'.1 ∈ q_G ∧ (parseMethodDescriptor M'.1.desc).map (fun d => d.parameters.length) = some n
set_option maxRecDepth 100000 in
theorem oc_C {Q : qQ} {d0 : Nat} {B : Nat × Nat} {M' : qm} {idx n : Nat} (g : q_gC M.1.cls idx n M') (hd : decode M.2.1 pc = .ok (.invokevirtual idx, 3))
    (k : qI (K) (qR l D (d0 + 1, B) M (pc + 3) Q)) : qI (s_invC l D (d0, 0, 0) M' n K) (qR l D (d0 + 1, B) M pc Q) := sorry
end XS
end
section
/-! printed by gen/gx.py: String constants -/
def m_Preconditions_checkIndex : qm := (⟨"jdk/internal/util/Preconditions", "checkIndex", "(IILjava/util/function/BiFunction;)I"⟩, prog_32_method_11_code, 3, (some (.int)))
theorem cd_Preconditions_checkIndex : q_code m_Preconditions_checkIndex := sorry
def m_String_checkIndex : qm := (⟨"java/lang/String", "checkIndex", "(II)V"⟩, prog_27_method_155_code, 2, none)
theorem cd_String_checkIndex : q_code m_String_checkIndex := sorry
def m_StringLatin1_charAt : qm := (⟨"java/lang/StringLatin1", "charAt", "([BI)C"⟩, prog_28_method_2_code, 2, (some (.char)))
theorem cd_StringLatin1_charAt : q_code m_StringLatin1_charAt := sorry
def m_String_isLatin1 : qm := (⟨"java/lang/String", "isLatin1", "()Z"⟩, prog_27_method_154_code, 1, (some (.boolean)))
theorem cd_String_isLatin1 : q_code m_String_isLatin1 := sorry
def m_String_coder : qm := (⟨"java/lang/String", "coder", "()B"⟩, prog_27_method_152_code, 1, (some (.byte)))
theorem cd_String_coder : q_code m_String_coder := sorry
def w_Preconditions_checkIndex_16 (l : Launch) (D : qD) (d0 : Nat) (B : Nat × Nat) (Q : qQ) : qK := (s_iload 0 (s_iret Q))
theorem Preconditions_checkIndex_16 {l : Launch} {D : qD} {d0 : Nat} {B : Nat × Nat} {Q : qQ} : qI (w_Preconditions_checkIndex_16 l D d0 B Q) (qR l D (d0 + 1, B) m_Preconditions_checkIndex 16 Q) := sorry
def w_Preconditions_checkIndex_9 (l : Launch) (D : qD) (d0 : Nat) (B : Nat × Nat) (Q : qQ) : qK := (s_aload 2 (s_iload 0 (s_iload 1 (fun _ _ _ => False))))
theorem Preconditions_checkIndex_9 {l : Launch} {D : qD} {d0 : Nat} {B : Nat × Nat} {Q : qQ} : qI (w_Preconditions_checkIndex_9 l D d0 B Q) (qR l D (d0 + 1, B) m_Preconditions_checkIndex 9 Q) := sorry
def w_Preconditions_checkIndex_0 (l : Launch) (D : qD) (d0 : Nat) (B : Nat × Nat) (Q : qQ) : qK := (s_iload 0 (s_if_lt (w_Preconditions_checkIndex_9 l D d0 B Q) (s_iload 0 (s_iload 1 (s_icmp_lt (w_Preconditions_checkIndex_16 l D d0 B Q) (w_Preconditions_checkIndex_9 l D d0 B Q))))))
theorem Preconditions_checkIndex_0 {l : Launch} {D : qD} {d0 : Nat} {B : Nat × Nat} {Q : qQ} : qI (w_Preconditions_checkIndex_0 l D d0 B Q) (qR l D (d0 + 1, B) m_Preconditions_checkIndex 0 Q) := sorry
theorem lm_String_1059 : q_gS "java/lang/String" 1059 3 m_Preconditions_checkIndex := sorry
def w_String_checkIndex_0 (l : Launch) (D : qD) (d0 : Nat) (B : Nat × Nat) (Q : qQ) : qK := (s_iload 0 (s_iload 1 (s_gst 2002 (s_invS l D (d0, 0, 0) m_Preconditions_checkIndex 3 (s_pop (s_vret Q))))))
theorem String_checkIndex_0 {l : Launch} {D : qD} {d0 : Nat} {B : Nat × Nat} {Q : qQ} : qI (w_String_checkIndex_0 l D d0 B Q) (qR l D (d0 + 1, B) m_String_checkIndex 0 Q) := sorry
theorem ls_StringLatin1_9 : q_gS "java/lang/StringLatin1" 9 2 m_String_checkIndex := sorry
def w_StringLatin1_charAt_0 (l : Launch) (D : qD) (d0 : Nat) (B : Nat × Nat) (Q : qQ) : qK := (s_iload 1 (s_aload 0 (s_alenC (s_invS l D (d0, 0, 0) m_String_checkIndex 2 (s_aload 0 (s_iload 1 (s_baldC (s_ic (255) (s_iand (s_i2c (s_cret Q)))))))))))
theorem StringLatin1_charAt_0 {l : Launch} {D : qD} {d0 : Nat} {B : Nat × Nat} {Q : qQ} : qI (w_StringLatin1_charAt_0 l D d0 B Q) (qR l D (d0 + 1, B) m_StringLatin1_charAt 0 Q) := sorry
def w_String_isLatin1_18 (l : Launch) (D : qD) (d0 : Nat) (B : Nat × Nat) (Q : qQ) : qK := (s_zret Q)
theorem String_isLatin1_18 {l : Launch} {D : qD} {d0 : Nat} {B : Nat × Nat} {Q : qQ} : qI (w_String_isLatin1_18 l D d0 B Q) (qR l D (d0 + 1, B) m_String_isLatin1 18 Q) := sorry
def w_String_isLatin1_17 (l : Launch) (D : qD) (d0 : Nat) (B : Nat × Nat) (Q : qQ) : qK := (s_ic (0) (w_String_isLatin1_18 l D d0 B Q))
theorem String_isLatin1_17 {l : Launch} {D : qD} {d0 : Nat} {B : Nat × Nat} {Q : qQ} : qI (w_String_isLatin1_17 l D d0 B Q) (qR l D (d0 + 1, B) m_String_isLatin1 17 Q) := sorry
def w_String_isLatin1_0 (l : Launch) (D : qD) (d0 : Nat) (B : Nat × Nat) (Q : qQ) : qK := (s_ic 1 (s_if_eq (w_String_isLatin1_17 l D d0 B Q) (s_aload 0 (s_strC (s_if_ne (w_String_isLatin1_17 l D d0 B Q) (s_ic (1) (w_String_isLatin1_18 l D d0 B Q)))))))
theorem String_isLatin1_0 {l : Launch} {D : qD} {d0 : Nat} {B : Nat × Nat} {Q : qQ} : qI (w_String_isLatin1_0 l D d0 B Q) (qR l D (d0 + 1, B) m_String_isLatin1 0 Q) := sorry
def w_String_coder_14 (l : Launch) (D : qD) (d0 : Nat) (B : Nat × Nat) (Q : qQ) : qK := (s_cret Q)
theorem String_coder_14 {l : Launch} {D : qD} {d0 : Nat} {B : Nat × Nat} {Q : qQ} : qI (w_String_coder_14 l D d0 B Q) (qR l D (d0 + 1, B) m_String_coder 14 Q) := sorry
def w_String_coder_13 (l : Launch) (D : qD) (d0 : Nat) (B : Nat × Nat) (Q : qQ) : qK := (s_ic (1) (w_String_coder_14 l D d0 B Q))
theorem String_coder_13 {l : Launch} {D : qD} {d0 : Nat} {B : Nat × Nat} {Q : qQ} : qI (w_String_coder_13 l D d0 B Q) (qR l D (d0 + 1, B) m_String_coder 13 Q) := sorry
def w_String_coder_0 (l : Launch) (D : qD) (d0 : Nat) (B : Nat × Nat) (Q : qQ) : qK := (s_ic 1 (s_if_eq (w_String_coder_13 l D d0 B Q) (s_aload 0 (s_strC (w_String_coder_14 l D d0 B Q)))))
theorem String_coder_0 {l : Launch} {D : qD} {d0 : Nat} {B : Nat × Nat} {Q : qQ} : qI (w_String_coder_0 l D d0 B Q) (qR l D (d0 + 1, B) m_String_coder 0 Q) := sorry
theorem lc_String_492 : q_gC "java/lang/String" 492 0 m_String_isLatin1 := sorry
theorem lm_String_495 : q_gS "java/lang/String" 495 2 m_StringLatin1_charAt := sorry
def w_String_charAt_16 (l : Launch) (D : qD) (d0 : Nat) (B : Nat × Nat) (Q : qQ) : qK := (s_aload 0 (s_strV (s_iload 1 (fun _ _ _ => False))))
theorem String_charAt_16 {l : Launch} {D : qD} {d0 : Nat} {B : Nat × Nat} {Q : qQ} : qI (w_String_charAt_16 l D d0 B Q) (qR l D (d0 + 1, B) m_String_charAt 16 Q) := sorry
def w_String_charAt_0 (l : Launch) (D : qD) (d0 : Nat) (B : Nat × Nat) (Q : qQ) : qK := (s_aload 0 (s_invC l D (d0, 0, 0) m_String_isLatin1 0 (s_if_eq (w_String_charAt_16 l D d0 B Q) (s_aload 0 (s_strV (s_iload 1 (s_invS l D (d0, 0, 0) m_StringLatin1_charAt 2 (s_cret Q))))))))
theorem String_charAt_0 {l : Launch} {D : qD} {d0 : Nat} {B : Nat × Nat} {Q : qQ} : qI (w_String_charAt_0 l D d0 B Q) (qR l D (d0 + 1, B) m_String_charAt 0 Q) := sorry
theorem lc_String_335 : q_gC "java/lang/String" 335 0 m_String_coder := sorry
def w_String_length_0 (l : Launch) (D : qD) (d0 : Nat) (B : Nat × Nat) (Q : qQ) : qK := (s_aload 0 (s_strV (s_alenC (s_aload 0 (s_invC l D (d0, 0, 0) m_String_coder 0 (s_ishr (s_iret Q)))))))
theorem String_length_0 {l : Launch} {D : qD} {d0 : Nat} {B : Nat × Nat} {Q : qQ} : qI (w_String_length_0 l D d0 B Q) (qR l D (d0 + 1, B) m_String_length 0 Q) := sorry
end
section
/-! ===== String constants: length, charAt ===== -/
def stL (z : Int) : Int := ((q_sb.getD (-z - 2).toNat []).length : Int)
def stC (z k : Int) : Int := ((q_sb.getD (-z - 2).toNat []).getD k.toNat 0).toInt
theorem q_sbz_m (z : Int) : q_sbz (z - 1000) = q_sb.getD (-z - 2).toNat [] := sorry
theorem q_sb_by : ∀ i, i < q_ns → ∀ x ∈ q_sb.getD i [], 0 ≤ x.toInt ∧ x.toInt ≤ 127 := sorry
theorem stC_r {z k : Int} (hz : z ≤ -2 ∧ -77 < z) (hk : 0 ≤ k ∧ k < stL z) : 0 ≤ stC z k ∧ stC z k ≤ 127 := sorry
theorem stC_c : ∀ n : Nat, n < 128 → z_i2c (z_iand (n : Int) 255) = n := sorry
set_option maxRecDepth 100000 in
theorem sp_Preconditions_checkIndex {l : Launch} {D : qD} {d : Nat} {i n f : Int} {h : qh} {Q : qQ} (h0 : 0 ≤ i ∧ i < n) (hq : Q (some (.inl i)) h) : qM l D (d + 1, 0, 0) m_Preconditions_checkIndex [.inl i, .inl n, .inr (.inr f)] h Q := sorry
set_option maxRecDepth 100000 in
theorem sp_String_checkIndex {l : Launch} {D : qD} {d : Nat} {i n : Int} {h : qh} {Q : qQ} (h0 : 0 ≤ i ∧ i < n) (hq : Q none h) : qM l D (d + 2, 0, 0) m_String_checkIndex [.inl i, .inl n] h Q := sorry
set_option maxRecDepth 100000 in
theorem sp_StringLatin1_charAt {l : Launch} {D : qD} {d : Nat} {z k : Int} {h : qh} {Q : qQ} (hz : z ≤ -2 ∧ -77 < z) (hk : 0 ≤ k ∧ k < stL z) (hq : Q (some (.inl (stC z k))) h) : qM l D (d + 3, 0, 0) m_StringLatin1_charAt [.inr (.inr (z - 1000)), .inl k] h Q := sorry
set_option maxRecDepth 100000 in
theorem sp_String_isLatin1 {l : Launch} {D : qD} {d : Nat} {z : Int} {h : qh} {Q : qQ} (hz : z ≤ -2 ∧ -77 < z) (hq : Q (some (.inl 1)) h) : qM l D (d + 1, 0, 0) m_String_isLatin1 [.inr (.inr z)] h Q := sorry
set_option maxRecDepth 100000 in
theorem sp_String_coder {l : Launch} {D : qD} {d : Nat} {z : Int} {h : qh} {Q : qQ} (hz : z ≤ -2 ∧ -77 < z) (hq : Q (some (.inl 0)) h) : qM l D (d + 1, 0, 0) m_String_coder [.inr (.inr z)] h Q := sorry
set_option maxRecDepth 100000 in
theorem sp_String_charAt {l : Launch} {D : qD} {d : Nat} {z k : Int} {h : qh} {Q : qQ} (hz : z ≤ -2 ∧ -77 < z) (hk : 0 ≤ k ∧ k < stL z) (hq : Q (some (.inl (stC z k))) h) : qM l D (d + 4, 0, 0) m_String_charAt [.inr (.inr z), .inl k] h Q := sorry
set_option maxRecDepth 100000 in
theorem sp_String_length {l : Launch} {D : qD} {d : Nat} {z : Int} {h : qh} {Q : qQ} (hz : z ≤ -2 ∧ -77 < z) (hq : Q (some (.inl (stL z))) h) : qM l D (d + 2, 0, 0) m_String_length [.inr (.inr z)] h Q := sorry
end
section
/-! printed by gen/gx.py: Reader for receivers of class 4 -/
theorem x_no {M : qm} {pc : Nat} (h : x_tb M = []) : ∀ r ∈ x_tb M, ¬ (r.1 ≤ pc ∧ pc < r.2.1) := sorry
theorem w5_ok : q_cl[5]? = some (cr 5) := sorry
theorem xt_GR_edge : x_tb m_GR_edge = [] := sorry
theorem xt_GR_edges : x_tb m_GR_edges = [] := sorry
theorem xt_GR_group : x_tb m_GR_group = [] := sorry
theorem xt_GR_items : x_tb m_GR_items = [] := sorry
theorem xt_GR_name : x_tb m_GR_name = [] := sorry
theorem xt_GR_node : x_tb m_GR_node = [] := sorry
theorem xt_GR_of : x_tb m_GR_of = [] := sorry
theorem xt_Re_must : x_tb m_Re_must = [] := sorry
theorem xt_Re_need : x_tb m_Re_need = [] := sorry
theorem xt_Sy_both_0 : x_tb m_Sy_both_0 = [] := sorry
theorem xt_Sy_factor : x_tb m_Sy_factor = [] := sorry
theorem xt_Sy_one_0 : x_tb m_Sy_one_0 = [] := sorry
theorem xt_Sy_opens : x_tb m_Sy_opens = [] := sorry
theorem xt_Sy_product : x_tb m_Sy_product = [] := sorry
theorem xt_Sy_rule : x_tb m_Sy_rule = [] := sorry
theorem xt_Sy_setting : x_tb m_Sy_setting = [] := sorry
theorem xt_Sy_sum : x_tb m_Sy_sum = [] := sorry
theorem xt_Sy_test : x_tb m_Sy_test = [] := sorry
theorem xt_Re4_need : x_tb m_Re_need = [] := sorry
theorem xt_Re4_must : x_tb m_Re_must = [] := sorry
theorem xt_Re6_need : x_tb m_Re_need = [] := sorry
theorem xt_Re6_must : x_tb m_Re_must = [] := sorry
def m_GR_read : qm := (⟨"DrawingHouse$GraphReader", "read", "()Z"⟩, prog_6_method_6_code, 2, some (.boolean))
theorem xt_GR_read : x_tb m_GR_read = [(7, 26, 27, 42)] := sorry
theorem xl_GR_read : Cond.classLink m_GR_read.1.cls 42 (cr 5).1 ∈ q_G := sorry
theorem xq_GR_read : x_code m_GR_read := sorry
theorem xi_GR_read : Cond.initialized m_GR_read.1.cls ∈ q_G := sorry
def m_Sy_read : qm := (⟨"DrawingHouse$Style", "read", "()Z"⟩, prog_17_method_7_code, 2, some (.boolean))
theorem xt_Sy_read : x_tb m_Sy_read = [(15, 44, 45, 99)] := sorry
theorem xl_Sy_read : Cond.classLink m_Sy_read.1.cls 99 (cr 5).1 ∈ q_G := sorry
theorem xq_Sy_read : x_code m_Sy_read := sorry
theorem xi_Sy_read : Cond.initialized m_Sy_read.1.cls ∈ q_G := sorry
theorem lf_Re_9_4 : q_gF "DrawingHouse$Reader" 9 4 1 2 := sorry
theorem lf_Re_28_4 : q_gF "DrawingHouse$Reader" 28 4 3 0 := sorry
theorem lp_Re_28_4 : q_pF "DrawingHouse$Reader" 28 4 3 0 (.int) false := sorry
theorem lf_Re_32_4 : q_gF "DrawingHouse$Reader" 32 4 4 0 := sorry
theorem lp_Re_32_4 : q_pF "DrawingHouse$Reader" 32 4 4 0 (.int) false := sorry
theorem lf_Re_35_4 : q_gF "DrawingHouse$Reader" 35 4 8 0 := sorry
theorem lp_Re_35_4 : q_pF "DrawingHouse$Reader" 35 4 8 0 (.int) false := sorry
theorem lf_Re_38_4 : q_gF "DrawingHouse$Reader" 38 4 9 0 := sorry
theorem lp_Re_38_4 : q_pF "DrawingHouse$Reader" 38 4 9 0 (.int) false := sorry
def w_Re4_take_0 (l : Launch) (D : qD) (d0 : Nat) (B : Nat × Nat) (Q : qQ) : qK := (s_aload 1 (s_ic (0) (s_aload 0 (s_getR 4 1 (s_ic (0) (s_iload 2 (s_acopy (s_aload 0 (s_iload 2 (s_putI 4 3 (s_aload 0 (s_ic (0) (s_putI 4 4 (s_aload 0 (s_ic (0) (s_putI 4 8 (s_aload 0 (s_ic (-1) (s_putI 4 9 (s_vret Q))))))))))))))))))))
theorem Re4_take_0 {l : Launch} {D : qD} {d0 : Nat} {B : Nat × Nat} {Q : qQ} : qI (w_Re4_take_0 l D d0 B Q) (qR l D (d0 + 1, B) m_Re_take 0 Q) := sorry
def w_Re4_byteAt_22 (l : Launch) (D : qD) (d0 : Nat) (B : Nat × Nat) (Q : qQ) : qK := (s_iret Q)
theorem Re4_byteAt_22 {l : Launch} {D : qD} {d0 : Nat} {B : Nat × Nat} {Q : qQ} : qI (w_Re4_byteAt_22 l D d0 B Q) (qR l D (d0 + 1, B) m_Re_byteAt 22 Q) := sorry
def w_Re4_byteAt_21 (l : Launch) (D : qD) (d0 : Nat) (B : Nat × Nat) (Q : qQ) : qK := (s_ic (-1) (w_Re4_byteAt_22 l D d0 B Q))
theorem Re4_byteAt_21 {l : Launch} {D : qD} {d0 : Nat} {B : Nat × Nat} {Q : qQ} : qI (w_Re4_byteAt_21 l D d0 B Q) (qR l D (d0 + 1, B) m_Re_byteAt 21 Q) := sorry
def w_Re4_byteAt_0 (l : Launch) (D : qD) (d0 : Nat) (B : Nat × Nat) (Q : qQ) : qK := (s_iload 1 (s_aload 0 (s_getI 4 3 (s_icmp_ge (w_Re4_byteAt_21 l D d0 B Q) (s_aload 0 (s_getR 4 1 (s_iload 1 (s_bald (s_ic (255) (s_iand (w_Re4_byteAt_22 l D d0 B Q)))))))))))
theorem Re4_byteAt_0 {l : Launch} {D : qD} {d0 : Nat} {B : Nat × Nat} {Q : qQ} : qI (w_Re4_byteAt_0 l D d0 B Q) (qR l D (d0 + 1, B) m_Re_byteAt 0 Q) := sorry
theorem lf_Re_18_4 : q_gF "DrawingHouse$Reader" 18 4 2 2 := sorry
def w_Re4_fails_0 (l : Launch) (D : qD) (d0 : Nat) (B : Nat × Nat) (Q : qQ) : qK := (s_aload 0 (s_iload 1 (s_putI 4 8 (s_aload 0 (s_iload 2 (s_putI 4 9 (s_aload 0 (s_getR 4 2 (s_aret Q)))))))))
theorem Re4_fails_0 {l : Launch} {D : qD} {d0 : Nat} {B : Nat × Nat} {Q : qQ} : qI (w_Re4_fails_0 l D d0 B Q) (qR l D (d0 + 1, B) m_Re_fails 0 Q) := sorry
theorem lu_Re_71_4 : q_gU "DrawingHouse$Reader" 71 4 1 "DrawingHouse$Reader" ⟨"DrawingHouse$Reader", "isSign", "(I)Z"⟩ m_GR_isSign := sorry
theorem lf_Re_48_4 : q_gF "DrawingHouse$Reader" 48 4 5 0 := sorry
theorem lp_Re_48_4 : q_pF "DrawingHouse$Reader" 48 4 5 0 (.int) false := sorry
theorem lf_Re_45_4 : q_gF "DrawingHouse$Reader" 45 4 6 0 := sorry
theorem lu_Re_68_4 : q_gU "DrawingHouse$Reader" 68 4 0 "DrawingHouse$Reader" ⟨"DrawingHouse$Reader", "digitRoom", "()I"⟩ m_GR_digitRoom := sorry
theorem lf_Re_65_4 : q_gF "DrawingHouse$Reader" 65 4 7 0 := sorry
theorem lp_Re_65_4 : q_pF "DrawingHouse$Reader" 65 4 7 0 (.int) false := sorry
theorem lu_Re_41_4 : q_gU "DrawingHouse$Reader" 41 4 1 "DrawingHouse$Reader" ⟨"DrawingHouse$Reader", "byteAt", "(I)I"⟩ m_Re_byteAt := sorry
theorem ln_Re_62 : q_gSN "DrawingHouse$Reader" 62 1 m_DH_isDigit := sorry
theorem lu_Re_58_4 : q_gU "DrawingHouse$Reader" 58 4 0 "DrawingHouse$Reader" ⟨"DrawingHouse$Reader", "wordRoom", "()I"⟩ m_GR_wordRoom := sorry
theorem lu_Re_55_4 : q_gU "DrawingHouse$Reader" 55 4 1 "DrawingHouse$Reader" ⟨"DrawingHouse$Reader", "isOfWord", "(I)Z"⟩ m_GR_isOfWord := sorry
theorem ln_Re_51 : q_gSN "DrawingHouse$Reader" 51 1 m_DH_isLetter := sorry
theorem lp_Re_45_4 : q_pF "DrawingHouse$Reader" 45 4 6 0 (.int) false := sorry
def w_Re4_next_288 (l : Launch) (D : qD) (d0 : Nat) (B : Nat × Nat) (Q : qQ) : qK := (s_vret Q)
theorem Re4_next_288 {l : Launch} {D : qD} {d0 : Nat} {B : Nat × Nat} {Q : qQ} : qI (w_Re4_next_288 l D d0 B Q) (qR l D (d0 + 1, B) m_Re_next 288 Q) := sorry
def w_Re4_next_265 (l : Launch) (D : qD) (d0 : Nat) (B : Nat × Nat) (Q : qQ) : qK := (s_aload 0 (s_iload 1 (s_GR_isSign d0 (s_if_eq (w_Re4_next_288 l D d0 B Q) (s_aload 0 (s_iload 1 (s_putI 4 5 (s_aload 0 (s_dup (s_getI 4 4 (s_ic (1) (s_iadd (s_putI 4 4 (w_Re4_next_288 l D d0 B Q))))))))))))))
theorem Re4_next_265 {l : Launch} {D : qD} {d0 : Nat} {B : Nat × Nat} {Q : qQ} : qI (w_Re4_next_265 l D d0 B Q) (qR l D (d0 + 1, B) m_Re_next 265 Q) := sorry
def w_Re4_next_241 (l : Launch) (D : qD) (d0 : Nat) (B : Nat × Nat) (Q : qQ) : qK := (s_aload 0 (s_getI 4 4 (s_aload 0 (s_getI 4 6 (s_isub (s_aload 0 (s_GR_digitRoom d0 (s_icmp_gt (w_Re4_next_288 l D d0 B Q) (s_aload 0 (s_ic (2) (s_putI 4 5 (w_Re4_next_288 l D d0 B Q))))))))))))
theorem Re4_next_241 {l : Launch} {D : qD} {d0 : Nat} {B : Nat × Nat} {Q : qQ} : qI (w_Re4_next_241 l D d0 B Q) (qR l D (d0 + 1, B) m_Re_next 241 Q) := sorry
def w_Re4_next_225 (l : Launch) (D : qD) (d0 : Nat) (B : Nat × Nat) (Q : qQ) : qK := (s_putI 4 7 (s_aload 0 (s_dup (s_getI 4 4 (s_ic (1) (s_iadd (s_putI 4 4 (qR l D (d0 + 1, B) m_Re_next 170 Q))))))))
theorem Re4_next_225 {l : Launch} {D : qD} {d0 : Nat} {B : Nat × Nat} {Q : qQ} : qI (w_Re4_next_225 l D d0 B Q) (qR l D (d0 + 1, B) m_Re_next 225 Q) := sorry
def w_Re4_next_221 (l : Launch) (D : qD) (d0 : Nat) (B : Nat × Nat) (Q : qQ) : qK := (s_aload 0 (s_getI 4 7 (w_Re4_next_225 l D d0 B Q)))
theorem Re4_next_221 {l : Launch} {D : qD} {d0 : Nat} {B : Nat × Nat} {Q : qQ} : qI (w_Re4_next_221 l D d0 B Q) (qR l D (d0 + 1, B) m_Re_next 221 Q) := sorry
def w_Re4_next_170 (l : Launch) (D : qD) (d0 : Nat) (B : Nat × Nat) (Q : qQ) : qK := (s_aload 0 (s_aload 0 (s_getI 4 4 (s_invV l D (d0, 0, 0) 4 m_Re_byteAt 1 (s_DH_isDigit d0 (s_if_eq (w_Re4_next_241 l D d0 B Q) (s_aload 0 (s_aload 0 (s_getI 4 4 (s_aload 0 (s_getI 4 6 (s_isub (s_ic (6) (s_icmp_ge (w_Re4_next_221 l D d0 B Q) (s_ic (10) (s_aload 0 (s_getI 4 7 (s_imul (s_aload 0 (s_aload 0 (s_getI 4 4 (s_invV l D (d0, 0, 0) 4 m_Re_byteAt 1 (s_iadd (s_ic (48) (s_isub (w_Re4_next_225 l D d0 B Q))))))))))))))))))))))))))
theorem Re4_next_170 {l : Launch} {D : qD} {d0 : Nat} {B : Nat × Nat} {Q : qQ} : qI (w_Re4_next_170 l D d0 B Q) (qR l D (d0 + 1, B) m_Re_next 170 Q) := sorry
def w_Re4_next_158 (l : Launch) (D : qD) (d0 : Nat) (B : Nat × Nat) (Q : qQ) : qK := (s_iload 1 (s_DH_isDigit d0 (s_if_eq (w_Re4_next_265 l D d0 B Q) (s_aload 0 (s_ic (0) (s_putI 4 7 (qR l D (d0 + 1, B) m_Re_next 170 Q)))))))
theorem Re4_next_158 {l : Launch} {D : qD} {d0 : Nat} {B : Nat × Nat} {Q : qQ} : qI (w_Re4_next_158 l D d0 B Q) (qR l D (d0 + 1, B) m_Re_next 158 Q) := sorry
def w_Re4_next_134 (l : Launch) (D : qD) (d0 : Nat) (B : Nat × Nat) (Q : qQ) : qK := (s_aload 0 (s_getI 4 4 (s_aload 0 (s_getI 4 6 (s_isub (s_aload 0 (s_GR_wordRoom d0 (s_icmp_gt (w_Re4_next_288 l D d0 B Q) (s_aload 0 (s_ic (1) (s_putI 4 5 (w_Re4_next_288 l D d0 B Q))))))))))))
theorem Re4_next_134 {l : Launch} {D : qD} {d0 : Nat} {B : Nat × Nat} {Q : qQ} : qI (w_Re4_next_134 l D d0 B Q) (qR l D (d0 + 1, B) m_Re_next 134 Q) := sorry
def w_Re4_next_95 (l : Launch) (D : qD) (d0 : Nat) (B : Nat × Nat) (Q : qQ) : qK := (s_aload 0 (s_getI 4 4 (s_aload 0 (s_getI 4 3 (s_icmp_ge (w_Re4_next_134 l D d0 B Q) (s_aload 0 (s_aload 0 (s_aload 0 (s_getI 4 4 (s_invV l D (d0, 0, 0) 4 m_Re_byteAt 1 (s_invV l D (d0, 0, 0) 4 m_GR_isOfWord 1 (s_if_eq (w_Re4_next_134 l D d0 B Q) (s_aload 0 (s_dup (s_getI 4 4 (s_ic (1) (s_iadd (s_putI 4 4 (qR l D (d0 + 1, B) m_Re_next 95 Q)))))))))))))))))))
theorem Re4_next_95 {l : Launch} {D : qD} {d0 : Nat} {B : Nat × Nat} {Q : qQ} : qI (w_Re4_next_95 l D d0 B Q) (qR l D (d0 + 1, B) m_Re_next 95 Q) := sorry
def w_Re4_next_80 (l : Launch) (D : qD) (d0 : Nat) (B : Nat × Nat) (Q : qQ) : qK := (s_iload 1 (s_DH_isLetter d0 (s_if_eq (w_Re4_next_158 l D d0 B Q) (s_aload 0 (s_iload 1 (s_invV l D (d0, 0, 0) 4 m_GR_isOfWord 1 (s_if_eq (w_Re4_next_158 l D d0 B Q) (qR l D (d0 + 1, B) m_Re_next 95 Q))))))))
theorem Re4_next_80 {l : Launch} {D : qD} {d0 : Nat} {B : Nat × Nat} {Q : qQ} : qI (w_Re4_next_80 l D d0 B Q) (qR l D (d0 + 1, B) m_Re_next 80 Q) := sorry
def w_Re4_next_39 (l : Launch) (D : qD) (d0 : Nat) (B : Nat × Nat) (Q : qQ) : qK := (s_aload 0 (s_aload 0 (s_getI 4 4 (s_putI 4 6 (s_aload 0 (s_aload 0 (s_getI 4 4 (s_invV l D (d0, 0, 0) 4 m_Re_byteAt 1 (s_istore 1 (s_aload 0 (s_ic (-1) (s_putI 4 5 (s_aload 0 (s_getI 4 4 (s_aload 0 (s_getI 4 3 (s_icmp_ne (w_Re4_next_80 l D d0 B Q) (s_aload 0 (s_ic (0) (s_putI 4 5 (w_Re4_next_288 l D d0 B Q)))))))))))))))))))))
theorem Re4_next_39 {l : Launch} {D : qD} {d0 : Nat} {B : Nat × Nat} {Q : qQ} : qI (w_Re4_next_39 l D d0 B Q) (qR l D (d0 + 1, B) m_Re_next 39 Q) := sorry
def w_Re4_next_26 (l : Launch) (D : qD) (d0 : Nat) (B : Nat × Nat) (Q : qQ) : qK := (s_aload 0 (s_dup (s_getI 4 4 (s_ic (1) (s_iadd (s_putI 4 4 (qR l D (d0 + 1, B) m_Re_next 0 Q)))))))
theorem Re4_next_26 {l : Launch} {D : qD} {d0 : Nat} {B : Nat × Nat} {Q : qQ} : qI (w_Re4_next_26 l D d0 B Q) (qR l D (d0 + 1, B) m_Re_next 26 Q) := sorry
def w_Re4_next_0 (l : Launch) (D : qD) (d0 : Nat) (B : Nat × Nat) (Q : qQ) : qK := (s_aload 0 (s_aload 0 (s_getI 4 4 (s_invV l D (d0, 0, 0) 4 m_Re_byteAt 1 (s_ic (32) (s_icmp_eq (w_Re4_next_26 l D d0 B Q) (s_aload 0 (s_aload 0 (s_getI 4 4 (s_invV l D (d0, 0, 0) 4 m_Re_byteAt 1 (s_ic (10) (s_icmp_ne (w_Re4_next_39 l D d0 B Q) (w_Re4_next_26 l D d0 B Q)))))))))))))
theorem Re4_next_0 {l : Launch} {D : qD} {d0 : Nat} {B : Nat × Nat} {Q : qQ} : qI (w_Re4_next_0 l D d0 B Q) (qR l D (d0 + 1, B) m_Re_next 0 Q) := sorry
def w_Re4_is_13 (l : Launch) (D : qD) (d0 : Nat) (B : Nat × Nat) (Q : qQ) : qK := (s_zret Q)
theorem Re4_is_13 {l : Launch} {D : qD} {d0 : Nat} {B : Nat × Nat} {Q : qQ} : qI (w_Re4_is_13 l D d0 B Q) (qR l D (d0 + 1, B) m_Re_is 13 Q) := sorry
def w_Re4_is_12 (l : Launch) (D : qD) (d0 : Nat) (B : Nat × Nat) (Q : qQ) : qK := (s_ic (0) (w_Re4_is_13 l D d0 B Q))
theorem Re4_is_12 {l : Launch} {D : qD} {d0 : Nat} {B : Nat × Nat} {Q : qQ} : qI (w_Re4_is_12 l D d0 B Q) (qR l D (d0 + 1, B) m_Re_is 12 Q) := sorry
def w_Re4_is_0 (l : Launch) (D : qD) (d0 : Nat) (B : Nat × Nat) (Q : qQ) : qK := (s_aload 0 (s_getI 4 5 (s_iload 1 (s_icmp_ne (w_Re4_is_12 l D d0 B Q) (s_ic (1) (w_Re4_is_13 l D d0 B Q))))))
theorem Re4_is_0 {l : Launch} {D : qD} {d0 : Nat} {B : Nat × Nat} {Q : qQ} : qI (w_Re4_is_0 l D d0 B Q) (qR l D (d0 + 1, B) m_Re_is 0 Q) := sorry
theorem lu_Re_78_4 : q_gU "DrawingHouse$Reader" 78 4 0 "DrawingHouse$Reader" ⟨"DrawingHouse$Reader", "next", "()V"⟩ m_Re_next := sorry
def w_Re4_takes_10 (l : Launch) (D : qD) (d0 : Nat) (B : Nat × Nat) (Q : qQ) : qK := (s_aload 0 (s_invV l D (d0, 0, 0) 4 m_Re_next 0 (s_ic (1) (s_zret Q))))
theorem Re4_takes_10 {l : Launch} {D : qD} {d0 : Nat} {B : Nat × Nat} {Q : qQ} : qI (w_Re4_takes_10 l D d0 B Q) (qR l D (d0 + 1, B) m_Re_takes 10 Q) := sorry
def w_Re4_takes_0 (l : Launch) (D : qD) (d0 : Nat) (B : Nat × Nat) (Q : qQ) : qK := (s_aload 0 (s_getI 4 5 (s_iload 1 (s_icmp_eq (w_Re4_takes_10 l D d0 B Q) (s_ic (0) (s_zret Q))))))
theorem Re4_takes_0 {l : Launch} {D : qD} {d0 : Nat} {B : Nat × Nat} {Q : qQ} : qI (w_Re4_takes_0 l D d0 B Q) (qR l D (d0 + 1, B) m_Re_takes 0 Q) := sorry
theorem lc_Re_88 : q_gC "DrawingHouse$Reader" 88 0 m_String_length := sorry
theorem lc_Re_92 : q_gC "DrawingHouse$Reader" 92 1 m_String_charAt := sorry
def w_Re4_isThe_62 (l : Launch) (D : qD) (d0 : Nat) (B : Nat × Nat) (Q : qQ) : qK := (s_ic (1) (s_zret Q))
theorem Re4_isThe_62 {l : Launch} {D : qD} {d0 : Nat} {B : Nat × Nat} {Q : qQ} : qI (w_Re4_isThe_62 l D d0 B Q) (qR l D (d0 + 1, B) m_Re_isThe 62 Q) := sorry
def w_Re4_isThe_56 (l : Launch) (D : qD) (d0 : Nat) (B : Nat × Nat) (Q : qQ) : qK := (s_iinc 2 (1) (qR l D (d0 + 1, B) m_Re_isThe 28 Q))
theorem Re4_isThe_56 {l : Launch} {D : qD} {d0 : Nat} {B : Nat × Nat} {Q : qQ} : qI (w_Re4_isThe_56 l D d0 B Q) (qR l D (d0 + 1, B) m_Re_isThe 56 Q) := sorry
def w_Re4_isThe_28 (l : Launch) (D : qD) (d0 : Nat) (B : Nat × Nat) (Q : qQ) : qK := (s_iload 2 (s_aload 1 (s_invC l D (d0, 0, 0) m_String_length 0 (s_icmp_ge (w_Re4_isThe_62 l D d0 B Q) (s_aload 0 (s_aload 0 (s_getI 4 6 (s_iload 2 (s_iadd (s_invV l D (d0, 0, 0) 4 m_Re_byteAt 1 (s_aload 1 (s_iload 2 (s_invC l D (d0, 0, 0) m_String_charAt 1 (s_icmp_eq (w_Re4_isThe_56 l D d0 B Q) (s_ic (0) (s_zret Q))))))))))))))))
theorem Re4_isThe_28 {l : Launch} {D : qD} {d0 : Nat} {B : Nat × Nat} {Q : qQ} : qI (w_Re4_isThe_28 l D d0 B Q) (qR l D (d0 + 1, B) m_Re_isThe 28 Q) := sorry
def w_Re4_isThe_26 (l : Launch) (D : qD) (d0 : Nat) (B : Nat × Nat) (Q : qQ) : qK := (s_ic (0) (s_istore 2 (qR l D (d0 + 1, B) m_Re_isThe 28 Q)))
theorem Re4_isThe_26 {l : Launch} {D : qD} {d0 : Nat} {B : Nat × Nat} {Q : qQ} : qI (w_Re4_isThe_26 l D d0 B Q) (qR l D (d0 + 1, B) m_Re_isThe 26 Q) := sorry
def w_Re4_isThe_24 (l : Launch) (D : qD) (d0 : Nat) (B : Nat × Nat) (Q : qQ) : qK := (s_ic (0) (s_zret Q))
theorem Re4_isThe_24 {l : Launch} {D : qD} {d0 : Nat} {B : Nat × Nat} {Q : qQ} : qI (w_Re4_isThe_24 l D d0 B Q) (qR l D (d0 + 1, B) m_Re_isThe 24 Q) := sorry
def w_Re4_isThe_0 (l : Launch) (D : qD) (d0 : Nat) (B : Nat × Nat) (Q : qQ) : qK := (s_aload 0 (s_getI 4 5 (s_ic (1) (s_icmp_ne (w_Re4_isThe_24 l D d0 B Q) (s_aload 0 (s_getI 4 4 (s_aload 0 (s_getI 4 6 (s_isub (s_aload 1 (s_invC l D (d0, 0, 0) m_String_length 0 (s_icmp_eq (w_Re4_isThe_26 l D d0 B Q) (w_Re4_isThe_24 l D d0 B Q)))))))))))))
theorem Re4_isThe_0 {l : Launch} {D : qD} {d0 : Nat} {B : Nat × Nat} {Q : qQ} : qI (w_Re4_isThe_0 l D d0 B Q) (qR l D (d0 + 1, B) m_Re_isThe 0 Q) := sorry
def w_Re4_wordSize_0 (l : Launch) (D : qD) (d0 : Nat) (B : Nat × Nat) (Q : qQ) : qK := (s_aload 0 (s_getI 4 4 (s_aload 0 (s_getI 4 6 (s_isub (s_iret Q))))))
theorem Re4_wordSize_0 {l : Launch} {D : qD} {d0 : Nat} {B : Nat × Nat} {Q : qQ} : qI (w_Re4_wordSize_0 l D d0 B Q) (qR l D (d0 + 1, B) m_Re_wordSize 0 Q) := sorry
theorem lu_Re_74_4 : q_gU "DrawingHouse$Reader" 74 4 2 "DrawingHouse$Reader" ⟨"DrawingHouse$Reader", "fails", "(II)LDrawingHouse$Wrong;"⟩ m_Re_fails := sorry
def w_Re4_need_14 (l : Launch) (D : qD) (d0 : Nat) (B : Nat × Nat) (Q : xQ) : qK := (s_vret Q.1)
theorem Re4_need_14 {l : Launch} {D : qD} {d0 : Nat} {B : Nat × Nat} {Q : xQ} : qI (w_Re4_need_14 l D d0 B Q) (xR l D (d0 + 1, B) m_Re_need 14 Q) := sorry
def w_Re4_need_0 (l : Launch) (D : qD) (d0 : Nat) (B : Nat × Nat) (Q : xQ) : qK := (s_iload 1 (s_if_ne (w_Re4_need_14 l D d0 B Q) (s_aload 0 (s_ic (1) (s_aload 0 (s_getI 4 6 (s_invV l D (d0, 0, 0) 4 m_Re_fails 2 (s_athrow Q.2))))))))
theorem Re4_need_0 {l : Launch} {D : qD} {d0 : Nat} {B : Nat × Nat} {Q : xQ} : qI (w_Re4_need_0 l D d0 B Q) (xR l D (d0 + 1, B) m_Re_need 0 Q) := sorry
theorem lu_Re_81_4 : q_gU "DrawingHouse$Reader" 81 4 1 "DrawingHouse$Reader" ⟨"DrawingHouse$Reader", "takes", "(I)Z"⟩ m_Re_takes := sorry
theorem lu_Re_84_4 : q_gU "DrawingHouse$Reader" 84 4 1 "DrawingHouse$Reader" ⟨"DrawingHouse$Reader", "need", "(Z)V"⟩ m_Re_need := sorry
def w_Re4_must_0 (l : Launch) (D : qD) (d0 : Nat) (B : Nat × Nat) (Q : xQ) : qK := (s_aload 0 (s_aload 0 (s_iload 1 (s_invV l D (d0, 0, 0) 4 m_Re_takes 1 (s_tinvV l D (d0, 0, 0) 4 m_Re_need 1 (s_vret Q.1) (fun _ => Q.2))))))
theorem Re4_must_0 {l : Launch} {D : qD} {d0 : Nat} {B : Nat × Nat} {Q : xQ} : qI (w_Re4_must_0 l D d0 B Q) (xR l D (d0 + 1, B) m_Re_must 0 Q) := sorry
end
section
/-! printed by gen/gx.py: Reader for receivers of class 6 -/
theorem lf_Re_9_6 : q_gF "DrawingHouse$Reader" 9 6 10 2 := sorry
theorem lf_Re_28_6 : q_gF "DrawingHouse$Reader" 28 6 12 0 := sorry
theorem lp_Re_28_6 : q_pF "DrawingHouse$Reader" 28 6 12 0 (.int) false := sorry
theorem lf_Re_32_6 : q_gF "DrawingHouse$Reader" 32 6 13 0 := sorry
theorem lp_Re_32_6 : q_pF "DrawingHouse$Reader" 32 6 13 0 (.int) false := sorry
theorem lf_Re_35_6 : q_gF "DrawingHouse$Reader" 35 6 17 0 := sorry
theorem lp_Re_35_6 : q_pF "DrawingHouse$Reader" 35 6 17 0 (.int) false := sorry
theorem lf_Re_38_6 : q_gF "DrawingHouse$Reader" 38 6 18 0 := sorry
theorem lp_Re_38_6 : q_pF "DrawingHouse$Reader" 38 6 18 0 (.int) false := sorry
def w_Re6_take_0 (l : Launch) (D : qD) (d0 : Nat) (B : Nat × Nat) (Q : qQ) : qK := (s_aload 1 (s_ic (0) (s_aload 0 (s_getR 6 10 (s_ic (0) (s_iload 2 (s_acopy (s_aload 0 (s_iload 2 (s_putI 6 12 (s_aload 0 (s_ic (0) (s_putI 6 13 (s_aload 0 (s_ic (0) (s_putI 6 17 (s_aload 0 (s_ic (-1) (s_putI 6 18 (s_vret Q))))))))))))))))))))
theorem Re6_take_0 {l : Launch} {D : qD} {d0 : Nat} {B : Nat × Nat} {Q : qQ} : qI (w_Re6_take_0 l D d0 B Q) (qR l D (d0 + 1, B) m_Re_take 0 Q) := sorry
def w_Re6_byteAt_22 (l : Launch) (D : qD) (d0 : Nat) (B : Nat × Nat) (Q : qQ) : qK := (s_iret Q)
theorem Re6_byteAt_22 {l : Launch} {D : qD} {d0 : Nat} {B : Nat × Nat} {Q : qQ} : qI (w_Re6_byteAt_22 l D d0 B Q) (qR l D (d0 + 1, B) m_Re_byteAt 22 Q) := sorry
def w_Re6_byteAt_21 (l : Launch) (D : qD) (d0 : Nat) (B : Nat × Nat) (Q : qQ) : qK := (s_ic (-1) (w_Re6_byteAt_22 l D d0 B Q))
theorem Re6_byteAt_21 {l : Launch} {D : qD} {d0 : Nat} {B : Nat × Nat} {Q : qQ} : qI (w_Re6_byteAt_21 l D d0 B Q) (qR l D (d0 + 1, B) m_Re_byteAt 21 Q) := sorry
def w_Re6_byteAt_0 (l : Launch) (D : qD) (d0 : Nat) (B : Nat × Nat) (Q : qQ) : qK := (s_iload 1 (s_aload 0 (s_getI 6 12 (s_icmp_ge (w_Re6_byteAt_21 l D d0 B Q) (s_aload 0 (s_getR 6 10 (s_iload 1 (s_bald (s_ic (255) (s_iand (w_Re6_byteAt_22 l D d0 B Q)))))))))))
theorem Re6_byteAt_0 {l : Launch} {D : qD} {d0 : Nat} {B : Nat × Nat} {Q : qQ} : qI (w_Re6_byteAt_0 l D d0 B Q) (qR l D (d0 + 1, B) m_Re_byteAt 0 Q) := sorry
theorem lf_Re_18_6 : q_gF "DrawingHouse$Reader" 18 6 11 2 := sorry
def w_Re6_fails_0 (l : Launch) (D : qD) (d0 : Nat) (B : Nat × Nat) (Q : qQ) : qK := (s_aload 0 (s_iload 1 (s_putI 6 17 (s_aload 0 (s_iload 2 (s_putI 6 18 (s_aload 0 (s_getR 6 11 (s_aret Q)))))))))
theorem Re6_fails_0 {l : Launch} {D : qD} {d0 : Nat} {B : Nat × Nat} {Q : qQ} : qI (w_Re6_fails_0 l D d0 B Q) (qR l D (d0 + 1, B) m_Re_fails 0 Q) := sorry
theorem lu_Re_71_6 : q_gU "DrawingHouse$Reader" 71 6 1 "DrawingHouse$Reader" ⟨"DrawingHouse$Reader", "isSign", "(I)Z"⟩ m_Sy_isSign := sorry
theorem lf_Re_48_6 : q_gF "DrawingHouse$Reader" 48 6 14 0 := sorry
theorem lp_Re_48_6 : q_pF "DrawingHouse$Reader" 48 6 14 0 (.int) false := sorry
theorem lf_Re_45_6 : q_gF "DrawingHouse$Reader" 45 6 15 0 := sorry
theorem lu_Re_68_6 : q_gU "DrawingHouse$Reader" 68 6 0 "DrawingHouse$Reader" ⟨"DrawingHouse$Reader", "digitRoom", "()I"⟩ m_Sy_digitRoom := sorry
theorem lf_Re_65_6 : q_gF "DrawingHouse$Reader" 65 6 16 0 := sorry
theorem lp_Re_65_6 : q_pF "DrawingHouse$Reader" 65 6 16 0 (.int) false := sorry
theorem lu_Re_41_6 : q_gU "DrawingHouse$Reader" 41 6 1 "DrawingHouse$Reader" ⟨"DrawingHouse$Reader", "byteAt", "(I)I"⟩ m_Re_byteAt := sorry
theorem lu_Re_58_6 : q_gU "DrawingHouse$Reader" 58 6 0 "DrawingHouse$Reader" ⟨"DrawingHouse$Reader", "wordRoom", "()I"⟩ m_Sy_wordRoom := sorry
theorem lu_Re_55_6 : q_gU "DrawingHouse$Reader" 55 6 1 "DrawingHouse$Reader" ⟨"DrawingHouse$Reader", "isOfWord", "(I)Z"⟩ m_Sy_isOfWord := sorry
theorem lp_Re_45_6 : q_pF "DrawingHouse$Reader" 45 6 15 0 (.int) false := sorry
def w_Re6_next_288 (l : Launch) (D : qD) (d0 : Nat) (B : Nat × Nat) (Q : qQ) : qK := (s_vret Q)
theorem Re6_next_288 {l : Launch} {D : qD} {d0 : Nat} {B : Nat × Nat} {Q : qQ} : qI (w_Re6_next_288 l D d0 B Q) (qR l D (d0 + 1, B) m_Re_next 288 Q) := sorry
def w_Re6_next_265 (l : Launch) (D : qD) (d0 : Nat) (B : Nat × Nat) (Q : qQ) : qK := (s_aload 0 (s_iload 1 (s_Sy_isSign d0 (s_if_eq (w_Re6_next_288 l D d0 B Q) (s_aload 0 (s_iload 1 (s_putI 6 14 (s_aload 0 (s_dup (s_getI 6 13 (s_ic (1) (s_iadd (s_putI 6 13 (w_Re6_next_288 l D d0 B Q))))))))))))))
theorem Re6_next_265 {l : Launch} {D : qD} {d0 : Nat} {B : Nat × Nat} {Q : qQ} : qI (w_Re6_next_265 l D d0 B Q) (qR l D (d0 + 1, B) m_Re_next 265 Q) := sorry
def w_Re6_next_241 (l : Launch) (D : qD) (d0 : Nat) (B : Nat × Nat) (Q : qQ) : qK := (s_aload 0 (s_getI 6 13 (s_aload 0 (s_getI 6 15 (s_isub (s_aload 0 (s_Sy_digitRoom d0 (s_icmp_gt (w_Re6_next_288 l D d0 B Q) (s_aload 0 (s_ic (2) (s_putI 6 14 (w_Re6_next_288 l D d0 B Q))))))))))))
theorem Re6_next_241 {l : Launch} {D : qD} {d0 : Nat} {B : Nat × Nat} {Q : qQ} : qI (w_Re6_next_241 l D d0 B Q) (qR l D (d0 + 1, B) m_Re_next 241 Q) := sorry
def w_Re6_next_225 (l : Launch) (D : qD) (d0 : Nat) (B : Nat × Nat) (Q : qQ) : qK := (s_putI 6 16 (s_aload 0 (s_dup (s_getI 6 13 (s_ic (1) (s_iadd (s_putI 6 13 (qR l D (d0 + 1, B) m_Re_next 170 Q))))))))
theorem Re6_next_225 {l : Launch} {D : qD} {d0 : Nat} {B : Nat × Nat} {Q : qQ} : qI (w_Re6_next_225 l D d0 B Q) (qR l D (d0 + 1, B) m_Re_next 225 Q) := sorry
def w_Re6_next_221 (l : Launch) (D : qD) (d0 : Nat) (B : Nat × Nat) (Q : qQ) : qK := (s_aload 0 (s_getI 6 16 (w_Re6_next_225 l D d0 B Q)))
theorem Re6_next_221 {l : Launch} {D : qD} {d0 : Nat} {B : Nat × Nat} {Q : qQ} : qI (w_Re6_next_221 l D d0 B Q) (qR l D (d0 + 1, B) m_Re_next 221 Q) := sorry
def w_Re6_next_170 (l : Launch) (D : qD) (d0 : Nat) (B : Nat × Nat) (Q : qQ) : qK := (s_aload 0 (s_aload 0 (s_getI 6 13 (s_invV l D (d0, 0, 0) 6 m_Re_byteAt 1 (s_DH_isDigit d0 (s_if_eq (w_Re6_next_241 l D d0 B Q) (s_aload 0 (s_aload 0 (s_getI 6 13 (s_aload 0 (s_getI 6 15 (s_isub (s_ic (6) (s_icmp_ge (w_Re6_next_221 l D d0 B Q) (s_ic (10) (s_aload 0 (s_getI 6 16 (s_imul (s_aload 0 (s_aload 0 (s_getI 6 13 (s_invV l D (d0, 0, 0) 6 m_Re_byteAt 1 (s_iadd (s_ic (48) (s_isub (w_Re6_next_225 l D d0 B Q))))))))))))))))))))))))))
theorem Re6_next_170 {l : Launch} {D : qD} {d0 : Nat} {B : Nat × Nat} {Q : qQ} : qI (w_Re6_next_170 l D d0 B Q) (qR l D (d0 + 1, B) m_Re_next 170 Q) := sorry
def w_Re6_next_158 (l : Launch) (D : qD) (d0 : Nat) (B : Nat × Nat) (Q : qQ) : qK := (s_iload 1 (s_DH_isDigit d0 (s_if_eq (w_Re6_next_265 l D d0 B Q) (s_aload 0 (s_ic (0) (s_putI 6 16 (qR l D (d0 + 1, B) m_Re_next 170 Q)))))))
theorem Re6_next_158 {l : Launch} {D : qD} {d0 : Nat} {B : Nat × Nat} {Q : qQ} : qI (w_Re6_next_158 l D d0 B Q) (qR l D (d0 + 1, B) m_Re_next 158 Q) := sorry
def w_Re6_next_134 (l : Launch) (D : qD) (d0 : Nat) (B : Nat × Nat) (Q : qQ) : qK := (s_aload 0 (s_getI 6 13 (s_aload 0 (s_getI 6 15 (s_isub (s_aload 0 (s_Sy_wordRoom d0 (s_icmp_gt (w_Re6_next_288 l D d0 B Q) (s_aload 0 (s_ic (1) (s_putI 6 14 (w_Re6_next_288 l D d0 B Q))))))))))))
theorem Re6_next_134 {l : Launch} {D : qD} {d0 : Nat} {B : Nat × Nat} {Q : qQ} : qI (w_Re6_next_134 l D d0 B Q) (qR l D (d0 + 1, B) m_Re_next 134 Q) := sorry
def w_Re6_next_95 (l : Launch) (D : qD) (d0 : Nat) (B : Nat × Nat) (Q : qQ) : qK := (s_aload 0 (s_getI 6 13 (s_aload 0 (s_getI 6 12 (s_icmp_ge (w_Re6_next_134 l D d0 B Q) (s_aload 0 (s_aload 0 (s_aload 0 (s_getI 6 13 (s_invV l D (d0, 0, 0) 6 m_Re_byteAt 1 (s_Sy_isOfWord d0 (s_if_eq (w_Re6_next_134 l D d0 B Q) (s_aload 0 (s_dup (s_getI 6 13 (s_ic (1) (s_iadd (s_putI 6 13 (qR l D (d0 + 1, B) m_Re_next 95 Q)))))))))))))))))))
theorem Re6_next_95 {l : Launch} {D : qD} {d0 : Nat} {B : Nat × Nat} {Q : qQ} : qI (w_Re6_next_95 l D d0 B Q) (qR l D (d0 + 1, B) m_Re_next 95 Q) := sorry
def w_Re6_next_80 (l : Launch) (D : qD) (d0 : Nat) (B : Nat × Nat) (Q : qQ) : qK := (s_iload 1 (s_DH_isLetter d0 (s_if_eq (w_Re6_next_158 l D d0 B Q) (s_aload 0 (s_iload 1 (s_Sy_isOfWord d0 (s_if_eq (w_Re6_next_158 l D d0 B Q) (qR l D (d0 + 1, B) m_Re_next 95 Q))))))))
theorem Re6_next_80 {l : Launch} {D : qD} {d0 : Nat} {B : Nat × Nat} {Q : qQ} : qI (w_Re6_next_80 l D d0 B Q) (qR l D (d0 + 1, B) m_Re_next 80 Q) := sorry
def w_Re6_next_39 (l : Launch) (D : qD) (d0 : Nat) (B : Nat × Nat) (Q : qQ) : qK := (s_aload 0 (s_aload 0 (s_getI 6 13 (s_putI 6 15 (s_aload 0 (s_aload 0 (s_getI 6 13 (s_invV l D (d0, 0, 0) 6 m_Re_byteAt 1 (s_istore 1 (s_aload 0 (s_ic (-1) (s_putI 6 14 (s_aload 0 (s_getI 6 13 (s_aload 0 (s_getI 6 12 (s_icmp_ne (w_Re6_next_80 l D d0 B Q) (s_aload 0 (s_ic (0) (s_putI 6 14 (w_Re6_next_288 l D d0 B Q)))))))))))))))))))))
theorem Re6_next_39 {l : Launch} {D : qD} {d0 : Nat} {B : Nat × Nat} {Q : qQ} : qI (w_Re6_next_39 l D d0 B Q) (qR l D (d0 + 1, B) m_Re_next 39 Q) := sorry
def w_Re6_next_26 (l : Launch) (D : qD) (d0 : Nat) (B : Nat × Nat) (Q : qQ) : qK := (s_aload 0 (s_dup (s_getI 6 13 (s_ic (1) (s_iadd (s_putI 6 13 (qR l D (d0 + 1, B) m_Re_next 0 Q)))))))
theorem Re6_next_26 {l : Launch} {D : qD} {d0 : Nat} {B : Nat × Nat} {Q : qQ} : qI (w_Re6_next_26 l D d0 B Q) (qR l D (d0 + 1, B) m_Re_next 26 Q) := sorry
def w_Re6_next_0 (l : Launch) (D : qD) (d0 : Nat) (B : Nat × Nat) (Q : qQ) : qK := (s_aload 0 (s_aload 0 (s_getI 6 13 (s_invV l D (d0, 0, 0) 6 m_Re_byteAt 1 (s_ic (32) (s_icmp_eq (w_Re6_next_26 l D d0 B Q) (s_aload 0 (s_aload 0 (s_getI 6 13 (s_invV l D (d0, 0, 0) 6 m_Re_byteAt 1 (s_ic (10) (s_icmp_ne (w_Re6_next_39 l D d0 B Q) (w_Re6_next_26 l D d0 B Q)))))))))))))
theorem Re6_next_0 {l : Launch} {D : qD} {d0 : Nat} {B : Nat × Nat} {Q : qQ} : qI (w_Re6_next_0 l D d0 B Q) (qR l D (d0 + 1, B) m_Re_next 0 Q) := sorry
def w_Re6_is_13 (l : Launch) (D : qD) (d0 : Nat) (B : Nat × Nat) (Q : qQ) : qK := (s_zret Q)
theorem Re6_is_13 {l : Launch} {D : qD} {d0 : Nat} {B : Nat × Nat} {Q : qQ} : qI (w_Re6_is_13 l D d0 B Q) (qR l D (d0 + 1, B) m_Re_is 13 Q) := sorry
def w_Re6_is_12 (l : Launch) (D : qD) (d0 : Nat) (B : Nat × Nat) (Q : qQ) : qK := (s_ic (0) (w_Re6_is_13 l D d0 B Q))
theorem Re6_is_12 {l : Launch} {D : qD} {d0 : Nat} {B : Nat × Nat} {Q : qQ} : qI (w_Re6_is_12 l D d0 B Q) (qR l D (d0 + 1, B) m_Re_is 12 Q) := sorry
def w_Re6_is_0 (l : Launch) (D : qD) (d0 : Nat) (B : Nat × Nat) (Q : qQ) : qK := (s_aload 0 (s_getI 6 14 (s_iload 1 (s_icmp_ne (w_Re6_is_12 l D d0 B Q) (s_ic (1) (w_Re6_is_13 l D d0 B Q))))))
theorem Re6_is_0 {l : Launch} {D : qD} {d0 : Nat} {B : Nat × Nat} {Q : qQ} : qI (w_Re6_is_0 l D d0 B Q) (qR l D (d0 + 1, B) m_Re_is 0 Q) := sorry
theorem lu_Re_78_6 : q_gU "DrawingHouse$Reader" 78 6 0 "DrawingHouse$Reader" ⟨"DrawingHouse$Reader", "next", "()V"⟩ m_Re_next := sorry
def w_Re6_takes_10 (l : Launch) (D : qD) (d0 : Nat) (B : Nat × Nat) (Q : qQ) : qK := (s_aload 0 (s_invV l D (d0, 0, 0) 6 m_Re_next 0 (s_ic (1) (s_zret Q))))
theorem Re6_takes_10 {l : Launch} {D : qD} {d0 : Nat} {B : Nat × Nat} {Q : qQ} : qI (w_Re6_takes_10 l D d0 B Q) (qR l D (d0 + 1, B) m_Re_takes 10 Q) := sorry
def w_Re6_takes_0 (l : Launch) (D : qD) (d0 : Nat) (B : Nat × Nat) (Q : qQ) : qK := (s_aload 0 (s_getI 6 14 (s_iload 1 (s_icmp_eq (w_Re6_takes_10 l D d0 B Q) (s_ic (0) (s_zret Q))))))
theorem Re6_takes_0 {l : Launch} {D : qD} {d0 : Nat} {B : Nat × Nat} {Q : qQ} : qI (w_Re6_takes_0 l D d0 B Q) (qR l D (d0 + 1, B) m_Re_takes 0 Q) := sorry
def w_Re6_isThe_62 (l : Launch) (D : qD) (d0 : Nat) (B : Nat × Nat) (Q : qQ) : qK := (s_ic (1) (s_zret Q))
theorem Re6_isThe_62 {l : Launch} {D : qD} {d0 : Nat} {B : Nat × Nat} {Q : qQ} : qI (w_Re6_isThe_62 l D d0 B Q) (qR l D (d0 + 1, B) m_Re_isThe 62 Q) := sorry
def w_Re6_isThe_56 (l : Launch) (D : qD) (d0 : Nat) (B : Nat × Nat) (Q : qQ) : qK := (s_iinc 2 (1) (qR l D (d0 + 1, B) m_Re_isThe 28 Q))
theorem Re6_isThe_56 {l : Launch} {D : qD} {d0 : Nat} {B : Nat × Nat} {Q : qQ} : qI (w_Re6_isThe_56 l D d0 B Q) (qR l D (d0 + 1, B) m_Re_isThe 56 Q) := sorry
def w_Re6_isThe_28 (l : Launch) (D : qD) (d0 : Nat) (B : Nat × Nat) (Q : qQ) : qK := (s_iload 2 (s_aload 1 (s_invC l D (d0, 0, 0) m_String_length 0 (s_icmp_ge (w_Re6_isThe_62 l D d0 B Q) (s_aload 0 (s_aload 0 (s_getI 6 15 (s_iload 2 (s_iadd (s_invV l D (d0, 0, 0) 6 m_Re_byteAt 1 (s_aload 1 (s_iload 2 (s_invC l D (d0, 0, 0) m_String_charAt 1 (s_icmp_eq (w_Re6_isThe_56 l D d0 B Q) (s_ic (0) (s_zret Q))))))))))))))))
theorem Re6_isThe_28 {l : Launch} {D : qD} {d0 : Nat} {B : Nat × Nat} {Q : qQ} : qI (w_Re6_isThe_28 l D d0 B Q) (qR l D (d0 + 1, B) m_Re_isThe 28 Q) := sorry
def w_Re6_isThe_26 (l : Launch) (D : qD) (d0 : Nat) (B : Nat × Nat) (Q : qQ) : qK := (s_ic (0) (s_istore 2 (qR l D (d0 + 1, B) m_Re_isThe 28 Q)))
theorem Re6_isThe_26 {l : Launch} {D : qD} {d0 : Nat} {B : Nat × Nat} {Q : qQ} : qI (w_Re6_isThe_26 l D d0 B Q) (qR l D (d0 + 1, B) m_Re_isThe 26 Q) := sorry
def w_Re6_isThe_24 (l : Launch) (D : qD) (d0 : Nat) (B : Nat × Nat) (Q : qQ) : qK := (s_ic (0) (s_zret Q))
theorem Re6_isThe_24 {l : Launch} {D : qD} {d0 : Nat} {B : Nat × Nat} {Q : qQ} : qI (w_Re6_isThe_24 l D d0 B Q) (qR l D (d0 + 1, B) m_Re_isThe 24 Q) := sorry
def w_Re6_isThe_0 (l : Launch) (D : qD) (d0 : Nat) (B : Nat × Nat) (Q : qQ) : qK := (s_aload 0 (s_getI 6 14 (s_ic (1) (s_icmp_ne (w_Re6_isThe_24 l D d0 B Q) (s_aload 0 (s_getI 6 13 (s_aload 0 (s_getI 6 15 (s_isub (s_aload 1 (s_invC l D (d0, 0, 0) m_String_length 0 (s_icmp_eq (w_Re6_isThe_26 l D d0 B Q) (w_Re6_isThe_24 l D d0 B Q)))))))))))))
theorem Re6_isThe_0 {l : Launch} {D : qD} {d0 : Nat} {B : Nat × Nat} {Q : qQ} : qI (w_Re6_isThe_0 l D d0 B Q) (qR l D (d0 + 1, B) m_Re_isThe 0 Q) := sorry
def w_Re6_wordSize_0 (l : Launch) (D : qD) (d0 : Nat) (B : Nat × Nat) (Q : qQ) : qK := (s_aload 0 (s_getI 6 13 (s_aload 0 (s_getI 6 15 (s_isub (s_iret Q))))))
theorem Re6_wordSize_0 {l : Launch} {D : qD} {d0 : Nat} {B : Nat × Nat} {Q : qQ} : qI (w_Re6_wordSize_0 l D d0 B Q) (qR l D (d0 + 1, B) m_Re_wordSize 0 Q) := sorry
theorem lu_Re_74_6 : q_gU "DrawingHouse$Reader" 74 6 2 "DrawingHouse$Reader" ⟨"DrawingHouse$Reader", "fails", "(II)LDrawingHouse$Wrong;"⟩ m_Re_fails := sorry
def w_Re6_need_14 (l : Launch) (D : qD) (d0 : Nat) (B : Nat × Nat) (Q : xQ) : qK := (s_vret Q.1)
theorem Re6_need_14 {l : Launch} {D : qD} {d0 : Nat} {B : Nat × Nat} {Q : xQ} : qI (w_Re6_need_14 l D d0 B Q) (xR l D (d0 + 1, B) m_Re_need 14 Q) := sorry
def w_Re6_need_0 (l : Launch) (D : qD) (d0 : Nat) (B : Nat × Nat) (Q : xQ) : qK := (s_iload 1 (s_if_ne (w_Re6_need_14 l D d0 B Q) (s_aload 0 (s_ic (1) (s_aload 0 (s_getI 6 15 (s_invV l D (d0, 0, 0) 6 m_Re_fails 2 (s_athrow Q.2))))))))
theorem Re6_need_0 {l : Launch} {D : qD} {d0 : Nat} {B : Nat × Nat} {Q : xQ} : qI (w_Re6_need_0 l D d0 B Q) (xR l D (d0 + 1, B) m_Re_need 0 Q) := sorry
theorem lu_Re_81_6 : q_gU "DrawingHouse$Reader" 81 6 1 "DrawingHouse$Reader" ⟨"DrawingHouse$Reader", "takes", "(I)Z"⟩ m_Re_takes := sorry
theorem lu_Re_84_6 : q_gU "DrawingHouse$Reader" 84 6 1 "DrawingHouse$Reader" ⟨"DrawingHouse$Reader", "need", "(Z)V"⟩ m_Re_need := sorry
def w_Re6_must_0 (l : Launch) (D : qD) (d0 : Nat) (B : Nat × Nat) (Q : xQ) : qK := (s_aload 0 (s_aload 0 (s_iload 1 (s_invV l D (d0, 0, 0) 6 m_Re_takes 1 (s_tinvV l D (d0, 0, 0) 6 m_Re_need 1 (s_vret Q.1) (fun _ => Q.2))))))
theorem Re6_must_0 {l : Launch} {D : qD} {d0 : Nat} {B : Nat × Nat} {Q : xQ} : qI (w_Re6_must_0 l D d0 B Q) (xR l D (d0 + 1, B) m_Re_must 0 Q) := sorry
end
section
/-! printed by gen/gx.py: GraphReader -/
theorem ln_GR_18 : q_gSN "DrawingHouse$GraphReader" 18 1 m_DH_isLetter := sorry
theorem ln_GR_22 : q_gSN "DrawingHouse$GraphReader" 22 1 m_DH_isDigit := sorry
def w_GR_isOfWord_25 (l : Launch) (D : qD) (d0 : Nat) (B : Nat × Nat) (Q : qQ) : qK := (s_zret Q)
theorem GR_isOfWord_25 {l : Launch} {D : qD} {d0 : Nat} {B : Nat × Nat} {Q : qQ} : qI (w_GR_isOfWord_25 l D d0 B Q) (qR l D (d0 + 1, B) m_GR_isOfWord 25 Q) := sorry
def w_GR_isOfWord_24 (l : Launch) (D : qD) (d0 : Nat) (B : Nat × Nat) (Q : qQ) : qK := (s_ic (0) (w_GR_isOfWord_25 l D d0 B Q))
theorem GR_isOfWord_24 {l : Launch} {D : qD} {d0 : Nat} {B : Nat × Nat} {Q : qQ} : qI (w_GR_isOfWord_24 l D d0 B Q) (qR l D (d0 + 1, B) m_GR_isOfWord 24 Q) := sorry
def w_GR_isOfWord_20 (l : Launch) (D : qD) (d0 : Nat) (B : Nat × Nat) (Q : qQ) : qK := (s_ic (1) (w_GR_isOfWord_25 l D d0 B Q))
theorem GR_isOfWord_20 {l : Launch} {D : qD} {d0 : Nat} {B : Nat × Nat} {Q : qQ} : qI (w_GR_isOfWord_20 l D d0 B Q) (qR l D (d0 + 1, B) m_GR_isOfWord 20 Q) := sorry
def w_GR_isOfWord_0 (l : Launch) (D : qD) (d0 : Nat) (B : Nat × Nat) (Q : qQ) : qK := (s_iload 1 (s_DH_isLetter d0 (s_if_ne (w_GR_isOfWord_20 l D d0 B Q) (s_iload 1 (s_DH_isDigit d0 (s_if_ne (w_GR_isOfWord_20 l D d0 B Q) (s_iload 1 (s_ic (95) (s_icmp_ne (w_GR_isOfWord_24 l D d0 B Q) (w_GR_isOfWord_20 l D d0 B Q))))))))))
theorem GR_isOfWord_0 {l : Launch} {D : qD} {d0 : Nat} {B : Nat × Nat} {Q : qQ} : qI (w_GR_isOfWord_0 l D d0 B Q) (qR l D (d0 + 1, B) m_GR_isOfWord 0 Q) := sorry
theorem lu_GR_35_4 : q_gU "DrawingHouse$GraphReader" 35 4 1 "DrawingHouse$Reader" ⟨"DrawingHouse$GraphReader", "is", "(I)Z"⟩ m_Re_is := sorry
theorem lu_GR_46_4 : q_gU "DrawingHouse$GraphReader" 46 4 1 "DrawingHouse$Reader" ⟨"DrawingHouse$GraphReader", "isThe", "(Ljava/lang/String;)Z"⟩ m_Re_isThe := sorry
def w_GR_isName_31 (l : Launch) (D : qD) (d0 : Nat) (B : Nat × Nat) (Q : qQ) : qK := (s_zret Q)
theorem GR_isName_31 {l : Launch} {D : qD} {d0 : Nat} {B : Nat × Nat} {Q : qQ} : qI (w_GR_isName_31 l D d0 B Q) (qR l D (d0 + 1, B) m_GR_isName 31 Q) := sorry
def w_GR_isName_30 (l : Launch) (D : qD) (d0 : Nat) (B : Nat × Nat) (Q : qQ) : qK := (s_ic (0) (w_GR_isName_31 l D d0 B Q))
theorem GR_isName_30 {l : Launch} {D : qD} {d0 : Nat} {B : Nat × Nat} {Q : qQ} : qI (w_GR_isName_30 l D d0 B Q) (qR l D (d0 + 1, B) m_GR_isName 30 Q) := sorry
def w_GR_isName_0 (l : Launch) (D : qD) (d0 : Nat) (B : Nat × Nat) (Q : qQ) : qK := (s_aload 0 (s_ic (1) (s_invV l D (d0, 0, 0) 4 m_Re_is 1 (s_if_eq (w_GR_isName_30 l D d0 B Q) (s_aload 0 (s_sc (-23) (s_invV l D (d0, 0, 0) 4 m_Re_isThe 1 (s_if_ne (w_GR_isName_30 l D d0 B Q) (s_aload 0 (s_sc (-24) (s_invV l D (d0, 0, 0) 4 m_Re_isThe 1 (s_if_ne (w_GR_isName_30 l D d0 B Q) (s_ic (1) (w_GR_isName_31 l D d0 B Q))))))))))))))
theorem GR_isName_0 {l : Launch} {D : qD} {d0 : Nat} {B : Nat × Nat} {Q : qQ} : qI (w_GR_isName_0 l D d0 B Q) (qR l D (d0 + 1, B) m_GR_isName 0 Q) := sorry
theorem lu_GR_28_4 : q_gU "DrawingHouse$GraphReader" 28 4 0 "DrawingHouse$Reader" ⟨"DrawingHouse$GraphReader", "next", "()V"⟩ m_Re_next := sorry
theorem lf_GR_12 : q_gF "DrawingHouse$GraphReader" 12 4 0 2 := sorry
theorem lf_GR_63_4 : q_gF "DrawingHouse$GraphReader" 63 4 1 2 := sorry
theorem lf_GR_67_4 : q_gF "DrawingHouse$GraphReader" 67 4 6 0 := sorry
theorem lu_GR_71_4 : q_gU "DrawingHouse$GraphReader" 71 4 0 "DrawingHouse$Reader" ⟨"DrawingHouse$GraphReader", "wordSize", "()I"⟩ m_Re_wordSize := sorry
theorem lm_GR_86 : q_gV "DrawingHouse$GraphReader" 86 3 4 m_Gr_addNode := sorry
theorem lm_GR_59 : q_gV "DrawingHouse$GraphReader" 59 4 0 m_GR_isName := sorry
theorem lu_GR_38_4 : q_gU "DrawingHouse$GraphReader" 38 4 1 "DrawingHouse$Reader" ⟨"DrawingHouse$GraphReader", "need", "(Z)V"⟩ m_Re_need := sorry
theorem lm_GR_75 : q_gV "DrawingHouse$GraphReader" 75 3 3 m_Gr_find := sorry
theorem lf_GR_79 : q_gF "DrawingHouse$GraphReader" 79 3 0 0 := sorry
theorem lu_GR_82_4 : q_gU "DrawingHouse$GraphReader" 82 4 2 "DrawingHouse$Reader" ⟨"DrawingHouse$GraphReader", "fails", "(II)LDrawingHouse$Wrong;"⟩ m_Re_fails := sorry
def w_GR_name_76 (l : Launch) (D : qD) (d0 : Nat) (B : Nat × Nat) (Q : xQ) : qK := (s_aload 0 (s_invV l D (d0, 0, 0) 4 m_Re_next 0 (s_iload 2 (s_iret Q.1))))
theorem GR_name_76 {l : Launch} {D : qD} {d0 : Nat} {B : Nat × Nat} {Q : xQ} : qI (w_GR_name_76 l D d0 B Q) (xR l D (d0 + 1, B) m_GR_name 76 Q) := sorry
def w_GR_name_55 (l : Launch) (D : qD) (d0 : Nat) (B : Nat × Nat) (Q : xQ) : qK := (s_aload 0 (s_getR 4 0 (s_aload 0 (s_getR 4 1 (s_aload 0 (s_getI 4 6 (s_aload 0 (s_invV l D (d0, 0, 0) 4 m_Re_wordSize 0 (s_iload 1 (s_invV l D (d0, 0, 0) 3 m_Gr_addNode 4 (s_istore 2 (w_GR_name_76 l D d0 B Q))))))))))))
theorem GR_name_55 {l : Launch} {D : qD} {d0 : Nat} {B : Nat × Nat} {Q : xQ} : qI (w_GR_name_55 l D d0 B Q) (xR l D (d0 + 1, B) m_GR_name 55 Q) := sorry
def w_GR_name_0 (l : Launch) (D : qD) (d0 : Nat) (B : Nat × Nat) (Q : xQ) : qK := (s_aload 0 (s_aload 0 (s_invV l D (d0, 0, 0) 4 m_GR_isName 0 (s_tinvV l D (d0, 0, 0) 4 m_Re_need 1 (s_aload 0 (s_getR 4 0 (s_aload 0 (s_getR 4 1 (s_aload 0 (s_getI 4 6 (s_aload 0 (s_invV l D (d0, 0, 0) 4 m_Re_wordSize 0 (s_invV l D (d0, 0, 0) 3 m_Gr_find 3 (s_istore 2 (s_iload 2 (s_ic (-1) (s_icmp_ne (w_GR_name_76 l D d0 B Q) (s_aload 0 (s_getR 4 0 (s_getI 3 0 (s_ic (24) (s_icmp_ne (w_GR_name_55 l D d0 B Q) (s_aload 0 (s_ic (3) (s_aload 0 (s_getI 4 6 (s_invV l D (d0, 0, 0) 4 m_Re_fails 2 (s_athrow Q.2)))))))))))))))))))))))) (fun _ => Q.2)))))
theorem GR_name_0 {l : Launch} {D : qD} {d0 : Nat} {B : Nat × Nat} {Q : xQ} : qI (w_GR_name_0 l D d0 B Q) (xR l D (d0 + 1, B) m_GR_name 0 Q) := sorry
theorem lf_GR_124_4 : q_gF "DrawingHouse$GraphReader" 124 4 7 0 := sorry
theorem lu_GR_103_4 : q_gU "DrawingHouse$GraphReader" 103 4 1 "DrawingHouse$Reader" ⟨"DrawingHouse$GraphReader", "must", "(I)V"⟩ m_Re_must := sorry
def w_GR_of_82 (l : Launch) (D : qD) (d0 : Nat) (B : Nat × Nat) (Q : xQ) : qK := (s_aload 0 (s_getI 4 7 (s_istore 3 (s_aload 0 (s_invV l D (d0, 0, 0) 4 m_Re_next 0 (s_aload 0 (s_ic (93) (s_invV l D (d0, 0, 0) 4 m_Re_is 1 (s_if_eq (xR l D (d0 + 1, B) m_GR_of 6 Q) (s_aload 0 (s_invV l D (d0, 0, 0) 4 m_Re_next 0 (s_iload 3 (s_iret Q.1)))))))))))))
theorem GR_of_82 {l : Launch} {D : qD} {d0 : Nat} {B : Nat × Nat} {Q : xQ} : qI (w_GR_of_82 l D d0 B Q) (xR l D (d0 + 1, B) m_GR_of 82 Q) := sorry
def w_GR_of_72 (l : Launch) (D : qD) (d0 : Nat) (B : Nat × Nat) (Q : xQ) : qK := (s_aload 0 (s_ic (5) (s_aload 0 (s_getI 4 6 (s_invV l D (d0, 0, 0) 4 m_Re_fails 2 (s_athrow Q.2))))))
theorem GR_of_72 {l : Launch} {D : qD} {d0 : Nat} {B : Nat × Nat} {Q : xQ} : qI (w_GR_of_72 l D d0 B Q) (xR l D (d0 + 1, B) m_GR_of 72 Q) := sorry
def w_GR_of_37 (l : Launch) (D : qD) (d0 : Nat) (B : Nat × Nat) (Q : xQ) : qK := (s_aload 0 (s_invV l D (d0, 0, 0) 4 m_Re_next 0 (s_aload 0 (s_ic (61) (s_tinvV l D (d0, 0, 0) 4 m_Re_must 1 (s_aload 0 (s_aload 0 (s_ic (2) (s_invV l D (d0, 0, 0) 4 m_Re_is 1 (s_tinvV l D (d0, 0, 0) 4 m_Re_need 1 (s_aload 0 (s_getI 4 7 (s_ic (1) (s_icmp_lt (w_GR_of_72 l D d0 B Q) (s_aload 0 (s_getI 4 7 (s_iload 2 (s_icmp_le (w_GR_of_82 l D d0 B Q) (w_GR_of_72 l D d0 B Q))))))))) (fun _ => Q.2)))))) (fun _ => Q.2))))))
theorem GR_of_37 {l : Launch} {D : qD} {d0 : Nat} {B : Nat × Nat} {Q : xQ} : qI (w_GR_of_37 l D d0 B Q) (xR l D (d0 + 1, B) m_GR_of 37 Q) := sorry
def w_GR_of_27 (l : Launch) (D : qD) (d0 : Nat) (B : Nat × Nat) (Q : xQ) : qK := (s_aload 0 (s_ic (4) (s_aload 0 (s_getI 4 6 (s_invV l D (d0, 0, 0) 4 m_Re_fails 2 (s_athrow Q.2))))))
theorem GR_of_27 {l : Launch} {D : qD} {d0 : Nat} {B : Nat × Nat} {Q : xQ} : qI (w_GR_of_27 l D d0 B Q) (xR l D (d0 + 1, B) m_GR_of 27 Q) := sorry
def w_GR_of_6 (l : Launch) (D : qD) (d0 : Nat) (B : Nat × Nat) (Q : xQ) : qK := (s_aload 0 (s_aload 0 (s_ic (1) (s_invV l D (d0, 0, 0) 4 m_Re_is 1 (s_tinvV l D (d0, 0, 0) 4 m_Re_need 1 (s_aload 0 (s_aload 1 (s_invV l D (d0, 0, 0) 4 m_Re_isThe 1 (s_if_eq (w_GR_of_27 l D d0 B Q) (s_iload 3 (s_if_le (w_GR_of_37 l D d0 B Q) (w_GR_of_27 l D d0 B Q))))))) (fun _ => Q.2))))))
theorem GR_of_6 {l : Launch} {D : qD} {d0 : Nat} {B : Nat × Nat} {Q : xQ} : qI (w_GR_of_6 l D d0 B Q) (xR l D (d0 + 1, B) m_GR_of 6 Q) := sorry
def w_GR_of_0 (l : Launch) (D : qD) (d0 : Nat) (B : Nat × Nat) (Q : xQ) : qK := (s_aload 0 (s_invV l D (d0, 0, 0) 4 m_Re_next 0 (s_ic (0) (s_istore 3 (xR l D (d0 + 1, B) m_GR_of 6 Q)))))
theorem GR_of_0 {l : Launch} {D : qD} {d0 : Nat} {B : Nat × Nat} {Q : xQ} : qI (w_GR_of_0 l D d0 B Q) (xR l D (d0 + 1, B) m_GR_of 0 Q) := sorry
theorem lm_GR_90 : q_gV "DrawingHouse$GraphReader" 90 4 1 m_GR_name := sorry
theorem lm_GR_96 : q_gV "DrawingHouse$GraphReader" 96 4 2 m_GR_of := sorry
theorem lf_GR_100 : q_gF "DrawingHouse$GraphReader" 100 3 6 2 := sorry
def w_GR_node_42 (l : Launch) (D : qD) (d0 : Nat) (B : Nat × Nat) (Q : xQ) : qK := (s_aload 0 (s_ic (59) (s_tinvV l D (d0, 0, 0) 4 m_Re_must 1 (s_vret Q.1) (fun _ => Q.2))))
theorem GR_node_42 {l : Launch} {D : qD} {d0 : Nat} {B : Nat × Nat} {Q : xQ} : qI (w_GR_node_42 l D d0 B Q) (xR l D (d0 + 1, B) m_GR_node 42 Q) := sorry
def w_GR_node_0 (l : Launch) (D : qD) (d0 : Nat) (B : Nat × Nat) (Q : xQ) : qK := (s_aload 0 (s_invV l D (d0, 0, 0) 4 m_Re_next 0 (s_aload 0 (s_iload 1 (s_tinvV l D (d0, 0, 0) 4 m_GR_name 1 (s_istore 2 (s_aload 0 (s_ic (91) (s_invV l D (d0, 0, 0) 4 m_Re_is 1 (s_if_eq (w_GR_node_42 l D d0 B Q) (s_aload 0 (s_sc (-25) (s_ic (99) (s_tinvV l D (d0, 0, 0) 4 m_GR_of 2 (s_istore 3 (s_iload 3 (s_if_le (w_GR_node_42 l D d0 B Q) (s_aload 0 (s_getR 4 0 (s_getR 3 6 (s_iload 2 (s_iload 3 (s_iast (w_GR_node_42 l D d0 B Q)))))))))) (fun _ => Q.2)))))))))) (fun _ => Q.2))))))
theorem GR_node_0 {l : Launch} {D : qD} {d0 : Nat} {B : Nat × Nat} {Q : xQ} : qI (w_GR_node_0 l D d0 B Q) (xR l D (d0 + 1, B) m_GR_node 0 Q) := sorry
theorem lm_GR_120 : q_gV "DrawingHouse$GraphReader" 120 3 3 m_Gr_addEdge := sorry
theorem lf_GR_106 : q_gF "DrawingHouse$GraphReader" 106 3 1 0 := sorry
theorem lm_GR_116 : q_gV "DrawingHouse$GraphReader" 116 3 2 m_Gr_between := sorry
def w_GR_edge_87 (l : Launch) (D : qD) (d0 : Nat) (B : Nat × Nat) (Q : xQ) : qK := (s_aload 0 (s_iload 3 (s_tinvV l D (d0, 0, 0) 4 m_GR_name 1 (s_istore 5 (s_aload 0 (s_getR 4 0 (s_iload 1 (s_iload 5 (s_iload 2 (s_Gr_addEdge d0 (s_pop (s_iload 5 (s_iret Q.1)))))))))) (fun _ => Q.2))))
theorem GR_edge_87 {l : Launch} {D : qD} {d0 : Nat} {B : Nat × Nat} {Q : xQ} : qI (w_GR_edge_87 l D d0 B Q) (xR l D (d0 + 1, B) m_GR_edge 87 Q) := sorry
def w_GR_edge_67 (l : Launch) (D : qD) (d0 : Nat) (B : Nat × Nat) (Q : xQ) : qK := (s_aload 0 (s_getR 4 0 (s_getI 3 1 (s_ic (48) (s_icmp_ne (w_GR_edge_87 l D d0 B Q) (s_aload 0 (s_ic (3) (s_iload 4 (s_invV l D (d0, 0, 0) 4 m_Re_fails 2 (s_athrow Q.2))))))))))
theorem GR_edge_67 {l : Launch} {D : qD} {d0 : Nat} {B : Nat × Nat} {Q : xQ} : qI (w_GR_edge_67 l D d0 B Q) (xR l D (d0 + 1, B) m_GR_edge 67 Q) := sorry
def w_GR_edge_59 (l : Launch) (D : qD) (d0 : Nat) (B : Nat × Nat) (Q : xQ) : qK := (s_aload 0 (s_ic (2) (s_iload 4 (s_invV l D (d0, 0, 0) 4 m_Re_fails 2 (s_athrow Q.2)))))
theorem GR_edge_59 {l : Launch} {D : qD} {d0 : Nat} {B : Nat × Nat} {Q : xQ} : qI (w_GR_edge_59 l D d0 B Q) (xR l D (d0 + 1, B) m_GR_edge 59 Q) := sorry
def w_GR_edge_0 (l : Launch) (D : qD) (d0 : Nat) (B : Nat × Nat) (Q : xQ) : qK := (s_aload 0 (s_aload 0 (s_invV l D (d0, 0, 0) 4 m_GR_isName 0 (s_tinvV l D (d0, 0, 0) 4 m_Re_need 1 (s_aload 0 (s_getI 4 6 (s_istore 4 (s_aload 0 (s_getR 4 0 (s_aload 0 (s_getR 4 1 (s_iload 4 (s_aload 0 (s_invV l D (d0, 0, 0) 4 m_Re_wordSize 0 (s_invV l D (d0, 0, 0) 3 m_Gr_find 3 (s_istore 5 (s_iload 5 (s_iload 1 (s_icmp_eq (w_GR_edge_59 l D d0 B Q) (s_iload 5 (s_ic (-1) (s_icmp_eq (w_GR_edge_67 l D d0 B Q) (s_aload 0 (s_getR 4 0 (s_iload 1 (s_iload 5 (s_invV l D (d0, 0, 0) 3 m_Gr_between 2 (s_ic (-1) (s_icmp_eq (w_GR_edge_67 l D d0 B Q) (w_GR_edge_59 l D d0 B Q)))))))))))))))))))))))))) (fun _ => Q.2)))))
theorem GR_edge_0 {l : Launch} {D : qD} {d0 : Nat} {B : Nat × Nat} {Q : xQ} : qI (w_GR_edge_0 l D d0 B Q) (xR l D (d0 + 1, B) m_GR_edge 0 Q) := sorry
theorem lf_GR_114 : q_gF "DrawingHouse$GraphReader" 114 3 10 2 := sorry
theorem lm_GR_108 : q_gV "DrawingHouse$GraphReader" 108 4 3 m_GR_edge := sorry
def w_GR_edges_133 (l : Launch) (D : qD) (d0 : Nat) (B : Nat × Nat) (Q : xQ) : qK := (s_aload 0 (s_ic (59) (s_tinvV l D (d0, 0, 0) 4 m_Re_must 1 (s_vret Q.1) (fun _ => Q.2))))
theorem GR_edges_133 {l : Launch} {D : qD} {d0 : Nat} {B : Nat × Nat} {Q : xQ} : qI (w_GR_edges_133 l D d0 B Q) (xR l D (d0 + 1, B) m_GR_edges 133 Q) := sorry
def w_GR_edges_98 (l : Launch) (D : qD) (d0 : Nat) (B : Nat × Nat) (Q : xQ) : qK := (s_iload 5 (s_aload 0 (s_getR 4 0 (s_getI 3 1 (s_icmp_ge (w_GR_edges_133 l D d0 B Q) (s_iload 4 (s_if_le (w_GR_edges_133 l D d0 B Q) (s_aload 0 (s_getR 4 0 (s_getR 3 10 (s_iload 5 (s_iload 4 (s_iast (s_iinc 5 (1) (xR l D (d0 + 1, B) m_GR_edges 98 Q)))))))))))))))
theorem GR_edges_98 {l : Launch} {D : qD} {d0 : Nat} {B : Nat × Nat} {Q : xQ} : qI (w_GR_edges_98 l D d0 B Q) (xR l D (d0 + 1, B) m_GR_edges 98 Q) := sorry
def w_GR_edges_76 (l : Launch) (D : qD) (d0 : Nat) (B : Nat × Nat) (Q : xQ) : qK := (s_aload 0 (s_ic (91) (s_invV l D (d0, 0, 0) 4 m_Re_is 1 (s_if_eq (w_GR_edges_133 l D d0 B Q) (s_aload 0 (s_sc (-26) (s_ic (9) (s_tinvV l D (d0, 0, 0) 4 m_GR_of 2 (s_istore 4 (s_iload 2 (s_istore 5 (xR l D (d0 + 1, B) m_GR_edges 98 Q)))) (fun _ => Q.2)))))))))
theorem GR_edges_76 {l : Launch} {D : qD} {d0 : Nat} {B : Nat × Nat} {Q : xQ} : qI (w_GR_edges_76 l D d0 B Q) (xR l D (d0 + 1, B) m_GR_edges 76 Q) := sorry
def w_GR_edges_42 (l : Launch) (D : qD) (d0 : Nat) (B : Nat × Nat) (Q : xQ) : qK := (s_tinvV l D (d0, 0, 0) 4 m_Re_need 1 (s_aload 0 (s_invV l D (d0, 0, 0) 4 m_Re_next 0 (s_aload 0 (s_iload 3 (s_iload 4 (s_iload 1 (s_tinvV l D (d0, 0, 0) 4 m_GR_edge 3 (s_istore 3 (s_aload 0 (s_ic (59) (s_invV l D (d0, 0, 0) 4 m_Re_is 1 (s_if_ne (w_GR_edges_76 l D d0 B Q) (s_aload 0 (s_ic (91) (s_invV l D (d0, 0, 0) 4 m_Re_is 1 (s_if_eq (xR l D (d0 + 1, B) m_GR_edges 14 Q) (w_GR_edges_76 l D d0 B Q)))))))))) (fun _ => Q.2)))))))) (fun _ => Q.2))
theorem GR_edges_42 {l : Launch} {D : qD} {d0 : Nat} {B : Nat × Nat} {Q : xQ} : qI (w_GR_edges_42 l D d0 B Q) (xR l D (d0 + 1, B) m_GR_edges 42 Q) := sorry
def w_GR_edges_41 (l : Launch) (D : qD) (d0 : Nat) (B : Nat × Nat) (Q : xQ) : qK := (s_ic (0) (w_GR_edges_42 l D d0 B Q))
theorem GR_edges_41 {l : Launch} {D : qD} {d0 : Nat} {B : Nat × Nat} {Q : xQ} : qI (w_GR_edges_41 l D d0 B Q) (xR l D (d0 + 1, B) m_GR_edges 41 Q) := sorry
def w_GR_edges_37 (l : Launch) (D : qD) (d0 : Nat) (B : Nat × Nat) (Q : xQ) : qK := (s_ic (1) (w_GR_edges_42 l D d0 B Q))
theorem GR_edges_37 {l : Launch} {D : qD} {d0 : Nat} {B : Nat × Nat} {Q : xQ} : qI (w_GR_edges_37 l D d0 B Q) (xR l D (d0 + 1, B) m_GR_edges 37 Q) := sorry
def w_GR_edges_14 (l : Launch) (D : qD) (d0 : Nat) (B : Nat × Nat) (Q : xQ) : qK := (s_aload 0 (s_ic (62) (s_invV l D (d0, 0, 0) 4 m_Re_is 1 (s_istore 4 (s_aload 0 (s_iload 4 (s_if_ne (w_GR_edges_37 l D d0 B Q) (s_aload 0 (s_ic (45) (s_invV l D (d0, 0, 0) 4 m_Re_is 1 (s_if_eq (w_GR_edges_41 l D d0 B Q) (w_GR_edges_37 l D d0 B Q))))))))))))
theorem GR_edges_14 {l : Launch} {D : qD} {d0 : Nat} {B : Nat × Nat} {Q : xQ} : qI (w_GR_edges_14 l D d0 B Q) (xR l D (d0 + 1, B) m_GR_edges 14 Q) := sorry
def w_GR_edges_0 (l : Launch) (D : qD) (d0 : Nat) (B : Nat × Nat) (Q : xQ) : qK := (s_aload 0 (s_getR 4 0 (s_getI 3 1 (s_istore 2 (s_aload 0 (s_iload 1 (s_tinvV l D (d0, 0, 0) 4 m_GR_name 1 (s_istore 3 (xR l D (d0 + 1, B) m_GR_edges 14 Q)) (fun _ => Q.2))))))))
theorem GR_edges_0 {l : Launch} {D : qD} {d0 : Nat} {B : Nat × Nat} {Q : xQ} : qI (w_GR_edges_0 l D d0 B Q) (xR l D (d0 + 1, B) m_GR_edges 0 Q) := sorry
theorem lf_GR_127 : q_gF "DrawingHouse$GraphReader" 127 3 2 0 := sorry
theorem lp_GR_127 : q_pF "DrawingHouse$GraphReader" 127 3 2 0 (.int) false := sorry
theorem lf_GR_133 : q_gF "DrawingHouse$GraphReader" 133 3 12 2 := sorry
theorem lf_GR_136 : q_gF "DrawingHouse$GraphReader" 136 3 13 2 := sorry
theorem lf_GR_139 : q_gF "DrawingHouse$GraphReader" 139 3 4 2 := sorry
theorem lm_GR_31 : q_gV "DrawingHouse$GraphReader" 31 4 1 m_GR_items := sorry
theorem lm_GR_130 : q_gV "DrawingHouse$GraphReader" 130 3 1 m_Gr_deep := sorry
def w_GR_group_34 (l : Launch) (D : qD) (d0 : Nat) (B : Nat × Nat) (Q : xQ) : qK := (s_aload 0 (s_invV l D (d0, 0, 0) 4 m_Re_next 0 (s_aload 0 (s_aload 0 (s_invV l D (d0, 0, 0) 4 m_GR_isName 0 (s_tinvV l D (d0, 0, 0) 4 m_Re_need 1 (s_aload 0 (s_getR 4 0 (s_getI 3 2 (s_istore 2 (s_aload 0 (s_getR 4 0 (s_dup (s_getI 3 2 (s_ic (1) (s_iadd (s_putI 3 2 (s_aload 0 (s_getR 4 0 (s_getR 3 12 (s_iload 2 (s_iload 1 (s_iast (s_aload 0 (s_getR 4 0 (s_getR 3 13 (s_iload 2 (s_aload 0 (s_invV l D (d0, 0, 0) 4 m_Re_wordSize 0 (s_iast (s_aload 0 (s_getR 4 1 (s_aload 0 (s_getI 4 6 (s_aload 0 (s_getR 4 0 (s_getR 3 4 (s_ic (8) (s_iload 2 (s_imul (s_aload 0 (s_invV l D (d0, 0, 0) 4 m_Re_wordSize 0 (s_acopy (s_aload 0 (s_invV l D (d0, 0, 0) 4 m_Re_next 0 (s_aload 0 (s_ic (123) (s_tinvV l D (d0, 0, 0) 4 m_Re_must 1 (s_aload 0 (s_iload 2 (s_tinvV l D (d0, 0, 0) 4 m_GR_items 1 (s_aload 0 (s_ic (125) (s_tinvV l D (d0, 0, 0) 4 m_Re_must 1 (s_vret Q.1) (fun _ => Q.2)))) (fun _ => Q.2)))) (fun _ => Q.2))))))))))))))))))))))))))))))))))))))))))) (fun _ => Q.2)))))))
theorem GR_group_34 {l : Launch} {D : qD} {d0 : Nat} {B : Nat × Nat} {Q : xQ} : qI (w_GR_group_34 l D d0 B Q) (xR l D (d0 + 1, B) m_GR_group 34 Q) := sorry
def w_GR_group_24 (l : Launch) (D : qD) (d0 : Nat) (B : Nat × Nat) (Q : xQ) : qK := (s_aload 0 (s_ic (3) (s_aload 0 (s_getI 4 6 (s_invV l D (d0, 0, 0) 4 m_Re_fails 2 (s_athrow Q.2))))))
theorem GR_group_24 {l : Launch} {D : qD} {d0 : Nat} {B : Nat × Nat} {Q : xQ} : qI (w_GR_group_24 l D d0 B Q) (xR l D (d0 + 1, B) m_GR_group 24 Q) := sorry
def w_GR_group_0 (l : Launch) (D : qD) (d0 : Nat) (B : Nat × Nat) (Q : xQ) : qK := (s_aload 0 (s_getR 4 0 (s_getI 3 2 (s_ic (8) (s_icmp_eq (w_GR_group_24 l D d0 B Q) (s_aload 0 (s_getR 4 0 (s_iload 1 (s_invV l D (d0, 0, 0) 3 m_Gr_deep 1 (s_ic (4) (s_icmp_ne (w_GR_group_34 l D d0 B Q) (w_GR_group_24 l D d0 B Q))))))))))))
theorem GR_group_0 {l : Launch} {D : qD} {d0 : Nat} {B : Nat × Nat} {Q : xQ} : qI (w_GR_group_0 l D d0 B Q) (xR l D (d0 + 1, B) m_GR_group 0 Q) := sorry
theorem lm_GR_56 : q_gV "DrawingHouse$GraphReader" 56 4 1 m_GR_edges := sorry
theorem lm_GR_54 : q_gV "DrawingHouse$GraphReader" 54 4 1 m_GR_group := sorry
theorem lm_GR_52 : q_gV "DrawingHouse$GraphReader" 52 4 1 m_GR_node := sorry
def w_GR_items_50 (l : Launch) (D : qD) (d0 : Nat) (B : Nat × Nat) (Q : xQ) : qK := (s_vret Q.1)
theorem GR_items_50 {l : Launch} {D : qD} {d0 : Nat} {B : Nat × Nat} {Q : xQ} : qI (w_GR_items_50 l D d0 B Q) (xR l D (d0 + 1, B) m_GR_items 50 Q) := sorry
def w_GR_items_42 (l : Launch) (D : qD) (d0 : Nat) (B : Nat × Nat) (Q : xQ) : qK := (s_aload 0 (s_iload 1 (s_tinvV l D (d0, 0, 0) 4 m_GR_edges 1 (xR l D (d0 + 1, B) m_GR_items 0 Q) (fun _ => Q.2))))
theorem GR_items_42 {l : Launch} {D : qD} {d0 : Nat} {B : Nat × Nat} {Q : xQ} : qI (w_GR_items_42 l D d0 B Q) (xR l D (d0 + 1, B) m_GR_items 42 Q) := sorry
def w_GR_items_25 (l : Launch) (D : qD) (d0 : Nat) (B : Nat × Nat) (Q : xQ) : qK := (s_aload 0 (s_sc (-24) (s_invV l D (d0, 0, 0) 4 m_Re_isThe 1 (s_if_eq (w_GR_items_42 l D d0 B Q) (s_aload 0 (s_iload 1 (s_tinvV l D (d0, 0, 0) 4 m_GR_group 1 (xR l D (d0 + 1, B) m_GR_items 0 Q) (fun _ => Q.2))))))))
theorem GR_items_25 {l : Launch} {D : qD} {d0 : Nat} {B : Nat × Nat} {Q : xQ} : qI (w_GR_items_25 l D d0 B Q) (xR l D (d0 + 1, B) m_GR_items 25 Q) := sorry
def w_GR_items_0 (l : Launch) (D : qD) (d0 : Nat) (B : Nat × Nat) (Q : xQ) : qK := (s_aload 0 (s_ic (1) (s_invV l D (d0, 0, 0) 4 m_Re_is 1 (s_if_eq (w_GR_items_50 l D d0 B Q) (s_aload 0 (s_sc (-23) (s_invV l D (d0, 0, 0) 4 m_Re_isThe 1 (s_if_eq (w_GR_items_25 l D d0 B Q) (s_aload 0 (s_iload 1 (s_tinvV l D (d0, 0, 0) 4 m_GR_node 1 (xR l D (d0 + 1, B) m_GR_items 0 Q) (fun _ => Q.2))))))))))))
theorem GR_items_0 {l : Launch} {D : qD} {d0 : Nat} {B : Nat × Nat} {Q : xQ} : qI (w_GR_items_0 l D d0 B Q) (xR l D (d0 + 1, B) m_GR_items 0 Q) := sorry
theorem lm_GR_25 : q_gV "DrawingHouse$GraphReader" 25 3 0 m_Gr_clear := sorry
def w_GR_read_27 (l : Launch) (D : qD) (d0 : Nat) (B : Nat × Nat) (Q : xQ) : qK := (s_astore 1 (s_ic (0) (s_zret Q.1)))
theorem GR_read_27 {l : Launch} {D : qD} {d0 : Nat} {B : Nat × Nat} {Q : xQ} : qI (w_GR_read_27 l D d0 B Q) (xR l D (d0 + 1, B) m_GR_read 27 Q) := sorry
def w_GR_read_0 (l : Launch) (D : qD) (d0 : Nat) (B : Nat × Nat) (Q : xQ) : qK := (s_aload 0 (s_getR 4 0 (s_Gr_clear d0 (s_aload 0 (s_invV l D (d0, 0, 0) 4 m_Re_next 0 (s_aload 0 (s_ic (0) (s_tinvV l D (d0, 0, 0) 4 m_GR_items 1 (s_aload 0 (s_aload 0 (s_ic (0) (s_invV l D (d0, 0, 0) 4 m_Re_is 1 (s_tinvV l D (d0, 0, 0) 4 m_Re_need 1 (s_ic (1) (s_zret Q.1)) (fun ls z h => (q_shp z).1 = 5 ∧ (w_GR_read_27 l D d0 B Q) ls [.inr (.inr z)] h)))))) (fun ls z h => (q_shp z).1 = 5 ∧ (w_GR_read_27 l D d0 B Q) ls [.inr (.inr z)] h)))))))))
theorem GR_read_0 {l : Launch} {D : qD} {d0 : Nat} {B : Nat × Nat} {Q : xQ} : qI (w_GR_read_0 l D d0 B Q) (xR l D (d0 + 1, B) m_GR_read 0 Q) := sorry
end
section
/-! printed by gen/gx.py: Style -/
theorem lf_Sy_82 : q_gF "DrawingHouse$Style" 82 6 4 0 := sorry
theorem lp_Sy_82 : q_pF "DrawingHouse$Style" 82 6 4 0 (.int) false := sorry
theorem lu_Sy_85_6 : q_gU "DrawingHouse$Style" 85 6 0 "DrawingHouse$Reader" ⟨"DrawingHouse$Style", "next", "()V"⟩ m_Re_next := sorry
theorem lf_Sy_135_6 : q_gF "DrawingHouse$Style" 135 6 15 0 := sorry
theorem lu_Sy_138_6 : q_gU "DrawingHouse$Style" 138 6 2 "DrawingHouse$Reader" ⟨"DrawingHouse$Style", "fails", "(II)LDrawingHouse$Wrong;"⟩ m_Re_fails := sorry
def w_Sy_opens_19 (l : Launch) (D : qD) (d0 : Nat) (B : Nat × Nat) (Q : xQ) : qK := (s_aload 0 (s_dup (s_getI 6 4 (s_ic (1) (s_iadd (s_putI 6 4 (s_aload 0 (s_invV l D (d0, 0, 0) 6 m_Re_next 0 (s_vret Q.1)))))))))
theorem Sy_opens_19 {l : Launch} {D : qD} {d0 : Nat} {B : Nat × Nat} {Q : xQ} : qI (w_Sy_opens_19 l D d0 B Q) (xR l D (d0 + 1, B) m_Sy_opens 19 Q) := sorry
def w_Sy_opens_0 (l : Launch) (D : qD) (d0 : Nat) (B : Nat × Nat) (Q : xQ) : qK := (s_aload 0 (s_getI 6 4 (s_ic (12) (s_icmp_ne (w_Sy_opens_19 l D d0 B Q) (s_aload 0 (s_ic (2) (s_aload 0 (s_getI 6 15 (s_invV l D (d0, 0, 0) 6 m_Re_fails 2 (s_athrow Q.2))))))))))
theorem Sy_opens_0 {l : Launch} {D : qD} {d0 : Nat} {B : Nat × Nat} {Q : xQ} : qI (w_Sy_opens_0 l D d0 B Q) (xR l D (d0 + 1, B) m_Sy_opens 0 Q) := sorry
theorem lu_Sy_95_6 : q_gU "DrawingHouse$Style" 95 6 1 "DrawingHouse$Reader" ⟨"DrawingHouse$Style", "need", "(Z)V"⟩ m_Re_need := sorry
theorem lm_Sy_115 : q_gV "DrawingHouse$Style" 115 6 2 m_Sy_put := sorry
theorem lu_Sy_103_6 : q_gU "DrawingHouse$Style" 103 6 1 "DrawingHouse$Reader" ⟨"DrawingHouse$Style", "isThe", "(Ljava/lang/String;)Z"⟩ m_Re_isThe := sorry
theorem lf_Sy_60 : q_gF "DrawingHouse$Style" 60 6 7 2 := sorry
theorem lu_Sy_88_6 : q_gU "DrawingHouse$Style" 88 6 1 "DrawingHouse$Reader" ⟨"DrawingHouse$Style", "is", "(I)Z"⟩ m_Re_is := sorry
theorem lf_Sy_107 : q_gF "DrawingHouse$Style" 107 6 5 0 := sorry
theorem lf_Sy_40 : q_gF "DrawingHouse$Style" 40 6 6 2 := sorry
theorem lm_Sy_153 : q_gV "DrawingHouse$Style" 153 6 0 m_Sy_opens := sorry
theorem lm_Sy_132 : q_gV "DrawingHouse$Style" 132 6 0 m_Sy_sum := sorry
theorem lu_Sy_122_6 : q_gU "DrawingHouse$Style" 122 6 1 "DrawingHouse$Reader" ⟨"DrawingHouse$Style", "must", "(I)V"⟩ m_Re_must := sorry
theorem lf_Sy_162_6 : q_gF "DrawingHouse$Style" 162 6 16 0 := sorry
def w_Sy_factor_137 (l : Launch) (D : qD) (d0 : Nat) (B : Nat × Nat) (Q : xQ) : qK := (s_vret Q.1)
theorem Sy_factor_137 {l : Launch} {D : qD} {d0 : Nat} {B : Nat × Nat} {Q : xQ} : qI (w_Sy_factor_137 l D d0 B Q) (xR l D (d0 + 1, B) m_Sy_factor 137 Q) := sorry
def w_Sy_factor_124 (l : Launch) (D : qD) (d0 : Nat) (B : Nat × Nat) (Q : xQ) : qK := (s_tinvV l D (d0, 0, 0) 6 m_Re_need 1 (s_aload 0 (s_ic (4) (s_iload 2 (s_Sy_put d0 (s_aload 0 (s_invV l D (d0, 0, 0) 6 m_Re_next 0 (w_Sy_factor_137 l D d0 B Q))))))) (fun _ => Q.2))
theorem Sy_factor_124 {l : Launch} {D : qD} {d0 : Nat} {B : Nat × Nat} {Q : xQ} : qI (w_Sy_factor_124 l D d0 B Q) (xR l D (d0 + 1, B) m_Sy_factor 124 Q) := sorry
def w_Sy_factor_123 (l : Launch) (D : qD) (d0 : Nat) (B : Nat × Nat) (Q : xQ) : qK := (s_ic (0) (w_Sy_factor_124 l D d0 B Q))
theorem Sy_factor_123 {l : Launch} {D : qD} {d0 : Nat} {B : Nat × Nat} {Q : xQ} : qI (w_Sy_factor_123 l D d0 B Q) (xR l D (d0 + 1, B) m_Sy_factor 123 Q) := sorry
def w_Sy_factor_112 (l : Launch) (D : qD) (d0 : Nat) (B : Nat × Nat) (Q : xQ) : qK := (s_aload 0 (s_iload 2 (s_aload 1 (s_alen (s_icmp_ge (w_Sy_factor_123 l D d0 B Q) (s_ic (1) (w_Sy_factor_124 l D d0 B Q)))))))
theorem Sy_factor_112 {l : Launch} {D : qD} {d0 : Nat} {B : Nat × Nat} {Q : xQ} : qI (w_Sy_factor_112 l D d0 B Q) (xR l D (d0 + 1, B) m_Sy_factor 112 Q) := sorry
def w_Sy_factor_90 (l : Launch) (D : qD) (d0 : Nat) (B : Nat × Nat) (Q : xQ) : qK := (s_iload 2 (s_aload 1 (s_alen (s_icmp_ge (w_Sy_factor_112 l D d0 B Q) (s_aload 0 (s_aload 1 (s_iload 2 (s_aald (s_invV l D (d0, 0, 0) 6 m_Re_isThe 1 (s_if_ne (w_Sy_factor_112 l D d0 B Q) (s_iinc 2 (1) (xR l D (d0 + 1, B) m_Sy_factor 90 Q))))))))))))
theorem Sy_factor_90 {l : Launch} {D : qD} {d0 : Nat} {B : Nat × Nat} {Q : xQ} : qI (w_Sy_factor_90 l D d0 B Q) (xR l D (d0 + 1, B) m_Sy_factor 90 Q) := sorry
def w_Sy_factor_87 (l : Launch) (D : qD) (d0 : Nat) (B : Nat × Nat) (Q : xQ) : qK := (s_astore 1 (s_ic (0) (s_istore 2 (xR l D (d0 + 1, B) m_Sy_factor 90 Q))))
theorem Sy_factor_87 {l : Launch} {D : qD} {d0 : Nat} {B : Nat × Nat} {Q : xQ} : qI (w_Sy_factor_87 l D d0 B Q) (xR l D (d0 + 1, B) m_Sy_factor 87 Q) := sorry
def w_Sy_factor_83 (l : Launch) (D : qD) (d0 : Nat) (B : Nat × Nat) (Q : xQ) : qK := (s_aload 0 (s_getR 6 7 (w_Sy_factor_87 l D d0 B Q)))
theorem Sy_factor_83 {l : Launch} {D : qD} {d0 : Nat} {B : Nat × Nat} {Q : xQ} : qI (w_Sy_factor_83 l D d0 B Q) (xR l D (d0 + 1, B) m_Sy_factor 83 Q) := sorry
def w_Sy_factor_60 (l : Launch) (D : qD) (d0 : Nat) (B : Nat × Nat) (Q : xQ) : qK := (s_aload 0 (s_aload 0 (s_ic (1) (s_invV l D (d0, 0, 0) 6 m_Re_is 1 (s_tinvV l D (d0, 0, 0) 6 m_Re_need 1 (s_aload 0 (s_getI 6 5 (s_if_eq (w_Sy_factor_83 l D d0 B Q) (s_aload 0 (s_getR 6 6 (w_Sy_factor_87 l D d0 B Q)))))) (fun _ => Q.2))))))
theorem Sy_factor_60 {l : Launch} {D : qD} {d0 : Nat} {B : Nat × Nat} {Q : xQ} : qI (w_Sy_factor_60 l D d0 B Q) (xR l D (d0 + 1, B) m_Sy_factor 60 Q) := sorry
def w_Sy_factor_24 (l : Launch) (D : qD) (d0 : Nat) (B : Nat × Nat) (Q : xQ) : qK := (s_aload 0 (s_ic (40) (s_invV l D (d0, 0, 0) 6 m_Re_is 1 (s_if_eq (w_Sy_factor_60 l D d0 B Q) (s_aload 0 (s_tinvV l D (d0, 0, 0) 6 m_Sy_opens 0 (s_aload 0 (s_tinvV l D (d0, 0, 0) 6 m_Sy_sum 0 (s_aload 0 (s_ic (41) (s_tinvV l D (d0, 0, 0) 6 m_Re_must 1 (s_aload 0 (s_dup (s_getI 6 4 (s_ic (1) (s_isub (s_putI 6 4 (w_Sy_factor_137 l D d0 B Q))))))) (fun _ => Q.2)))) (fun _ => Q.2))) (fun _ => Q.2)))))))
theorem Sy_factor_24 {l : Launch} {D : qD} {d0 : Nat} {B : Nat × Nat} {Q : xQ} : qI (w_Sy_factor_24 l D d0 B Q) (xR l D (d0 + 1, B) m_Sy_factor 24 Q) := sorry
def w_Sy_factor_0 (l : Launch) (D : qD) (d0 : Nat) (B : Nat × Nat) (Q : xQ) : qK := (s_aload 0 (s_ic (2) (s_invV l D (d0, 0, 0) 6 m_Re_is 1 (s_if_eq (w_Sy_factor_24 l D d0 B Q) (s_aload 0 (s_ic (3) (s_aload 0 (s_getI 6 16 (s_Sy_put d0 (s_aload 0 (s_invV l D (d0, 0, 0) 6 m_Re_next 0 (w_Sy_factor_137 l D d0 B Q))))))))))))
theorem Sy_factor_0 {l : Launch} {D : qD} {d0 : Nat} {B : Nat × Nat} {Q : xQ} : qI (w_Sy_factor_0 l D d0 B Q) (xR l D (d0 + 1, B) m_Sy_factor 0 Q) := sorry
theorem lm_Sy_159 : q_gV "DrawingHouse$Style" 159 6 0 m_Sy_factor := sorry
def w_Sy_product_56 (l : Launch) (D : qD) (d0 : Nat) (B : Nat × Nat) (Q : xQ) : qK := (s_vret Q.1)
theorem Sy_product_56 {l : Launch} {D : qD} {d0 : Nat} {B : Nat × Nat} {Q : xQ} : qI (w_Sy_product_56 l D d0 B Q) (xR l D (d0 + 1, B) m_Sy_product 56 Q) := sorry
def w_Sy_product_38 (l : Launch) (D : qD) (d0 : Nat) (B : Nat × Nat) (Q : xQ) : qK := (s_istore 1 (s_aload 0 (s_invV l D (d0, 0, 0) 6 m_Re_next 0 (s_aload 0 (s_tinvV l D (d0, 0, 0) 6 m_Sy_factor 0 (s_aload 0 (s_iload 1 (s_ic (0) (s_Sy_put d0 (xR l D (d0 + 1, B) m_Sy_product 4 Q))))) (fun _ => Q.2))))))
theorem Sy_product_38 {l : Launch} {D : qD} {d0 : Nat} {B : Nat × Nat} {Q : xQ} : qI (w_Sy_product_38 l D d0 B Q) (xR l D (d0 + 1, B) m_Sy_product 38 Q) := sorry
def w_Sy_product_36 (l : Launch) (D : qD) (d0 : Nat) (B : Nat × Nat) (Q : xQ) : qK := (s_ic (8) (w_Sy_product_38 l D d0 B Q))
theorem Sy_product_36 {l : Launch} {D : qD} {d0 : Nat} {B : Nat × Nat} {Q : xQ} : qI (w_Sy_product_36 l D d0 B Q) (xR l D (d0 + 1, B) m_Sy_product 36 Q) := sorry
def w_Sy_product_22 (l : Launch) (D : qD) (d0 : Nat) (B : Nat × Nat) (Q : xQ) : qK := (s_aload 0 (s_ic (42) (s_invV l D (d0, 0, 0) 6 m_Re_is 1 (s_if_eq (w_Sy_product_36 l D d0 B Q) (s_ic (7) (w_Sy_product_38 l D d0 B Q))))))
theorem Sy_product_22 {l : Launch} {D : qD} {d0 : Nat} {B : Nat × Nat} {Q : xQ} : qI (w_Sy_product_22 l D d0 B Q) (xR l D (d0 + 1, B) m_Sy_product 22 Q) := sorry
def w_Sy_product_4 (l : Launch) (D : qD) (d0 : Nat) (B : Nat × Nat) (Q : xQ) : qK := (s_aload 0 (s_ic (42) (s_invV l D (d0, 0, 0) 6 m_Re_is 1 (s_if_ne (w_Sy_product_22 l D d0 B Q) (s_aload 0 (s_ic (47) (s_invV l D (d0, 0, 0) 6 m_Re_is 1 (s_if_eq (w_Sy_product_56 l D d0 B Q) (w_Sy_product_22 l D d0 B Q)))))))))
theorem Sy_product_4 {l : Launch} {D : qD} {d0 : Nat} {B : Nat × Nat} {Q : xQ} : qI (w_Sy_product_4 l D d0 B Q) (xR l D (d0 + 1, B) m_Sy_product 4 Q) := sorry
def w_Sy_product_0 (l : Launch) (D : qD) (d0 : Nat) (B : Nat × Nat) (Q : xQ) : qK := (s_aload 0 (s_tinvV l D (d0, 0, 0) 6 m_Sy_factor 0 (xR l D (d0 + 1, B) m_Sy_product 4 Q) (fun _ => Q.2)))
theorem Sy_product_0 {l : Launch} {D : qD} {d0 : Nat} {B : Nat × Nat} {Q : xQ} : qI (w_Sy_product_0 l D d0 B Q) (xR l D (d0 + 1, B) m_Sy_product 0 Q) := sorry
theorem lm_Sy_156 : q_gV "DrawingHouse$Style" 156 6 0 m_Sy_product := sorry
def w_Sy_sum_55 (l : Launch) (D : qD) (d0 : Nat) (B : Nat × Nat) (Q : xQ) : qK := (s_vret Q.1)
theorem Sy_sum_55 {l : Launch} {D : qD} {d0 : Nat} {B : Nat × Nat} {Q : xQ} : qI (w_Sy_sum_55 l D d0 B Q) (xR l D (d0 + 1, B) m_Sy_sum 55 Q) := sorry
def w_Sy_sum_37 (l : Launch) (D : qD) (d0 : Nat) (B : Nat × Nat) (Q : xQ) : qK := (s_istore 1 (s_aload 0 (s_invV l D (d0, 0, 0) 6 m_Re_next 0 (s_aload 0 (s_tinvV l D (d0, 0, 0) 6 m_Sy_product 0 (s_aload 0 (s_iload 1 (s_ic (0) (s_Sy_put d0 (xR l D (d0 + 1, B) m_Sy_sum 4 Q))))) (fun _ => Q.2))))))
theorem Sy_sum_37 {l : Launch} {D : qD} {d0 : Nat} {B : Nat × Nat} {Q : xQ} : qI (w_Sy_sum_37 l D d0 B Q) (xR l D (d0 + 1, B) m_Sy_sum 37 Q) := sorry
def w_Sy_sum_35 (l : Launch) (D : qD) (d0 : Nat) (B : Nat × Nat) (Q : xQ) : qK := (s_ic (6) (w_Sy_sum_37 l D d0 B Q))
theorem Sy_sum_35 {l : Launch} {D : qD} {d0 : Nat} {B : Nat × Nat} {Q : xQ} : qI (w_Sy_sum_35 l D d0 B Q) (xR l D (d0 + 1, B) m_Sy_sum 35 Q) := sorry
def w_Sy_sum_22 (l : Launch) (D : qD) (d0 : Nat) (B : Nat × Nat) (Q : xQ) : qK := (s_aload 0 (s_ic (43) (s_invV l D (d0, 0, 0) 6 m_Re_is 1 (s_if_eq (w_Sy_sum_35 l D d0 B Q) (s_ic (5) (w_Sy_sum_37 l D d0 B Q))))))
theorem Sy_sum_22 {l : Launch} {D : qD} {d0 : Nat} {B : Nat × Nat} {Q : xQ} : qI (w_Sy_sum_22 l D d0 B Q) (xR l D (d0 + 1, B) m_Sy_sum 22 Q) := sorry
def w_Sy_sum_4 (l : Launch) (D : qD) (d0 : Nat) (B : Nat × Nat) (Q : xQ) : qK := (s_aload 0 (s_ic (43) (s_invV l D (d0, 0, 0) 6 m_Re_is 1 (s_if_ne (w_Sy_sum_22 l D d0 B Q) (s_aload 0 (s_ic (45) (s_invV l D (d0, 0, 0) 6 m_Re_is 1 (s_if_eq (w_Sy_sum_55 l D d0 B Q) (w_Sy_sum_22 l D d0 B Q)))))))))
theorem Sy_sum_4 {l : Launch} {D : qD} {d0 : Nat} {B : Nat × Nat} {Q : xQ} : qI (w_Sy_sum_4 l D d0 B Q) (xR l D (d0 + 1, B) m_Sy_sum 4 Q) := sorry
def w_Sy_sum_0 (l : Launch) (D : qD) (d0 : Nat) (B : Nat × Nat) (Q : xQ) : qK := (s_aload 0 (s_tinvV l D (d0, 0, 0) 6 m_Sy_product 0 (xR l D (d0 + 1, B) m_Sy_sum 4 Q) (fun _ => Q.2)))
theorem Sy_sum_0 {l : Launch} {D : qD} {d0 : Nat} {B : Nat × Nat} {Q : xQ} : qI (w_Sy_sum_0 l D d0 B Q) (xR l D (d0 + 1, B) m_Sy_sum 0 Q) := sorry
theorem lm_Sy_119 : q_gV "DrawingHouse$Style" 119 6 0 m_Sy_test := sorry
theorem lm_Sy_147 : q_gV "DrawingHouse$Style" 147 6 0 m_Sy_one_0 := sorry
def w_Sy_one_0_128 (l : Launch) (D : qD) (d0 : Nat) (B : Nat × Nat) (Q : xQ) : qK := (s_tinvV l D (d0, 0, 0) 6 m_Re_need 1 (s_aload 0 (s_invV l D (d0, 0, 0) 6 m_Re_next 0 (s_aload 0 (s_tinvV l D (d0, 0, 0) 6 m_Sy_sum 0 (s_aload 0 (s_iload 1 (s_ic (0) (s_Sy_put d0 (s_vret Q.1))))) (fun _ => Q.2))))) (fun _ => Q.2))
theorem Sy_one_0_128 {l : Launch} {D : qD} {d0 : Nat} {B : Nat × Nat} {Q : xQ} : qI (w_Sy_one_0_128 l D d0 B Q) (xR l D (d0 + 1, B) m_Sy_one_0 128 Q) := sorry
def w_Sy_one_0_127 (l : Launch) (D : qD) (d0 : Nat) (B : Nat × Nat) (Q : xQ) : qK := (s_ic (0) (w_Sy_one_0_128 l D d0 B Q))
theorem Sy_one_0_127 {l : Launch} {D : qD} {d0 : Nat} {B : Nat × Nat} {Q : xQ} : qI (w_Sy_one_0_127 l D d0 B Q) (xR l D (d0 + 1, B) m_Sy_one_0 127 Q) := sorry
def w_Sy_one_0_116 (l : Launch) (D : qD) (d0 : Nat) (B : Nat × Nat) (Q : xQ) : qK := (s_istore 1 (s_aload 0 (s_iload 1 (s_ic (-1) (s_icmp_eq (w_Sy_one_0_127 l D d0 B Q) (s_ic (1) (w_Sy_one_0_128 l D d0 B Q)))))))
theorem Sy_one_0_116 {l : Launch} {D : qD} {d0 : Nat} {B : Nat × Nat} {Q : xQ} : qI (w_Sy_one_0_116 l D d0 B Q) (xR l D (d0 + 1, B) m_Sy_one_0 116 Q) := sorry
def w_Sy_one_0_115 (l : Launch) (D : qD) (d0 : Nat) (B : Nat × Nat) (Q : xQ) : qK := (s_ic (-1) (w_Sy_one_0_116 l D d0 B Q))
theorem Sy_one_0_115 {l : Launch} {D : qD} {d0 : Nat} {B : Nat × Nat} {Q : xQ} : qI (w_Sy_one_0_115 l D d0 B Q) (xR l D (d0 + 1, B) m_Sy_one_0 115 Q) := sorry
def w_Sy_one_0_101 (l : Launch) (D : qD) (d0 : Nat) (B : Nat × Nat) (Q : xQ) : qK := (s_aload 0 (s_ic (62) (s_invV l D (d0, 0, 0) 6 m_Re_is 1 (s_if_eq (w_Sy_one_0_115 l D d0 B Q) (s_ic (11) (w_Sy_one_0_116 l D d0 B Q))))))
theorem Sy_one_0_101 {l : Launch} {D : qD} {d0 : Nat} {B : Nat × Nat} {Q : xQ} : qI (w_Sy_one_0_101 l D d0 B Q) (xR l D (d0 + 1, B) m_Sy_one_0 101 Q) := sorry
def w_Sy_one_0_87 (l : Launch) (D : qD) (d0 : Nat) (B : Nat × Nat) (Q : xQ) : qK := (s_aload 0 (s_ic (61) (s_invV l D (d0, 0, 0) 6 m_Re_is 1 (s_if_eq (w_Sy_one_0_101 l D d0 B Q) (s_ic (10) (w_Sy_one_0_116 l D d0 B Q))))))
theorem Sy_one_0_87 {l : Launch} {D : qD} {d0 : Nat} {B : Nat × Nat} {Q : xQ} : qI (w_Sy_one_0_87 l D d0 B Q) (xR l D (d0 + 1, B) m_Sy_one_0 87 Q) := sorry
def w_Sy_one_0_69 (l : Launch) (D : qD) (d0 : Nat) (B : Nat × Nat) (Q : xQ) : qK := (s_aload 0 (s_tinvV l D (d0, 0, 0) 6 m_Sy_sum 0 (s_aload 0 (s_ic (60) (s_invV l D (d0, 0, 0) 6 m_Re_is 1 (s_if_eq (w_Sy_one_0_87 l D d0 B Q) (s_ic (9) (w_Sy_one_0_116 l D d0 B Q)))))) (fun _ => Q.2)))
theorem Sy_one_0_69 {l : Launch} {D : qD} {d0 : Nat} {B : Nat × Nat} {Q : xQ} : qI (w_Sy_one_0_69 l D d0 B Q) (xR l D (d0 + 1, B) m_Sy_one_0 69 Q) := sorry
def w_Sy_one_0_35 (l : Launch) (D : qD) (d0 : Nat) (B : Nat × Nat) (Q : xQ) : qK := (s_aload 0 (s_ic (123) (s_invV l D (d0, 0, 0) 6 m_Re_is 1 (s_if_eq (w_Sy_one_0_69 l D d0 B Q) (s_aload 0 (s_tinvV l D (d0, 0, 0) 6 m_Sy_opens 0 (s_aload 0 (s_tinvV l D (d0, 0, 0) 6 m_Sy_test 0 (s_aload 0 (s_ic (125) (s_tinvV l D (d0, 0, 0) 6 m_Re_must 1 (s_aload 0 (s_dup (s_getI 6 4 (s_ic (1) (s_isub (s_putI 6 4 (s_vret Q.1))))))) (fun _ => Q.2)))) (fun _ => Q.2))) (fun _ => Q.2)))))))
theorem Sy_one_0_35 {l : Launch} {D : qD} {d0 : Nat} {B : Nat × Nat} {Q : xQ} : qI (w_Sy_one_0_35 l D d0 B Q) (xR l D (d0 + 1, B) m_Sy_one_0 35 Q) := sorry
def w_Sy_one_0_0 (l : Launch) (D : qD) (d0 : Nat) (B : Nat × Nat) (Q : xQ) : qK := (s_aload 0 (s_sc (-30) (s_invV l D (d0, 0, 0) 6 m_Re_isThe 1 (s_if_eq (w_Sy_one_0_35 l D d0 B Q) (s_aload 0 (s_tinvV l D (d0, 0, 0) 6 m_Sy_opens 0 (s_aload 0 (s_tinvV l D (d0, 0, 0) 6 m_Sy_one_0 0 (s_aload 0 (s_dup (s_getI 6 4 (s_ic (1) (s_isub (s_putI 6 4 (s_aload 0 (s_ic (14) (s_ic (0) (s_Sy_put d0 (s_vret Q.1))))))))))) (fun _ => Q.2))) (fun _ => Q.2)))))))
theorem Sy_one_0_0 {l : Launch} {D : qD} {d0 : Nat} {B : Nat × Nat} {Q : xQ} : qI (w_Sy_one_0_0 l D d0 B Q) (xR l D (d0 + 1, B) m_Sy_one_0 0 Q) := sorry
def w_Sy_both_0_31 (l : Launch) (D : qD) (d0 : Nat) (B : Nat × Nat) (Q : xQ) : qK := (s_vret Q.1)
theorem Sy_both_0_31 {l : Launch} {D : qD} {d0 : Nat} {B : Nat × Nat} {Q : xQ} : qI (w_Sy_both_0_31 l D d0 B Q) (xR l D (d0 + 1, B) m_Sy_both_0 31 Q) := sorry
def w_Sy_both_0_4 (l : Launch) (D : qD) (d0 : Nat) (B : Nat × Nat) (Q : xQ) : qK := (s_aload 0 (s_sc (-31) (s_invV l D (d0, 0, 0) 6 m_Re_isThe 1 (s_if_eq (w_Sy_both_0_31 l D d0 B Q) (s_aload 0 (s_invV l D (d0, 0, 0) 6 m_Re_next 0 (s_aload 0 (s_tinvV l D (d0, 0, 0) 6 m_Sy_one_0 0 (s_aload 0 (s_ic (12) (s_ic (0) (s_Sy_put d0 (xR l D (d0 + 1, B) m_Sy_both_0 4 Q))))) (fun _ => Q.2)))))))))
theorem Sy_both_0_4 {l : Launch} {D : qD} {d0 : Nat} {B : Nat × Nat} {Q : xQ} : qI (w_Sy_both_0_4 l D d0 B Q) (xR l D (d0 + 1, B) m_Sy_both_0 4 Q) := sorry
def w_Sy_both_0_0 (l : Launch) (D : qD) (d0 : Nat) (B : Nat × Nat) (Q : xQ) : qK := (s_aload 0 (s_tinvV l D (d0, 0, 0) 6 m_Sy_one_0 0 (xR l D (d0 + 1, B) m_Sy_both_0 4 Q) (fun _ => Q.2)))
theorem Sy_both_0_0 {l : Launch} {D : qD} {d0 : Nat} {B : Nat × Nat} {Q : xQ} : qI (w_Sy_both_0_0 l D d0 B Q) (xR l D (d0 + 1, B) m_Sy_both_0 0 Q) := sorry
theorem lm_Sy_142 : q_gV "DrawingHouse$Style" 142 6 0 m_Sy_both_0 := sorry
def w_Sy_test_31 (l : Launch) (D : qD) (d0 : Nat) (B : Nat × Nat) (Q : xQ) : qK := (s_vret Q.1)
theorem Sy_test_31 {l : Launch} {D : qD} {d0 : Nat} {B : Nat × Nat} {Q : xQ} : qI (w_Sy_test_31 l D d0 B Q) (xR l D (d0 + 1, B) m_Sy_test 31 Q) := sorry
def w_Sy_test_4 (l : Launch) (D : qD) (d0 : Nat) (B : Nat × Nat) (Q : xQ) : qK := (s_aload 0 (s_sc (-32) (s_invV l D (d0, 0, 0) 6 m_Re_isThe 1 (s_if_eq (w_Sy_test_31 l D d0 B Q) (s_aload 0 (s_invV l D (d0, 0, 0) 6 m_Re_next 0 (s_aload 0 (s_tinvV l D (d0, 0, 0) 6 m_Sy_both_0 0 (s_aload 0 (s_ic (13) (s_ic (0) (s_Sy_put d0 (xR l D (d0 + 1, B) m_Sy_test 4 Q))))) (fun _ => Q.2)))))))))
theorem Sy_test_4 {l : Launch} {D : qD} {d0 : Nat} {B : Nat × Nat} {Q : xQ} : qI (w_Sy_test_4 l D d0 B Q) (xR l D (d0 + 1, B) m_Sy_test 4 Q) := sorry
def w_Sy_test_0 (l : Launch) (D : qD) (d0 : Nat) (B : Nat × Nat) (Q : xQ) : qK := (s_aload 0 (s_tinvV l D (d0, 0, 0) 6 m_Sy_both_0 0 (xR l D (d0 + 1, B) m_Sy_test 4 Q) (fun _ => Q.2)))
theorem Sy_test_0 {l : Launch} {D : qD} {d0 : Nat} {B : Nat × Nat} {Q : xQ} : qI (w_Sy_test_0 l D d0 B Q) (xR l D (d0 + 1, B) m_Sy_test 0 Q) := sorry
theorem lf_Sy_69 : q_gF "DrawingHouse$Style" 69 6 8 2 := sorry
def w_Sy_setting_45 (l : Launch) (D : qD) (d0 : Nat) (B : Nat × Nat) (Q : xQ) : qK := (s_tinvV l D (d0, 0, 0) 6 m_Re_need 1 (s_aload 0 (s_invV l D (d0, 0, 0) 6 m_Re_next 0 (s_aload 0 (s_ic (61) (s_tinvV l D (d0, 0, 0) 6 m_Re_must 1 (s_aload 0 (s_tinvV l D (d0, 0, 0) 6 m_Sy_sum 0 (s_aload 0 (s_ic (16) (s_iload 1 (s_Sy_put d0 (s_vret Q.1))))) (fun _ => Q.2))) (fun _ => Q.2)))))) (fun _ => Q.2))
theorem Sy_setting_45 {l : Launch} {D : qD} {d0 : Nat} {B : Nat × Nat} {Q : xQ} : qI (w_Sy_setting_45 l D d0 B Q) (xR l D (d0 + 1, B) m_Sy_setting 45 Q) := sorry
def w_Sy_setting_44 (l : Launch) (D : qD) (d0 : Nat) (B : Nat × Nat) (Q : xQ) : qK := (s_ic (0) (w_Sy_setting_45 l D d0 B Q))
theorem Sy_setting_44 {l : Launch} {D : qD} {d0 : Nat} {B : Nat × Nat} {Q : xQ} : qI (w_Sy_setting_44 l D d0 B Q) (xR l D (d0 + 1, B) m_Sy_setting 44 Q) := sorry
def w_Sy_setting_30 (l : Launch) (D : qD) (d0 : Nat) (B : Nat × Nat) (Q : xQ) : qK := (s_aload 0 (s_iload 1 (s_aload 0 (s_getR 6 8 (s_alen (s_icmp_ge (w_Sy_setting_44 l D d0 B Q) (s_ic (1) (w_Sy_setting_45 l D d0 B Q))))))))
theorem Sy_setting_30 {l : Launch} {D : qD} {d0 : Nat} {B : Nat × Nat} {Q : xQ} : qI (w_Sy_setting_30 l D d0 B Q) (xR l D (d0 + 1, B) m_Sy_setting 30 Q) := sorry
def w_Sy_setting_2 (l : Launch) (D : qD) (d0 : Nat) (B : Nat × Nat) (Q : xQ) : qK := (s_iload 1 (s_aload 0 (s_getR 6 8 (s_alen (s_icmp_ge (w_Sy_setting_30 l D d0 B Q) (s_aload 0 (s_aload 0 (s_getR 6 8 (s_iload 1 (s_aald (s_invV l D (d0, 0, 0) 6 m_Re_isThe 1 (s_if_ne (w_Sy_setting_30 l D d0 B Q) (s_iinc 1 (1) (xR l D (d0 + 1, B) m_Sy_setting 2 Q))))))))))))))
theorem Sy_setting_2 {l : Launch} {D : qD} {d0 : Nat} {B : Nat × Nat} {Q : xQ} : qI (w_Sy_setting_2 l D d0 B Q) (xR l D (d0 + 1, B) m_Sy_setting 2 Q) := sorry
def w_Sy_setting_0 (l : Launch) (D : qD) (d0 : Nat) (B : Nat × Nat) (Q : xQ) : qK := (s_ic (0) (s_istore 1 (xR l D (d0 + 1, B) m_Sy_setting 2 Q)))
theorem Sy_setting_0 {l : Launch} {D : qD} {d0 : Nat} {B : Nat × Nat} {Q : xQ} : qI (w_Sy_setting_0 l D d0 B Q) (xR l D (d0 + 1, B) m_Sy_setting 0 Q) := sorry
theorem lm_Sy_126 : q_gV "DrawingHouse$Style" 126 6 0 m_Sy_setting := sorry
theorem lu_Sy_129_6 : q_gU "DrawingHouse$Style" 129 6 1 "DrawingHouse$Reader" ⟨"DrawingHouse$Style", "takes", "(I)Z"⟩ m_Re_takes := sorry
theorem lf_Sy_79 : q_gF "DrawingHouse$Style" 79 6 3 0 := sorry
theorem lp_Sy_79 : q_pF "DrawingHouse$Style" 79 6 3 0 (.int) false := sorry
theorem lp_Sy_107 : q_pF "DrawingHouse$Style" 107 6 5 0 (.boolean) false := sorry
def w_Sy_rule_87 (l : Launch) (D : qD) (d0 : Nat) (B : Nat × Nat) (Q : xQ) : qK := (s_aload 0 (s_tinvV l D (d0, 0, 0) 6 m_Sy_setting 0 (s_aload 0 (s_ic (44) (s_invV l D (d0, 0, 0) 6 m_Re_takes 1 (s_if_ne (xR l D (d0 + 1, B) m_Sy_rule 87 Q) (s_aload 0 (s_ic (59) (s_tinvV l D (d0, 0, 0) 6 m_Re_must 1 (s_aload 0 (s_dup (s_getI 6 3 (s_ic (1) (s_iadd (s_putI 6 3 (s_vret Q.1))))))) (fun _ => Q.2)))))))) (fun _ => Q.2)))
theorem Sy_rule_87 {l : Launch} {D : qD} {d0 : Nat} {B : Nat × Nat} {Q : xQ} : qI (w_Sy_rule_87 l D d0 B Q) (xR l D (d0 + 1, B) m_Sy_rule 87 Q) := sorry
def w_Sy_rule_67 (l : Launch) (D : qD) (d0 : Nat) (B : Nat × Nat) (Q : xQ) : qK := (s_Sy_put d0 (s_aload 0 (s_tinvV l D (d0, 0, 0) 6 m_Sy_test 0 (s_aload 0 (s_ic (58) (s_tinvV l D (d0, 0, 0) 6 m_Re_must 1 (s_aload 0 (s_ic (15) (s_ic (0) (s_Sy_put d0 (xR l D (d0 + 1, B) m_Sy_rule 87 Q))))) (fun _ => Q.2)))) (fun _ => Q.2))))
theorem Sy_rule_67 {l : Launch} {D : qD} {d0 : Nat} {B : Nat × Nat} {Q : xQ} : qI (w_Sy_rule_67 l D d0 B Q) (xR l D (d0 + 1, B) m_Sy_rule 67 Q) := sorry
def w_Sy_rule_66 (l : Launch) (D : qD) (d0 : Nat) (B : Nat × Nat) (Q : xQ) : qK := (s_ic (0) (w_Sy_rule_67 l D d0 B Q))
theorem Sy_rule_66 {l : Launch} {D : qD} {d0 : Nat} {B : Nat × Nat} {Q : xQ} : qI (w_Sy_rule_66 l D d0 B Q) (xR l D (d0 + 1, B) m_Sy_rule 66 Q) := sorry
def w_Sy_rule_32 (l : Launch) (D : qD) (d0 : Nat) (B : Nat × Nat) (Q : xQ) : qK := (s_tinvV l D (d0, 0, 0) 6 m_Re_need 1 (s_aload 0 (s_invV l D (d0, 0, 0) 6 m_Re_next 0 (s_aload 0 (s_aload 0 (s_sc (-29) (s_invV l D (d0, 0, 0) 6 m_Re_isThe 1 (s_tinvV l D (d0, 0, 0) 6 m_Re_need 1 (s_aload 0 (s_invV l D (d0, 0, 0) 6 m_Re_next 0 (s_aload 0 (s_ic (1) (s_aload 0 (s_getI 6 5 (s_if_eq (w_Sy_rule_66 l D d0 B Q) (s_ic (1) (w_Sy_rule_67 l D d0 B Q))))))))) (fun _ => Q.2)))))))) (fun _ => Q.2))
theorem Sy_rule_32 {l : Launch} {D : qD} {d0 : Nat} {B : Nat × Nat} {Q : xQ} : qI (w_Sy_rule_32 l D d0 B Q) (xR l D (d0 + 1, B) m_Sy_rule 32 Q) := sorry
def w_Sy_rule_31 (l : Launch) (D : qD) (d0 : Nat) (B : Nat × Nat) (Q : xQ) : qK := (s_ic (0) (w_Sy_rule_32 l D d0 B Q))
theorem Sy_rule_31 {l : Launch} {D : qD} {d0 : Nat} {B : Nat × Nat} {Q : xQ} : qI (w_Sy_rule_31 l D d0 B Q) (xR l D (d0 + 1, B) m_Sy_rule 31 Q) := sorry
def w_Sy_rule_27 (l : Launch) (D : qD) (d0 : Nat) (B : Nat × Nat) (Q : xQ) : qK := (s_ic (1) (w_Sy_rule_32 l D d0 B Q))
theorem Sy_rule_27 {l : Launch} {D : qD} {d0 : Nat} {B : Nat × Nat} {Q : xQ} : qI (w_Sy_rule_27 l D d0 B Q) (xR l D (d0 + 1, B) m_Sy_rule 27 Q) := sorry
def w_Sy_rule_0 (l : Launch) (D : qD) (d0 : Nat) (B : Nat × Nat) (Q : xQ) : qK := (s_aload 0 (s_aload 0 (s_sc (-27) (s_invV l D (d0, 0, 0) 6 m_Re_isThe 1 (s_putZ 6 5 (s_aload 0 (s_aload 0 (s_getI 6 5 (s_if_ne (w_Sy_rule_27 l D d0 B Q) (s_aload 0 (s_sc (-28) (s_invV l D (d0, 0, 0) 6 m_Re_isThe 1 (s_if_eq (w_Sy_rule_31 l D d0 B Q) (w_Sy_rule_27 l D d0 B Q))))))))))))))
theorem Sy_rule_0 {l : Launch} {D : qD} {d0 : Nat} {B : Nat × Nat} {Q : xQ} : qI (w_Sy_rule_0 l D d0 B Q) (xR l D (d0 + 1, B) m_Sy_rule 0 Q) := sorry
theorem lm_Sy_92 : q_gV "DrawingHouse$Style" 92 6 0 m_Sy_rule := sorry
def w_Sy_read_45 (l : Launch) (D : qD) (d0 : Nat) (B : Nat × Nat) (Q : xQ) : qK := (s_astore 1 (s_ic (0) (s_zret Q.1)))
theorem Sy_read_45 {l : Launch} {D : qD} {d0 : Nat} {B : Nat × Nat} {Q : xQ} : qI (w_Sy_read_45 l D d0 B Q) (xR l D (d0 + 1, B) m_Sy_read 45 Q) := sorry
def w_Sy_read_34 (l : Launch) (D : qD) (d0 : Nat) (B : Nat × Nat) (Q : xQ) : qK := (s_aload 0 (s_aload 0 (s_ic (0) (s_invV l D (d0, 0, 0) 6 m_Re_is 1 (s_tinvV l D (d0, 0, 0) 6 m_Re_need 1 (s_ic (1) (s_zret Q.1)) (fun ls z h => (q_shp z).1 = 5 ∧ (w_Sy_read_45 l D d0 B Q) ls [.inr (.inr z)] h))))))
theorem Sy_read_34 {l : Launch} {D : qD} {d0 : Nat} {B : Nat × Nat} {Q : xQ} : qI (w_Sy_read_34 l D d0 B Q) (xR l D (d0 + 1, B) m_Sy_read 34 Q) := sorry
def w_Sy_read_19 (l : Launch) (D : qD) (d0 : Nat) (B : Nat × Nat) (Q : xQ) : qK := (s_aload 0 (s_ic (1) (s_invV l D (d0, 0, 0) 6 m_Re_is 1 (s_if_eq (w_Sy_read_34 l D d0 B Q) (s_aload 0 (s_tinvV l D (d0, 0, 0) 6 m_Sy_rule 0 (xR l D (d0 + 1, B) m_Sy_read 19 Q) (fun ls z h => (q_shp z).1 = 5 ∧ (w_Sy_read_45 l D d0 B Q) ls [.inr (.inr z)] h)))))))
theorem Sy_read_19 {l : Launch} {D : qD} {d0 : Nat} {B : Nat × Nat} {Q : xQ} : qI (w_Sy_read_19 l D d0 B Q) (xR l D (d0 + 1, B) m_Sy_read 19 Q) := sorry
def w_Sy_read_0 (l : Launch) (D : qD) (d0 : Nat) (B : Nat × Nat) (Q : xQ) : qK := (s_aload 0 (s_ic (0) (s_putI 6 2 (s_aload 0 (s_ic (0) (s_putI 6 3 (s_aload 0 (s_ic (0) (s_putI 6 4 (s_aload 0 (s_invV l D (d0, 0, 0) 6 m_Re_next 0 (xR l D (d0 + 1, B) m_Sy_read 19 Q))))))))))))
theorem Sy_read_0 {l : Launch} {D : qD} {d0 : Nat} {B : Nat × Nat} {Q : xQ} : qI (w_Sy_read_0 l D d0 B Q) (xR l D (d0 + 1, B) m_Sy_read 0 Q) := sorry
end
section
/-! ===== least, greatest, absolute ===== -/
theorem fmn0 (a b : Int) (v : Int → Int → Int) : f_Math_min_0 a b v = min a b := sorry
theorem fmx0 (a b : Int) (v : Int → Int → Int) : f_Math_max_0 a b v = max a b := sorry
theorem fmn2 (a b : Int) (v : Int → Int → Int) : f_Mo_min a b v = min a b := sorry
theorem fmx2 (a b : Int) (v : Int → Int → Int) : f_Mo_max a b v = max a b := sorry
theorem fab0 (a : Int) (v : Int → Int → Int) : f_Math_abs_0 a v = (a.natAbs : Int) := sorry
theorem lc_gt (x y : Int) : (0 < q_lc x y) ↔ y < x := sorry
theorem lc_le (x y : Int) : (q_lc x y ≤ 0) ↔ x ≤ y := sorry
theorem lc_ge (x y : Int) : (0 ≤ q_lc x y) ↔ y ≤ x := sorry
theorem lc_lt (x y : Int) : (q_lc x y < 0) ↔ x < y := sorry
theorem lc_eq (x y : Int) : (q_lc x y = 0) ↔ x = y := sorry
theorem lc_ne (x y : Int) : (q_lc x y ≠ 0) ↔ x ≠ y := sorry
theorem fmn1 (a b : Int) (v : Int → Int → Int) : f_Math_min_1 a b v = min a b := sorry
theorem fmx1 (a b : Int) (v : Int → Int → Int) : f_Math_max_1 a b v = max a b := sorry
theorem fab1 {a : Int} (v : Int → Int → Int) (h : -9223372036854775807 ≤ a ∧ a ≤ 9223372036854775807) : f_Math_abs_1 a v = (a.natAbs : Int) := sorry
theorem mul_rb {x y X Y : Int} (h1 : -X ≤ x ∧ x ≤ X) (h2 : -Y ≤ y ∧ y ≤ Y) : -(X * Y) ≤ x * y ∧ x * y ≤ X * Y := sorry
theorem tdiv_rb {x y X : Int} (h : -X ≤ x ∧ x ≤ X) : -X ≤ x.tdiv y ∧ x.tdiv y ≤ X := sorry
end
section
/-! ===== Math.floorDiv, Long.signum ===== -/
theorem xs32 (a b : Int32) : (a ^^^ b).toInt < 0 ↔ (a.toInt < 0 ↔ ¬ b.toInt < 0) := sorry
theorem xs64 (a b : Int64) : (a ^^^ b).toInt < 0 ↔ (a.toInt < 0 ↔ ¬ b.toInt < 0) := sorry
theorem xz32 {x y : Int} (hx : r32 x) (hy : r32 y) : z_ixor x y < 0 ↔ (x < 0 ↔ ¬ y < 0) := sorry
theorem xz64 {x y : Int} (hx : r64 x) (hy : r64 y) : z_lxor x y < 0 ↔ (x < 0 ↔ ¬ y < 0) := sorry
/-- the quotient, rounded down -/
theorem fd_pos {x y : Int} (h : 0 < y) : x / y = if x < 0 ∧ x.tdiv y * y ≠ x then x.tdiv y - 1 else x.tdiv y := sorry
theorem tdm_rb {x y X : Int} (h : -X ≤ x ∧ x ≤ X) : -X ≤ x.tdiv y * y ∧ x.tdiv y * y ≤ X := sorry
set_option maxRecDepth 100000 in
theorem sp_Math_floorDiv_0 {l : Launch} {D : qD} {d : Nat} {x y : Int} {h : qh} {Q : qQ} (hx : -2147483647 ≤ x ∧ x ≤ 2147483647) (hy : 0 < y ∧ y ≤ 2147483647) (hq : Q (some (.inl (x / y))) h) : qM l D (d + 1, 0, 0) m_Math_floorDiv_0 [.inl x, .inl y] h Q := sorry
end
section
theorem s_lxor_ap (K : qK) (ls : List (Option qv)) (x y : Int) (r : List qv) (h : qh) : s_lxor K ls (.inr (.inl y) :: .inr (.inl x) :: r) h = K ls (.inr (.inl (z_lxor x y)) :: r) h := sorry
set_option maxRecDepth 100000 in
theorem sp_Math_floorDiv_1 {l : Launch} {D : qD} {d : Nat} {x y : Int} {h : qh} {Q : qQ} (hx : -4611686018427387904 ≤ x ∧ x ≤ 4611686018427387904) (hy : 0 < y ∧ y ≤ 4611686018427387904) (hq : Q (some (.inr (.inl (x / y)))) h) : qM l D (d + 1, 0, 0) m_Math_floorDiv_1 [.inr (.inl x), .inr (.inl y)] h Q := sorry
end
section
/-! ===== a graph in the component, in the twin ===== -/
def GV (n m : Nat) (t hd w : Int → Int) : Prop := n ≤ 24 ∧ m ≤ 48 ∧ (∀ e, blw m e → blw n (t e) ∧ blw n (hd e) ∧ (1 ≤ w e ∧ w e ≤ 9)) ∧ nlp t hd (blw m) ∧ smp t hd (blw m)
def CG (v : Int → Int → Int) (g : Int) (n m : Nat) (t hd w : Int → Int) : Prop := isG g ∧ (g + 11 < 187 ∨ 399 ≤ g) ∧ GA v g ∧ v g 0 = n ∧ v g 1 = m ∧ ∀ e, blw m e → v (g + 6) e = t e ∧ v (g + 7) e = hd e ∧ v (g + 8) e = w e
def TG (v : Int → Int → Int) (r : Int) (n m : Nat) (t hd w : Int → Int) : Prop := v 280 5 = r ∧ (0 ≤ r ∧ r ≤ 66297) ∧ v 282 r = n ∧ v 282 (r + 1) = m ∧ ∀ e, blw m e → v 282 (r + 267 + e) = t e ∧ v 282 (r + 315 + e) = hd e ∧ v 282 (r + 363 + e) = w e
theorem GA.fw {C : List Int} {P : List (Int × Int)} {v v' : Int → Int → Int} {g : Int} (h : GA v g) (k : FW C P v v') (hg : g ∉ C) (hp : ∀ p ∈ P, p.1 ≠ g) : GA v' g := sorry
/-- cells that no graph has -/
def ngc (C : List Int) : Prop := ∀ c ∈ C, 187 ≤ c ∧ c < 399
theorem CG.fw {C : List Int} {P : List (Int × Int)} {v v' : Int → Int → Int} {g : Int} {n m : Nat} {t hd w : Int → Int} (h : CG v g n m t hd w) (k : FW C P v v') (hC : ngc C) (hP : ∀ p ∈ P, (187 ≤ p.1 ∧ p.1 < 399) ∨ p.1 = 0) (g0 : 0 < g) : CG v' g n m t hd w := sorry
theorem TG.fw {C : List Int} {P : List (Int × Int)} {v v' : Int → Int → Int} {r : Int} {n m : Nat} {t hd w : Int → Int} (h : TG v r n m t hd w) (k : FW C P v v') (h2 : (282 : Int) ∉ C) (h0 : (280 : Int) ∉ C) (hP : P.all (fun p => decide (p.1 ≠ 282 ∧ p ≠ (280, 5))) = true) : TG v' r n m t hd w := sorry
/-- the edge between two nodes, or -1 -/
def enb (t h : Int → Int) (m : Nat) (en : Int → Int → Int) : Prop := ∀ i k, (en i k = -1 ∧ ∀ e, blw m e → ¬ jn1 t h e i k) ∨ (blw m (en i k) ∧ jn1 t h (en i k) i k)
theorem sp_Gr_bet {l : Launch} {D : qD} {d n m : Nat} {g a b : Int} {t hd w : Int → Int} {en : Int → Int → Int} {h : qh} {Q : qQ} (hg : CG h.2 g n m t hd w) (hv : GV n m t hd w) (he : enb t hd m en) (hq : Q (some (.inl (en a b))) h) : qM l D (d + 1, 0, 0) m_Gr_between [.inr (.inr g), .inl a, .inl b] h Q := sorry
theorem sp_Mo_bet {l : Launch} {D : qD} {d n m : Nat} {r a b : Int} {t hd w : Int → Int} {en : Int → Int → Int} {h : qh} {Q : qQ} (hT : TW h.2) (hg : TG h.2 r n m t hd w) (hv : GV n m t hd w) (he : enb t hd m en) (hq : Q (some (.inl (en a b))) h) : qM l D (d + 3, 0, 0) m_Mo_between [.inr (.inr 280), .inl a, .inl b] h Q := sorry
end
section
/-! ===== forces: plain ===== -/
/-- the root, by bits from 2^b down -/
def rtS (q : Int) : Nat → Int → Int
  | 0, r => if (r + 1) * (r + 1) ≤ q then r + 1 else r
  | b + 1, r => rtS q b (if (r + 2 ^ (b + 1)) * (r + 2 ^ (b + 1)) ≤ q then r + 2 ^ (b + 1) else r)
def rt (q : Int) : Int := rtS q 30 0
theorem rtS_r (q : Int) : ∀ (b : Nat) (r : Int), r ≤ rtS q b r ∧ rtS q b r < r + 2 ^ (b + 1) := sorry
theorem rt_r (q : Int) : 0 ≤ rt q ∧ rt q < 2147483648 := sorry
theorem lsh_p : ∀ b : Nat, b < 31 → z_lshr (2 ^ b) 1 = 2 ^ b / 2 := sorry
def fdx (px py : Int → Int) (i k : Int) : Int := if px i - px k = 0 ∧ py i - py k = 0 then (if k < i then 1 else -1) else px i - px k
def fdy (py : Int → Int) (i k : Int) : Int := py i - py k
def fqq (px py : Int → Int) (i k : Int) : Int := fdx px py i k * fdx px py i k + fdy py i k * fdy py i k
/-- what k does to i; e: the edge between, or -1 -/
def fax (px py w : Int → Int) (en : Int → Int → Int) (i k : Int) : Int := (fdx px py i k * 65536).tdiv (fqq px py i k) - (if en i k = -1 then 0 else (fdx px py i k * rt (fqq px py i k)).tdiv 1024 * w (en i k))
def fay (px py w : Int → Int) (en : Int → Int → Int) (i k : Int) : Int := (fdy py i k * 65536).tdiv (fqq px py i k) - (if en i k = -1 then 0 else (fdy py i k * rt (fqq px py i k)).tdiv 1024 * w (en i k))
def fsx (px py w : Int → Int) (en : Int → Int → Int) (i : Int) (n : Nat) : Int := sof (fun k => if k = i then 0 else fax px py w en i k) n
def fsy (px py w : Int → Int) (en : Int → Int → Int) (i : Int) (n : Nat) : Int := sof (fun k => if k = i then 0 else fay px py w en i k) n
def clm (m x : Int) : Int := if m < x then m else if x < -m then -m else x
def mst (t : Nat) : Int := (256 : Int).tdiv (1 + (t : Int).tdiv 16)
def fpos (n : Nat) (w : Int → Int) (en : Int → Int → Int) : Nat → (Int → Int) × (Int → Int)
  | 0 => (fun i => (i * 37).tmod 64 * 64, fun i => (i * 59).tmod 64 * 64)
  | t + 1 => (fun i => (fpos n w en t).1 i + clm (mst t) (fsx (fpos n w en t).1 (fpos n w en t).2 w en i n), fun i => (fpos n w en t).2 i + clm (mst t) (fsy (fpos n w en t).1 (fpos n w en t).2 w en i n))
theorem mst_r (t : Nat) : 0 ≤ mst t ∧ mst t ≤ 256 := sorry
theorem clm_r {m x : Int} (h : 0 ≤ m) : -m ≤ clm m x ∧ clm m x ≤ m := sorry
theorem fpos_r {n : Nat} {w : Int → Int} {en : Int → Int → Int} : ∀ (t : Nat) (i : Int), 0 ≤ i → (-(256 * (t : Int)) ≤ (fpos n w en t).1 i ∧ (fpos n w en t).1 i ≤ 4032 + 256 * (t : Int)) ∧ (-(256 * (t : Int)) ≤ (fpos n w en t).2 i ∧ (fpos n w en t).2 i ≤ 4032 + 256 * (t : Int)) := sorry
theorem fdx_r {px py : Int → Int} {i k B : Int} (hB : 1 ≤ B) (h1 : -B ≤ px i ∧ px i ≤ B) (h2 : -B ≤ px k ∧ px k ≤ B) : -(2 * B) ≤ fdx px py i k ∧ fdx px py i k ≤ 2 * B := sorry
theorem sq_nn (x : Int) : 0 ≤ x * x := sorry
theorem fqq_0 {px py : Int → Int} {i k : Int} : 0 < fqq px py i k := sorry
end
section
/-! ===== forces: the component ===== -/
set_option maxRecDepth 100000 in
theorem sp_Pn_root {l : Launch} {D : qD} {d : Nat} {q : Int} {h : qh} {Q : qQ} (hq : Q (some (.inr (.inl (rt q)))) h) : qM l D (d + 1, 0, 0) m_Pn_root [.inr (.inl q)] h Q := sorry
set_option maxRecDepth 100000 in
theorem sp_Pn_push {l : Launch} {D : qD} {d m : Nat} {g i k : Int} {PX PY w t hd : Int → Int} {en : Int → Int → Int} {h : qh} {Q : qQ} (hw : HW h.2) (eg : h.2 253 0 = g) (hG : isG g) (gd : g + 11 < 18 ∨ 399 ≤ g ∨ g + 11 < 260) (hA : GA h.2 g) (em : h.2 g 1 = m) (m48 : m ≤ 48) (ib : 0 ≤ i ∧ i < 24) (kb : 0 ≤ k ∧ k < 24)
    (xi : h.2 263 i = PX i) (xk : h.2 263 k = PX k) (yi : h.2 264 i = PY i) (yk : h.2 264 k = PY k) (b1 : -60000 ≤ PX i ∧ PX i ≤ 60000) (b2 : -60000 ≤ PX k ∧ PX k ≤ 60000) (b3 : -60000 ≤ PY i ∧ PY i ≤ 60000) (b4 : -60000 ≤ PY k ∧ PY k ≤ 60000)
    (he : ∀ e, blw m e → h.2 (g + 6) e = t e ∧ h.2 (g + 7) e = hd e ∧ h.2 (g + 8) e = w e) (hwt : ∀ e, blw m e → 1 ≤ w e ∧ w e ≤ 9) (sm : smp t hd (blw m)) (hen : enb t hd m en) (s1 : -100000000000000000 ≤ h.2 265 i ∧ h.2 265 i ≤ 100000000000000000) (s2 : -100000000000000000 ≤ h.2 266 i ∧ h.2 266 i ≤ 100000000000000000)
    (hq : ∀ v, FW [265, 266] [] h.2 v → v 265 i = h.2 265 i + fax PX PY w en i k → v 266 i = h.2 266 i + fay PX PY w en i k → (∀ j, j ≠ i → v 265 j = h.2 265 j ∧ v 266 j = h.2 266 j) → Q none (h.1, v)) :
    qM l D (d + 2, 0, 0) m_Pn_push [.inr (.inr 253), .inl i, .inl k] h Q := sorry
end
section
/-! ===== forces: the component's loops ===== -/
theorem fax_r {px py w : Int → Int} {en : Int → Int → Int} {i k : Int} (b1 : -60000 ≤ px i ∧ px i ≤ 60000) (b2 : -60000 ≤ px k ∧ px k ≤ 60000) (b3 : -60000 ≤ py i ∧ py i ≤ 60000) (b4 : -60000 ≤ py k ∧ py k ≤ 60000) (hw : en i k ≠ -1 → 1 ≤ w (en i k) ∧ w (en i k) ≤ 9) :
    (-3000000000000000 ≤ fax px py w en i k * 1 ∧ fax px py w en i k ≤ 3000000000000000) ∧ (-3000000000000000 ≤ fay px py w en i k ∧ fay px py w en i k ≤ 3000000000000000) := sorry
theorem sof_bb {F : Int → Int} {B : Int} : ∀ {n : Nat}, (∀ k : Int, 0 ≤ k → k < n → -B ≤ F k ∧ F k ≤ B) → -(n * B) ≤ sof F n ∧ sof F n ≤ n * B := sorry
theorem sof_s {F : Int → Int} {k : Int} (h : 0 ≤ k) : sof F (k + 1).toNat = sof F k.toNat + F k := sorry
theorem clm_mm {M S : Int} (h : 0 ≤ M) : max (-M) (min M S) = clm M S := sorry
set_option maxRecDepth 100000 in
theorem sp_Pn_forces {l : Launch} {D : qD} {d n m a : Nat} {g : Int} {w t hd : Int → Int} {en : Int → Int → Int} {h : qh} {Q : qQ} (hw : HW h.2) (eg : h.2 253 0 = g) (eo : h.2 253 2 = 198) (hG : isG g) (gd : g + 11 < 187 ∨ 399 ≤ g) (hA : GA h.2 g) (en0 : h.2 g 0 = n) (em : h.2 g 1 = m) (n24 : n ≤ 24) (m48 : m ≤ 48) (a200 : a ≤ 200)
    (he : ∀ e, blw m e → h.2 (g + 6) e = t e ∧ h.2 (g + 7) e = hd e ∧ h.2 (g + 8) e = w e) (hwt : ∀ e, blw m e → 1 ≤ w e ∧ w e ≤ 9) (sm : smp t hd (blw m)) (hen : enb t hd m en)
    (hq : ∀ v, FW [199, 200, 263, 264, 265, 266] [] h.2 v → (∀ i : Int, 0 ≤ i → i < n → v 199 i = (fpos n w en a).1 i / 16 ∧ v 200 i = (fpos n w en a).2 i / 16) → Q none (h.1, v)) :
    qM l D (d + 3, 0, 0) m_Pn_forces [.inr (.inr 253), .inl a] h Q := sorry
end
section
/-! ===== forces: the twin ===== -/
set_option maxRecDepth 100000 in
theorem sp_Mo_rootOf {l : Launch} {D : qD} {d : Nat} {q : Int} {h : qh} {Q : qQ} (hq : Q (some (.inr (.inl (rt q)))) h) : qM l D (d + 1, 0, 0) m_Mo_rootOf [.inr (.inl q)] h Q := sorry
theorem far_ar {PX PY : Int → Int} {i k sx sy : Int} (bi : (-60000 ≤ PX i ∧ PX i ≤ 60000) ∧ (-60000 ≤ PY i ∧ PY i ≤ 60000)) (bk : (-60000 ≤ PX k ∧ PX k ≤ 60000) ∧ (-60000 ≤ PY k ∧ PY k ≤ 60000)) (b1 : -100000000000000000 ≤ sx ∧ sx ≤ 100000000000000000) (b2 : -100000000000000000 ≤ sy ∧ sy ≤ 100000000000000000) :
    ∃ dx dy q rr ax ay bx by' : Int, (dx = fdx PX PY i k ∧ dy = fdy PY i k ∧ q = fqq PX PY i k ∧ rr = rt q) ∧ (ax = (dx * 65536).tdiv q ∧ ay = (dy * 65536).tdiv q ∧ bx = (dx * rr).tdiv 1024 ∧ by' = (dy * rr).tdiv 1024) ∧ q ≠ 0 ∧ w64 (PX i - PX k) = PX i - PX k ∧ w64 (PY i - PY k) = dy ∧ (w64 (dx * dx) = dx * dx ∧ w64 (dy * dy) = dy * dy ∧ w64 (dx * dx + dy * dy) = q ∧ w64 (dx * 65536) = dx * 65536 ∧ w64 (dy * 65536) = dy * 65536) ∧ (w64 ax = ax ∧ w64 ay = ay ∧ w64 (sx + ax) = sx + ax ∧ w64 (sy + ay) = sy + ay) ∧ (w64 (dx * rr) = dx * rr ∧ w64 (dy * rr) = dy * rr ∧ w64 bx = bx ∧ w64 by' = by') ∧
      (∀ we, 1 ≤ we ∧ we ≤ 9 → w64 (bx * we) = bx * we ∧ w64 (by' * we) = by' * we ∧ w64 (sx + ax - bx * we) = sx + ax - bx * we ∧ w64 (sy + ay - by' * we) = sy + ay - by' * we) := sorry
set_option maxRecDepth 100000 in
theorem Mo_pull_step {l : Launch} {D : qD} {d n m : Nat} {r i k : Int} {PX PY w t hd : Int → Int} {en : Int → Int → Int} {h : qh} {Q : qQ} {v : Int → Int → Int} {y4 y5 y6 y7 y8 y9 y10 y11 y12 : Option qv} (hT1 : TW v) (hg1 : TG v r n m t hd w) (hv : GV n m t hd w) (hen : enb t hd m en) (ib : 0 ≤ i ∧ i < n) (k0 : 0 ≤ k) (hk : k < n) (ki : k ≠ i) (xi : v 377 i = PX i) (yi : v 378 i = PY i) (xk : v 377 k = PX k) (yk : v 378 k = PY k) (bi : (-60000 ≤ PX i ∧ PX i ≤ 60000) ∧ (-60000 ≤ PY i ∧ PY i ≤ 60000)) (bk : (-60000 ≤ PX k ∧ PX k ≤ 60000) ∧ (-60000 ≤ PY k ∧ PY k ≤ 60000)) (bd : -100000000000000000 ≤ v 379 i ∧ v 379 i ≤ 100000000000000000) (bd2 : -100000000000000000 ≤ v 380 i ∧ v 380 i ≤ 100000000000000000)
    (st : ∀ (v' : Int → Int → Int) (y4 y5 y6 y7 y8 y9 y10 y11 y12 : Option qv), FW [379, 380] [] v v' → v' 379 i = v 379 i + fax PX PY w en i k → v' 380 i = v 380 i + fay PX PY w en i k → (∀ j, j ≠ i → v' 379 j = v 379 j ∧ v' 380 j = v 380 j) → qR l D (d + 4, 0, 0) m_Mo_pull 16 (fun r h' => Q r ((h'.1.1, h.1.2.1, h.1.2.2), h'.2)) [some (.inr (.inr (280))), some (.inl (i)), some (.inl (n)), some (.inl (k + 1)), y4, y5, y6, y7, y8, y9, y10, y11, y12] [] ((h.1.1, 0, 0), v')) :
    qR l D (d + 4, 0, 0) m_Mo_pull 16 (fun r h' => Q r ((h'.1.1, h.1.2.1, h.1.2.2), h'.2)) [some (.inr (.inr (280))), some (.inl (i)), some (.inl (n)), some (.inl (k)), y4, y5, y6, y7, y8, y9, y10, y11, y12] [] ((h.1.1, 0, 0), v) := sorry
end
section
set_option maxRecDepth 100000 in
theorem sp_Mo_pull {l : Launch} {D : qD} {d n m : Nat} {r i : Int} {PX PY w t hd : Int → Int} {en : Int → Int → Int} {h : qh} {Q : qQ} (hT : TW h.2) (hg : TG h.2 r n m t hd w) (hv : GV n m t hd w) (hen : enb t hd m en) (ib : 0 ≤ i ∧ i < n) (hp : ∀ j : Int, 0 ≤ j → j < n → h.2 377 j = PX j ∧ h.2 378 j = PY j) (prs : ∀ i : Int, 0 ≤ i → (-60000 ≤ PX i ∧ PX i ≤ 60000) ∧ (-60000 ≤ PY i ∧ PY i ≤ 60000))
    (hq : ∀ v, FW [379, 380] [] h.2 v → v 379 i = fsx PX PY w en i n → v 380 i = fsy PX PY w en i n → (∀ j, j ≠ i → v 379 j = h.2 379 j ∧ v 380 j = h.2 380 j) → Q none (h.1, v)) :
    qM l D (d + 4, 0, 0) m_Mo_pull [.inr (.inr 280), .inl i, .inl n] h Q := sorry
end
section
/-! ===== forces: the twin's loops ===== -/
theorem fbd {a b : Int} (v : Int → Int → Int) (h : w64 (-b) = -b) : f_Mo_bounded a b v = clm b a := sorry
set_option maxRecDepth 100000 in
theorem sp_Mo_forces {l : Launch} {D : qD} {d n m : Nat} {r z : Int} {w t hd : Int → Int} {en : Int → Int → Int} {h : qh} {Q : qQ} (hT : TW h.2) (hg : TG h.2 r n m t hd w) (hv : GV n m t hd w) (hen : enb t hd m en)
    (hno : ¬ (0 ≤ z ∧ z ≤ 200) → Q (some (.inl (-2))) h) (hq : ∀ (a : Nat) v, z = a → a ≤ 200 → FW [329, 330, 377, 378, 379, 380] [] h.2 v → (∀ i : Int, 0 ≤ i → i < n → v 329 i = (fpos n w en a).1 i / 16 ∧ v 330 i = (fpos n w en a).2 i / 16) → Q (some (.inl 0)) (h.1, v)) :
    qM l D (d + 5, 0, 0) m_Mo_forces [.inr (.inr 280), .inl z] h Q := sorry
end
section
/-! ===== the twin's grid: those whom a node leaves open ===== -/
theorem cyc_mp {l l' : List Int} (f : Int → Int) (h : cyc l l') : cyc (l.map f) (l'.map f) := sorry
theorem take_s {L : List Int} {k : Nat} (h : k < L.length) : L.take (k + 1) = L.take k ++ [li L k] := sorry
set_option maxRecDepth 100000 in
theorem sp_Mo_reveal {l : Launch} {D : qD} {d N m : Nat} {k x : Int} {eR eL : Int} {G R c : List Int} {t h' : Int → Int} {rot : Int → List Int} {h : qh} {Q : qQ} (hT : TW h.2) (eT : ∀ e, blw m e → h.2 295 e = t e ∧ h.2 296 e = h' e) (m0 : m ≤ 80) (N0 : N ≤ 24) (wb : WB t h' m N rot) (hrow : rowT h.2 N rot) (b7 : h.2 280 121 = c.length) (hc : ∀ j : Int, 0 ≤ j → j < c.length → h.2 368 j = li c j) (c24 : c.length ≤ 24) (k0 : 0 < k ∧ k + 1 < c.length) (ex : x = li c k) (xb : blw N x) (cx : cyc (rot x) (eR :: G ++ eL :: R)) (oR : oth t h' eR x = li c (k + 1)) (oL : oth t h' eL x = li c (k - 1)) (hG : ∀ g, g ∈ G → h.2 292 (oth t h' g x) = 0) (hR : ∀ r, r ∈ R → h.2 292 (oth t h' r x) ≠ 0) (hr' : h.2 292 (li c (k + 1)) ≠ 0) (hl' : h.2 292 (li c (k - 1)) ≠ 0) (n24 : (c.take k.toNat ++ R.map (fun r => oth t h' r x) ++ c.drop (k.toNat + 1)).length ≤ 24)
    (hq : ∀ v, KS 280 [121] [364, 368] h.2 v → v 280 121 = (c.take k.toNat ++ R.map (fun r => oth t h' r x) ++ c.drop (k.toNat + 1)).length → (∀ j : Int, 0 ≤ j → j < (c.take k.toNat ++ R.map (fun r => oth t h' r x) ++ c.drop (k.toNat + 1)).length → v 368 j = li (c.take k.toNat ++ R.map (fun r => oth t h' r x) ++ c.drop (k.toNat + 1)) j) → Q none (h.1, v)) :
    qM l D (d + 2, 0, 0) m_Mo_reveal [.inr (.inr 280), .inl k, .inl x] h Q := sorry
end
section
/-! ===== the twin's grid: the order ===== -/
theorem PLs_24 {t h : Int → Int} {m N k : Nat} {rot : Int → List Int} {l0 : Int → Prop} {c0 : List Int} (G : GI t h m N rot) (T : TR t h (blw m) rot) (O0 : OI t h (blw m) rot l0 c0) (h3 : 3 ≤ c0.length) (hb : ∀ y, l0 y ↔ blw N y) (hk : k + 3 ≤ N) (N0 : N ≤ 24) {O : List Int} {lft : Int → Prop} {c : List Int} (pl : PLn t h m rot l0 c0 k O lft c) {x : Int} {lft' : Int → Prop} {c' : List Int} (st : PLs t h m rot lft c x lft' c') : c'.length ≤ 24 := sorry
set_option maxRecDepth 100000 in
theorem Mo_can_main {l : Launch} {D : qD} {d N m : Nat} {u vv ww : Int} {t h' : Int → Int} {rot : Int → List Int} {l0 : Int → Prop} {c0 : List Int} {h : qh} {Q : qQ} (hT : TW h.2) (em : h.2 280 32 = m) (eT : ∀ e, blw m e → (h.2 295 e = t e ∧ h.2 296 e = h' e) ∧ h.2 297 e = 1) (m0 : m ≤ 80) (N0 : N ≤ 24) (G : GI t h' m N rot) (TT : TR t h' (blw m) rot) (hrow : rowT h.2 N rot) (O0 : OI t h' (blw m) rot l0 c0) (h3 : 3 ≤ c0.length) (hl0 : ∀ y, l0 y ↔ blw N y)
    (hq : ∀ v O lft c, KS 280 [121] [292, 347, 364, 368] h.2 v → PLn t h' m rot l0 c0 (N - 2) O lft c → (∀ j : Nat, j < N - 2 → v 347 ((N : Int) - 1 - j) = li O j) → v 347 0 = h.2 347 0 → v 347 1 = h.2 347 1 → Q none (h.1, v)) :
    ∀ s : Nat, ∀ k : Nat, k + 2 + s = N → ∀ v O lft c y5 y6, KS 280 [121] [292, 347, 364, 368] h.2 v → PLn t h' m rot l0 c0 k O lft c → v 280 121 = c.length → (∀ j : Int, 0 ≤ j → j < c.length → v 368 j = li c j) → (∀ y : Int, blw N y → (v 292 y ≠ 0 ↔ lft y)) → (∀ j : Nat, j < k → v 347 ((N : Int) - 1 - j) = li O j) → v 347 0 = h.2 347 0 → v 347 1 = h.2 347 1 → qR l D (d + 4, 0, 0) m_Mo_canonical 74 (fun r h' => Q r ((h'.1.1, h.1.2.1, h.1.2.2), h'.2)) [some (.inr (.inr 280)), some (.inl (u)), some (.inl (vv)), some (.inl (ww)), some (.inl ((N : Int) - 1 - k)), y5, y6] [] ((h.1.1, 0, 0), v) := sorry
set_option maxRecDepth 100000 in
theorem sp_Mo_canonical {l : Launch} {D : qD} {d N m : Nat} {u vv ww : Int} {t h' : Int → Int} {rot : Int → List Int} {h : qh} {Q : qQ} (hT : TW h.2) (eN : h.2 280 31 = N) (em : h.2 280 32 = m) (eT : ∀ e, blw m e → (h.2 295 e = t e ∧ h.2 296 e = h' e) ∧ h.2 297 e = 1) (m0 : m ≤ 80) (N0 : N ≤ 24) (N3 : 3 ≤ N) (G : GI t h' m N rot) (TT : TR t h' (blw m) rot) (hrow : rowT h.2 N rot) (O0 : OI t h' (blw m) rot (blw N) [u, ww, vv])
    (hq : ∀ v O lft c, KS 280 [121] [292, 347, 364, 368] h.2 v → PLn t h' m rot (blw N) [u, ww, vv] (N - 2) O lft c → (∀ j : Nat, j < N - 2 → v 347 ((N : Int) - 1 - j) = li O j) → v 347 0 = u → v 347 1 = vv → Q none (h.1, v)) :
    qM l D (d + 4, 0, 0) m_Mo_canonical [.inr (.inr 280), .inl u, .inl vv, .inl ww] h Q := sorry
end
section
/-! ===== the twin's grid: places by the order ===== -/
set_option maxRecDepth 100000 in
theorem Mo_int {n : Nat} {v : Int → Int → Int} (k1 : ∀ (a : Nat) (i : Nat), a < n → qok n (qty (q_tp a i) (v a i))) (c1 : qok n (.inr (.inr 280))) {a j : Nat} (f : v 280 j = a) (tj : q_tp 280 j = 2) (ta : ∀ i, q_tp a i = 0) (i : Int) (i0 : 0 ≤ i) : r32 (v a i) := sorry
set_option maxRecDepth 100000 in
theorem sp_Mo_move {l : Launch} {D : qD} {d N : Nat} {s b : Int} {h : qh} {Q : qQ} (b4 : h.2 280 74 = 329) (eN : h.2 280 31 = N) (N0 : N ≤ 24) (hb : b = 1 ∨ b = 2) (hr : ∀ i : Int, 0 ≤ i → i < N → z_iand (z_ishr s i) 1 = 1 → r32 (h.2 329 i + b)) (hq : ∀ v, KS 280 [] [329] h.2 v → (∀ i : Int, 0 ≤ i → i < N → v 329 i = mv1 (h.2 329) s b i) → Q none (h.1, v)) :
    qM l D (d + 1, 0, 0) m_Mo_move [.inr (.inr 280), .inl s, .inl b] h Q := sorry
set_option maxRecDepth 100000 in
theorem sp_Mo_shift {l : Launch} {D : qD} {d N m : Nat} {t h' o : Int → Int} {rot : Int → List Int} {h : qh} {Q : qQ} (hT : TW h.2) (eN : h.2 280 31 = N) (em : h.2 280 32 = m) (eT : ∀ e, blw m e → (h.2 295 e = t e ∧ h.2 296 e = h' e) ∧ h.2 297 e = 1) (m0 : m ≤ 80) (N0 : N ≤ 24) (N3 : 3 ≤ N) (wb : WB t h' m N rot) (eo : ∀ q : Int, 1 ≤ q → q ≤ N → h.2 347 (q - 1) = o q)
    (ho : ∀ q : Int, 1 ≤ q → q ≤ N → blw N (o q)) (hl : ∀ k c X Y U, k + 3 ≤ N → SHn (fun x y => ∃ f, blw m f ∧ jn1 t h' f x y) o k c X Y U → c.length ≤ N ∧ (∀ y, y ∈ c → blw N y)) (hex : ∀ k c X Y U, k + 3 < N → SHn (fun x y => ∃ f, blw m f ∧ jn1 t h' f x y) o k c X Y U → o ((k : Int) + 4) ∉ c ∧ ∃ a b, STP (fun y => ∃ f, blw m f ∧ jn1 t h' f (o ((k : Int) + 4)) y) c a b) (hall : ∀ i, blw N i → plcd o N i)
    (hq : ∀ v c X Y U, KS 280 [121] [329, 330, 368, 369] h.2 v → SHn (fun x y => ∃ f, blw m f ∧ jn1 t h' f x y) o (N - 3) c X Y U → (∀ i, blw N i → v 329 i = X i ∧ v 330 i = Y i) → (∀ i, blw N i → -205520800 ≤ Y i ∧ Y i ≤ 205520800) → Q none (h.1, v)) :
    qM l D (d + 3, 0, 0) m_Mo_shift [.inr (.inr 280)] h Q := sorry
end
section
/-! ===== parts that hang apart are joined to the first node, one by one ===== -/
/-- the least node that is not reached yet -/
def JNs (N m : Nat) (t h : Int → Int) (rot : Int → List Int) (t' h' : Int → Int) (rot' : Int → List Int) (b : Int) : Prop :=
  blw N b ∧ ¬ rchs (aj t h (blw m)) 0 b ∧ (∀ j : Int, 0 ≤ j → j < b → rchs (aj t h (blw m)) 0 j) ∧ t' = updI t m 0 ∧ h' = updI h m b ∧ rot' = fun i => if i = 0 ∨ i = b then rot i ++ [(m : Int)] else rot i
def JNn (N m0 : Nat) (t0 h0 : Int → Int) (r0 : Int → List Int) : Nat → (Int → Int) → (Int → Int) → (Int → List Int) → Prop
  | 0, t, h, rot => t = t0 ∧ h = h0 ∧ rot = r0
  | k + 1, t', h', rot' => ∃ t h rot b, JNn N m0 t0 h0 r0 k t h rot ∧ JNs N (m0 + k) t h rot t' h' rot' b
theorem JNs_un {N m : Nat} {t h t1 h1 t2 h2 : Int → Int} {rot r1 r2 : Int → List Int} {b1 b2 : Int} (q1 : JNs N m t h rot t1 h1 r1 b1) (q2 : JNs N m t h rot t2 h2 r2 b2) : t1 = t2 ∧ h1 = h2 ∧ r1 = r2 := sorry
theorem JNn_un {N m0 : Nat} {t0 h0 : Int → Int} {r0 : Int → List Int} : ∀ {k : Nat} {t h t' h' : Int → Int} {rot rot' : Int → List Int}, JNn N m0 t0 h0 r0 k t h rot → JNn N m0 t0 h0 r0 k t' h' rot' → t = t' ∧ h = h' ∧ rot = rot' := sorry
theorem JNn_lt {N m0 : Nat} {t0 h0 : Int → Int} {r0 : Int → List Int} {k : Nat} {t h : Int → Int} {rot : Int → List Int} (q : JNn N m0 t0 h0 r0 k t h rot) (al : ∀ a, blw N a → rchs (aj t h (blw (m0 + k))) 0 a) : ∀ {k' : Nat} {t' h' : Int → Int} {rot' : Int → List Int}, JNn N m0 t0 h0 r0 k' t' h' rot' → k' ≤ k := sorry
/-- the whole: the graph's orders, its parts joined -/
theorem JNn_end {N m0 : Nat} {t0 h0 : Int → Int} {r0 : Int → List Int} {k k' : Nat} {t h t' h' : Int → Int} {rot rot' : Int → List Int} (q : JNn N m0 t0 h0 r0 k t h rot) (al : ∀ a, blw N a → rchs (aj t h (blw (m0 + k))) 0 a) (q' : JNn N m0 t0 h0 r0 k' t' h' rot') (al' : ∀ a, blw N a → rchs (aj t' h' (blw (m0 + k'))) 0 a) : k = k' ∧ t = t' ∧ h = h' ∧ rot = rot' := sorry
theorem agr_up {t h : Int → Int} {m : Nat} {x y : Int} : agr t h (updI t m x) (updI h m y) (blw m) := sorry
theorem aj_up {t h : Int → Int} {m : Nat} {x y : Int} {a b : Int} (q : aj t h (blw m) a b) : aj (updI t m x) (updI h m y) (blw (m + 1)) a b := sorry
theorem aj_up' {t h : Int → Int} {m : Nat} {x y : Int} {a b : Int} (q : aj (updI t m x) (updI h m y) (blw (m + 1)) a b) : aj t h (blw m) a b ∨ (a = x ∧ b = y) ∨ (a = y ∧ b = x) := sorry
theorem aj_new {t h : Int → Int} {m : Nat} {x y : Int} : aj (updI t m x) (updI h m y) (blw (m + 1)) x y := sorry
theorem JNs_ok {N m : Nat} {t h t' h' : Int → Int} {rot rot' : Int → List Int} {b : Int} (w : WB t h m N rot) (wj : WJ t h m (blw m) rot) (q : JNs N m t h rot t' h' rot' b) : WB t' h' (m + 1) N rot' ∧ WJ t' h' (m + 1) (blw (m + 1)) rot' := sorry
theorem JNn_ok {N m0 : Nat} {t0 h0 : Int → Int} {r0 : Int → List Int} (w : WB t0 h0 m0 N r0) (wj : WJ t0 h0 m0 (blw m0) r0) : ∀ {k : Nat} {t h : Int → Int} {rot : Int → List Int}, JNn N m0 t0 h0 r0 k t h rot → WB t h (m0 + k) N rot ∧ WJ t h (m0 + k) (blw (m0 + k)) rot := sorry
theorem JNn_agr {N m0 : Nat} {t0 h0 : Int → Int} {r0 : Int → List Int} : ∀ {k : Nat} {t h : Int → Int} {rot : Int → List Int}, JNn N m0 t0 h0 r0 k t h rot → agr t0 h0 t h (blw m0) := sorry
/-- each step reaches one more -/
theorem JNn_cnt {N m0 : Nat} {t0 h0 : Int → Int} {r0 : Int → List Int} (N1 : 1 ≤ N) : ∀ {k : Nat} {t h : Int → Int} {rot : Int → List Int}, JNn N m0 t0 h0 r0 k t h rot → k + 1 ≤ cnt (rchs (aj t h (blw (m0 + k))) 0) N := sorry
theorem JNn_le {N m0 : Nat} {t0 h0 : Int → Int} {r0 : Int → List Int} (N1 : 1 ≤ N) {k : Nat} {t h : Int → Int} {rot : Int → List Int} (q : JNn N m0 t0 h0 r0 k t h rot) : k + 1 ≤ N := sorry
theorem JNn_GI {N m0 : Nat} {t0 h0 : Int → Int} {r0 : Int → List Int} (w : WB t0 h0 m0 N r0) (wj : WJ t0 h0 m0 (blw m0) r0) (N3 : 3 ≤ N) {k : Nat} {t h : Int → Int} {rot : Int → List Int} (q : JNn N m0 t0 h0 r0 k t h rot) (al : ∀ a, blw N a → rchs (aj t h (blw (m0 + k))) 0 a) : GI t h (m0 + k) N rot := sorry
/-- by the numbers of the parts -/
theorem JNn_num {N m0 : Nat} {t0 h0 : Int → Int} {r0 : Int → List Int} {P : Int → Int} (hr : ∀ e, blw m0 e → blw N (t0 e) ∧ blw N (h0 e)) (N1 : 1 ≤ N) (hn : num (rchs (aj t0 h0 (blw m0))) N P) : ∀ {k : Nat} {t h : Int → Int} {rot : Int → List Int}, JNn N m0 t0 h0 r0 k t h rot → (∀ x y, aj t h (blw (m0 + k)) x y → (aj t0 h0 (blw m0) x y ∧ blw N x ∧ blw N y) ∨ (P x ≤ k ∧ P y ≤ k)) ∧ ∀ j, blw N j → (rchs (aj t h (blw (m0 + k))) 0 j ↔ P j ≤ k) := sorry
/-- one more part: its first node comes next -/
theorem JNn_next {N m0 : Nat} {t0 h0 : Int → Int} {r0 : Int → List Int} {P : Int → Int} (hr : ∀ e, blw m0 e → blw N (t0 e) ∧ blw N (h0 e)) (N1 : 1 ≤ N) (hn : num (rchs (aj t0 h0 (blw m0))) N P) {k : Nat} {t h : Int → Int} {rot : Int → List Int} (q : JNn N m0 t0 h0 r0 k t h rot) {b : Int} (hb : blw N b) (pb : P b = k + 1) (ls : ∀ j : Int, 0 ≤ j → j < b → P j ≠ k + 1) : JNn N m0 t0 h0 r0 (k + 1) (updI t (m0 + k : Nat) 0) (updI h (m0 + k : Nat) b) (fun i => if i = 0 ∨ i = b then rot i ++ [((m0 + k : Nat) : Int)] else rot i) := sorry
theorem num_at {E : Int → Int → Prop} {N : Nat} {P : Int → Int} (hn : num E N P) {k : Nat} (hk : k < nums E N) : ∃ b, blw N b ∧ P b = k := sorry
theorem num_lt {E : Int → Int → Prop} (tr : ∀ x y z, E x y → E y z → E x z) (rf : ∀ x, E x x) {N : Nat} {P : Int → Int} (hn : num E N P) {j : Int} (hj : blw N j) : P j < nums E N := sorry
theorem JNn_all {N m0 : Nat} {t0 h0 : Int → Int} {r0 : Int → List Int} {P : Int → Int} (hr : ∀ e, blw m0 e → blw N (t0 e) ∧ blw N (h0 e)) (N1 : 1 ≤ N) (hn : num (rchs (aj t0 h0 (blw m0))) N P) {k : Nat} {t h : Int → Int} {rot : Int → List Int} (q : JNn N m0 t0 h0 r0 k t h rot) (hk : nums (rchs (aj t0 h0 (blw m0))) N ≤ k + 1) : ∀ a, blw N a → rchs (aj t h (blw (m0 + k))) 0 a := sorry
/-- a node without edges has an empty row -/
theorem ROT_nil {t h : Int → Int} {m : Nat} {i : Int} (q : ∀ e, blw m e → ¬ inc t h e i) : ROT t h m i [] := sorry
/-- the drawing of a graph, its parts joined -/
def GRJ (T H : Int → Int) (E N : Nat) (PX PY : Int → Int) : Prop :=
  ∃ (r0 : Int → List Int) (k : Nat) (t h : Int → Int) (rot : Int → List Int), (∀ i, ROT T H E i (r0 i)) ∧ JNn N E T H r0 k t h rot ∧ (∀ a, blw N a → rchs (aj t h (blw (E + k))) 0 a) ∧ GRID t h (E + k) N rot PX PY
theorem GRJ_un {T H : Int → Int} {E N : Nat} (hs : smp T H (blw E)) (hl : nlp T H (blw E)) (hr : ∀ e, blw E e → blw N (T e) ∧ blw N (H e)) (N3 : 3 ≤ N) {PX PY PX' PY' : Int → Int} (q : GRJ T H E N PX PY) (q' : GRJ T H E N PX' PY') : ∀ i, blw N i → PX i = PX' i ∧ PY i = PY' i := sorry
end
section
/-! ===== the twin's grid ===== -/
/-- the twin's web: edges, nodes, orders -/
def TGw (v : Int → Int → Int) (N m : Nat) (t h : Int → Int) (rot : Int → List Int) : Prop := TW v ∧ v 280 31 = N ∧ v 280 32 = m ∧ (∀ e, blw m e → (v 295 e = t e ∧ v 296 e = h e) ∧ v 297 e = 1) ∧ rowT v N rot
theorem TGw.k {v v' : Int → Int → Int} {N m : Nat} {t h : Int → Int} {rot : Int → List Int} {F C : List Int} (g : TGw v N m t h rot) (k : KS 280 F C v v') (hF : F.all (fun j => twr.all (fun i => decide (i ≠ j))) = true) (f31 : 31 ∉ F) (f32 : 32 ∉ F) (hC : C.all (fun c => decide (c ≠ 295 ∧ c ≠ 296 ∧ c ≠ 297 ∧ c ≠ 298 ∧ c ≠ 299)) = true) : TGw v' N m t h rot := sorry
theorem fl_iff {v : Int → Int → Int} {N m : Nat} {t h : Int → Int} (e32 : v 280 32 = m) (eT : ∀ e, blw m e → (v 295 e = t e ∧ v 296 e = h e) ∧ v 297 e = 1) (hr : ∀ e, blw m e → blw N (t e) ∧ blw N (h e)) (a i : Int) : rchs (ajw (v 295) (v 296) (pA v) (-1)) a i ↔ rchs (aj t h (blw m)) a i := sorry
set_option maxRecDepth 100000 in
theorem sp_Mo_apartNode {l : Launch} {D : qD} {d N m : Nat} {t h' : Int → Int} {rot : Int → List Int} {h : qh} {Q : qQ} (G : TGw h.2 N m t h' rot) (wb : WB t h' m N rot) (N1 : 1 ≤ N) (N0 : N ≤ 24) (m0 : m ≤ 80)
    (hq : ∀ v z, KS 280 [] [300] h.2 v → ((z = -1 ∧ ∀ a, blw N a → rchs (aj t h' (blw m)) 0 a) ∨ (blw N z ∧ ¬ rchs (aj t h' (blw m)) 0 z ∧ ∀ j : Int, 0 ≤ j → j < z → rchs (aj t h' (blw m)) 0 j)) → Q (some (.inl z)) (h.1, v)) : qM l D (d + 2, 0, 0) m_Mo_apartNode [.inr (.inr 280)] h Q := sorry
set_option maxRecDepth 100000 in
theorem Mo_gr_end {l : Launch} {D : qD} {d N : Nat} {X Y : Int → Int} {h : qh} {Q : qQ} (a75 : h.2 280 75 = 330) (eN : h.2 280 31 = N) (N0 : N ≤ 24) (vX : ∀ i, blw N i → h.2 329 i = X i ∧ h.2 330 i = Y i) (vY : ∀ i, blw N i → -205520800 ≤ Y i ∧ Y i ≤ 205520800)
    (hq : ∀ v, KS 280 [] [330] h.2 v → (∀ i, blw N i → v 329 i = X i ∧ v 330 i = mxs Y N - Y i) → Q (some (.inl 0)) (h.1, v)) : ∀ y1 y2 y3 (y4 : Int), qR l D (d + 8, 0, 0) m_Mo_grid 137 (fun r h' => Q r ((h'.1.1, h.1.2.1, h.1.2.2), h'.2)) [some (.inr (.inr 280)), y1, y2, y3, some (.inl y4), some (.inl (0)), some (.inl (0))] [] ((h.1.1, 0, 0), h.2) := sorry
set_option maxRecDepth 100000 in
theorem Mo_fo {d : Nat} {K : qK} {L : List (Option qv)} {v : Int → Int → Int} {n1 : Nat × Nat × Nat} {i D0 X : Int} (z57 : v 280 57 = 314) (r0 : v 314 i = D0) (i0 : 0 ≤ i ∧ i < 3) (e : e_Mo_fromOf D0 v) (p : p_Mo_fromOf D0 v) (e0 : f_Mo_fromOf D0 v = X) (k : K (some (.inr (.inr 280)) :: L) [.inl X] (n1, v)) :
    (s_aload 0 (s_aload 0 (s_getR 18 57 (s_ic i (s_iald (s_Mo_fromOf (d + 7) K)))))) (some (.inr (.inr 280)) :: L) [] (n1, v) := sorry
set_option maxRecDepth 100000 in
theorem Mo_gr_81 {l : Launch} {D : qD} {d N m : Nat} {t h' : Int → Int} {rot : Int → List Int} {h : qh} {Q : qQ} (g0 : TGw h.2 N m t h' rot) (N0 : N ≤ 24) (m0 : m ≤ 80) (G : GI t h' m N rot) (f3 : ∀ n W, FS t h' m rot n W → ∀ f, f < n → (W f).length = 3)
    (hq : ∀ v n W O lft c cc o X Y U, KS 280 [31, 32, 39, 45, 49, 53, 121] [287, 290, 292, 295, 296, 297, 298, 299, 300, 301, 302, 303, 304, 305, 306, 307, 308, 309, 310, 311, 313, 314, 329, 330, 347, 364, 368, 369] h.2 v → FS t h' m rot n W → (∀ f, f < n → (W f).length = 3) → PLn t h' m rot (blw N) [t 0, frD t h' (li (W 0) 2), h' 0] (N - 2) O lft c → o 1 = t 0 → o 2 = h' 0 → (∀ j : Nat, j < N - 2 → o ((N : Int) - j) = li O j) → SHn (fun x y => ∃ f, blw m f ∧ jn1 t h' f x y) o (N - 3) cc X Y U → (∀ i, blw N i → v 329 i = X i ∧ v 330 i = mxs Y N - Y i) → Q (some (.inl 0)) (h.1, v)) : ∀ y1 y2, (w_Mo_grid_81 l D (d + 7) (0, 0) (fun r h' => Q r ((h'.1.1, h.1.2.1, h.1.2.2), h'.2))) [some (.inr (.inr 280)), some (.inl y1), y2, none, none, none, none] [] ((h.1.1, 0, 0), h.2) := sorry
set_option maxRecDepth 100000 in
theorem Mo_gr_69 {l : Launch} {D : qD} {d N m0 : Nat} {t0 h0 : Int → Int} {r0 : Int → List Int} {h : qh} {Q : qQ} (g0 : TGw h.2 N m0 t0 h0 r0) (N0 : N ≤ 24) (m80 : m0 ≤ 80) (G : GI t0 h0 m0 N r0)
    (hq : ∀ v, KS 280 [31, 32, 39, 45, 49, 53, 121] [287, 290, 292, 295, 296, 297, 298, 299, 300, 301, 302, 303, 304, 305, 306, 307, 308, 309, 310, 311, 313, 314, 329, 330, 347, 364, 368, 369] h.2 v → GRID t0 h0 m0 N r0 (v 329) (v 330) → Q (some (.inl 0)) (h.1, v)) : ∀ y2, qR l D (d + 8, 0, 0) m_Mo_grid 69 (fun r h' => Q r ((h'.1.1, h.1.2.1, h.1.2.2), h'.2)) [some (.inr (.inr 280)), some (.inl (1)), y2, none, none, none, none] [] ((h.1.1, 0, 0), h.2) := sorry
set_option maxRecDepth 100000 in
theorem Mo_gr_21 {l : Launch} {D : qD} {d N E : Nat} {T H : Int → Int} {r0 : Int → List Int} {h : qh} {Q : qQ} (g0 : TGw h.2 N E T H r0) (N0 : N ≤ 24) (N3 : 3 ≤ N) (E48 : E ≤ 48) (w0 : WB T H E N r0) (hro : ∀ i, ROT T H E i (r0 i))
    (hq : ∀ v, KS 280 [31, 32, 39, 45, 49, 53, 121] [287, 290, 292, 295, 296, 297, 298, 299, 300, 301, 302, 303, 304, 305, 306, 307, 308, 309, 310, 311, 313, 314, 329, 330, 347, 364, 368, 369] h.2 v → GRJ T H E N (v 329) (v 330) → Q (some (.inl 0)) (h.1, v)) : qR l D (d + 8, 0, 0) m_Mo_grid 21 (fun r h' => Q r ((h'.1.1, h.1.2.1, h.1.2.2), h'.2)) [some (.inr (.inr 280)), none, none, none, none, none, none] [] ((h.1.1, 0, 0), h.2) := sorry
set_option maxRecDepth 100000 in
theorem sp_Mo_grid {l : Launch} {D : qD} {d N E : Nat} {T H : Int → Int} {h : qh} {Q : qQ} (hT : TW h.2) (hok : tok h.2) (en : tn h.2 = N) (em : tm h.2 = E) (eT : tT h.2 = T) (eH : tH h.2 = H) (hs : smp T H (blw E))
    (q2 : ¬ PL T H (blw E) → ∀ v, KS 280 [31, 32, 39, 45, 49, 53, 121] [287, 290, 292, 295, 296, 297, 298, 299, 300, 301, 302, 303, 304, 305, 306, 307, 308, 309, 310, 311, 313, 314, 329, 330, 347, 364, 368, 369] h.2 v → Q (some (.inl (-2))) (h.1, v)) (q3 : PL T H (blw E) → N < 3 → ∀ v, KS 280 [31, 32, 39, 45, 49, 53, 121] [287, 290, 292, 295, 296, 297, 298, 299, 300, 301, 302, 303, 304, 305, 306, 307, 308, 309, 310, 311, 313, 314, 329, 330, 347, 364, 368, 369] h.2 v → Q (some (.inl (-3))) (h.1, v))
    (q0 : PL T H (blw E) → 3 ≤ N → ∀ v, KS 280 [31, 32, 39, 45, 49, 53, 121] [287, 290, 292, 295, 296, 297, 298, 299, 300, 301, 302, 303, 304, 305, 306, 307, 308, 309, 310, 311, 313, 314, 329, 330, 347, 364, 368, 369] h.2 v → GRJ T H E N (v 329) (v 330) → Q (some (.inl 0)) (h.1, v)) :
    qM l D (d + 8, 0, 0) m_Mo_grid [.inr (.inr 280)] h Q := sorry
end
section
/-! ===== the house's grid, once it is planned ===== -/
/-- what it leaves as it was -/
def KDG (v v' : Int → Int → Int) : Prop := (∀ a : Int, a ≠ 0 → (a < 166 ∨ 174 < a) → (a < 238 ∨ 245 < a) → a ≠ 199 → a ≠ 200 → a ≠ 201 → v' a = v a) ∧ (∀ j : Int, j ≠ 12 → v' 0 j = v 0 j) ∧ (∀ j : Int, j ≠ 1 → j ≠ 2 → v' 166 j = v 166 j) ∧ ∀ j : Int, j ≠ 7 → v' 238 j = v 238 j
theorem KDG.rf {v : Int → Int → Int} : KDG v v := sorry
theorem KDG.tr {v v' v'' : Int → Int → Int} (h : KDG v v') (h' : KDG v' v'') : KDG v v'' := sorry
theorem KDG.g {v v' : Int → Int → Int} (k : KGD v v') : KDG v v' := sorry
theorem KDG.w {v v' : Int → Int → Int} {F C : List Int} (k : KS 166 F C v v') (hF : ∀ j, j ∈ F → j = 1 ∨ j = 2) (hC : ∀ c, c ∈ C → 167 ≤ c ∧ c ≤ 174) : KDG v v' := sorry
theorem KDG.p {v : Int → Int → Int} {z : Int} : KDG v (up2 v 0 12 z) := sorry
/-- the house's web: edges, nodes, orders -/
def CGw (v : Int → Int → Int) (N m : Nat) (t h : Int → Int) (rot : Int → List Int) : Prop := WF v ∧ v 166 0 = N ∧ v 166 1 = m ∧ (∀ e, blw m e → v 167 e = t e ∧ v 168 e = h e) ∧ rowC v N rot
set_option maxRecDepth 100000 in
theorem DH_gr_26 {l : Launch} {D : qD} {d N E : Nat} {T H : Int → Int} {r0 : Int → List Int} {P : Int → Int} {y1 y2 : Option qv} {h : qh} {Q : qQ} (a11 : h.2 0 11 = 166) (a19 : h.2 0 19 = 198) (a21 : h.2 0 21 = 238) (c1 : h.2 135 1 = 137) (c6 : h.2 135 6 = nums (rchs (aj T H (blw E))) N) (eP : h.2 137 = P) (hn : num (rchs (aj T H (blw E))) N P) (g0 : CGw h.2 N E T H r0) (N0 : N ≤ 24) (N3 : 3 ≤ N) (E48 : E ≤ 48) (w0 : WB T H E N r0) (hro : ∀ i, ROT T H E i (r0 i)) (b1 : h.2 238 1 = 240) (b2 : h.2 238 2 = 241) (b3 : h.2 238 3 = 242) (b4 : h.2 238 4 = 243) (b5 : h.2 238 5 = 244) (b6 : h.2 238 6 = 245) (s5 : h.2 198 5 = 199) (s6 : h.2 198 6 = 200) (s7 : h.2 198 7 = 201)
    (hq : ∀ v, KDG h.2 v → v 0 12 = -1 → GRJ T H E N (v 199) (v 200) → (∀ e : Int, 0 ≤ e → e < 48 → v 201 e = 0) → Q (some (.inl 0)) (h.1, v)) :
    (w_DH_grid_26 l D (d + 7) (0, 0) (fun r h' => Q r ((h'.1.1, h.1.2.1, h.1.2.2), h'.2))) [some (.inr (.inr 0)), y1, y2, some (.inr (.inr 135)), none, none, none] [] ((h.1.1, 0, 0), h.2) := sorry
end
section
/-! ===== the next order, as it is made in an array ===== -/
def lst (f : Int → Int) (n : Nat) : List Int := (List.range n).map (fun k : Nat => f (k : Int))
theorem lst_len {f : Int → Int} {n : Nat} : (lst f n).length = n := sorry
theorem li_lst {f : Int → Int} {n : Nat} {k : Int} (h0 : 0 ≤ k) (h1 : k < n) : li (lst f n) k = f k := sorry
theorem lst_cg {f g : Int → Int} {n : Nat} (h : ∀ k : Int, 0 ≤ k → k < n → f k = g k) : lst f n = lst g n := sorry
theorem li_id {l : List Int} {n : Nat} (h : l.length = n) : lst (li l) n = l := sorry
theorem lst_spl {f : Int → Int} {n : Nat} {i : Int} (h0 : 0 ≤ i) (h1 : i < n) : lst f n = lst f i.toNat ++ f i :: lst (fun k => f (i + 1 + k)) (n - i.toNat - 1) := sorry
theorem pw_lst {R : Int → Int → Prop} {f : Int → Int} {n : Nat} (h : ∀ j k : Int, 0 ≤ j → j < k → k < n → R (f j) (f k)) : (lst f n).Pairwise R := sorry
theorem dsc_st {f : Int → Int} {lo n : Int} (h : ∀ k, lo ≤ k → k + 1 < n → f (k + 1) < f k) : ∀ j k, lo ≤ j → j < k → k < n → f k < f j := sorry
/-- what stands behind the swap and the turn -/
def nxv (f : Int → Int) (n i j k : Int) : Int := if k < i then f k else if k = i then f j else if n + i - k = j then f i else f (n + i - k)
theorem nxo {f : Int → Int} {n : Nat} {i j : Int} (i0 : 0 ≤ i) (ij : i < j) (jn : j < n) (hd : ∀ k, i < k → k + 1 < n → f (k + 1) < f k) (hj : f i < f j) (h2 : ∀ k, j < k → k < n → f k < f i) :
    (lst (nxv f n i j) n).Perm (lst f n) ∧ lxl (lst f n) (lst (nxv f n i j) n) ∧ ∀ R, R.Perm (lst f n) → lxl (lst f n) R → ¬ lxl R (lst (nxv f n i j) n) := sorry
end
section
/-! ===== the next order: the twin's, the component's ===== -/
def swv (f : Int → Int) (i j k : Int) : Int := if k = i then f j else if k = j then f i else f k
theorem nxv_sw {f : Int → Int} {n i j k : Int} (ij : i < j) (kn : k < n) : nxv f n i j k = if k ≤ i then swv f i j k else swv f i j (n + i - k) := sorry
set_option maxRecDepth 100000 in
theorem sp_Mo_nextOrder {l : Launch} {D : qD} {d n : Nat} {f : Int → Int} {h : qh} {Q : qQ} (hT : TW h.2) (n26 : n ≤ 26) (hf : ∀ k : Int, 0 ≤ k → k < n → h.2 347 k = f k) (inj : ∀ j k : Int, 0 ≤ j → j < k → k < n → f j ≠ f k)
    (h0 : (∀ k : Int, 0 ≤ k → k + 1 < n → f (k + 1) < f k) → Q (some (.inl 0)) h)
    (h1 : ∀ v (i j : Int), FW [347] [] h.2 v → 0 ≤ i → i < j → j < n → (∀ k, i < k → k + 1 < n → f (k + 1) < f k) → f i < f j → (∀ k, j < k → k < n → f k < f i) → (∀ k : Int, 0 ≤ k → k < n → v 347 k = nxv f n i j k) → Q (some (.inl 1)) (h.1, v)) :
    qM l D (d + 1, 0, 0) m_Mo_nextOrder [.inr (.inr 280), .inl n] h Q := sorry
end
section
/-! ===== the next order of places 1 and on: the component's ===== -/
set_option maxRecDepth 100000 in
theorem sp_Pn_nextOrder {l : Launch} {D : qD} {d n : Nat} {f : Int → Int} {h : qh} {Q : qQ} (hw : HW h.2) (n24 : n ≤ 24) (hf : ∀ k : Int, 0 ≤ k → k < n → h.2 261 k = f k) (inj : ∀ j k : Int, 0 ≤ j → j < k → k < n → f j ≠ f k)
    (h0 : (∀ k : Int, 1 ≤ k → k + 1 < n → f (k + 1) < f k) → Q (some (.inl 0)) h)
    (h1 : ∀ v (i j : Int), FW [261] [] h.2 v → 1 ≤ i → i < j → j < n → (∀ k, i < k → k + 1 < n → f (k + 1) < f k) → f i < f j → (∀ k, j < k → k < n → f k < f i) → (∀ k : Int, 0 ≤ k → k < n → v 261 k = nxv f n i j k) → Q (some (.inl 1)) (h.1, v)) :
    qM l D (d + 2, 0, 0) m_Pn_nextOrder [.inr (.inr 253), .inl n] h Q := sorry
end
section
/-! ===== crossings on a ring ===== -/
/-- two chords cross (1) or not (0) -/
def crb (a b c d : Int) : Int := if a = c ∨ a = d ∨ b = c ∨ b = d then 0 else if (min a b < c ∧ c < max a b) ↔ (min a b < d ∧ d < max a b) then 0 else 1
theorem crb_r {a b c d : Int} : 0 ≤ crb a b c d ∧ crb a b c d ≤ 1 := sorry
def crI (p t h : Int → Int) (e f : Int) : Int := crb (p (t e)) (p (h e)) (p (t f)) (p (h f))
def crE (p t h : Int → Int) (e : Int) : Int := sof (crI p t h e) e.toNat
def crN (p t h : Int → Int) (m : Nat) : Int := sof (crE p t h) m
theorem sof_b {F : Int → Int} {B : Int} : ∀ {n : Nat}, (∀ k : Int, 0 ≤ k → k < n → 0 ≤ F k ∧ F k ≤ B) → 0 ≤ sof F n ∧ sof F n ≤ n * B := sorry
theorem crE_r {p t h : Int → Int} {e : Int} {f : Nat} (e48 : e < 48) (fe : (f : Int) ≤ e) : 0 ≤ sof (crI p t h e) f ∧ sof (crI p t h e) f ≤ 48 := sorry
theorem crN_r {p t h : Int → Int} {m : Nat} (m48 : m ≤ 48) : 0 ≤ crN p t h m ∧ crN p t h m ≤ 2304 := sorry
/-- an order of n nodes -/
def OP (f : Int → Int) (n : Nat) : Prop := (∀ k : Int, 0 ≤ k → k < n → 0 ≤ f k ∧ f k < n) ∧ (∀ j k : Int, 0 ≤ j → j < k → k < n → f j ≠ f k) ∧ ∀ x : Int, 0 ≤ x → x < n → ∃ k : Int, 0 ≤ k ∧ k < n ∧ f k = x
noncomputable def pin (f : Int → Int) (n : Nat) (x : Int) : Int := @dite Int (∃ k : Int, 0 ≤ k ∧ k < n ∧ f k = x) (Classical.propDecidable _) (fun z => Classical.choose z) (fun _ => 0)
theorem pin_at {f : Int → Int} {n : Nat} (o : OP f n) {k : Int} (k0 : 0 ≤ k) (k1 : k < n) : pin f n (f k) = k := sorry
theorem pin_r {f : Int → Int} {n : Nat} (o : OP f n) {x : Int} (x0 : 0 ≤ x) (x1 : x < n) : 0 ≤ pin f n x ∧ pin f n x < n := sorry
set_option maxRecDepth 100000 in
theorem sp_Pn_crosses {l : Launch} {D : qD} {d n m : Nat} {g e f z : Int} {p t hd w : Int → Int} {h : qh} {Q : qQ} (hw : HW h.2) (eg : h.2 253 0 = g) (hg : CG h.2 g n m t hd w) (hv : GV n m t hd w) (eb : blw m e) (fb : blw m f) (hp : ∀ x : Int, 0 ≤ x → x < n → h.2 258 x = p x)
    (hq : Q (some (.inl (crI p t hd e f))) h) : qM l D (d + 2, 0, 0) m_Pn_crosses [.inr (.inr 253), .inl e, .inl f, .inl z] h Q := sorry
set_option maxRecDepth 100000 in
theorem sp_Pn_crossings {l : Launch} {D : qD} {d n m : Nat} {g : Int} {f t hd w : Int → Int} {h : qh} {Q : qQ} (hw : HW h.2) (eg : h.2 253 0 = g) (hg : CG h.2 g n m t hd w) (hv : GV n m t hd w) (ho : OP f n) (hf : ∀ k : Int, 0 ≤ k → k < n → h.2 261 k = f k)
    (hq : ∀ v, FW [258] [] h.2 v → Q (some (.inl (crN (pin f n) t hd m))) (h.1, v)) : qM l D (d + 3, 0, 0) m_Pn_crossings [.inr (.inr 253), .inr (.inr 261), .inl n] h Q := sorry
end
section
/-! ===== crossings on a ring: the twin's ===== -/
set_option maxRecDepth 100000 in
theorem sp_Mo_chordCrossings {l : Launch} {D : qD} {d n m : Nat} {r : Int} {f t hd w : Int → Int} {h : qh} {Q : qQ} (hT : TW h.2) (hg : TG h.2 r n m t hd w) (hv : GV n m t hd w) (ho : OP f n) (hf : ∀ k : Int, 0 ≤ k → k < n → h.2 347 k = f k)
    (hq : ∀ v, FW [373] [] h.2 v → Q (some (.inl (crN (pin f n) t hd m))) (h.1, v)) : qM l D (d + 3, 0, 0) m_Mo_chordCrossings [.inr (.inr 280), .inl n] h Q := sorry
end
section
/-! ===== the ring with few nodes: the first best order, plain ===== -/
def tl1 (f : Int → Int) (n : Nat) : List Int := lst (fun k => f (1 + k)) (n - 1)
def L1 (n : Nat) : List Int := tl1 (fun k => k) n
def ordr (R : List Int) (k : Int) : Int := if k ≤ 0 then 0 else li R (k - 1)
theorem lst_tl {f : Int → Int} {n : Nat} (n0 : 0 < n) : lst f n = f 0 :: tl1 f n := sorry
theorem mem_lst {f : Int → Int} {n : Nat} {x : Int} : x ∈ lst f n ↔ ∃ k : Int, 0 ≤ k ∧ k < n ∧ f k = x := sorry
theorem nd_lst {f : Int → Int} {n : Nat} : (lst f n).Nodup ↔ ∀ j k : Int, 0 ≤ j → j < k → k < n → f j ≠ f k := sorry
theorem OP_p {f : Int → Int} {n : Nat} (h : (lst f n).Perm (lst (fun k => k) n)) : OP f n := sorry
theorem tl_OP {f : Int → Int} {n : Nat} (f0 : 0 < n → f 0 = 0) (h : (tl1 f n).Perm (L1 n)) : OP f n := sorry
theorem pin_cg {f g : Int → Int} {n : Nat} (h : ∀ k : Int, 0 ≤ k → k < n → f k = g k) : pin f n = pin g n := sorry
theorem ord_tl {f : Int → Int} {n : Nat} (f0 : 0 < n → f 0 = 0) {k : Int} (k0 : 0 ≤ k) (k1 : k < n) : ordr (tl1 f n) k = f k := sorry
noncomputable def rC (n : Nat) (t h : Int → Int) (m : Nat) (R : List Int) : Int := crN (pin (ordr R) n) t h m
theorem rC_tl {f t h : Int → Int} {n m : Nat} (f0 : 0 < n → f 0 = 0) : crN (pin f n) t h m = rC n t h m (tl1 f n) := sorry
def RiG (n : Nat) (t h : Int → Int) (m : Nat) (f b : Int → Int) : Prop := (0 < n → f 0 = 0) ∧ (0 < n → b 0 = 0) ∧ (tl1 f n).Perm (L1 n) ∧ FBu (L1 n) (rC n t h m) (tl1 f n) (tl1 b n)
theorem tl_cg {f g : Int → Int} {n : Nat} (h : ∀ k : Int, 0 ≤ k → k < n → f k = g k) : tl1 f n = tl1 g n := sorry
theorem RiG_0 {n m : Nat} {t h : Int → Int} : RiG n t h m (fun k => k) (fun k => k) := sorry
theorem RiG.op {n m : Nat} {t h f b : Int → Int} (r : RiG n t h m f b) : OP f n := sorry
theorem RiG.ob {n m : Nat} {t h f b : Int → Int} (r : RiG n t h m f b) : OP b n := sorry
theorem RiG_nx {n m : Nat} {t h f b : Int → Int} (r : RiG n t h m f b) {i j : Int} (i1 : 1 ≤ i) (ij : i < j) (jn : j < n) (hd : ∀ k, i < k → k + 1 < n → f (k + 1) < f k) (hj : f i < f j) (h2 : ∀ k, j < k → k < n → f k < f i) :
    RiG n t h m (nxv f n i j) (if crN (pin (nxv f n i j) n) t h m < crN (pin b n) t h m then nxv f n i j else b) := sorry
theorem RiG_end {n m : Nat} {t h f b : Int → Int} (r : RiG n t h m f b) (hd : ∀ k : Int, 1 ≤ k → k + 1 < n → f (k + 1) < f k) : FB (L1 n) (rC n t h m) (tl1 b n) := sorry
theorem RiG_z {n m : Nat} {t h f b : Int → Int} (m48 : m ≤ 48) (r : RiG n t h m f b) (z : crN (pin b n) t h m = 0) : FB (L1 n) (rC n t h m) (tl1 b n) := sorry
theorem FB_b {n m : Nat} {t h b b' : Int → Int} (q : FB (L1 n) (rC n t h m) (tl1 b n)) (q' : FB (L1 n) (rC n t h m) (tl1 b' n)) (b0 : 0 < n → b 0 = 0) (b0' : 0 < n → b' 0 = 0) {k : Int} (k0 : 0 ≤ k) (k1 : k < n) : b k = b' k := sorry
end
section
/-! ===== the ring with many nodes: a node goes to its best place, plain ===== -/
def outI (b : Int → Int) (a k : Int) : Int := if k < a then b k else b (k + 1)
def puI (g : Int → Int) (i p k : Int) : Int := if k < p then g k else if k = p then i else g (k - 1)
def bpl (C : Int → Int) : Nat → Int
  | 0 => 1
  | k + 1 => if C (k + 2) < C (bpl C k) then k + 2 else bpl C k
theorem bpl_r {C : Int → Int} : ∀ {k : Nat}, 1 ≤ bpl C k ∧ bpl C k ≤ k + 1 := sorry
def pixI (a p k : Int) : Int := if k = p then a else if (if k < p then k else k - 1) < a then (if k < p then k else k - 1) else (if k < p then k else k - 1) + 1
theorem pu_pix {b : Int → Int} {i a p k : Int} (ha : b a = i) : puI (outI b a) i p k = b (pixI a p k) := sorry
theorem pix_r {a p k n : Int} (a0 : 0 ≤ a) (a1 : a < n) (p0 : 0 ≤ p) (p1 : p < n) (k0 : 0 ≤ k) (k1 : k < n) : 0 ≤ pixI a p k ∧ pixI a p k < n := sorry
theorem pix_i {a p j k : Int} (jk : j < k) : pixI a p j ≠ pixI a p k := sorry
theorem pix_s {a p y n : Int} (a0 : 0 ≤ a) (a1 : a < n) (p0 : 0 ≤ p) (p1 : p < n) (y0 : 0 ≤ y) (y1 : y < n) : ∃ k, 0 ≤ k ∧ k < n ∧ pixI a p k = y := sorry
theorem pu_OP {b : Int → Int} {n : Nat} (o : OP b n) {i a p : Int} (a0 : 0 ≤ a) (a1 : a < n) (ha : b a = i) (p0 : 0 ≤ p) (p1 : p < n) : OP (puI (outI b a) i p) n := sorry
/-- crossings with i at place p -/
noncomputable def siC (n : Nat) (t h : Int → Int) (m : Nat) (b : Int → Int) (i p : Int) : Int := crN (pin (puI (outI b (pin b n i)) i p) n) t h m
noncomputable def sft (n : Nat) (t h : Int → Int) (m : Nat) (b : Int → Int) (i : Int) : Int → Int := puI (outI b (pin b n i)) i (bpl (siC n t h m b i) (n - 2))
theorem sft_OP {n m : Nat} {t h b : Int → Int} {i : Int} (n2 : 2 ≤ n) (o : OP b n) (i0 : 0 ≤ i) (i1 : i < n) : OP (sft n t h m b i) n := sorry
noncomputable def sfr (n : Nat) (t h : Int → Int) (m : Nat) (b : Int → Int) : Nat → Int → Int
  | 0 => b
  | k + 1 => sft n t h m (sfr n t h m b k) (k + 1)
theorem sfr_OP {n m : Nat} {t h b : Int → Int} (n2 : 2 ≤ n) (o : OP b n) : ∀ {k : Nat}, k < n → OP (sfr n t h m b k) n := sorry
end
section
/-! ===== sift: the component's ===== -/
set_option maxRecDepth 100000 in
theorem sp_Pn_sift {l : Launch} {D : qD} {d n m : Nat} {g i : Int} {b t hd w : Int → Int} {h : qh} {Q : qQ} (hw : HW h.2) (eg : h.2 253 0 = g) (hg : CG h.2 g n m t hd w) (hv : GV n m t hd w) (n2 : 2 ≤ n) (ho : OP b n) (i0 : 0 ≤ i) (i1 : i < n) (hb : ∀ k : Int, 0 ≤ k → k < n → h.2 262 k = b k)
    (hq : ∀ v, FW [258, 259, 261, 262] [] h.2 v → (∀ k : Int, 0 ≤ k → k < n → v 262 k = sft n t hd m b i k) → Q (some (.inl (crN (pin (sft n t hd m b i) n) t hd m))) (h.1, v)) :
    qM l D (d + 4, 0, 0) m_Pn_sift [.inr (.inr 253), .inl i, .inl n] h Q := sorry
end
section
/-! ===== places on the ring, and the order that both sides find ===== -/
def rgx (n k : Int) : Int := if 32 * k < 8 * n then 32 * k else if 32 * k < 16 * n then 8 * n else if 32 * k < 24 * n then 24 * n - 32 * k else 0
def rgy (n k : Int) : Int := if 32 * k < 8 * n then 0 else if 32 * k < 16 * n then 32 * k - 8 * n else if 32 * k < 24 * n then 8 * n else 32 * n - 32 * k
theorem rg_s {n k : Int} (k0 : 0 ≤ k) (k1 : k < n) : ((32 * k).tdiv (8 * n) = 0 ∧ (32 * k).tmod (8 * n) = 32 * k ∧ 32 * k < 8 * n) ∨ ((32 * k).tdiv (8 * n) = 1 ∧ (32 * k).tmod (8 * n) = 32 * k - 8 * n ∧ 8 * n ≤ 32 * k ∧ 32 * k < 16 * n) ∨ ((32 * k).tdiv (8 * n) = 2 ∧ (32 * k).tmod (8 * n) = 32 * k - 16 * n ∧ 16 * n ≤ 32 * k ∧ 32 * k < 24 * n) ∨ ((32 * k).tdiv (8 * n) = 3 ∧ (32 * k).tmod (8 * n) = 32 * k - 24 * n ∧ 24 * n ≤ 32 * k) := sorry
/-- the order that is found -/
def BRo (n : Nat) (t h : Int → Int) (m : Nat) (B : Int → Int) : Prop := (n ≤ 8 ∧ (0 < n → B 0 = 0) ∧ FB (L1 n) (rC n t h m) (tl1 B n)) ∨ (8 < n ∧ B = sfr n t h m (sfr n t h m (fun k => k) (n - 1)) (n - 1))
theorem BRo_un {n m : Nat} {t h B B' : Int → Int} (q : BRo n t h m B) (q' : BRo n t h m B') {k : Int} (k0 : 0 ≤ k) (k1 : k < n) : B k = B' k := sorry
theorem OP_id {n : Nat} : OP (fun k => k) n := sorry
theorem BRo_OP {n m : Nat} {t h B : Int → Int} (q : BRo n t h m B) : OP B n := sorry
/-! a number for each order: the next order has a greater one -/
def lvl (B : Int) : List Int → Int
  | [] => 0
  | x :: l => x * B ^ l.length + lvl B l
theorem lvl_r {B : Int} (B0 : 0 < B) : ∀ {l : List Int}, (∀ x ∈ l, 0 ≤ x ∧ x < B) → 0 ≤ lvl B l ∧ lvl B l < B ^ l.length := sorry
theorem lvl_lt {B : Int} (B0 : 0 < B) : ∀ {l l' : List Int}, l.length = l'.length → (∀ x ∈ l, 0 ≤ x ∧ x < B) → (∀ x ∈ l', 0 ≤ x ∧ x < B) → lxl l l' → lvl B l < lvl B l' := sorry
theorem tl_nx {n : Nat} {f : Int → Int} {i j : Int} (i1 : 1 ≤ i) (ij : i < j) (jn : j < n) (hd : ∀ k, i < k → k + 1 < n → f (k + 1) < f k) (hj : f i < f j) (h2 : ∀ k, j < k → k < n → f k < f i) : (tl1 (nxv f n i j) n).Perm (tl1 f n) ∧ lxl (tl1 f n) (tl1 (nxv f n i j) n) := sorry
def msr (n : Nat) (f : Int → Int) : Nat := ((n : Int) ^ (n - 1) - lvl n (tl1 f n)).toNat
theorem L1_r {n : Nat} {l : List Int} (h : l.Perm (L1 n)) : ∀ x ∈ l, 0 ≤ x ∧ x < n := sorry
theorem msr_lt {n m : Nat} {t h f b : Int → Int} (r : RiG n t h m f b) {i j : Int} (i1 : 1 ≤ i) (ij : i < j) (jn : j < n) (hd : ∀ k, i < k → k + 1 < n → f (k + 1) < f k) (hj : f i < f j) (h2 : ∀ k, j < k → k < n → f k < f i) : msr n (nxv f n i j) < msr n f := sorry
end
section
/-! ===== the ring: the component's ===== -/
set_option maxRecDepth 100000 in
theorem sp_Pn_ring {l : Launch} {D : qD} {d n m : Nat} {g : Int} {t hd w : Int → Int} {h : qh} {Q : qQ} (hw : HW h.2) (eg : h.2 253 0 = g) (eo : h.2 253 2 = 198) (hg : CG h.2 g n m t hd w) (hv : GV n m t hd w)
    (hq : ∀ v B, FW [199, 200, 258, 259, 261, 262] [(198, 2)] h.2 v → BRo n t hd m B → v 198 2 = crN (pin B n) t hd m → (∀ k : Int, 0 ≤ k → k < n → v 199 (B k) = rgx n k ∧ v 200 (B k) = rgy n k) → Q none (h.1, v)) :
    qM l D (d + 5, 0, 0) m_Pn_ring [.inr (.inr 253)] h Q := sorry
end
section
/-! ===== putBest: the twin's ===== -/
set_option maxRecDepth 100000 in
theorem sp_Mo_putBest {l : Launch} {D : qD} {d n m : Nat} {r i : Int} {b t hd w : Int → Int} {h : qh} {Q : qQ} (hT : TW h.2) (hg : TG h.2 r n m t hd w) (hv : GV n m t hd w) (n2 : 2 ≤ n) (ho : OP b n) (i0 : 0 ≤ i) (i1 : i < n) (hb : ∀ k : Int, 0 ≤ k → k < n → h.2 347 k = b k)
    (hq : ∀ v, FW [347, 373] [] h.2 v → (∀ k : Int, 0 ≤ k → k < n → v 347 k = sft n t hd m b i k) → Q none (h.1, v)) :
    qM l D (d + 4, 0, 0) m_Mo_putBest [.inr (.inr 280), .inl i, .inl n] h Q := sorry
end
section
/-! ===== the ring: the twin's ===== -/
set_option maxRecDepth 100000 in
theorem sp_Mo_ring {l : Launch} {D : qD} {d n m : Nat} {r g : Int} {t hd w : Int → Int} {h : qh} {Q : qQ} (hT : TW h.2) (hg : TG h.2 r n m t hd w) (hv : GV n m t hd w) (g0 : 0 ≤ g) (g1 : g < 4)
    (hq : ∀ v B, FW [329, 330, 347, 348, 373] [] h.2 v → BRo n t hd m B → (∀ k : Int, 0 ≤ k → k < n → v 329 (B k) = rgx n k ∧ v 330 (B k) = rgy n k) → Q (some (.inl 0)) (h.1, up2 v 322 g (crN (pin B n) t hd m))) :
    qM l D (d + 5, 0, 0) m_Mo_ring [.inr (.inr 280), .inl g] h Q := sorry
end
section
/-! ===== the matrix: the order of its rows, plain ===== -/
noncomputable def fwr (P : Int → Prop) (dg : Int → Int) : Nat → Int
  | 0 => -1
  | k + 1 => @ite Int (P (k : Int) ∧ (fwr P dg k = -1 ∨ dg (k : Int) < dg (fwr P dg k))) (Classical.propDecidable _) (k : Int) (fwr P dg k)
theorem fwr_r {P : Int → Prop} {dg : Int → Int} : ∀ {k : Nat}, fwr P dg k = -1 ∨ (0 ≤ fwr P dg k ∧ fwr P dg k < k ∧ P (fwr P dg k)) := sorry
theorem fwr_no {P : Int → Prop} {dg : Int → Int} : ∀ {k : Nat}, fwr P dg k = -1 → ∀ x : Int, 0 ≤ x → x < k → ¬ P x := sorry
theorem fwr_cg {P P' : Int → Prop} {dg : Int → Int} : ∀ {k : Nat}, (∀ x : Int, 0 ≤ x → x < k → (P x ↔ P' x)) → fwr P dg k = fwr P' dg k := sorry
/-- what may come next: not yet there, and beside the one at hand -/
def mxP (adj : Int → Int → Prop) (f : Int → Int) (z a x : Int) : Prop := (∀ j : Int, 0 ≤ j → j < z → f j ≠ x) ∧ (a < z → adj (f a) x)
noncomputable def mnx (n : Nat) (adj : Int → Int → Prop) (dg f : Int → Int) (z a : Int) : Int := fwr (mxP adj f z a) dg n
noncomputable def mxst (n : Nat) (adj : Int → Int → Prop) (dg : Int → Int) : Nat → (Int → Int) × Int × Int
  | 0 => (fun _ => 0, 0, 0)
  | s + 1 => @ite _ (mnx n adj dg (mxst n adj dg s).1 (mxst n adj dg s).2.1 (mxst n adj dg s).2.2 = -1) (Classical.propDecidable _) ((mxst n adj dg s).1, (mxst n adj dg s).2.1, (mxst n adj dg s).2.2 + 1)
      ((fun k => if k = (mxst n adj dg s).2.1 then mnx n adj dg (mxst n adj dg s).1 (mxst n adj dg s).2.1 (mxst n adj dg s).2.2 else (mxst n adj dg s).1 k), (mxst n adj dg s).2.1 + 1, (mxst n adj dg s).2.2)
theorem mxst_up {n : Nat} {adj : Int → Int → Prop} {dg : Int → Int} {s : Nat} : ∀ {k : Nat}, (mxst n adj dg s).2.1 ≤ (mxst n adj dg (s + k)).2.1 ∧ ((mxst n adj dg (s + k)).2.1 = (mxst n adj dg s).2.1 → (mxst n adj dg (s + k)).1 = (mxst n adj dg s).1) := sorry
theorem mxst_un {n : Nat} {adj : Int → Int → Prop} {dg : Int → Int} {s s' : Nat} (h : (mxst n adj dg s).2.1 = n) (h' : (mxst n adj dg s').2.1 = n) : (mxst n adj dg s).1 = (mxst n adj dg s').1 := sorry
end
section
/-! ===== fewest: the component's ===== -/
set_option maxRecDepth 100000 in
theorem sp_Pn_fewest {l : Launch} {D : qD} {d n : Nat} {g sc x : Int} {P : Int → Prop} {dg : Int → Int} {h : qh} {Q : qQ} (eg : h.2 253 0 = g) (g0 : 0 ≤ g) (gs : q_shp g = (3, 0)) (gn : h.2 g 0 = n) (n24 : n ≤ 24) (es : h.2 253 1 = sc) (s0 : 0 ≤ sc) (ss : q_shp sc = (7, 0)) (s1 : h.2 sc 0 = sc + 1) (ss1 : q_shp (sc + 1) = (100, 24))
    (hr : ∀ i : Int, 0 ≤ i → i < n → (0 ≤ h.2 (sc + 1) i ∧ h.2 (sc + 1) i < 33554432) ∧ (cnt (bt (h.2 (sc + 1) i)) 32 : Int) = dg i) (hP : ∀ i : Int, 0 ≤ i → i < n → (bt x i ↔ P i)) (hq : Q (some (.inl (fwr P dg n))) h) :
    qM l D (d + 2, 0, 0) m_Pn_fewest [.inr (.inr 253), .inl x] h Q := sorry
end
section
/-! ===== fewest: the twin's ===== -/
set_option maxRecDepth 100000 in
theorem sp_Mo_fewest {l : Launch} {D : qD} {d n m : Nat} {r a : Int} {t hd w dg : Int → Int} {en : Int → Int → Int} {P : Int → Prop} {h : qh} {Q : qQ} (hT : TW h.2) (hg : TG h.2 r n m t hd w) (hv : GV n m t hd w) (hen : enb t hd m en) (hl : ∀ i : Int, 0 ≤ i → i < n → h.2 292 i = 0 ∨ h.2 292 i = 1)
    (hdg : ∀ i : Int, 0 ≤ i → i < n → smz (fun e => f_Mo_has e i h.2) m = dg i) (hP : ∀ i : Int, 0 ≤ i → i < n → (P i ↔ h.2 292 i = 1 ∧ (a < 0 ∨ 0 ≤ en a i))) (hq : Q (some (.inl (fwr P dg n))) h) :
    qM l D (d + 4, 0, 0) m_Mo_fewest [.inr (.inr 280), .inl a] h Q := sorry
end
section
/-! ===== the run of the matrix: what holds of it ===== -/
theorem miss {f : Int → Int} {z n : Nat} (hz : z < n) : ∃ x : Int, 0 ≤ x ∧ x < n ∧ ∀ j : Int, 0 ≤ j → j < z → f j ≠ x := sorry
/-- sizes, values, all unlike -/
def MXI (n : Nat) (f : Int → Int) (z a : Int) : Prop := 0 ≤ a ∧ a ≤ z ∧ z ≤ n ∧ (∀ j : Int, 0 ≤ j → j < z → 0 ≤ f j ∧ f j < n) ∧ ∀ j k : Int, 0 ≤ j → j < k → k < z → f j ≠ f k
theorem MXI_no {n : Nat} {adj : Int → Int → Prop} {dg f : Int → Int} {z a : Int} (q : MXI n f z a) (hz : z < n) (h : mnx n adj dg f z a = -1) : MXI n f z (a + 1) := sorry
theorem MXI_ye {n : Nat} {adj : Int → Int → Prop} {dg f : Int → Int} {z a : Int} (q : MXI n f z a) (hz : z < n) (h : mnx n adj dg f z a ≠ -1) : (0 ≤ mnx n adj dg f z a ∧ mnx n adj dg f z a < n) ∧ MXI n (fun k => if k = z then mnx n adj dg f z a else f k) (z + 1) a := sorry
theorem mxst_I {n : Nat} {adj : Int → Int → Prop} {dg : Int → Int} : ∀ {s : Nat}, (∀ k : Nat, k < s → (mxst n adj dg k).2.1 < n) → MXI n (mxst n adj dg s).1 (mxst n adj dg s).2.1 (mxst n adj dg s).2.2 := sorry
end
section
/-! ===== the matrix: the component's ===== -/
def bnd (lv t h : Int → Int) : Nat → Int
  | 0 => 0
  | k + 1 => max (bnd lv t h k) ((lv (t (k : Int)) - lv (h (k : Int))).natAbs : Int)
theorem bnd_r {lv t h : Int → Int} {n : Int} : ∀ {k : Nat}, (∀ e : Int, 0 ≤ e → e < k → (0 ≤ lv (t e) ∧ lv (t e) < n) ∧ (0 ≤ lv (h e) ∧ lv (h e) < n)) → 0 ≤ bnd lv t h k ∧ (bnd lv t h k < n ∨ bnd lv t h k = 0) := sorry
end
section
theorem OP_of {n : Nat} {f : Int → Int} (h4 : ∀ j : Int, 0 ≤ j → j < (n : Int) → 0 ≤ f j ∧ f j < n) (h5 : ∀ j k : Int, 0 ≤ j → j < k → k < (n : Int) → f j ≠ f k) : OP f n := sorry
set_option maxRecDepth 100000 in
theorem sp_Pn_matrix {l : Launch} {D : qD} {d n m : Nat} {g sc : Int} {t hd w dg : Int → Int} {adj : Int → Int → Prop} {h : qh} {Q : qQ} (hw : HW h.2) (eg : h.2 253 0 = g) (es : h.2 253 1 = sc) (hsc : sc = 135 ∨ sc = 187) (eo : h.2 253 2 = 198) (hg : CG h.2 g n m t hd w) (hv : GV n m t hd w)
    (hr : ∀ i : Int, 0 ≤ i → i < n → (0 ≤ h.2 (sc + 1) i ∧ h.2 (sc + 1) i < 33554432) ∧ (cnt (bt (h.2 (sc + 1) i)) 32 : Int) = dg i) (ha : ∀ i j : Int, 0 ≤ i → i < n → 0 ≤ j → j < n → (bt (h.2 (sc + 1) i) j ↔ adj i j))
    (hq : ∀ v B s, FW [199, 200, 261] [(198, 4)] h.2 v → (mxst n adj dg s).2.1 = n → B = (mxst n adj dg s).1 → OP B n → v 198 4 = bnd (fun x => n - 1 - pin B n x) t hd m → (∀ k : Int, 0 ≤ k → k < n → v 199 (B k) = 4 * (n - 1 - k) ∧ v 200 (B k) = 4 * (n - 1 - k)) → Q none (h.1, v)) :
    qM l D (d + 3, 0, 0) m_Pn_matrix [.inr (.inr 253)] h Q := sorry
end
section
/-! ===== the matrix: the twin's ===== -/
theorem smz_cg {f f' : Int → Int} : ∀ {k : Nat}, (∀ e : Int, 0 ≤ e → e < k → f e = f' e) → smz f k = smz f' k := sorry
def MXT (n : Nat) (f : Int → Int) (z : Int) (v : Int → Int → Int) : Prop := (∀ j : Int, 0 ≤ j → j < z → v 347 j = f j) ∧ ∀ i : Int, 0 ≤ i → i < n → (v 292 i = 0 ∨ v 292 i = 1) ∧ (v 292 i = 1 ↔ ∀ j : Int, 0 ≤ j → j < z → f j ≠ i)
theorem MXT_put {n : Nat} {f : Int → Int} {z R : Int} {v : Int → Int → Int} (q : MXT n f z v) (z0 : 0 ≤ z) : MXT n (fun k => if k = z then R else f k) (z + 1) (up2 (up2 v 347 z R) 292 R 0) := sorry
set_option maxRecDepth 100000 in
theorem sp_Mo_matrix {l : Launch} {D : qD} {d n m : Nat} {r g : Int} {t hd w dg : Int → Int} {adj : Int → Int → Prop} {en : Int → Int → Int} {h : qh} {Q : qQ} (hT : TW h.2) (hg : TG h.2 r n m t hd w) (hv : GV n m t hd w) (hen : enb t hd m en) (g0 : 0 ≤ g) (g1 : g < 4)
    (hdg : ∀ i : Int, 0 ≤ i → i < n → smz (fun e => if t e = i ∨ hd e = i then 1 else 0) m = dg i) (ha : ∀ i j : Int, 0 ≤ i → i < n → 0 ≤ j → j < n → (adj i j ↔ 0 ≤ en i j))
    (hq : ∀ v B s, FW [292, 329, 330, 347, 373] [] h.2 v → (mxst n adj dg s).2.1 = n → B = (mxst n adj dg s).1 → OP B n → (∀ k : Int, 0 ≤ k → k < n → v 329 (B k) = 4 * (n - 1 - k) ∧ v 330 (B k) = 4 * (n - 1 - k)) → Q (some (.inl 0)) (h.1, up2 v 322 g (bnd (fun x => n - 1 - pin B n x) t hd m))) :
    qM l D (d + 5, 0, 0) m_Mo_matrix [.inr (.inr 280), .inl g] h Q := sorry
end
section
/-! ===== trees: a rooted forest, plain ===== -/
theorem least_in {n : Nat} {P : Int → Prop} (h : ∃ c, blw n c ∧ P c) : ∃ c, blw n c ∧ P c ∧ ∀ c', blw n c' → P c' → c ≤ c' := sorry
theorem most_in {n : Nat} {P : Int → Prop} (h : ∃ c, blw n c ∧ P c) : ∃ c, blw n c ∧ P c ∧ ∀ c', blw n c' → P c' → c' ≤ c := sorry
/-- levels and parents -/
def RT (n : Nat) (lv par : Int → Int) : Prop := ∀ k : Int, blw n k → (lv k = 0 ∧ par k = -1) ∨ (0 < lv k ∧ blw n (par k) ∧ lv k = lv (par k) + 1)
theorem RT.lv0 {n : Nat} {lv par : Int → Int} (R : RT n lv par) {k : Int} (b : blw n k) : 0 ≤ lv k := sorry
theorem RT.pr {n : Nat} {lv par : Int → Int} (R : RT n lv par) {k : Int} (b : blw n k) (h : 0 ≤ par k) : 0 < lv k ∧ blw n (par k) ∧ lv k = lv (par k) + 1 := sorry
theorem RT.pl {n : Nat} {lv par : Int → Int} (R : RT n lv par) {k : Int} (b : blw n k) (h : 0 < lv k) : blw n (par k) ∧ lv k = lv (par k) + 1 := sorry
def upn (par : Int → Int) : Nat → Int → Int
  | 0, k => k
  | d + 1, k => upn par d (par k)
/-- k is i or under i -/
def und (lv par : Int → Int) (i k : Int) : Prop := lv i ≤ lv k ∧ upn par (lv k - lv i).toNat k = i
theorem und_rf {lv par : Int → Int} {k : Int} : und lv par k k := sorry
theorem und_lt {lv par : Int → Int} {i k : Int} (h : und lv par i k) (ne : i ≠ k) : lv i < lv k := sorry
theorem und_up {n : Nat} {lv par : Int → Int} (R : RT n lv par) {i k : Int} (bi : blw n i) (b : blw n k) (h : und lv par i k) (ne : i ≠ k) : 0 < lv k ∧ blw n (par k) ∧ und lv par i (par k) := sorry
theorem und_dn {n : Nat} {lv par : Int → Int} (R : RT n lv par) {i k : Int} (b : blw n k) (k0 : 0 < lv k) (h : und lv par i (par k)) : und lv par i k := sorry
theorem und_tr {n : Nat} {lv par : Int → Int} (R : RT n lv par) {i j : Int} (bj : blw n j) (h : und lv par i j) : ∀ (N : Nat) (k : Int), lv k < N → blw n k → und lv par j k → und lv par i k := sorry
theorem und_cmp {n : Nat} {lv par : Int → Int} (R : RT n lv par) {i j : Int} (bi : blw n i) (bj : blw n j) (hl : lv i ≤ lv j) : ∀ (N : Nat) (k : Int), lv k < N → blw n k → und lv par i k → und lv par j k → und lv par i j := sorry
theorem und_eq {n : Nat} {lv par : Int → Int} (R : RT n lv par) {i j k : Int} (bi : blw n i) (bj : blw n j) (b : blw n k) (hl : lv i = lv j) (u : und lv par i k) (w : und lv par j k) : i = j := sorry
theorem und_kid {n : Nat} {lv par : Int → Int} (R : RT n lv par) {i : Int} (bi : blw n i) : ∀ (N : Nat) (k : Int), lv k < N → blw n k → und lv par i k → i ≠ k → ∃ c, blw n c ∧ par c = i ∧ und lv par c k := sorry
theorem und_top {n : Nat} {lv par : Int → Int} (R : RT n lv par) : ∀ (N : Nat) (k : Int), lv k < N → blw n k → ∃ r, blw n r ∧ par r = -1 ∧ und lv par r k := sorry
/-- c' stands ahead of c beside it -/
def ahd (n : Nat) (par ky : Int → Int) (c' c : Int) : Prop := blw n c' ∧ blw n c ∧ par c' = par c ∧ ky c' < ky c
def T1a (n : Nat) (par X : Int → Int) (i : Int) : Prop := ∀ c1 c2, blw n c1 → blw n c2 → par c1 = i → par c2 = i → (∀ c, blw n c → par c = i → c1 ≤ c ∧ c ≤ c2) → X i = (X c1 + X c2) / 2
def T2a (n : Nat) (lv par ky X : Int → Int) (c : Int) : Prop := ∀ c' x y, ahd n par ky c' c → blw n x → blw n y → und lv par c' x → und lv par c y → lv x = lv y → X x + 4 ≤ X y
def T3a (n : Nat) (lv par ky X : Int → Int) (c : Int) : Prop := (∃ c', ahd n par ky c' c) → ∃ c' x y, ahd n par ky c' c ∧ blw n x ∧ blw n y ∧ und lv par c' x ∧ und lv par c y ∧ lv x = lv y ∧ X x + 4 = X y
/-- where the tree's nodes stand -/
def TRE (n : Nat) (lv par ky X : Int → Int) : Prop := (∀ i, blw n i → T1a n par X i) ∧ (∀ c, blw n c → T2a n lv par ky X c ∧ T3a n lv par ky X c) ∧ (∀ k, blw n k → 0 ≤ X k) ∧ (0 < n → ∃ k, blw n k ∧ X k = 0)
def KY (n : Nat) (par ky : Int → Int) : Prop := (∀ c, blw n c → 0 ≤ ky c) ∧ (∀ c c', blw n c → blw n c' → par c = par c' → ky c = ky c' → c = c')
theorem TRE_sib {n : Nat} {lv par ky X X' : Int → Int} {p : Int} (K : KY n par ky) (h : ∀ c, blw n c → par c = p → T2a n lv par ky X c ∧ T3a n lv par ky X c) (h' : ∀ c, blw n c → par c = p → T2a n lv par ky X' c ∧ T3a n lv par ky X' c)
    (hd : ∀ c k, blw n c → blw n k → par c = p → und lv par c k → X k - X' k = X c - X' c) : ∀ c c', blw n c → blw n c' → par c = p → par c' = p → X c - X' c = X c' - X' c' := sorry
theorem TRE_dif {n : Nat} {lv par ky X X' : Int → Int} {L : Nat} (R : RT n lv par) (K : KY n par ky) (hL : ∀ k, blw n k → lv k < L) (h1 : ∀ i, blw n i → T1a n par X i) (h1' : ∀ i, blw n i → T1a n par X' i) (h : ∀ c, blw n c → 0 ≤ par c → T2a n lv par ky X c ∧ T3a n lv par ky X c) (h' : ∀ c, blw n c → 0 ≤ par c → T2a n lv par ky X' c ∧ T3a n lv par ky X' c) :
    ∀ N : Nat, ∀ i, blw n i → L - lv i < N → ∀ k, blw n k → und lv par i k → X k - X' k = X i - X' i := sorry
theorem TRE_un {n : Nat} {lv par ky X X' : Int → Int} {L : Nat} (R : RT n lv par) (K : KY n par ky) (hL : ∀ k, blw n k → lv k < L) (h : TRE n lv par ky X) (h' : TRE n lv par ky X') : ∀ k, blw n k → X k = X' k := sorry
end
section
/-! ===== trees: n less its parts edges make a forest ===== -/
theorem aj_j {t h : Int → Int} {A : Int → Prop} {x y : Int} : aj t h A x y ↔ ∃ e, A e ∧ jn1 t h e x y := sorry
theorem aj_r {n m : Nat} {t h : Int → Int} (he : ∀ e, blw m e → blw n (t e) ∧ blw n (h e)) {x y : Int} (q : aj t h (blw m) x y) : blw n x ∧ blw n y := sorry
theorem RT_ex {n m q : Nat} {t hd P r : Int → Int} (he : ∀ e, blw m e → blw n (t e) ∧ blw n (hd e)) (hq : m + q = n) (hP : ∀ k, blw n k → 0 ≤ P k ∧ P k < q) (hr : ∀ k, blw n k → blw n (r (P k)) ∧ P (r (P k)) = P k)
    (hc : ∀ k, blw n k → rchs (aj t hd (blw m)) (r (P k)) k) (hE : ∀ x y, blw n x → blw n y → aj t hd (blw m) x y → P x = P y) :
    ∃ lv par, RT n lv par ∧ (∀ k, blw n k → lv k < n ∧ (par k = -1 ↔ r (P k) = k) ∧ (0 ≤ par k → P (par k) = P k)) ∧ (∀ i k, blw n i → blw n k → (aj t hd (blw m) i k ↔ par k = i ∨ par i = k)) := sorry
end
section
/-! ===== trees: a node's borders, plain ===== -/
def inF (n : Nat) (lv par ky : Int → Int) (p k x : Int) : Prop := ∃ c, blw n c ∧ par c = p ∧ ky c < k ∧ und lv par c x
/-- X goes by the offsets under i -/
def csi (n : Nat) (lv par off X : Int → Int) (i : Int) : Prop := ∀ k, blw n k → und lv par i k → k ≠ i → X k = X (par k) + off k
def csf (n : Nat) (lv par ky off X : Int → Int) (p k X0 : Int) : Prop := ∀ c, blw n c → par c = p → ky c < k → X c = X0 + off c ∧ csi n lv par off X c
def bdr (n : Nat) (lv : Int → Int) (S : Int → Prop) (l : Int) (X : Int → Int) (X0 lo hi : Int) : Prop := (∀ x, blw n x → S x → lv x = l → X0 + lo ≤ X x ∧ X x ≤ X0 + hi) ∧ (∃ x, blw n x ∧ S x ∧ lv x = l ∧ X x = X0 + lo) ∧ (∃ x, blw n x ∧ S x ∧ lv x = l ∧ X x = X0 + hi)
def LYS (n : Nat) (lv par ky off L R : Int → Int) (dp i : Int) : Prop := 1 ≤ dp ∧ (∀ x, blw n x → und lv par i x → lv x < lv i + dp) ∧ ∀ X, csi n lv par off X i → (∀ y, blw n y → und lv par i y → T1a n par X y) ∧ (∀ c, blw n c → und lv par i c → c ≠ i → T2a n lv par ky X c ∧ T3a n lv par ky X c) ∧ ∀ j : Int, 0 ≤ j → j < dp → bdr n lv (und lv par i) (lv i + j) X (X i) (L j) (R j)
def LYF (n : Nat) (lv par ky off L R : Int → Int) (dp l0 p k : Int) : Prop := 1 ≤ dp ∧ (∀ x, blw n x → inF n lv par ky p k x → lv x < l0 + dp) ∧ ∀ X X0, csf n lv par ky off X p k X0 → (∀ y, blw n y → inF n lv par ky p k y → T1a n par X y) ∧ (∀ c, blw n c → inF n lv par ky p k c → T2a n lv par ky X c ∧ T3a n lv par ky X c) ∧ ∀ j : Int, 1 ≤ j → j < dp → bdr n lv (inF n lv par ky p k) (l0 + j) X X0 (L j) (R j)
theorem bdr_cg {n : Nat} {lv : Int → Int} {S S' : Int → Prop} {l : Int} {X : Int → Int} {X0 lo hi : Int} (h : ∀ x, blw n x → lv x = l → (S x ↔ S' x)) (q : bdr n lv S l X X0 lo hi) : bdr n lv S' l X X0 lo hi := sorry
theorem bdr_or {n : Nat} {lv : Int → Int} {S S' : Int → Prop} {l : Int} {X : Int → Int} {X0 lo hi lo' hi' : Int} (q : bdr n lv S l X X0 lo hi) (q' : bdr n lv S' l X X0 lo' hi') : bdr n lv (fun x => S x ∨ S' x) l X X0 (min lo lo') (max hi hi') := sorry
theorem bdr_sh {n : Nat} {lv : Int → Int} {S : Int → Prop} {l : Int} {X : Int → Int} {X0 lo hi X0' a : Int} (e : X0 = X0' + a) (q : bdr n lv S l X X0 lo hi) : bdr n lv S l X X0' (a + lo) (a + hi) := sorry
theorem inF_s {n : Nat} {lv par ky : Int → Int} {p k c x : Int} (K : KY n par ky) (b : blw n c) (pc : par c = p) (kc : ky c = k) : inF n lv par ky p (k + 1) x ↔ inF n lv par ky p k x ∨ und lv par c x := sorry
theorem inF_n {n : Nat} {lv par ky : Int → Int} {p k x : Int} (h : ∀ c, blw n c → par c = p → ky c ≠ k) : inF n lv par ky p (k + 1) x ↔ inF n lv par ky p k x := sorry
theorem LYF_0 {n : Nat} {lv par ky off L R : Int → Int} {l0 p : Int} (K : KY n par ky) : LYF n lv par ky off L R 1 l0 p 0 := sorry
theorem LYF_n {n : Nat} {lv par ky off L R : Int → Int} {dp l0 p k : Int} (h : ∀ c, blw n c → par c = p → ky c ≠ k) (q : LYF n lv par ky off L R dp l0 p k) : LYF n lv par ky off L R dp l0 p (k + 1) := sorry
/-- one child more -/
theorem LYF_s {n : Nat} {lv par ky off L R Lk Rk : Int → Int} {dp dk at' l0 p k c : Int} (K : KY n par ky) (kl : ∀ c, blw n c → par c = p → lv c = l0 + 1) (b : blw n c) (pc : par c = p) (kc : ky c = k) (q : LYF n lv par ky off L R dp l0 p k) (s : LYS n lv par ky off Lk Rk dk c)
    (a1 : ∀ j : Int, 0 ≤ j → j < dk → j < dp - 1 → R (1 + j) + 4 - Lk j ≤ at') (a2 : 1 < dp → ∃ j : Int, 0 ≤ j ∧ j < dk ∧ j < dp - 1 ∧ at' = R (1 + j) + 4 - Lk j)
    {off' L' R' : Int → Int} (o1 : off' c = at') (o2 : ∀ x, blw n x → x ≠ c → off' x = off x)
    (b1 : ∀ j : Int, 0 ≤ j → j < dk → j < dp - 1 → L' (1 + j) = min (L (1 + j)) (at' + Lk j) ∧ R' (1 + j) = max (R (1 + j)) (at' + Rk j)) (b2 : ∀ j : Int, 0 ≤ j → j < dk → ¬ j < dp - 1 → L' (1 + j) = at' + Lk j ∧ R' (1 + j) = at' + Rk j) (b3 : ∀ j : Int, dk < j → j < dp → L' j = L j ∧ R' j = R j) :
    LYF n lv par ky off' L' R' (max dp (dk + 1)) l0 p (k + 1) := sorry
/-- no child -/
theorem LYS_0 {n : Nat} {lv par ky off L R : Int → Int} {i : Int} (T : RT n lv par) (bi : blw n i) (no : ∀ c, blw n c → par c ≠ i) (l0 : L 0 = 0) (r0 : R 0 = 0) : LYS n lv par ky off L R 1 i := sorry
/-- all children are there: the node stands in the middle -/
theorem LYS_e {n : Nat} {lv par ky off L R off' L' R' : Int → Int} {dp i f g M : Int} (T : RT n lv par) (bi : blw n i) (hn : ∀ c, blw n c → ky c < n) (q : LYF n lv par ky off L R dp (lv i) i n) (bf : blw n f) (bg : blw n g) (pf : par f = i) (pg : par g = i) (ex : ∀ c, blw n c → par c = i → f ≤ c ∧ c ≤ g) (hM : M = (off f + off g) / 2)
    (o1 : ∀ c, blw n c → par c = i → off' c = off c - M) (o2 : ∀ c, blw n c → par c ≠ i → off' c = off c) (l0 : L' 0 = 0) (r0 : R' 0 = 0) (l1 : ∀ j : Int, 1 ≤ j → j < dp → L' j = L j - M ∧ R' j = R j - M) : LYS n lv par ky off' L' R' dp i := sorry
/-! ===== how wide a tree can be ===== -/
def Xs (off par : Int → Int) : Nat → Int → Int
  | 0, _ => 0
  | d + 1, k => Xs off par d (par k) + off k
theorem Xs_c {n : Nat} {lv par off : Int → Int} (T : RT n lv par) {k : Int} (b : blw n k) (h : 0 < lv k) : Xs off par (lv k).toNat k = Xs off par (lv (par k)).toNat (par k) + off k := sorry
theorem Xs_i {n : Nat} {lv par off : Int → Int} (T : RT n lv par) {i : Int} (bi : blw n i) : csi n lv par off (fun k => Xs off par (lv k).toNat k) i := sorry
theorem DM_sib {n : Nat} {lv par ky X : Int → Int} {l0 p : Int} (T : RT n lv par) (K : KY n par ky) (kl : ∀ c, blw n c → par c = p → lv c = l0 + 1) : ∀ k : Nat, (∀ c, blw n c → par c = p → ky c < k → T3a n lv par ky X c) → (∀ c x y, blw n c → par c = p → ky c < k → blw n x → blw n y → und lv par c x → und lv par c y → X x - X y ≤ 4 * ((cnt (und lv par c) n : Int) - 1)) → ∀ x y, blw n x → blw n y → inF n lv par ky p k x → inF n lv par ky p k y → X x - X y ≤ 4 * ((cnt (inF n lv par ky p k) n : Int) - 1) := sorry
theorem DM {n : Nat} {lv par ky X : Int → Int} {L : Nat} (T : RT n lv par) (K : KY n par ky) (hn : ∀ c, blw n c → ky c < n) (hL : ∀ k, blw n k → lv k < L) : ∀ N : Nat, ∀ i, blw n i → L - lv i < N → (∀ y, blw n y → und lv par i y → T1a n par X y) → (∀ c, blw n c → und lv par i c → c ≠ i → T3a n lv par ky X c) → ∀ x y, blw n x → blw n y → und lv par i x → und lv par i y → X x - X y ≤ 4 * ((cnt (und lv par i) n : Int) - 1) := sorry
/-! ===== borders are small ===== -/
def XX (lv par off : Int → Int) (k : Int) : Int := Xs off par ((lv k).toNat + 1) k
theorem XX_c {n : Nat} {lv par off : Int → Int} (T : RT n lv par) {k : Int} (b : blw n k) (h : 0 < lv k) : XX lv par off k = XX lv par off (par k) + off k := sorry
theorem XX_i {n : Nat} {lv par off : Int → Int} (T : RT n lv par) {i : Int} (bi : blw n i) : csi n lv par off (XX lv par off) i := sorry
theorem XX_f {n : Nat} {lv par ky off : Int → Int} (T : RT n lv par) {i k : Int} (bi : blw n i) : csf n lv par ky off (XX lv par off) i k (XX lv par off i) := sorry
theorem XX_r {n : Nat} {lv par ky off : Int → Int} (T : RT n lv par) {k : Int} : csf n lv par ky off (XX lv par off) (-1) k 0 := sorry
theorem LYS_bd {n : Nat} {lv par ky off L R : Int → Int} {dp i : Int} (n24 : n ≤ 24) (T : RT n lv par) (K : KY n par ky) (hn : ∀ c, blw n c → ky c < n) (hL : ∀ k, blw n k → lv k < n) (bi : blw n i) (q : LYS n lv par ky off L R dp i) : 1 ≤ dp ∧ lv i + dp ≤ n ∧ ∀ j : Int, 0 ≤ j → j < dp → (-92 ≤ L j ∧ L j ≤ 92) ∧ (-92 ≤ R j ∧ R j ≤ 92) := sorry
theorem LYF_bd {n k : Nat} {lv par ky off L R X : Int → Int} {dp l0 p f X0 : Int} (n24 : n ≤ 24) (T : RT n lv par) (K : KY n par ky) (hn : ∀ c, blw n c → ky c < n) (hL : ∀ k, blw n k → lv k < n) (kl : ∀ c, blw n c → par c = p → lv c = l0 + 1) (q : LYF n lv par ky off L R dp l0 p k) (hX : csf n lv par ky off X p k X0) (bf : blw n f) (pf : par f = p) (kf : ky f < k) (f0 : off f = 0) :
    l0 + dp ≤ n ∧ (∀ j : Int, 1 ≤ j → j < dp → (-92 ≤ L j ∧ L j ≤ 92) ∧ (-92 ≤ R j ∧ R j ≤ 92)) ∧ ∀ c, blw n c → par c = p → ky c < k → -92 ≤ off c ∧ off c ≤ 92 := sorry
theorem LYS_cg {n : Nat} {lv par ky off L R off' L' R' : Int → Int} {dp i : Int} (q : LYS n lv par ky off L R dp i) (ho : ∀ k, blw n k → und lv par i k → k ≠ i → off' k = off k) (hl : ∀ j : Int, 0 ≤ j → j < dp → L' j = L j ∧ R' j = R j) : LYS n lv par ky off' L' R' dp i := sorry
theorem LYF_cg {n : Nat} {lv par ky off L R off' L' R' : Int → Int} {dp l0 p k : Int} (q : LYF n lv par ky off L R dp l0 p k) (ho : ∀ x, blw n x → inF n lv par ky p k x → off' x = off x) (hl : ∀ j : Int, 1 ≤ j → j < dp → L' j = L j ∧ R' j = R j) : LYF n lv par ky off' L' R' dp l0 p k := sorry
end
section
/-! ===== a node's borders: the component's ===== -/
/-- a row that has changed from lo on, below hi -/
def rgm (f f' : Int → Int) (lo hi : Int) (F : Int → Int) : Prop := ∀ q, f' q = if lo ≤ q ∧ q < hi then F q else f q
theorem rgm_0 {f F : Int → Int} {lo : Int} : rgm f f lo lo F := sorry
theorem rgm_s {f F : Int → Int} {v : Int → Int → Int} {a lo j z : Int} (h : rgm f (v a) lo j F) (hj : lo ≤ j) (hz : z = F j) : rgm f (up2 v a j z a) lo (j + 1) F := sorry
theorem rgm.a {f f' F : Int → Int} {lo hi q : Int} (h : rgm f f' lo hi F) (h1 : lo ≤ q) (h2 : q < hi) : f' q = F q := sorry
theorem rgm.o {f f' F : Int → Int} {lo hi q : Int} (h : rgm f f' lo hi F) (h1 : ¬ (lo ≤ q ∧ q < hi)) : f' q = f q := sorry
/-- what the walk under i may change -/
def LYW (n : Nat) (lv par : Int → Int) (i : Int) (v v' : Int → Int → Int) : Prop := ∀ a k, v' a k = v a k ∨ ((a = 254 ∨ a = 257) ∧ blw n k ∧ und lv par i k) ∨ (a = 258 ∧ blw n k ∧ und lv par i k ∧ k ≠ i) ∨ ((a = 255 ∨ a = 256) ∧ ∃ x, blw n x ∧ und lv par i x ∧ 24 * x ≤ k ∧ k < 24 * x + 24)
theorem LYW.rf {n : Nat} {lv par : Int → Int} {i : Int} {v : Int → Int → Int} : LYW n lv par i v v := sorry
theorem LYW.tr {n : Nat} {lv par : Int → Int} {i : Int} {v v' v'' : Int → Int → Int} (h : LYW n lv par i v v') (h' : LYW n lv par i v' v'') : LYW n lv par i v v'' := sorry
theorem LYW.fw {n : Nat} {lv par : Int → Int} {i : Int} {v v' : Int → Int → Int} (h : LYW n lv par i v v') : FW [254, 255, 256, 257, 258] [] v v' := sorry
theorem LYW.k {n : Nat} {lv par : Int → Int} {i c : Int} {v v' : Int → Int → Int} (T : RT n lv par) (bi : blw n i) (bc : blw n c) (pc : par c = i) (h : LYW n lv par c v v') : LYW n lv par i v v' := sorry
def LYH (n : Nat) (lv par ky : Int → Int) (v : Int → Int → Int) (i : Int) : Prop := LYS n lv par ky (v 258) (fun j => v 255 (24 * i + j)) (fun j => v 256 (24 * i + j)) (v 257 i) i ∧ ∀ x, blw n x → und lv par i x → v 254 x = lv x
/-- what the walk reads -/
def LYE (n : Nat) (par : Int → Int) (g sc : Int) (v : Int → Int → Int) : Prop := HW v ∧ v 253 0 = g ∧ (0 ≤ g ∧ (g < 187 ∨ 399 ≤ g)) ∧ q_shp g = (3, 0) ∧ v g 0 = n ∧ v 253 1 = sc ∧ (sc = 135 ∨ sc = 187) ∧ ∀ i k : Int, blw n i → blw n k → (bt (v (sc + 1) i) k ↔ par k = i ∨ par i = k)
theorem LYE.fw {n : Nat} {par : Int → Int} {g sc : Int} {v v' : Int → Int → Int} (h : LYE n par g sc v) (k : FW [254, 255, 256, 257, 258] [] v v') : LYE n par g sc v' := sorry
theorem LYE.sc {n : Nat} {par : Int → Int} {g sc : Int} {v : Int → Int → Int} (h : LYE n par g sc v) : q_shp sc = (7, 0) ∧ q_shp (sc + 1) = (100, 24) ∧ 0 ≤ sc ∧ v sc 0 = sc + 1 := sorry
/-- the contract -/
def LAYC (l : Launch) (D : qD) (n : Nat) (lv par ky : Int → Int) (g sc : Int) (d N : Nat) : Prop := ∀ (i : Int) (h : qh) (Q : qQ), blw n i → (n : Int) - lv i ≤ N → LYE n par g sc h.2 → (∀ v, LYW n lv par i h.2 v → LYH n lv par ky v i → Q none (h.1, v)) → qM l D (d + N + 2, 0, 0) m_Pn_lay [.inr (.inr 253), .inl i, .inl (par i), .inl (lv i)] h Q
set_option maxRecDepth 100000 in
theorem Pn_lay_end {l : Launch} {D : qD} {d n : Nat} {lv par ky : Int → Int} {g sc i fa la ch dp f gg : Int} {h : qh} {v1 : Int → Int → Int} {y9 y10 y11 y12 : Option qv} {Q : qQ} (n24 : n ≤ 24) (T : RT n lv par) (hn : ∀ c, blw n c → ky c < n) (hL : ∀ k, blw n k → lv k < n) (bi : blw n i) (he : LYE n par g sc v1)
    (q : LYF n lv par ky (v1 258) (fun j => v1 255 (24 * i + j)) (fun j => v1 256 (24 * i + j)) dp (lv i) i n) (e257 : v1 257 i = dp) (dr : dp ≤ 24) (l0 : v1 255 (24 * i) = 0) (r0 : v1 256 (24 * i) = 0)
    (bf : blw n f) (bg : blw n gg) (pf : par f = i) (pg : par gg = i) (ex : ∀ c, blw n c → par c = i → f ≤ c ∧ c ≤ gg) (ef : fa = v1 258 f) (eg : la = v1 258 gg)
    (bo : ∀ c, blw n c → par c = i → -92 ≤ v1 258 c ∧ v1 258 c ≤ 92) (bl : ∀ j : Int, 1 ≤ j → j < dp → (-92 ≤ v1 255 (24 * i + j) ∧ v1 255 (24 * i + j) ≤ 92) ∧ (-92 ≤ v1 256 (24 * i + j) ∧ v1 256 (24 * i + j) ≤ 92))
    (hlv : ∀ x, blw n x → und lv par i x → v1 254 x = lv x) (hch : ch ≠ 0)
    (hq : ∀ v, LYW n lv par i v1 v → LYH n lv par ky v i → Q none (h.1, v)) :
    w_Pn_lay_415 l D (d + 2) (0, 0) (fun r h' => Q r ((h'.1.1, h.1.2.1, h.1.2.2), h'.2)) [some (.inr (.inr (253))), some (.inl (i)), some (.inl (par i)), some (.inl (lv i)), some (.inl (24 * i)), some (.inl (ch)), some (.inl (fa)), some (.inl (la)), some (.inl (n)), y9, y10, y11, y12] [] ((h.1.1, 0, 0), v1) := sorry
end
section
/-! ===== a node's borders: the component's walk ===== -/
/-- where the walk stands at child k -/
def LYI (n : Nat) (lv par ky : Int → Int) (i k ch fa la : Int) (v : Int → Int → Int) : Prop := LYF n lv par ky (v 258) (fun j => v 255 (24 * i + j)) (fun j => v 256 (24 * i + j)) (v 257 i) (lv i) i k ∧ v 255 (24 * i) = 0 ∧ v 256 (24 * i) = 0 ∧ (∀ x, blw n x → (x = i ∨ inF n lv par ky i k x) → v 254 x = lv x) ∧ (0 ≤ ch ∧ ch ≤ k) ∧
  ((ch = 0 ∧ (∀ c, blw n c → par c = i → ¬ ky c < k) ∧ v 257 i = 1) ∨ (0 < ch ∧ ∃ f g, blw n f ∧ blw n g ∧ par f = i ∧ par g = i ∧ ky f < k ∧ ky g < k ∧ (∀ c, blw n c → par c = i → ky c < k → f ≤ c ∧ c ≤ g) ∧ v 258 f = 0 ∧ fa = 0 ∧ la = v 258 g))
def LYb (n : Nat) (i dp : Int) (v : Int → Int → Int) : Prop := (1 ≤ dp ∧ dp ≤ 24) ∧ v 257 i = dp ∧ ∀ j : Int, 0 ≤ j → j < dp → (-92 ≤ v 255 (24 * i + j) ∧ v 255 (24 * i + j) ≤ 92) ∧ (-92 ≤ v 256 (24 * i + j) ∧ v 256 (24 * i + j) ≤ 92)
set_option maxRecDepth 100000 in
theorem ly_109 {l : Launch} {D : qD} {d n : Nat} {par : Int → Int} {g sc i k dp dk y1 y2 y3 y5 y6 y7 : Int} {v : Int → Int → Int} {h : qh} {y12 : Option qv} {Q : qQ} (bi : blw n i) (bk : blw n k) (ne : k ≠ i) (n24 : n ≤ 24) (he : LYE n par g sc v) (bi' : LYb n i dp v) (bk' : LYb n k dk v)
    (hq : ∀ A : Int, (-300 ≤ A ∧ A ≤ 300) → (dp = 1 → A = 0) → (∀ j : Int, 0 ≤ j → j < dk → j < dp - 1 → v 256 (24 * i + (1 + j)) + 4 - v 255 (24 * k + j) ≤ A) → (1 < dp → ∃ j : Int, 0 ≤ j ∧ j < dk ∧ j < dp - 1 ∧ A = v 256 (24 * i + (1 + j)) + 4 - v 255 (24 * k + j)) → ∀ y11 : Int, qR l D (d + 3, 0, 0) m_Pn_lay 200 (fun r h' => Q r ((h'.1.1, h.1.2.1, h.1.2.2), h'.2)) [some (.inr (.inr (253))), some (.inl (i)), some (.inl (y2)), some (.inl (y3)), some (.inl (24 * i)), some (.inl (y5)), some (.inl (y6)), some (.inl (y7)), some (.inl (k)), some (.inl (A)), some (.inl (24 * k)), some (.inl (0)), y12] [] ((h.1.1, 0, 0), v)) :
    qR l D (d + 3, 0, 0) m_Pn_lay 109 (fun r h' => Q r ((h'.1.1, h.1.2.1, h.1.2.2), h'.2)) [some (.inr (.inr (253))), some (.inl (i)), some (.inl (y2)), some (.inl (y3)), some (.inl (24 * i)), some (.inl (y5)), some (.inl (y6)), some (.inl (y7)), some (.inl (k)), some (.inl (0)), some (.inl (24 * k)), some (.inl (0)), y12] [] ((h.1.1, 0, 0), v) := sorry
/-- a child's borders come to its parent's -/
def lyN (lo : Bool) (f : Int → Int) (i k dp A q : Int) : Int := if q - (24 * i + 1) < dp - 1 then (if lo then min (f q) (A + f (24 * k + (q - (24 * i + 1)))) else max (f q) (A + f (24 * k + (q - (24 * i + 1))))) else A + f (24 * k + (q - (24 * i + 1)))
set_option maxRecDepth 100000 in
theorem ly_200 {l : Launch} {D : qD} {d n : Nat} {par : Int → Int} {g sc i k dp dk A y2 y3 y5 y6 y7 : Int} {v : Int → Int → Int} {h : qh} {y12 : Option qv} {Q : qQ} (bi : blw n i) (bk : blw n k) (ne : k ≠ i) (n24 : n ≤ 24) (he : LYE n par g sc v) (bi' : LYb n i dp v) (bk' : LYb n k dk v) (d23 : dk ≤ 23) (rA : -300 ≤ A ∧ A ≤ 300)
    (hq : ∀ v', (∀ a, a ≠ 255 → a ≠ 256 → v' a = v a) → rgm (v 255) (v' 255) (24 * i + 1) (24 * i + 1 + dk) (lyN true (v 255) i k dp A) → rgm (v 256) (v' 256) (24 * i + 1) (24 * i + 1 + dk) (lyN false (v 256) i k dp A) → ∀ (y12 : Option qv), w_Pn_lay_360 l D (d + 2) (0, 0) (fun r h' => Q r ((h'.1.1, h.1.2.1, h.1.2.2), h'.2)) [some (.inr (.inr (253))), some (.inl (i)), some (.inl (y2)), some (.inl (y3)), some (.inl (24 * i)), some (.inl (y5)), some (.inl (y6)), some (.inl (y7)), some (.inl (k)), some (.inl (A)), some (.inl (24 * k)), some (.inl (dk)), y12] [] ((h.1.1, 0, 0), v')) :
    qR l D (d + 3, 0, 0) m_Pn_lay 200 (fun r h' => Q r ((h'.1.1, h.1.2.1, h.1.2.2), h'.2)) [some (.inr (.inr (253))), some (.inl (i)), some (.inl (y2)), some (.inl (y3)), some (.inl (24 * i)), some (.inl (y5)), some (.inl (y6)), some (.inl (y7)), some (.inl (k)), some (.inl (A)), some (.inl (24 * k)), some (.inl (0)), y12] [] ((h.1.1, 0, 0), v) := sorry
end
section
theorem LYW.ni {n : Nat} {lv par : Int → Int} {c x : Int} {v v' : Int → Int → Int} (h : LYW n lv par c v v') (bx : blw n x) (nu : ¬ und lv par c x) : v' 254 x = v 254 x ∧ v' 257 x = v 257 x ∧ v' 258 x = v 258 x ∧ ∀ j : Int, 0 ≤ j → j < 24 → v' 255 (24 * x + j) = v 255 (24 * x + j) ∧ v' 256 (24 * x + j) = v 256 (24 * x + j) := sorry
/-- the children so far, with one more -/
theorem LYI_s {n : Nat} {lv par ky : Int → Int} {i k ch fa la dp dk A : Int} {v v1 v' v2 : Int → Int → Int} (T : RT n lv par) (K : KY n par ky) (hk : ∀ c, blw n c → 0 ≤ par c → ky c = c) (bi : blw n i) (bk : blw n k) (pk : par k = i) (n24 : n ≤ 24) (q : LYI n lv par ky i k ch fa la v) (kw : LYW n lv par k v v1) (hy : LYH n lv par ky v1 k) (e1 : v1 257 i = dp) (e2 : v1 257 k = dk) (dk1 : 1 ≤ dk ∧ dk ≤ 23) (dpr : 1 ≤ dp ∧ dp ≤ 24)
    (h0 : dp = 1 → A = 0) (h1 : ∀ j : Int, 0 ≤ j → j < dk → j < dp - 1 → v1 256 (24 * i + (1 + j)) + 4 - v1 255 (24 * k + j) ≤ A) (h2 : 1 < dp → ∃ j : Int, 0 ≤ j ∧ j < dk ∧ j < dp - 1 ∧ A = v1 256 (24 * i + (1 + j)) + 4 - v1 255 (24 * k + j))
    (va : ∀ a, a ≠ 255 → a ≠ 256 → v' a = v1 a) (vl : rgm (v1 255) (v' 255) (24 * i + 1) (24 * i + 1 + dk) (lyN true (v1 255) i k dp A)) (vr : rgm (v1 256) (v' 256) (24 * i + 1) (24 * i + 1 + dk) (lyN false (v1 256) i k dp A)) (e3 : v2 = up2 (up2 v' 257 i (max dp (dk + 1))) 258 k A) :
    LYI n lv par ky i (k + 1) (ch + 1) (if ch = 0 then A else fa) A v2 ∧ LYW n lv par i v v2 := sorry
theorem LYI_n {n : Nat} {lv par ky : Int → Int} {i k ch fa la : Int} {v : Int → Int → Int} (hk : ∀ c, blw n c → 0 ≤ par c → ky c = c) (bi : blw n i) (pk : par k ≠ i) (q : LYI n lv par ky i k ch fa la v) : LYI n lv par ky i (k + 1) ch fa la v := sorry
/-- the borders so far are small -/
theorem LYI_b {n k : Nat} {lv par ky : Int → Int} {i ch fa la : Int} {v : Int → Int → Int} (n24 : n ≤ 24) (T : RT n lv par) (K : KY n par ky) (hn : ∀ c, blw n c → ky c < n) (hL : ∀ k, blw n k → lv k < n) (bi : blw n i) (q : LYI n lv par ky i k ch fa la v) : LYb n i (v 257 i) v ∧ ∀ c, blw n c → par c = i → ky c < k → -92 ≤ v 258 c ∧ v 258 c ≤ 92 := sorry
set_option maxRecDepth 100000 in
theorem sp_Pn_lay {l : Launch} {D : qD} {n d : Nat} {lv par ky : Int → Int} {g sc : Int} (n24 : n ≤ 24) (T : RT n lv par) (K : KY n par ky) (hk : ∀ c, blw n c → 0 ≤ par c → ky c = c) (hn : ∀ c, blw n c → ky c < n) (hL : ∀ k, blw n k → lv k < n) : ∀ N : Nat, LAYC l D n lv par ky g sc d N := sorry
end
section
/-! ===== the nodes' places: the component's ===== -/
def PLW (n : Nat) (lv par : Int → Int) (i : Int) (v v' : Int → Int → Int) : Prop := ∀ a k, v' a k = v a k ∨ ((a = 199 ∨ a = 200) ∧ blw n k ∧ und lv par i k)
theorem PLW.tr {n : Nat} {lv par : Int → Int} {i : Int} {v v' v'' : Int → Int → Int} (h : PLW n lv par i v v') (h' : PLW n lv par i v' v'') : PLW n lv par i v v'' := sorry
theorem PLW.fw {n : Nat} {lv par : Int → Int} {i : Int} {v v' : Int → Int → Int} (h : PLW n lv par i v v') : FW [199, 200] [] v v' := sorry
theorem PLW.k {n : Nat} {lv par : Int → Int} {i c : Int} {v v' : Int → Int → Int} (T : RT n lv par) (bi : blw n i) (bc : blw n c) (pc : par c = i) (h : PLW n lv par c v v') : PLW n lv par i v v' := sorry
theorem PLW.ni {n : Nat} {lv par : Int → Int} {c x : Int} {v v' : Int → Int → Int} (h : PLW n lv par c v v') (nu : ¬ und lv par c x) : v' 199 x = v 199 x ∧ v' 200 x = v 200 x := sorry
def PLE (n : Nat) (lv par off : Int → Int) (g sc : Int) (v : Int → Int → Int) : Prop := HW v ∧ v 253 0 = g ∧ (0 ≤ g ∧ (g < 187 ∨ 399 ≤ g)) ∧ q_shp g = (3, 0) ∧ v g 0 = n ∧ v 253 1 = sc ∧ (sc = 135 ∨ sc = 187) ∧ (∀ i k : Int, blw n i → blw n k → (bt (v (sc + 1) i) k ↔ par k = i ∨ par i = k)) ∧ v 253 2 = 198 ∧ (∀ x, v 258 x = off x)
theorem PLE.fw {n : Nat} {lv par off : Int → Int} {g sc : Int} {v v' : Int → Int → Int} (h : PLE n lv par off g sc v) (k : FW [199, 200] [] v v') : PLE n lv par off g sc v' := sorry
theorem PLE.sc {n : Nat} {lv par off : Int → Int} {g sc : Int} {v : Int → Int → Int} (h : PLE n lv par off g sc v) : q_shp sc = (7, 0) ∧ q_shp (sc + 1) = (100, 24) ∧ 0 ≤ sc ∧ v sc 0 = sc + 1 := sorry
def PLCC (l : Launch) (D : qD) (n : Nat) (lv par ky off X : Int → Int) (g sc : Int) (d N : Nat) : Prop := ∀ (i : Int) (h : qh) (Q : qQ), blw n i → (n : Int) - lv i ≤ N → PLE n lv par off g sc h.2 → (∀ x, blw n x → und lv par i x → h.2 254 x = lv x) → csi n lv par off X i → (∀ x, blw n x → und lv par i x → -100000 ≤ X x ∧ X x ≤ 100000) → (∀ v, PLW n lv par i h.2 v → (∀ x, blw n x → und lv par i x → v 199 x = X x ∧ v 200 x = 4 * lv x) → Q none (h.1, v)) → qM l D (d + N + 1, 0, 0) m_Pn_place [.inr (.inr 253), .inl i, .inl (par i), .inl (X i)] h Q
set_option maxRecDepth 100000 in
theorem sp_Pn_place {l : Launch} {D : qD} {n d : Nat} {lv par ky off X : Int → Int} {g sc : Int} (n24 : n ≤ 24) (T : RT n lv par) (K : KY n par ky) (hk : ∀ c, blw n c → 0 ≤ par c → ky c = c) (hn : ∀ c, blw n c → ky c < n) (hL : ∀ k, blw n k → lv k < n) : ∀ N : Nat, PLCC l D n lv par ky off X g sc d N := sorry
end
section
/-! ===== the tree: the component's ===== -/
theorem TRE_of {n : Nat} {lv par ky X X' : Int → Int} {s : Int} (h1 : ∀ i, blw n i → T1a n par X i) (h2 : ∀ c, blw n c → T2a n lv par ky X c ∧ T3a n lv par ky X c) (hs : ∀ k, blw n k → X' k = X k - s) (h3 : ∀ k, blw n k → s ≤ X k) (h4 : 0 < n → ∃ k, blw n k ∧ X k = s) : TRE n lv par ky X' := sorry
/-- what the tree reads besides -/
def TRP (n q : Nat) (P r par ky : Int → Int) (a : Int) : Prop := (∀ k, blw n k → 0 ≤ P k ∧ P k < q) ∧ (∀ p : Int, 0 ≤ p → p < q → blw n (r p) ∧ P (r p) = p ∧ par (r p) = -1 ∧ ((0 ≤ a ∧ P a = p ∧ r p = a) ∨ (¬ (0 ≤ a ∧ P a = p) ∧ ∀ k, blw n k → P k = p → r p ≤ k))) ∧ (∀ c, blw n c → par c = -1 → ky c = P c ∧ r (P c) = c) ∧ (a = -1 ∨ blw n a) ∧ q ≤ n
set_option maxRecDepth 100000 in
theorem Pn_tree_end {l : Launch} {D : qD} {d n : Nat} {lv par ky : Int → Int} {g sc y1 y2 y5 : Int} {h : qh} {X : Int → Int} {v1 : Int → Int → Int} {y6 y7 y8 : Option qv} {Q : qQ} (n24 : n ≤ 24) (he : LYE n par g sc v1) (e2 : v1 253 2 = 198) (h1 : ∀ i, blw n i → T1a n par X i) (h2 : ∀ c, blw n c → T2a n lv par ky X c ∧ T3a n lv par ky X c) (hx : ∀ x, blw n x → v1 199 x = X x ∧ v1 200 x = 4 * lv x) (hB : ∀ x, blw n x → -92 ≤ X x ∧ X x ≤ 92)
    (hq : ∀ v X', FW [199] [] v1 v → TRE n lv par ky X' → (∀ x, blw n x → v 199 x = X' x ∧ v 200 x = 4 * lv x) → Q (some (.inl 1)) (h.1, v)) :
    qR l D (d + 2, 0, 0) m_Pn_tree 305 (fun r h' => Q r ((h'.1.1, h.1.2.1, h.1.2.2), h'.2)) [some (.inr (.inr (253))), some (.inl (y1)), some (.inl (y2)), some (.inr (.inr (261))), some (.inl (2147483647)), some (.inl (0)), y6, y7, y8] [] ((h.1.1, 0, 0), v1) := sorry
/-- where the parts stand so far -/
def TPI (n : Nat) (lv par ky r : Int → Int) (p dp : Int) (off L : Int → Int) (v : Int → Int → Int) : Prop := LYF n lv par ky off L (fun j => v 261 (j - 1)) (dp + 1) (-1) (-1) p ∧ (∀ x, blw n x → inF n lv par ky (-1) p x → v 199 x = XX lv par off x ∧ v 200 x = 4 * lv x) ∧ ((p = 0 ∧ dp = 0) ∨ (0 < p ∧ off (r 0) = 0))
/-- they are small -/
theorem TPI_b {n q p : Nat} {P lv par ky r off L : Int → Int} {dp a : Int} {v : Int → Int → Int} (n24 : n ≤ 24) (T : RT n lv par) (K : KY n par ky) (hn : ∀ c, blw n c → ky c < n) (hL : ∀ k, blw n k → lv k < n) (hp : TRP n q P r par ky a) (pq : (p : Int) ≤ q) (I : LYF n lv par ky off L (fun j => v 261 (j - 1)) (dp + 1) (-1) (-1) p) (cs : ((p : Int) = 0 ∧ dp = 0) ∨ (0 < (p : Int) ∧ off (r 0) = 0)) : (0 ≤ dp ∧ dp ≤ n) ∧ (∀ j : Int, 0 ≤ j → j < dp → -92 ≤ v 261 j ∧ v 261 j ≤ 92) ∧ ∀ x, blw n x → inF n lv par ky (-1) p x → -92 ≤ XX lv par off x ∧ XX lv par off x ≤ 92 := sorry
end
section
theorem LYE.fx {n : Nat} {par : Int → Int} {g sc : Int} {v v' : Int → Int → Int} (h : LYE n par g sc v) (k : FW [199, 200, 254, 255, 256, 257, 258, 261] [] v v') : LYE n par g sc v' := sorry
theorem XX_cg {n : Nat} {lv par off off' : Int → Int} (T : RT n lv par) {c : Int} (bc : blw n c) (pc : par c = -1) (h : ∀ y, blw n y → und lv par c y → off' y = off y) : ∀ (N : Nat) (x : Int), lv x < N → blw n x → und lv par c x → XX lv par off' x = XX lv par off x := sorry
set_option maxRecDepth 100000 in
theorem tr_129 {l : Launch} {D : qD} {d n : Nat} {par : Int → Int} {g sc a p c dp dk : Int} {v : Int → Int → Int} {h : qh} {Q : qQ} (bc : blw n c) (n24 : n ≤ 24) (he : LYE n par g sc v) (dr : 0 ≤ dp ∧ dp ≤ n) (bR : ∀ j : Int, 0 ≤ j → j < dp → -92 ≤ v 261 j ∧ v 261 j ≤ 92) (bk' : LYb n c dk v)
    (hq : ∀ A : Int, (-300 ≤ A ∧ A ≤ 300) → (dp = 0 → A = 0) → (∀ j : Int, 0 ≤ j → j < dk → j < dp → v 261 j + 4 - v 255 (24 * c + j) ≤ A) → (0 < dp → ∃ j : Int, 0 ≤ j ∧ j < dk ∧ j < dp ∧ A = v 261 j + 4 - v 255 (24 * c + j)) → qR l D (d + 3, 0, 0) m_Pn_tree 205 (fun r h' => Q r ((h'.1.1, h.1.2.1, h.1.2.2), h'.2)) [some (.inr (.inr (253))), some (.inl (a)), some (.inl (dp)), some (.inr (.inr (261))), some (.inl (2147483647)), some (.inl (p)), some (.inl (c)), some (.inl (A)), some (.inl (0))] [] ((h.1.1, 0, 0), v)) :
    qR l D (d + 3, 0, 0) m_Pn_tree 129 (fun r h' => Q r ((h'.1.1, h.1.2.1, h.1.2.2), h'.2)) [some (.inr (.inr (253))), some (.inl (a)), some (.inl (dp)), some (.inr (.inr (261))), some (.inl (2147483647)), some (.inl (p)), some (.inl (c)), some (.inl (0)), some (.inl (0))] [] ((h.1.1, 0, 0), v) := sorry
def trN (f g : Int → Int) (c dp A q : Int) : Int := if q < dp then max (f q) (A + g (24 * c + q)) else A + g (24 * c + q)
set_option maxRecDepth 100000 in
theorem tr_205 {l : Launch} {D : qD} {d n : Nat} {par : Int → Int} {g sc a p c dp dk A : Int} {v : Int → Int → Int} {h : qh} {Q : qQ} (bc : blw n c) (n24 : n ≤ 24) (he : LYE n par g sc v) (dr : 0 ≤ dp ∧ dp ≤ n) (bR : ∀ j : Int, 0 ≤ j → j < dp → -92 ≤ v 261 j ∧ v 261 j ≤ 92) (bk' : LYb n c dk v) (rA : -300 ≤ A ∧ A ≤ 300)
    (hq : ∀ v', (∀ a, a ≠ 261 → v' a = v a) → rgm (v 261) (v' 261) 0 dk (trN (v 261) (v 256) c dp A) → w_Pn_tree_275 l D (d + 2) (0, 0) (fun r h' => Q r ((h'.1.1, h.1.2.1, h.1.2.2), h'.2)) [some (.inr (.inr (253))), some (.inl (a)), some (.inl (dp)), some (.inr (.inr (261))), some (.inl (2147483647)), some (.inl (p)), some (.inl (c)), some (.inl (A)), some (.inl (dk))] [] ((h.1.1, 0, 0), v')) :
    qR l D (d + 3, 0, 0) m_Pn_tree 205 (fun r h' => Q r ((h'.1.1, h.1.2.1, h.1.2.2), h'.2)) [some (.inr (.inr (253))), some (.inl (a)), some (.inl (dp)), some (.inr (.inr (261))), some (.inl (2147483647)), some (.inl (p)), some (.inl (c)), some (.inl (A)), some (.inl (0))] [] ((h.1.1, 0, 0), v) := sorry
noncomputable def trO (lv par off f : Int → Int) (c A x : Int) : Int := @ite Int (x = c) (Classical.propDecidable _) A (@ite Int (und lv par c x) (Classical.propDecidable _) (f x) (off x))
/-- one part more -/
theorem TPI_s {n q : Nat} {P lv par ky r off L : Int → Int} {p dp dk A a c : Int} {v v1 v' : Int → Int → Int} (n24 : n ≤ 24) (T : RT n lv par) (K : KY n par ky) (hp : TRP n q P r par ky a) (p0 : 0 ≤ p) (pq : p < q) (ec : c = r p) (I : TPI n lv par ky r p dp off L v) (kw : LYW n lv par c v v1) (hy : LYH n lv par ky v1 c) (e2 : v1 257 c = dk)
    (h0 : dp = 0 → A = 0) (h1 : ∀ j : Int, 0 ≤ j → j < dk → j < dp → v1 261 j + 4 - v1 255 (24 * c + j) ≤ A) (h2 : 0 < dp → ∃ j : Int, 0 ≤ j ∧ j < dk ∧ j < dp ∧ A = v1 261 j + 4 - v1 255 (24 * c + j))
    (va : ∀ a, a ≠ 261 → v' a = v1 a) (vr : rgm (v1 261) (v' 261) 0 dk (trN (v1 261) (v1 256) c dp A)) :
    ∃ L', LYF n lv par ky (trO lv par off (v1 258) c A) L' (fun j => v' 261 (j - 1)) (max dp dk + 1) (-1) (-1) (p + 1) ∧ ((p + 1 = 0 ∧ max dp dk = 0) ∨ (0 < p + 1 ∧ trO lv par off (v1 258) c A (r 0) = 0)) ∧ csi n lv par (v1 258) (XX lv par (trO lv par off (v1 258) c A)) c ∧ XX lv par (trO lv par off (v1 258) c A) c = A ∧
      (∀ x, blw n x → inF n lv par ky (-1) p x → ¬ und lv par c x ∧ XX lv par (trO lv par off (v1 258) c A) x = XX lv par off x) ∧ (par c = -1 ∧ ky c = p ∧ blw n c ∧ lv c = 0) := sorry
end
section
/-! ===== the tree: the component's, whole ===== -/
set_option maxRecDepth 100000 in
theorem sp_Pn_tree {l : Launch} {D : qD} {d n m q : Nat} {P r lv par ky : Int → Int} {g sc a : Int} {h : qh} {Q : qQ} (n24 : n ≤ 24) (T : RT n lv par) (K : KY n par ky) (hk : ∀ c, blw n c → 0 ≤ par c → ky c = c) (hn : ∀ c, blw n c → ky c < n) (hL : ∀ k, blw n k → lv k < n) (hp : TRP n q P r par ky a) (he : LYE n par g sc h.2) (e2 : h.2 253 2 = 198) (em : h.2 g 1 = m) (emq : (m : Int) = n - q) (eq6 : h.2 sc 6 = q) (eP : ∀ x, blw n x → h.2 (sc + 2) x = P x)
    (hq : ∀ v X, FW [199, 200, 254, 255, 256, 257, 258, 261] [] h.2 v → TRE n lv par ky X → (∀ x, blw n x → v 199 x = X x ∧ v 200 x = 4 * lv x) → Q (some (.inl 1)) (h.1, v)) :
    qM l D (d + 27, 0, 0) m_Pn_tree [.inr (.inr 253), .inl a] h Q := sorry
end
section
/-! ===== trees: the twin's ===== -/
noncomputable def ind (p : Prop) : Int := @ite Int p (Classical.propDecidable _) 1 0
theorem ind_1 {p : Prop} (h : p) : ind p = 1 := sorry
theorem ind_0 {p : Prop} (h : ¬ p) : ind p = 0 := sorry
theorem ind_cg {p p' : Prop} (h : p ↔ p') : ind p = ind p' := sorry
set_option maxRecDepth 100000 in
theorem sp_Mo_isUnder {l : Launch} {D : qD} {d n : Nat} {lv par : Int → Int} {i top : Int} {h : qh} {Q : qQ} (n24 : n ≤ 24) (T : RT n lv par) (hT : TW h.2) (ha : ∀ x, blw n x → h.2 372 x = par x) (bi : blw n i) (bt : blw n top) (hq : Q (some (.inl (ind (und lv par top i)))) h) :
    qM l D (d + 1, 0, 0) m_Mo_isUnder [.inr (.inr 280), .inl i, .inl top] h Q := sorry
def ahF (n : Nat) (lv par : Int → Int) (p c x : Int) : Prop := ∃ c', blw n c' ∧ par c' = p ∧ c' < c ∧ und lv par c' x
set_option maxRecDepth 100000 in
theorem sp_Mo_isAhead {l : Launch} {D : qD} {d n : Nat} {lv par : Int → Int} {i p c : Int} {h : qh} {Q : qQ} (n24 : n ≤ 24) (T : RT n lv par) (hT : TW h.2) (ha : ∀ x, blw n x → h.2 372 x = par x) (bi : blw n i) (bp : blw n p) (hq : Q (some (.inl (ind (ahF n lv par p c i)))) h) :
    qM l D (d + 1, 0, 0) m_Mo_isAhead [.inr (.inr 280), .inl i, .inl p, .inl c] h Q := sorry
end
section
/-! ===== nearer: the twin's ===== -/
/-- what nearer reads -/
def NRE (n : Nat) (r : Int) (lv par P : Int → Int) (v : Int → Int → Int) : Prop := TW v ∧ (v 280 5 = r ∧ (0 ≤ r ∧ r ≤ 66297) ∧ v 282 r = n) ∧ (∀ x, blw n x → v 372 x = par x ∧ v 373 x = lv x ∧ v 286 x = P x)
theorem NRE.fw {n : Nat} {r : Int} {lv par P : Int → Int} {v v' : Int → Int → Int} (h : NRE n r lv par P v) (k : FW [329] [] v v') : NRE n r lv par P v' := sorry
/-- the greatest of a set at a level, or a bound -/
def mxl (S : Int → Prop) (lv X : Int → Int) (l k m : Int) : Prop := (m = -1000000 ∧ ∀ x, 0 ≤ x → x < k → lv x = l → ¬ S x) ∨ ((-1000 ≤ m ∧ m ≤ 1000) ∧ (∀ x, 0 ≤ x → x < k → lv x = l → S x → X x ≤ m) ∧ ∃ x, (0 ≤ x ∧ x < k) ∧ lv x = l ∧ S x ∧ X x = m)
def mnl (S : Int → Prop) (lv X : Int → Int) (l k m : Int) : Prop := (m = 1000000 ∧ ∀ x, 0 ≤ x → x < k → lv x = l → ¬ S x) ∨ ((-1000 ≤ m ∧ m ≤ 1000) ∧ (∀ x, 0 ≤ x → x < k → lv x = l → S x → m ≤ X x) ∧ ∃ x, (0 ≤ x ∧ x < k) ∧ lv x = l ∧ S x ∧ X x = m)
theorem mxl_s {S : Int → Prop} {lv X : Int → Int} {l k m m' : Int} (k0 : 0 ≤ k) (h : mxl S lv X l k m) (hX : -1000 ≤ X k ∧ X k ≤ 1000) (hm : lv k = l → S k → m' = max m (X k)) (hm' : ¬ (lv k = l ∧ S k) → m' = m) : mxl S lv X l (k + 1) m' := sorry
theorem mnl_s {S : Int → Prop} {lv X : Int → Int} {l k m m' : Int} (k0 : 0 ≤ k) (h : mnl S lv X l k m) (hX : -1000 ≤ X k ∧ X k ≤ 1000) (hm : lv k = l → S k → m' = min m (X k)) (hm' : ¬ (lv k = l ∧ S k) → m' = m) : mnl S lv X l (k + 1) m' := sorry
/-- the greatest way that is asked for, over the levels below l -/
def nrd (n : Nat) (S U : Int → Prop) (lv X : Int → Int) (l dd : Int) : Prop := (∀ x y, blw n x → blw n y → S x → U y → lv x = lv y → lv x < l → X x + 4 - X y ≤ dd) ∧ ((dd = -1000000 ∧ ∀ x y, blw n x → blw n y → S x → U y → lv x = lv y → lv x < l → False) ∨ ((-2004 ≤ dd ∧ dd ≤ 2004) ∧ ∃ x y, blw n x ∧ blw n y ∧ S x ∧ U y ∧ lv x = lv y ∧ X x + 4 - X y = dd))
theorem nrd_s {n : Nat} {S U : Int → Prop} {lv X : Int → Int} {l dd a b dd' : Int} (h : nrd n S U lv X l dd) (ha : mxl S lv X l n a) (hb : mnl U lv X l n b) (h1 : a > -1000000 → b < 1000000 → dd' = max dd (a + 4 - b)) (h2 : ¬ (a > -1000000 ∧ b < 1000000) → dd' = dd) : nrd n S U lv X (l + 1) dd' := sorry
set_option maxRecDepth 100000 in
theorem sp_Mo_nearer {l : Launch} {D : qD} {d n : Nat} {r : Int} {lv par P X : Int → Int} {S : Int → Prop} {p c many : Int} {h : qh} {Q : qQ} (n24 : n ≤ 24) (T : RT n lv par) (hL : ∀ k, blw n k → lv k < n) (he : NRE n r lv par P h.2) (bc : blw n c) (hX : ∀ x, blw n x → h.2 329 x = X x ∧ (-1000 ≤ X x ∧ X x ≤ 1000)) (m0 : 0 ≤ many)
    (hS : ∀ x, blw n x → ¬ und lv par c x → ((many = 0 ∧ blw n p ∧ (S x ↔ ahF n lv par p c x)) ∨ (0 < many ∧ (S x ↔ P x < P c)))) (hd : ∀ x, blw n x → S x → ¬ und lv par c x) (ex : ∃ x y, blw n x ∧ blw n y ∧ S x ∧ und lv par c y ∧ lv x = lv y)
    (hq : ∀ v dd, FW [329] [] h.2 v → (-2004 ≤ dd ∧ dd ≤ 2004) → (∀ x, blw n x → und lv par c x → v 329 x = X x + dd) → (∀ x, blw n x → ¬ und lv par c x → v 329 x = X x) → (∀ x y, blw n x → blw n y → S x → und lv par c y → lv x = lv y → X x + 4 ≤ X y + dd) → (∃ x y, blw n x ∧ blw n y ∧ S x ∧ und lv par c y ∧ lv x = lv y ∧ X x + 4 = X y + dd) → Q none (h.1, v)) :
    qM l D (d + 2, 0, 0) m_Mo_nearer [.inr (.inr 280), .inl p, .inl c, .inl many] h Q := sorry
end
section
/-! ===== children: the twin's ===== -/
def SOK (n : Nat) (lv par ky X : Int → Int) (i : Int) : Prop := (∀ y, blw n y → und lv par i y → T1a n par X y) ∧ (∀ c, blw n c → und lv par i c → c ≠ i → T2a n lv par ky X c ∧ T3a n lv par ky X c)
def FOK (n : Nat) (lv par ky X : Int → Int) (p k : Int) : Prop := (∀ y, blw n y → inF n lv par ky p k y → T1a n par X y) ∧ (∀ c, blw n c → inF n lv par ky p k c → T2a n lv par ky X c ∧ T3a n lv par ky X c)
theorem und_k {n : Nat} {lv par : Int → Int} (T : RT n lv par) {i c x : Int} (bi : blw n i) (bc : blw n c) (bx : blw n x) (pc : par c = i) (u : und lv par c x) : und lv par i x ∧ x ≠ i ∧ lv c = lv i + 1 := sorry
theorem T1a_cg {n : Nat} {par X X' : Int → Int} {y s : Int} (h : T1a n par X y) (e : ∀ x, blw n x → (x = y ∨ par x = y) → X' x = X x + s) (yb : blw n y) : T1a n par X' y := sorry
theorem T23_cg {n : Nat} {lv par ky X X' : Int → Int} {c s : Int} (h : T2a n lv par ky X c ∧ T3a n lv par ky X c) (e : ∀ c' x, blw n c' → blw n x → par c' = par c → ky c' ≤ ky c → und lv par c' x → X' x = X x + s) (bc : blw n c) : T2a n lv par ky X' c ∧ T3a n lv par ky X' c := sorry
theorem SOK_cg {n : Nat} {lv par ky X X' : Int → Int} {i s : Int} (T : RT n lv par) (bi : blw n i) (h : SOK n lv par ky X i) (e : ∀ x, blw n x → und lv par i x → X' x = X x + s) : SOK n lv par ky X' i := sorry
theorem FOK_cg {n : Nat} {lv par ky X X' : Int → Int} {p k : Int} (T : RT n lv par) (h : FOK n lv par ky X p k) (e : ∀ x, blw n x → inF n lv par ky p k x → X' x = X x) : FOK n lv par ky X' p k := sorry
theorem FOK_s {n : Nat} {lv par ky X : Int → Int} {p k c : Int} (K : KY n par ky) (bc : blw n c) (pc : par c = p) (kc : ky c = k) (h : FOK n lv par ky X p k) (s : SOK n lv par ky X c) (t : T2a n lv par ky X c ∧ T3a n lv par ky X c) : FOK n lv par ky X p (k + 1) := sorry
theorem FOK_n {n : Nat} {lv par ky X : Int → Int} {p k : Int} (hz : ∀ c, blw n c → par c = p → ky c ≠ k) (h : FOK n lv par ky X p k) : FOK n lv par ky X p (k + 1) := sorry
theorem FOK_e {n : Nat} {lv par ky X : Int → Int} {i : Int} (T : RT n lv par) (hn : ∀ c, blw n c → ky c < n) (bi : blw n i) (h : FOK n lv par ky X i n) (t : T1a n par X i) : SOK n lv par ky X i := sorry
theorem FOK_b {n k : Nat} {lv par ky X : Int → Int} {l0 p : Int} (n24 : n ≤ 24) (T : RT n lv par) (K : KY n par ky) (hn : ∀ c, blw n c → ky c < n) (hL : ∀ k, blw n k → lv k < n) (kl : ∀ c, blw n c → par c = p → lv c = l0 + 1) (h : FOK n lv par ky X p k) (z : ∃ z, blw n z ∧ inF n lv par ky p k z ∧ X z = 0) : ∀ x, blw n x → inF n lv par ky p k x → -92 ≤ X x ∧ X x ≤ 92 := sorry
/-- where children stands at k -/
def CHI (n : Nat) (lv par ky X0 X : Int → Int) (i k f g : Int) : Prop := (∀ x, blw n x → (¬ und lv par i x ∨ x = i) → X x = X0 x) ∧ (∀ x, blw n x → -92 ≤ X x ∧ X x ≤ 92) ∧ FOK n lv par ky X i k ∧ (∀ c, blw n c → par c = i → k ≤ c → SOK n lv par ky X c ∧ ∃ z, blw n z ∧ und lv par c z ∧ X z = 0) ∧
  ((f = -1 ∧ g = -1 ∧ ∀ c, blw n c → par c = i → ¬ c < k) ∨ (blw n f ∧ blw n g ∧ par f = i ∧ par g = i ∧ (f < k ∧ g < k) ∧ (∀ c, blw n c → par c = i → c < k → f ≤ c ∧ c ≤ g) ∧ ∃ z, blw n z ∧ und lv par f z ∧ X z = 0))
set_option maxRecDepth 100000 in
theorem sp_Mo_children {l : Launch} {D : qD} {d n : Nat} {r : Int} {lv par ky P X0 : Int → Int} {i : Int} {h : qh} {Q : qQ} (n24 : n ≤ 24) (T : RT n lv par) (K : KY n par ky) (hk : ∀ c, blw n c → 0 ≤ par c → ky c = c) (hn : ∀ c, blw n c → ky c < n) (hL : ∀ k, blw n k → lv k < n) (he : NRE n r lv par P h.2) (bi : blw n i) (hX : ∀ x, blw n x → h.2 329 x = X0 x ∧ (-92 ≤ X0 x ∧ X0 x ≤ 92)) (hc : ∀ c, blw n c → par c = i → SOK n lv par ky X0 c ∧ ∃ z, blw n z ∧ und lv par c z ∧ X0 z = 0)
    (hq : ∀ v X, FW [329] [] h.2 v → (∀ x, blw n x → v 329 x = X x ∧ (-92 ≤ X x ∧ X x ≤ 92)) → (∀ x, blw n x → ¬ und lv par i x → X x = X0 x) → SOK n lv par ky X i → (∃ z, blw n z ∧ und lv par i z ∧ X z = 0) → Q none (h.1, v)) :
    qM l D (d + 3, 0, 0) m_Mo_children [.inr (.inr 280), .inl i] h Q := sorry
end
section
/-! ===== the tree: the twin's ===== -/
theorem und_P {n : Nat} {lv par P : Int → Int} (T : RT n lv par) (hP : ∀ k, blw n k → 0 ≤ par k → P (par k) = P k) {c : Int} (bc : blw n c) : ∀ (N : Nat) (x : Int), lv x < N → blw n x → und lv par c x → P x = P c := sorry
theorem FOK_near {n : Nat} {lv par ky X X' : Int → Int} {l0 p k c dd : Int} (T : RT n lv par) (K : KY n par ky) (kl : ∀ c, blw n c → par c = p → lv c = l0 + 1) (bc : blw n c) (pc : par c = p) (kc : ky c = k) (J : FOK n lv par ky X p k) (S1 : SOK n lv par ky X c) (h1 : ∀ x, blw n x → und lv par c x → X' x = X x + dd) (h2 : ∀ x, blw n x → ¬ und lv par c x → X' x = X x)
    (h3 : ∀ x y, blw n x → blw n y → inF n lv par ky p k x → und lv par c y → lv x = lv y → X x + 4 ≤ X y + dd) (h4 : ∃ x y, blw n x ∧ blw n y ∧ inF n lv par ky p k x ∧ und lv par c y ∧ lv x = lv y ∧ X x + 4 = X y + dd) : FOK n lv par ky X' p (k + 1) ∧ ∀ x, blw n x → inF n lv par ky p k x → ¬ und lv par c x := sorry
set_option maxRecDepth 100000 in
theorem Mo_tree_end {l : Launch} {D : qD} {d n : Nat} {r : Int} {lv par ky P X : Int → Int} {a y3 y4 : Int} {h : qh} {v1 : Int → Int → Int} {y5 y6 y7 y8 : Option qv} {Q : qQ} (n24 : n ≤ 24) (he : NRE n r lv par P v1) (hL : ∀ k, blw n k → 0 ≤ lv k ∧ lv k < n) (h1 : ∀ i, blw n i → T1a n par X i) (h2 : ∀ c, blw n c → T2a n lv par ky X c ∧ T3a n lv par ky X c) (hx : ∀ x, blw n x → v1 329 x = X x ∧ (-92 ≤ X x ∧ X x ≤ 92))
    (hq : ∀ v X', FW [329, 330] [] v1 v → TRE n lv par ky X' → (∀ x, blw n x → v 329 x = X' x ∧ v 330 x = 4 * lv x) → Q (some (.inl 0)) (h.1, v)) :
    w_Mo_tree_409 l D (d + 3) (0, 0) (fun r h' => Q r ((h'.1.1, h.1.2.1, h.1.2.2), h'.2)) [some (.inr (.inr (280))), some (.inl (a)), some (.inl (n)), some (.inl (y3)), some (.inl (y4)), y5, y6, y7, y8] [] ((h.1.1, 0, 0), v1) := sorry
set_option maxRecDepth 100000 in
theorem Mo_tree_up {l : Launch} {D : qD} {d n q : Nat} {r : Int} {lv par ky P rt : Int → Int} {a y4 : Int} {h : qh} {v1 : Int → Int → Int} {y5 y6 y7 y8 : Option qv} {Q : qQ} (n24 : n ≤ 24) (T : RT n lv par) (K : KY n par ky) (hk : ∀ c, blw n c → 0 ≤ par c → ky c = c) (hn : ∀ c, blw n c → ky c < n) (hL : ∀ k, blw n k → lv k < n) (hp : TRP n q P rt par ky a) (hP : ∀ k, blw n k → 0 ≤ par k → P (par k) = P k) (he : NRE n r lv par P v1) (hr : ∀ p : Int, 0 ≤ p → p < q → v1 374 p = rt p) (h0 : ∀ x, blw n x → v1 329 x = 0) (y4r : ∀ x, blw n x → lv x ≤ y4) (y40 : 0 ≤ y4 ∧ y4 ≤ 24)
    (hq : ∀ v X', FW [329, 330] [] v1 v → TRE n lv par ky X' → (∀ x, blw n x → v 329 x = X' x ∧ v 330 x = 4 * lv x) → Q (some (.inl 0)) (h.1, v)) :
    w_Mo_tree_333 l D (d + 3) (0, 0) (fun r h' => Q r ((h'.1.1, h.1.2.1, h.1.2.2), h'.2)) [some (.inr (.inr (280))), some (.inl (a)), some (.inl (n)), some (.inl (q)), some (.inl (y4)), y5, y6, y7, y8] [] ((h.1.1, 0, 0), v1) := sorry
end
section
/-! ===== the tree: the twin's levels ===== -/
def STb (t hd lv par : Int → Int) (lvl e x : Int) : Prop := lv x ≤ lvl ∨ (lv x = lvl + 1 ∧ ∃ e', 0 ≤ e' ∧ e' < e ∧ jn1 t hd e' (par x) x)
def SB (n : Nat) (t hd lv par : Int → Int) (lvl e : Int) (v : Int → Int → Int) : Prop := ∀ x, blw n x → (STb t hd lv par lvl e x → v 373 x = lv x ∧ v 372 x = par x) ∧ (¬ STb t hd lv par lvl e x → v 373 x = -1 ∧ v 372 x = -1)
theorem SB_up {n m : Nat} {t hd lv par : Int → Int} {lvl e c p : Int} {v : Int → Int → Int} (T : RT n lv par) (hs : smp t hd (blw m)) (e0 : 0 ≤ e) (e1 : e < m) (l0 : 0 ≤ lvl) (bc : blw n c) (pc : par c = p) (j : jn1 t hd e p c) (p0 : 0 ≤ p) (lc : lv c = lvl + 1) (h : SB n t hd lv par lvl e v) : v 373 p = lvl ∧ v 373 c = -1 ∧ SB n t hd lv par lvl (e + 1) (up2 (up2 v 372 c p) 373 c (lvl + 1)) := sorry
theorem SB_no {n m : Nat} {t hd lv par : Int → Int} {lvl e c p : Int} {v : Int → Int → Int} (T : RT n lv par) (e0 : 0 ≤ e) (e1 : e < m) (l0 : 0 ≤ lvl) (bc : blw n c) (pc : par c = p) (j : jn1 t hd e p c) (p0 : 0 ≤ p) (lc : lv c ≠ lvl + 1) (h : SB n t hd lv par lvl e v) : (v 373 c = lvl → 0 ≤ v 373 p) ∧ v 373 p ≠ lvl ∧ SB n t hd lv par lvl (e + 1) v := sorry
theorem SB_nx {n m : Nat} {t hd lv par : Int → Int} {lvl : Int} {v : Int → Int → Int} (T : RT n lv par) (hA : ∀ i k, blw n i → blw n k → (aj t hd (blw m) i k ↔ par k = i ∨ par i = k)) (h : SB n t hd lv par lvl m v) (l0 : 0 ≤ lvl) : SB n t hd lv par (lvl + 1) 0 v := sorry
set_option maxRecDepth 100000 in
theorem Mo_tree_bf {l : Launch} {D : qD} {d n m q : Nat} {r : Int} {t hd w lv par ky P rt : Int → Int} {a : Int} {h : qh} {v1 : Int → Int → Int} {y4 y5 y6 y7 y8 : Option qv} {Q : qQ} (hT : TW v1) (hg : TG v1 r n m t hd w) (hv : GV n m t hd w) (T : RT n lv par) (K : KY n par ky) (hk : ∀ c, blw n c → 0 ≤ par c → ky c = c) (hn : ∀ c, blw n c → ky c < n) (hL : ∀ k, blw n k → lv k < n) (hp : TRP n q P rt par ky a) (hP : ∀ k, blw n k → 0 ≤ par k → P (par k) = P k) (hA : ∀ i k, blw n i → blw n k → (aj t hd (blw m) i k ↔ par k = i ∨ par i = k))
    (e286 : ∀ x, blw n x → v1 286 x = P x) (hr : ∀ p : Int, 0 ≤ p → p < q → v1 374 p = rt p) (h0 : ∀ x, blw n x → v1 329 x = 0) (hs : SB n t hd lv par 0 0 v1)
    (hq : ∀ v X', FW [329, 330, 372, 373] [] v1 v → TRE n lv par ky X' → (∀ x, blw n x → v 329 x = X' x ∧ v 330 x = 4 * lv x) → Q (some (.inl 0)) (h.1, v)) :
    w_Mo_tree_189 l D (d + 3) (0, 0) (fun r h' => Q r ((h'.1.1, h.1.2.1, h.1.2.2), h'.2)) [some (.inr (.inr (280))), some (.inl (a)), some (.inl (n)), some (.inl (q)), y4, y5, y6, y7, y8] [] ((h.1.1, 0, 0), v1) := sorry
end
section
/-! ===== the tree: the twin's, whole ===== -/
set_option maxRecDepth 100000 in
theorem tt_39 {l : Launch} {D : qD} {d n m q : Nat} {r : Int} {t hd w lv par ky P rt : Int → Int} {a : Int} {h : qh} {v1 : Int → Int → Int} {y4 y5 y6 y7 y8 : Option qv} {Q : qQ} (hT : TW v1) (hg : TG v1 r n m t hd w) (hv : GV n m t hd w) (T : RT n lv par) (K : KY n par ky) (hk : ∀ c, blw n c → 0 ≤ par c → ky c = c) (hn : ∀ c, blw n c → ky c < n) (hL : ∀ k, blw n k → lv k < n) (hp : TRP n q P rt par ky a) (hP : ∀ k, blw n k → 0 ≤ par k → P (par k) = P k) (hA : ∀ i k, blw n i → blw n k → (aj t hd (blw m) i k ↔ par k = i ∨ par i = k))
    (e286 : ∀ x, blw n x → v1 286 x = P x)
    (hq : ∀ v X', FW [329, 330, 372, 373, 374] [] v1 v → TRE n lv par ky X' → (∀ x, blw n x → v 329 x = X' x ∧ v 330 x = 4 * lv x) → Q (some (.inl 0)) (h.1, v)) :
    w_Mo_tree_39 l D (d + 3) (0, 0) (fun r h' => Q r ((h'.1.1, h.1.2.1, h.1.2.2), h'.2)) [some (.inr (.inr (280))), some (.inl (a)), some (.inl (n)), some (.inl (q)), y4, y5, y6, y7, y8] [] ((h.1.1, 0, 0), v1) := sorry
end
section
set_option maxRecDepth 100000 in
theorem sp_Mo_tree {l : Launch} {D : qD} {d n m q : Nat} {r : Int} {t hd w lv par ky P rt : Int → Int} {a : Int} {h : qh} {Q : qQ} (hT : TW h.2) (hg : TG h.2 r n m t hd w) (hv : GV n m t hd w) (hok : tok h.2) (hnum : num (rchs (tj h.2)) n P) (hqn : nums (rchs (tj h.2)) n = q)
    (hs : (a = -1 ∨ blw n a) → (m : Int) = n - q → (RT n lv par ∧ KY n par ky ∧ (∀ c, blw n c → 0 ≤ par c → ky c = c) ∧ (∀ c, blw n c → ky c < n) ∧ (∀ k, blw n k → lv k < n) ∧ TRP n q P rt par ky a ∧ (∀ k, blw n k → 0 ≤ par k → P (par k) = P k) ∧ (∀ i k, blw n i → blw n k → (aj t hd (blw m) i k ↔ par k = i ∨ par i = k))) ∧
      ∀ v X', FW [286, 289, 329, 330, 372, 373, 374] [] h.2 v → TRE n lv par ky X' → (∀ x, blw n x → v 329 x = X' x ∧ v 330 x = 4 * lv x) → Q (some (.inl 0)) (h.1, v))
    (hno : ¬ ((a = -1 ∨ blw n a) ∧ (m : Int) = n - q) → ∀ v, FW [286, 289] [] h.2 v → Q (some (.inl (-2))) (h.1, v)) :
    qM l D (d + 4, 0, 0) m_Mo_tree [.inr (.inr 280), .inl a] h Q := sorry
end
section
/-! ===== fractions, the component's way ===== -/
theorem fr_ne {p q r s : Int} (p0 : 0 ≤ p) (q0 : 0 < q) (r0 : 0 ≤ r) (s0 : 0 < s) (h : p / q ≠ r / s) : r * q < p * s ↔ r / s < p / q := sorry
theorem fr_eq {p q r s : Int} (h : p / q = r / s) : r * q < p * s ↔ (r % s) * q < (p % q) * s := sorry
set_option maxRecDepth 100000 in
theorem ism_14 {l : Launch} {D : qD} {d : Nat} {a b c e p q r s X Y : Int} {y16 y17 y18 y19 y20 y21 : Option qv} {h : qh} {Q : qQ} (e1 : w64 (p.tdiv q) = X) (e2 : w64 (r.tdiv s) = Y) (q0 : q ≠ 0) (s0 : s ≠ 0) (h0 : X = Y → w_Pn_isMore_50 l D (d) (0, 0) (fun r h' => Q r ((h'.1.1, h.1.2.1, h.1.2.2), h'.2)) [some (.inr (.inl (a))), none, some (.inr (.inl (b))), none, some (.inr (.inl (c))), none, some (.inr (.inl (e))), none, some (.inr (.inl (p))), none, some (.inr (.inl (q))), none, some (.inr (.inl (r))), none, some (.inr (.inl (s))), none, some (.inr (.inl (X))), none, some (.inr (.inl (Y))), none, y20, y21] [] ((h.1.1, 0, 0), h.2)) (h1 : X ≠ Y → Y < X → Q (some (.inl 1)) h) (h2 : X ≠ Y → X < Y → Q (some (.inl 0)) h) :
    qR l D (d + 1, 0, 0) m_Pn_isMore 14 (fun r h' => Q r ((h'.1.1, h.1.2.1, h.1.2.2), h'.2)) [some (.inr (.inl (a))), none, some (.inr (.inl (b))), none, some (.inr (.inl (c))), none, some (.inr (.inl (e))), none, some (.inr (.inl (p))), none, some (.inr (.inl (q))), none, some (.inr (.inl (r))), none, some (.inr (.inl (s))), none, y16, y17, y18, y19, y20, y21] [] ((h.1.1, 0, 0), h.2) := sorry
set_option maxRecDepth 100000 in
theorem sp_Pn_isMore {l : Launch} {D : qD} {d : Nat} {p q r s : Int} {h : qh} {Q : qQ} (hp : 0 ≤ p ∧ p < 4611686018427387904) (hq0 : 0 < q ∧ q < 4611686018427387904) (hr : 0 ≤ r ∧ r < 4611686018427387904) (hs : 0 < s ∧ s < 4611686018427387904) (hq : Q (some (.inl (ind (r * q < p * s)))) h) :
    qM l D (d + 1, 0, 0) m_Pn_isMore [.inr (.inl p), .inr (.inl q), .inr (.inl r), .inr (.inl s)] h Q := sorry
set_option maxRecDepth 100000 in
theorem sp_Pn_isAbove {l : Launch} {D : qD} {d : Nat} {a b big small t : Int} {h : qh} {Q : qQ} (ha : 0 ≤ a ∧ a < 4611686018427387904) (hb : 0 < b ∧ b < 4611686018427387904) (hg : 0 ≤ big ∧ big < 4611686018427387904) (hs : 0 < small ∧ small < 4611686018427387904) (ht : 0 < t ∧ t < 4611686018427387904) (hq : Q (some (.inl (ind (big * b < a * t ∧ t * b < a * small)))) h) :
    qM l D (d + 2, 0, 0) m_Pn_isAbove [.inr (.inl a), .inr (.inl b), .inr (.inl big), .inr (.inl small), .inr (.inl t)] h Q := sorry
/-- whether the worst shape of a row gets worse -/
def wrs (sz : Int → Int) (fr to sum left side oth' : Int) : Prop := ((sz fr * (side * left)) * ((sum + sz to) * (sum + sz to) * oth') < (sz fr * (side * left)) * (sum * sum * oth') ∧ (sum * sum * oth') * ((sum + sz to) * (sum + sz to) * oth') < (sz fr * (side * left)) * (sz (to - 1) * (side * left))) ∨ ((sz fr * (side * left)) * (sz to * (side * left)) < ((sum + sz to) * (sum + sz to) * oth') * (sum * sum * oth') ∧ (sum * sum * oth') * (sz to * (side * left)) < ((sum + sz to) * (sum + sz to) * oth') * (sz (to - 1) * (side * left)))
theorem mul_pb {x y X Y : Int} (hx : 0 < x ∧ x ≤ X) (hy : 0 < y ∧ y ≤ Y) : 0 < x * y ∧ x * y ≤ X * Y := sorry
set_option maxRecDepth 100000 in
theorem sp_Pn_isWorse {l : Launch} {D : qD} {d : Nat} {sz : Int → Int} {fr to sum left side oth' : Int} {h : qh} {Q : qQ} (e9 : h.2 253 9 = 260) (f0 : 0 ≤ fr) (f1 : fr < to) (t1 : to < 32) (hz : ∀ k : Int, 0 ≤ k → k ≤ to → h.2 260 k = sz k ∧ (0 < sz k ∧ sz k ≤ 2376)) (hsum : 0 < sum ∧ sum ≤ 2376) (hleft : 0 < left ∧ left ≤ 2376) (hside : 0 < side ∧ side ≤ 512) (hoth : 0 < oth' ∧ oth' ≤ 512)
    (hq : Q (some (.inl (ind (wrs sz fr to sum left side oth')))) h) :
    qM l D (d + 3, 0, 0) m_Pn_isWorse [.inr (.inr 253), .inl fr, .inl to, .inl sum, .inl left, .inl side, .inl oth'] h Q := sorry
end
section
/-! ===== rows of boxes, plain ===== -/
/-- the sum of the sizes below k -/
def su (sz : Int → Int) (k : Int) : Int := smz sz k.toNat
theorem su_0 {sz : Int → Int} : su sz 0 = 0 := sorry
theorem su_s {sz : Int → Int} {k : Int} (k0 : 0 ≤ k) : su sz (k + 1) = su sz k + sz k := sorry
theorem su_le {sz : Int → Int} {n : Int} (h : ∀ k : Int, 0 ≤ k → k < n → 0 < sz k) : ∀ (N : Nat) (a : Int), 0 ≤ a → a + N ≤ n → su sz a + N ≤ su sz (a + N) := sorry
theorem su_lt {sz : Int → Int} {n a b : Int} (h : ∀ k : Int, 0 ≤ k → k < n → 0 < sz k) (a0 : 0 ≤ a) (ab : a ≤ b) (bn : b ≤ n) : su sz a + (b - a) ≤ su sz b := sorry
/-- a row from fr goes up to to -/
def RTO (sz : Int → Int) (n fr left side oth' to : Int) : Prop := (fr < to ∧ to ≤ n) ∧ (∀ j : Int, fr < j → j < to → ¬ wrs sz fr j (su sz j - su sz fr) left side oth') ∧ (to < n → wrs sz fr to (su sz to - su sz fr) left side oth')
theorem RTO_un {sz : Int → Int} {n fr left side oth' to to' : Int} (h : RTO sz n fr left side oth' to) (h' : RTO sz n fr left side oth' to') : to = to' := sorry
def rwT (sz : Int → Int) (n fr left to w h : Int) : Int := if to = n then (if w ≤ h then h else w) else ((if w ≤ h then h else w) * (su sz to - su sz fr)) / left
def rwA (sz : Int → Int) (fr to w h k : Int) : Int := ((if w ≤ h then w else h) * (su sz k - su sz fr)) / (su sz to - su sz fr)
def rwB (sz : Int → Int) (fr to x y w h th k j : Int) : Int := if w ≤ h then (if j = 0 then x + rwA sz fr to w h k else if j = 1 then y else if j = 2 then rwA sz fr to w h (k + 1) - rwA sz fr to w h k else th) else (if j = 0 then x else if j = 1 then y + rwA sz fr to w h k else if j = 2 then th else rwA sz fr to w h (k + 1) - rwA sz fr to w h k)
def ROW (sz : Int → Int) (n : Int) (B : Int → Int → Int) : Nat → Int → Int → Int → Int → Int → Int → Prop
  | 0, _, _, _, _, _, fr => n ≤ fr
  | N + 1, x, y, w, h, left, fr => n ≤ fr ∨ (fr < n ∧ ∃ to, RTO sz n fr left (max 1 (if w ≤ h then w else h)) (max 1 (if w ≤ h then h else w)) to ∧ (∀ k j : Int, fr ≤ k → k < to → 0 ≤ j → j < 4 → B k j = rwB sz fr to x y w h (rwT sz n fr left to w h) k j) ∧
      ROW sz n B N (if w ≤ h then x else x + rwT sz n fr left to w h) (if w ≤ h then y + rwT sz n fr left to w h else y) (if w ≤ h then w else w - rwT sz n fr left to w h) (if w ≤ h then h - rwT sz n fr left to w h else h) (left - (su sz to - su sz fr)) to)
theorem ROW_un {sz : Int → Int} {n : Int} {B B' : Int → Int → Int} : ∀ (N N' : Nat) (x y w h left fr : Int), ROW sz n B N x y w h left fr → ROW sz n B' N' x y w h left fr → ∀ k j : Int, fr ≤ k → k < n → 0 ≤ j → j < 4 → B k j = B' k j := sorry
theorem tdiv_b {a b c : Int} (a0 : 0 ≤ a) (b0 : 0 ≤ b) (bc : b ≤ c) (c0 : 0 < c) : 0 ≤ a * b / c ∧ a * b / c ≤ a := sorry
theorem tdiv_m {a b b' c : Int} (a0 : 0 ≤ a) (bb : b ≤ b') (c0 : 0 < c) : a * b / c ≤ a * b' / c := sorry
/-! ===== rows of boxes: the component's ===== -/
set_option maxRecDepth 100000 in
theorem sp_Pn_set {l : Launch} {D : qD} {d : Nat} {c i x y w z L : Int} {h : qh} {Q : qQ} (c0 : 0 ≤ c) (cs : q_shp c = (100, L)) (i0 : 0 ≤ i) (i1 : 4 * i + 3 < L) (iL : i < 1000) (hq : Q none (h.1, up2 (up2 (up2 (up2 h.2 c (4 * i) x) c (4 * i + 1) y) c (4 * i + 2) w) c (4 * i + 3) z)) :
    qM l D (d + 1, 0, 0) m_Pn_set [.inr (.inr c), .inl i, .inl x, .inl y, .inl w, .inl z] h Q := sorry
/-- where an item's box lies -/
def itc (it : Int) : Int := if it < 24 then 206 else 207
def itn (it : Int) : Int := if it < 24 then it else it - 24
theorem itc_n {a b : Int} (ha : 0 ≤ a ∧ a < 32) (hb : 0 ≤ b ∧ b < 32) (h : a ≠ b) : itc a ≠ itc b ∨ itn a ≠ itn b := sorry
def RWE (n : Int) (it sz : Int → Int) (v : Int → Int → Int) : Prop := HW v ∧ v 253 2 = 198 ∧ (∀ k : Int, 0 ≤ k → k < n → v 259 k = it k ∧ v 260 k = sz k)
theorem RWE.fw {n : Int} {it sz : Int → Int} {v v' : Int → Int → Int} (h : RWE n it sz v) (k : FW [206, 207] [] v v') : RWE n it sz v' := sorry
/-- boxes of the items below k are set, others are as they were -/
def RWB (it : Int → Int) (B : Int → Int → Int) (k : Int) (v v' : Int → Int → Int) : Prop := FW [206, 207] [] v v' ∧ (∀ q j : Int, 0 ≤ q → q < k → 0 ≤ j → j < 4 → v' (itc (it q)) (4 * itn (it q) + j) = B q j) ∧ ∀ c i : Int, (c = 206 ∨ c = 207) → (∀ q : Int, 0 ≤ q → q < k → ¬ (c = itc (it q) ∧ 4 * itn (it q) ≤ i ∧ i < 4 * itn (it q) + 4)) → v' c i = v c i
theorem RWB_s {n k : Int} {it : Int → Int} {B : Int → Int → Int} {v v' : Int → Int → Int} {a b c e : Int} (hi : ∀ k : Int, 0 ≤ k → k < n → 0 ≤ it k ∧ it k < 32) (hd : ∀ j k : Int, 0 ≤ j → j < k → k < n → it j ≠ it k) (k0 : 0 ≤ k) (k1 : k < n) (h : RWB it B k v v') (e0 : B k 0 = a) (e1 : B k 1 = b) (e2 : B k 2 = c) (e3 : B k 3 = e) :
    RWB it B (k + 1) v (up2 (up2 (up2 (up2 v' (itc (it k)) (4 * itn (it k)) a) (itc (it k)) (4 * itn (it k) + 1) b) (itc (it k)) (4 * itn (it k) + 2) c) (itc (it k)) (4 * itn (it k) + 3) e) := sorry
end
section
/-! ===== rows of boxes: the component's walk ===== -/
set_option maxRecDepth 100000 in
theorem rw_191 {l : Launch} {D : qD} {d : Nat} {n y2 y3 y4 y5 y6 x y w hh left fr L1 S O to sum th rm : Int} {it sz : Int → Int} {B : Int → Int → Int} {h : qh} {v0 v1 : Int → Int → Int} {Q : qQ} (n32 : 0 ≤ n ∧ n ≤ 32) (hi : ∀ k : Int, 0 ≤ k → k < n → 0 ≤ it k ∧ it k < 32) (hd : ∀ j k : Int, 0 ≤ j → j < k → k < n → it j ≠ it k) (hz : ∀ k : Int, 0 ≤ k → k < n → 0 < sz k ∧ sz k ≤ 2376) (hs : su sz n ≤ 2376) (f0 : 0 ≤ fr) (ft : fr < to) (tn : to ≤ n) (es : sum = su sz to - su sz fr) (hw : 0 ≤ w ∧ w ≤ 512) (hh' : 0 ≤ hh ∧ hh ≤ 512) (hx : 0 ≤ x ∧ x ≤ 512) (hy : 0 ≤ y ∧ y ≤ 512) (hth : 0 ≤ th ∧ th ≤ 512) (hL : (w ≤ hh ∧ L1 = 1) ∨ (¬ w ≤ hh ∧ L1 = 0)) (he : RWE n it sz v0)
    (hB : ∀ k j : Int, fr ≤ k → k < to → 0 ≤ j → j < 4 → B k j = rwB sz fr to x y w hh th k j)
    (hq : ∀ v, RWB it B to v0 v → ∀ (z21 z23 z24 z25 z26 : Option qv), w_Pn_rows_351 l D (d + 3) (0, 0) (fun r h' => Q r ((h'.1.1, h.1.2.1, h.1.2.2), h'.2)) [some (.inr (.inr (253))), some (.inl (n)), some (.inl (y2)), some (.inl (y3)), some (.inl (y4)), some (.inl (y5)), some (.inl (y6)), some (.inl (x)), some (.inl (y)), some (.inl (w)), some (.inl (hh)), some (.inl (left)), some (.inl (fr)), some (.inl (L1)), some (.inl (S)), some (.inl (O)), some (.inl (to)), some (.inl (sum)), some (.inl (rm)), some (.inl (th)), some (.inl (if w ≤ hh then w else hh)), z21, some (.inl (to)), z23, z24, z25, z26] [] ((h.1.1, 0, 0), v)) :
    ∀ k : Int, k ≤ to → ∀ (v : Int → Int → Int) (z23 z24 z25 z26 : Option qv), fr ≤ k → RWB it B k v0 v → qR l D (d + 4, 0, 0) m_Pn_rows 191 (fun r h' => Q r ((h'.1.1, h.1.2.1, h.1.2.2), h'.2)) [some (.inr (.inr (253))), some (.inl (n)), some (.inl (y2)), some (.inl (y3)), some (.inl (y4)), some (.inl (y5)), some (.inl (y6)), some (.inl (x)), some (.inl (y)), some (.inl (w)), some (.inl (hh)), some (.inl (left)), some (.inl (fr)), some (.inl (L1)), some (.inl (S)), some (.inl (O)), some (.inl (to)), some (.inl (sum)), some (.inl (rm)), some (.inl (th)), some (.inl (if w ≤ hh then w else hh)), some (.inl (su sz k - su sz fr)), some (.inl (k)), z23, z24, z25, z26] [] ((h.1.1, 0, 0), v) := sorry
set_option maxRecDepth 100000 in
theorem sp_Pn_rows {l : Launch} {D : qD} {d : Nat} {n x0 y0 w0 h0 : Int} {it sz : Int → Int} {h : qh} {Q : qQ} (n32 : 0 ≤ n ∧ n ≤ 32) (hi : ∀ k : Int, 0 ≤ k → k < n → 0 ≤ it k ∧ it k < 32) (hd : ∀ j k : Int, 0 ≤ j → j < k → k < n → it j ≠ it k) (hz : ∀ k : Int, 0 ≤ k → k < n → 0 < sz k ∧ sz k ≤ 2376) (hs : su sz n ≤ 2376) (hw : 0 ≤ w0 ∧ x0 + w0 ≤ 512) (hh : 0 ≤ h0 ∧ y0 + h0 ≤ 512) (hx : 0 ≤ x0) (hy : 0 ≤ y0) (he : RWE n it sz h.2)
    (hq : ∀ v B N, RWB it B n h.2 v → ROW sz n B N x0 y0 w0 h0 (su sz n) 0 → Q none (h.1, v)) :
    qM l D (d + 4, 0, 0) m_Pn_rows [.inr (.inr 253), .inl n, .inl (su sz n), .inl x0, .inl y0, .inl w0, .inl h0] h Q := sorry
end
section
/-! ===== a group's content in order, plain ===== -/
def insJ (sz : Int → Int) (n s j : Int) : Prop := 0 ≤ j ∧ j ≤ n ∧ (j = 0 ∨ s ≤ sz (j - 1)) ∧ ∀ q : Int, j ≤ q → q < n → sz q < s
theorem insJ_un {sz sz' : Int → Int} {n s j j' : Int} (e : ∀ q : Int, 0 ≤ q → q < n → sz q = sz' q) (h : insJ sz n s j) (h' : insJ sz' n s j') : j = j' := sorry
def shI (f : Int → Int) (j x q : Int) : Int := if q < j then f q else if q = j then x else f (q - 1)
/-- the first k of what is gathered, in order -/
def SRT (gi gs : Int → Int) : Nat → (Int → Int) → (Int → Int) → Prop
  | 0, _, _ => True
  | k + 1, it, sz => ∃ it0 sz0 j, SRT gi gs k it0 sz0 ∧ insJ sz0 k (gs k) j ∧ ∀ q : Int, 0 ≤ q → q ≤ k → it q = shI it0 j (gi k) q ∧ sz q = shI sz0 j (gs k) q
theorem SRT_cg {gi gs it sz it' sz' : Int → Int} {k : Nat} (h : SRT gi gs k it sz) (e : ∀ q : Int, 0 ≤ q → q < k → it' q = it q ∧ sz' q = sz q) : SRT gi gs k it' sz' := sorry
theorem SRT_un {gi gs gi' gs' : Int → Int} : ∀ {k : Nat} {it sz it' sz' : Int → Int}, (∀ u : Int, 0 ≤ u → u < k → gi u = gi' u ∧ gs u = gs' u) → SRT gi gs k it sz → SRT gi' gs' k it' sz' → ∀ q : Int, 0 ≤ q → q < k → it q = it' q ∧ sz q = sz' q := sorry
theorem SRT_in {gi gs : Int → Int} : ∀ {k : Nat} {it sz : Int → Int}, SRT gi gs k it sz → (∀ q : Int, 0 ≤ q → q < k → ∃ u : Int, (0 ≤ u ∧ u < k) ∧ it q = gi u ∧ sz q = gs u) ∧ (∀ u : Int, 0 ≤ u → u < k → ∃ q : Int, (0 ≤ q ∧ q < k) ∧ it q = gi u) := sorry
theorem SRT_inj {gi gs : Int → Int} : ∀ {k : Nat} {it sz : Int → Int}, (∀ a b : Int, 0 ≤ a → a < b → b < k → gi a ≠ gi b) → SRT gi gs k it sz → ∀ a b : Int, 0 ≤ a → a < b → b < k → it a ≠ it b := sorry
theorem su_cg {f f' : Int → Int} {k : Int} (h : ∀ q : Int, 0 ≤ q → q < k → f q = f' q) : su f k = su f' k := sorry
theorem su_ins {f f' : Int → Int} {k j x : Int} (j0 : 0 ≤ j) (jk : j ≤ k) (h : ∀ q : Int, 0 ≤ q → q ≤ k → f' q = shI f j x q) : su f' (k + 1) = su f k + x := sorry
theorem SRT_su {gi gs : Int → Int} : ∀ {k : Nat} {it sz : Int → Int}, SRT gi gs k it sz → su sz k = su gs k := sorry
/-! what is gathered -/
def GRV (n : Nat) (G : Int) (ar gr sn : Int → Int) : Prop := n ≤ 24 ∧ (1 ≤ G ∧ G ≤ 8) ∧ (∀ k : Int, 0 < k → k < 8 → ar k < k) ∧ (∀ k : Int, 0 < k → k < G → 0 ≤ ar k) ∧ ∀ i, blw n i → (0 ≤ gr i ∧ gr i < G) ∧ (1 ≤ sn i ∧ sn i ≤ 99)
/-- a group's whole size -/
def gsm (n : Nat) (ar gr sn : Int → Int) (k : Int) : Int := smz (fun i => if inG ar 8 (gr i) k = 0 then 0 else sn i) n
def chG (n : Nat) (G : Int) (ar gr sn : Int → Int) (g k : Int) : Prop := (1 ≤ k ∧ k < G) ∧ ar k = g ∧ gsm n ar gr sn k ≠ 0
noncomputable def cG (n : Nat) (G : Int) (ar gr sn : Int → Int) (g k : Int) : Int := cnt (chG n G ar gr sn g) k.toNat
noncomputable def cN (gr : Int → Int) (g i : Int) : Int := cnt (fun i => gr i = g) i.toNat
theorem cnt_st {P : Int → Prop} {k : Int} (k0 : 0 ≤ k) : (P k → (cnt P (k + 1).toNat : Int) = cnt P k.toNat + 1) ∧ (¬ P k → (cnt P (k + 1).toNat : Int) = cnt P k.toNat) := sorry
theorem cnt_mn {P : Int → Prop} {a b : Int} (a0 : 0 ≤ a) (ab : a ≤ b) : (cnt P a.toNat : Int) ≤ cnt P b.toNat := sorry
/-- gi, gs: the items and sizes in the order in which they are gathered -/
def GTH (n : Nat) (G : Int) (ar gr sn : Int → Int) (g : Int) (gi gs : Int → Int) : Prop := (∀ k : Int, chG n G ar gr sn g k → gi (cG n G ar gr sn g k) = 24 + k ∧ gs (cG n G ar gr sn g k) = gsm n ar gr sn k) ∧ ∀ i : Int, blw n i → gr i = g → gi (cG n G ar gr sn g G + cN gr g i) = i ∧ gs (cG n G ar gr sn g G + cN gr g i) = sn i
/-- each place of the row is one of them -/
theorem cnt_at2 {P : Int → Prop} : ∀ {N : Nat} {u : Int}, 0 ≤ u → u < cnt P N → ∃ k : Int, (0 ≤ k ∧ k < N) ∧ P k ∧ u = cnt P k.toNat := sorry
theorem GTH_un {n : Nat} {G : Int} {ar gr sn : Int → Int} {g : Int} {gi gs gi' gs' : Int → Int} (hG : 0 ≤ G) (h : GTH n G ar gr sn g gi gs) (h' : GTH n G ar gr sn g gi' gs') : ∀ u : Int, 0 ≤ u → u < cG n G ar gr sn g G + cN gr g n → (gi u = gi' u ∧ gs u = gs' u) ∧ ((∃ k : Int, chG n G ar gr sn g k ∧ u = cG n G ar gr sn g k) ∨ ∃ i : Int, blw n i ∧ gr i = g ∧ u = cG n G ar gr sn g G + cN gr g i) := sorry
end
section
/-! ===== what a group holds is not too much ===== -/
theorem inG_le {A : Int → Int} (hA : ∀ k : Int, 0 < k → k < 8 → A k < k) : ∀ (n : Nat) (k i : Int), k < 8 → inG A n k i = 1 → i ≤ k := sorry
theorem inG_two {A : Int → Int} (hA : ∀ k : Int, 0 < k → k < 8 → A k < k) {c c' : Int} (cc : c' < c) (c0 : 0 < c) : ∀ (n n' : Nat) (k : Int), k < 8 → inG A n k c = 1 → inG A n' k c' = 1 → c' ≤ A c := sorry
noncomputable def iw (p : Prop) (x : Int) : Int := @ite Int p (Classical.propDecidable _) x 0
theorem iw_1 {p : Prop} {x : Int} (h : p) : iw p x = x := sorry
theorem iw_0 {p : Prop} {x : Int} (h : ¬ p) : iw p x = 0 := sorry
theorem smz_add {f g : Int → Int} : ∀ {k : Nat}, smz (fun i => f i + g i) k = smz f k + smz g k := sorry
theorem smz_le {f : Int → Int} {b : Int} : ∀ {k : Nat}, (∀ e : Int, 0 ≤ e → e < k → f e ≤ b) → smz f k ≤ k * b := sorry
def tK (n : Nat) (G : Int) (ar gr sn : Int → Int) (g K i : Int) : Prop := ∃ k : Int, k < K ∧ chG n G ar gr sn g k ∧ inG ar 8 (gr i) k = 1
theorem tot_G {n : Nat} {G g : Int} {ar gr sn gi gs : Int → Int} (hv : GRV n G ar gr sn) (h : GTH n G ar gr sn g gi gs) : ∀ K : Nat, su gs (cG n G ar gr sn g K) = smz (fun i => iw (tK n G ar gr sn g K i) (sn i)) n := sorry
theorem tot_N {n : Nat} {G g : Int} {ar gr sn gi gs : Int → Int} (h : GTH n G ar gr sn g gi gs) : ∀ K : Nat, K ≤ n → su gs (cG n G ar gr sn g G + cN gr g K) = su gs (cG n G ar gr sn g G) + smz (fun i => iw (gr i = g) (sn i)) K := sorry
theorem tot {n : Nat} {G g : Int} {ar gr sn gi gs : Int → Int} (hv : GRV n G ar gr sn) (h : GTH n G ar gr sn g gi gs) : su gs (cG n G ar gr sn g G + cN gr g n) ≤ 2376 := sorry
theorem gsm_0 {n : Nat} {G : Int} {ar gr sn : Int → Int} (hv : GRV n G ar gr sn) (k : Int) : 0 ≤ gsm n ar gr sn k ∧ gsm n ar gr sn k ≤ 2376 := sorry
end
