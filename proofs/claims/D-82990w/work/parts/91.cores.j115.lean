section
/-! ===== Shape.lookCores ===== -/
theorem bt_small {z : Int} {n : Nat} (hz : i32 z) (hn : n ≤ 30) (h : ∀ k : Int, n ≤ k → k < 32 → ¬ bt z k) : 0 ≤ z ∧ z < 2 ^ n := sorry
theorem bt_ones {n : Nat} (hn : n ≤ 24) (k : Int) (k0 : 0 ≤ k) (k1 : k < 32) : bt (z_ishl 1 n - 1) k ↔ k < n := sorry
theorem ones_r {n : Nat} (hn : n ≤ 24) : i32 (z_ishl 1 n - 1) ∧ r32 (z_ishl 1 n - 1) := sorry
theorem cnt_ext {P : Int → Prop} {n m : Nat} (h : n ≤ m) (hP : ∀ x, blw m x → P x → x < n) : cnt P m = cnt P n := sorry
/-- bits of a set below n -/
def sub1 (n : Nat) (z : Int) : Prop := i32 z ∧ ∀ k : Int, n ≤ k → k < 32 → ¬ bt z k
theorem dgr_bits {r : Int → Int} {n : Nat} (hn : n ≤ 24) {z i : Int} (hz : sub1 n z) (i0 : 0 ≤ i) (i1 : i < n) : cnt (bt (z_iand (r i) z)) 32 = dgr (rbt r n) n (bt z) i := sorry
theorem pow24 {n : Nat} (hn : n ≤ 24) : (2 : Int) ^ n ≤ 16777216 := sorry
theorem kend {R : Int → Int → Prop} {n k : Nat} {y : Int} (h2 : ∀ i : Int, 0 ≤ i → i < n → kco R n (k + 1) i → bt y i) (h3 : ∀ i : Int, 0 ≤ i → i < n → bt y i → k + 1 ≤ dgr R n (bt y) i) (i : Int) (i0 : 0 ≤ i) (i1 : i < n) : bt y i ↔ kco R n (k + 1) i := sorry
set_option maxRecDepth 100000 in
theorem sp_Sh_lookCores {l : Launch} {D : qD} {d : Nat} {s g : Int} {h : qh} {Q : qQ} (hs : isS s) (hS : SA h.2 s) (hg : isG g) (eg : h.2 s 15 = g) (hN : 0 ≤ h.2 g 0 ∧ h.2 g 0 ≤ 24)
    (hq : ∀ v, KS s [] [s + 4] h.2 v → (∀ i, 0 ≤ i → i < h.2 g 0 → ∃ k : Nat, v (s + 4) i = k ∧ crn (rbt (h.2 (s + 1)) (h.2 g 0)) (h.2 g 0).toNat i k) → Q none (h.1, v)) : qM l D (d + 2, 0, 0) m_Sh_lookCores [.inr (.inr s)] h Q := sorry
end
section
/-! ===== Shape.look ===== -/
theorem nbs_r (v : Int → Int → Int) (g i : Int) (n : Nat) : i32 (nbs v g i n) := sorry
theorem nbs_bt {v : Int → Int → Int} {g i : Int} {m : Nat} (hen : ∀ e, blw m e → (0 ≤ v (g + 6) e ∧ v (g + 6) e < 32) ∧ (0 ≤ v (g + 7) e ∧ v (g + 7) e < 32)) {k : Int} (k0 : 0 ≤ k) (k1 : k < 32) : bt (nbs v g i m) k ↔ aj (v (g + 6)) (v (g + 7)) (blw m) i k := sorry
/-- joined in the graph at g -/
def gj (v : Int → Int → Int) (g : Int) : Int → Int → Prop := aj (v (g + 6)) (v (g + 7)) (blw (v g 1).toNat)
theorem gj_in {v : Int → Int → Int} {g : Int} (hok : gok v g) {x y : Int} (q : gj v g x y) : blw (v g 0).toNat x ∧ blw (v g 0).toNat y := sorry
/-- the shape at s is that of the graph at g -/
def shok (v : Int → Int → Int) (s g : Int) : Prop := v s 15 = g ∧ (∀ x, blw (v g 0).toNat x → i32 (v (s + 1) x) ∧ ∀ y, 0 ≤ y → y < 32 → (bt (v (s + 1) x) y ↔ gj v g x y)) ∧
  (num (rchs (gj v g)) (v g 0).toNat (v (s + 2)) ∧ v s 6 = nums (rchs (gj v g)) (v g 0).toNat) ∧
  (num (bk (v (g + 6)) (v (g + 7)) (blw (v g 1).toNat)) (v g 1).toNat (v (s + 5)) ∧ v s 7 = nums (bk (v (g + 6)) (v (g + 7)) (blw (v g 1).toNat)) (v g 1).toNat) ∧
  (num (sE (dR v g 0)) (v g 0).toNat (v (s + 3)) ∧ v s 8 = nums (sE (dR v g 0)) (v g 0).toNat) ∧
  (∀ i, blw (v g 0).toNat i → ∃ k : Nat, v (s + 4) i = k ∧ crn (gj v g) (v g 0).toNat i k)
theorem crn_ext {R R' : Int → Int → Prop} {n : Nat} {j : Int} {k : Nat} (h : ∀ x y, blw n x → blw n y → (R x y ↔ R' x y)) (q : crn R n j k) : crn R' n j k := sorry
end
section
/-! ===== Shape.look: the whole ===== -/
/-- all that a look may change of a shape -/
def KL (s : Int) (v v' : Int → Int → Int) : Prop := KS s [6, 7, 8, 12, 13, 14, 15] [s + 1, s + 2, s + 3, s + 4, s + 5, s + 6, s + 7, s + 8, s + 9] v v'
theorem KL.rd {s g : Int} {v v' : Int → Int → Int} (hap : aprt g s) (K : KL s v v') : v' g = v g ∧ ∀ j, 0 ≤ j → j ≤ 11 → v' (g + j) = v (g + j) := sorry
theorem dR_of {v v' : Int → Int → Int} {g a : Int} (e : v' g = v g) (e6 : v' (g + 6) = v (g + 6)) (e7 : v' (g + 7) = v (g + 7)) (e9 : v' (g + 9) = v (g + 9)) : dR v' g a = dR v g a := sorry
theorem gj_of {v v' : Int → Int → Int} {g : Int} (e : v' g = v g) (e6 : v' (g + 6) = v (g + 6)) (e7 : v' (g + 7) = v (g + 7)) : gj v' g = gj v g := sorry
set_option maxRecDepth 100000 in
theorem sp_Sh_look {l : Launch} {D : qD} {d : Nat} {s g : Int} {h : qh} {Q : qQ} (hs : isS s) (hS : SA h.2 s) (hg : isG g) (hG : GA h.2 g) (hap : aprt g s) (hok : gok h.2 g)
    (hq : ∀ v, KL s h.2 v → shok v s g → Q none (h.1, v)) : qM l D (d + 28, 0, 0) m_Sh_look [.inr (.inr s), .inr (.inr g)] h Q := sorry
end
section
/-! printed by gen/twp.py: the twin's final fields, one by one -/
theorem TW.f1 {v : Int → Int → Int} (h : TW v) : v 280 1 = 281 := sorry
theorem TW.f2 {v : Int → Int → Int} (h : TW v) : v 280 2 = 282 := sorry
theorem TW.f3 {v : Int → Int → Int} (h : TW v) : v 280 3 = 283 := sorry
theorem TW.f4 {v : Int → Int → Int} (h : TW v) : v 280 4 = 284 := sorry
theorem TW.f6 {v : Int → Int → Int} (h : TW v) : v 280 6 = 285 := sorry
theorem TW.f16 {v : Int → Int → Int} (h : TW v) : v 280 16 = 286 := sorry
theorem TW.f17 {v : Int → Int → Int} (h : TW v) : v 280 17 = 287 := sorry
theorem TW.f18 {v : Int → Int → Int} (h : TW v) : v 280 18 = 288 := sorry
theorem TW.f19 {v : Int → Int → Int} (h : TW v) : v 280 19 = 289 := sorry
theorem TW.f20 {v : Int → Int → Int} (h : TW v) : v 280 20 = 290 := sorry
theorem TW.f21 {v : Int → Int → Int} (h : TW v) : v 280 21 = 291 := sorry
theorem TW.f22 {v : Int → Int → Int} (h : TW v) : v 280 22 = 292 := sorry
theorem TW.f23 {v : Int → Int → Int} (h : TW v) : v 280 23 = 293 := sorry
theorem TW.f24 {v : Int → Int → Int} (h : TW v) : v 280 24 = 294 := sorry
theorem TW.f33 {v : Int → Int → Int} (h : TW v) : v 280 33 = 295 := sorry
theorem TW.f34 {v : Int → Int → Int} (h : TW v) : v 280 34 = 296 := sorry
theorem TW.f35 {v : Int → Int → Int} (h : TW v) : v 280 35 = 297 := sorry
theorem TW.f36 {v : Int → Int → Int} (h : TW v) : v 280 36 = 298 := sorry
theorem TW.f37 {v : Int → Int → Int} (h : TW v) : v 280 37 = 299 := sorry
theorem TW.f38 {v : Int → Int → Int} (h : TW v) : v 280 38 = 300 := sorry
theorem TW.f40 {v : Int → Int → Int} (h : TW v) : v 280 40 = 301 := sorry
theorem TW.f41 {v : Int → Int → Int} (h : TW v) : v 280 41 = 302 := sorry
theorem TW.f42 {v : Int → Int → Int} (h : TW v) : v 280 42 = 303 := sorry
theorem TW.f43 {v : Int → Int → Int} (h : TW v) : v 280 43 = 304 := sorry
theorem TW.f44 {v : Int → Int → Int} (h : TW v) : v 280 44 = 305 := sorry
theorem TW.f46 {v : Int → Int → Int} (h : TW v) : v 280 46 = 306 := sorry
theorem TW.f48 {v : Int → Int → Int} (h : TW v) : v 280 48 = 307 := sorry
theorem TW.f50 {v : Int → Int → Int} (h : TW v) : v 280 50 = 308 := sorry
theorem TW.f51 {v : Int → Int → Int} (h : TW v) : v 280 51 = 309 := sorry
theorem TW.f52 {v : Int → Int → Int} (h : TW v) : v 280 52 = 310 := sorry
theorem TW.f54 {v : Int → Int → Int} (h : TW v) : v 280 54 = 311 := sorry
theorem TW.f55 {v : Int → Int → Int} (h : TW v) : v 280 55 = 312 := sorry
theorem TW.f56 {v : Int → Int → Int} (h : TW v) : v 280 56 = 313 := sorry
theorem TW.f57 {v : Int → Int → Int} (h : TW v) : v 280 57 = 314 := sorry
theorem TW.f60 {v : Int → Int → Int} (h : TW v) : v 280 60 = 315 := sorry
theorem TW.f61 {v : Int → Int → Int} (h : TW v) : v 280 61 = 316 := sorry
theorem TW.f62 {v : Int → Int → Int} (h : TW v) : v 280 62 = 317 := sorry
theorem TW.f63 {v : Int → Int → Int} (h : TW v) : v 280 63 = 318 := sorry
theorem TW.f64 {v : Int → Int → Int} (h : TW v) : v 280 64 = 319 := sorry
theorem TW.f65 {v : Int → Int → Int} (h : TW v) : v 280 65 = 320 := sorry
theorem TW.f66 {v : Int → Int → Int} (h : TW v) : v 280 66 = 321 := sorry
theorem TW.f67 {v : Int → Int → Int} (h : TW v) : v 280 67 = 322 := sorry
theorem TW.f68 {v : Int → Int → Int} (h : TW v) : v 280 68 = 323 := sorry
theorem TW.f69 {v : Int → Int → Int} (h : TW v) : v 280 69 = 324 := sorry
theorem TW.f70 {v : Int → Int → Int} (h : TW v) : v 280 70 = 325 := sorry
theorem TW.f71 {v : Int → Int → Int} (h : TW v) : v 280 71 = 326 := sorry
theorem TW.f72 {v : Int → Int → Int} (h : TW v) : v 280 72 = 327 := sorry
theorem TW.f73 {v : Int → Int → Int} (h : TW v) : v 280 73 = 328 := sorry
theorem TW.f74 {v : Int → Int → Int} (h : TW v) : v 280 74 = 329 := sorry
theorem TW.f75 {v : Int → Int → Int} (h : TW v) : v 280 75 = 330 := sorry
theorem TW.f76 {v : Int → Int → Int} (h : TW v) : v 280 76 = 331 := sorry
theorem TW.f77 {v : Int → Int → Int} (h : TW v) : v 280 77 = 332 := sorry
theorem TW.f78 {v : Int → Int → Int} (h : TW v) : v 280 78 = 333 := sorry
theorem TW.f82 {v : Int → Int → Int} (h : TW v) : v 280 82 = 334 := sorry
theorem TW.f83 {v : Int → Int → Int} (h : TW v) : v 280 83 = 335 := sorry
theorem TW.f84 {v : Int → Int → Int} (h : TW v) : v 280 84 = 336 := sorry
theorem TW.f85 {v : Int → Int → Int} (h : TW v) : v 280 85 = 337 := sorry
theorem TW.f86 {v : Int → Int → Int} (h : TW v) : v 280 86 = 338 := sorry
theorem TW.f87 {v : Int → Int → Int} (h : TW v) : v 280 87 = 339 := sorry
theorem TW.f88 {v : Int → Int → Int} (h : TW v) : v 280 88 = 340 := sorry
theorem TW.f89 {v : Int → Int → Int} (h : TW v) : v 280 89 = 341 := sorry
theorem TW.f90 {v : Int → Int → Int} (h : TW v) : v 280 90 = 342 := sorry
theorem TW.f91 {v : Int → Int → Int} (h : TW v) : v 280 91 = 343 := sorry
theorem TW.f92 {v : Int → Int → Int} (h : TW v) : v 280 92 = 344 := sorry
theorem TW.f93 {v : Int → Int → Int} (h : TW v) : v 280 93 = 345 := sorry
theorem TW.f95 {v : Int → Int → Int} (h : TW v) : v 280 95 = 346 := sorry
theorem TW.f96 {v : Int → Int → Int} (h : TW v) : v 280 96 = 347 := sorry
theorem TW.f97 {v : Int → Int → Int} (h : TW v) : v 280 97 = 348 := sorry
theorem TW.f98 {v : Int → Int → Int} (h : TW v) : v 280 98 = 349 := sorry
theorem TW.f102 {v : Int → Int → Int} (h : TW v) : v 280 102 = 350 := sorry
theorem TW.f103 {v : Int → Int → Int} (h : TW v) : v 280 103 = 351 := sorry
theorem TW.f104 {v : Int → Int → Int} (h : TW v) : v 280 104 = 352 := sorry
theorem TW.f105 {v : Int → Int → Int} (h : TW v) : v 280 105 = 353 := sorry
theorem TW.f106 {v : Int → Int → Int} (h : TW v) : v 280 106 = 354 := sorry
theorem TW.f108 {v : Int → Int → Int} (h : TW v) : v 280 108 = 355 := sorry
theorem TW.f109 {v : Int → Int → Int} (h : TW v) : v 280 109 = 356 := sorry
theorem TW.f110 {v : Int → Int → Int} (h : TW v) : v 280 110 = 357 := sorry
theorem TW.f111 {v : Int → Int → Int} (h : TW v) : v 280 111 = 358 := sorry
theorem TW.f112 {v : Int → Int → Int} (h : TW v) : v 280 112 = 359 := sorry
theorem TW.f113 {v : Int → Int → Int} (h : TW v) : v 280 113 = 360 := sorry
theorem TW.f114 {v : Int → Int → Int} (h : TW v) : v 280 114 = 361 := sorry
theorem TW.f115 {v : Int → Int → Int} (h : TW v) : v 280 115 = 362 := sorry
theorem TW.f116 {v : Int → Int → Int} (h : TW v) : v 280 116 = 363 := sorry
theorem TW.f117 {v : Int → Int → Int} (h : TW v) : v 280 117 = 364 := sorry
theorem TW.f118 {v : Int → Int → Int} (h : TW v) : v 280 118 = 365 := sorry
theorem TW.f119 {v : Int → Int → Int} (h : TW v) : v 280 119 = 366 := sorry
theorem TW.f120 {v : Int → Int → Int} (h : TW v) : v 280 120 = 367 := sorry
theorem TW.f122 {v : Int → Int → Int} (h : TW v) : v 280 122 = 368 := sorry
theorem TW.f123 {v : Int → Int → Int} (h : TW v) : v 280 123 = 369 := sorry
theorem TW.f124 {v : Int → Int → Int} (h : TW v) : v 280 124 = 370 := sorry
theorem TW.f126 {v : Int → Int → Int} (h : TW v) : v 280 126 = 371 := sorry
theorem TW.f127 {v : Int → Int → Int} (h : TW v) : v 280 127 = 372 := sorry
theorem TW.f128 {v : Int → Int → Int} (h : TW v) : v 280 128 = 373 := sorry
theorem TW.f129 {v : Int → Int → Int} (h : TW v) : v 280 129 = 374 := sorry
theorem TW.f130 {v : Int → Int → Int} (h : TW v) : v 280 130 = 375 := sorry
theorem TW.f131 {v : Int → Int → Int} (h : TW v) : v 280 131 = 376 := sorry
theorem TW.f135 {v : Int → Int → Int} (h : TW v) : v 280 135 = 377 := sorry
theorem TW.f136 {v : Int → Int → Int} (h : TW v) : v 280 136 = 378 := sorry
theorem TW.f137 {v : Int → Int → Int} (h : TW v) : v 280 137 = 379 := sorry
theorem TW.f138 {v : Int → Int → Int} (h : TW v) : v 280 138 = 380 := sorry
theorem TW.f140 {v : Int → Int → Int} (h : TW v) : v 280 140 = 381 := sorry
theorem TW.f141 {v : Int → Int → Int} (h : TW v) : v 280 141 = 382 := sorry
theorem TW.f142 {v : Int → Int → Int} (h : TW v) : v 280 142 = 383 := sorry
theorem TW.f143 {v : Int → Int → Int} (h : TW v) : v 280 143 = 384 := sorry
theorem TW.f148 {v : Int → Int → Int} (h : TW v) : v 280 148 = 385 := sorry
theorem TW.f149 {v : Int → Int → Int} (h : TW v) : v 280 149 = 386 := sorry
theorem TW.f151 {v : Int → Int → Int} (h : TW v) : v 280 151 = 387 := sorry
theorem TW.f152 {v : Int → Int → Int} (h : TW v) : v 280 152 = 388 := sorry
theorem TW.f160 {v : Int → Int → Int} (h : TW v) : v 280 160 = 389 := sorry
theorem TW.f161 {v : Int → Int → Int} (h : TW v) : v 280 161 = 390 := sorry
theorem TW.f162 {v : Int → Int → Int} (h : TW v) : v 280 162 = 391 := sorry
theorem TW.f163 {v : Int → Int → Int} (h : TW v) : v 280 163 = 392 := sorry
theorem TW.f166 {v : Int → Int → Int} (h : TW v) : v 280 166 = 393 := sorry
theorem TW.f167 {v : Int → Int → Int} (h : TW v) : v 280 167 = 394 := sorry
theorem TW.f168 {v : Int → Int → Int} (h : TW v) : v 280 168 = 395 := sorry
theorem TW.f171 {v : Int → Int → Int} (h : TW v) : v 280 171 = 396 := sorry
theorem TW.f172 {v : Int → Int → Int} (h : TW v) : v 280 172 = 397 := sorry
theorem TW.f175 {v : Int → Int → Int} (h : TW v) : v 280 175 = 398 := sorry
end
section
/-! ===== the twin: how far, parts ===== -/
def tT (v : Int → Int → Int) (e : Int) : Int := v 282 (v 280 5 + 267 + e)
def tH (v : Int → Int → Int) (e : Int) : Int := v 282 (v 280 5 + 315 + e)
def tn (v : Int → Int → Int) : Int := v 282 (v 280 5)
def tm (v : Int → Int → Int) : Int := v 282 (v 280 5 + 1)
/-- the graph at hand -/
def tok (v : Int → Int → Int) : Prop := (0 ≤ v 280 5 ∧ v 280 5 ≤ 66297) ∧ (0 ≤ tn v ∧ tn v ≤ 24) ∧ (0 ≤ tm v ∧ tm v ≤ 48) ∧ (∀ e, blw (tm v).toNat e → blw (tn v).toNat (tT v e) ∧ blw (tn v).toNat (tH v e)) ∧ nlp (tT v) (tH v) (blw (tm v).toNat)
def tj (v : Int → Int → Int) : Int → Int → Prop := aj (tT v) (tH v) (blw (tm v).toNat)
theorem tj_in {v : Int → Int → Int} (hok : tok v) {x y : Int} (q : tj v x y) : blw (tn v).toNat x ∧ blw (tn v).toNat y := sorry
/-- F tells how far all are from a -/
def fars (R : Int → Int → Prop) (n : Int) (a : Int) (F : Int → Int) : Prop := ∀ i, 0 ≤ i → i < n → (∃ k : Nat, dst R a i k ∧ F i = k) ∨ (¬ rchs R a i ∧ F i = 1000000)
/-- lengths of ways, or none yet -/
def farL (R : Int → Int → Prop) (n a : Int) (F : Int → Int) : Prop := ∀ i, 0 ≤ i → i < n → (0 ≤ F i ∧ F i ≤ 1000000) ∧ (F i = 1000000 ∨ ∃ k : Nat, F i = k ∧ rch R k a i)
/-- ways of at most t steps are told -/
def farU (R : Int → Int → Prop) (n a : Int) (t : Nat) (F : Int → Int) : Prop := ∀ i (k : Nat), 0 ≤ i → i < n → k ≤ t → rch R k a i → F i ≤ k
theorem farL_up {R : Int → Int → Prop} {n a : Int} {F F' : Int → Int} {x y : Int} (hF : farL R n a F) (hx : 0 ≤ x ∧ x < n) (hR : R x y) (h1 : F' y = if F x + 1 ≤ F y then F x + 1 else F y) (h2 : ∀ i, i ≠ y → F' i = F i) : farL R n a F' ∧ (∀ i, F' i ≤ F i) ∧ F' y ≤ F x + 1 := sorry
theorem fars_of {R : Int → Int → Prop} {n : Nat} {a : Int} {F : Int → Int} (hR : ∀ x y, R x y → 0 ≤ y ∧ y < n) (ha : 0 ≤ a ∧ a < n) (hn : n < 1000000) (hL : farL R n a F) (hU : farU R n a n F) : fars R n a F := sorry
set_option maxRecDepth 100000 in
theorem sp_Mo_farFrom {l : Launch} {D : qD} {d : Nat} {a : Int} {h : qh} {Q : qQ} (hT : TW h.2) (hok : tok h.2) (ha : 0 ≤ a ∧ a < tn h.2)
    (hq : ∀ v, KS 280 [] [289] h.2 v → fars (tj h.2) (tn h.2) a (v 289) → Q none (h.1, v)) : qM l D (d + 2, 0, 0) m_Mo_farFrom [.inr (.inr 280), .inl a] h Q := sorry
end
section
/-! ===== the twin's parts ===== -/
theorem KS.r0 {C : List Int} {v v' : Int → Int → Int} (K : KS 280 [] C v v') : v' 280 = v 280 := sorry
theorem t_of {v v' : Int → Int → Int} (e : v' 280 5 = v 280 5) (e2 : v' 282 = v 282) : tn v' = tn v ∧ tm v' = tm v ∧ tT v' = tT v ∧ tH v' = tH v := sorry
theorem tok.of {v v' : Int → Int → Int} (h : tok v) (e : v' 280 5 = v 280 5) (e2 : v' 282 = v 282) : tok v' := sorry
theorem tj_of {v v' : Int → Int → Int} (e : v' 280 5 = v 280 5) (e2 : v' 282 = v 282) : tj v' = tj v := sorry
set_option maxRecDepth 100000 in
theorem sp_Mo_parts {l : Launch} {D : qD} {d : Nat} {h : qh} {Q : qQ} (hT : TW h.2) (hok : tok h.2)
    (hq : ∀ v, KS 280 [] [286, 289] h.2 v → num (rchs (tj h.2)) (tn h.2).toNat (v 286) → Q (some (.inl (nums (rchs (tj h.2)) (tn h.2).toNat))) (h.1, v)) : qM l D (d + 3, 0, 0) m_Mo_parts [.inr (.inr 280)] h Q := sorry
end
section
/-! ===== the twin's strong parts ===== -/
def tO (v : Int → Int → Int) (e : Int) : Int := v 282 (v 280 5 + 411 + e)
/-- a step along an edge as it goes, or back along one that goes both ways -/
def tD (v : Int → Int → Int) (a : Int) (x y : Int) : Prop := ∃ e, blw (tm v).toNat e ∧ ((tT v e = x ∧ tH v e = y) ∨ (a = 0 ∧ tO v e = 0 ∧ tH v e = x ∧ tT v e = y))
set_option maxRecDepth 100000 in
theorem sp_Mo_reaching {l : Launch} {D : qD} {d : Nat} {a : Int} {h : qh} {Q : qQ} (hT : TW h.2) (hok : tok h.2)
    (hq : ∀ v, KS 280 [] [291] h.2 v → (∀ i j, 0 ≤ i → i < tn h.2 → 0 ≤ j → j < tn h.2 → (v 291 (24 * i + j) ≠ 0 ↔ rchs (tD h.2 a) i j)) → Q none (h.1, v)) : qM l D (d + 2, 0, 0) m_Mo_reaching [.inr (.inr 280), .inl a] h Q := sorry
end
section
/-! ===== the twin's strong parts: numbers ===== -/
set_option maxRecDepth 100000 in
theorem sp_Mo_strong {l : Launch} {D : qD} {d : Nat} {a : Int} {h : qh} {Q : qQ} (hT : TW h.2) (hok : tok h.2)
    (hq : ∀ v, KS 280 [] [288, 291] h.2 v → num (sE (tD h.2 a)) (tn h.2).toNat (v 288) → Q (some (.inl (nums (sE (tD h.2 a)) (tn h.2).toNat))) (h.1, v)) : qM l D (d + 3, 0, 0) m_Mo_strong [.inr (.inr 280), .inl a] h Q := sorry
end
section
/-! ===== the twin's plane: a graph whose edges may be left out ===== -/
set_option maxRecDepth 100000 in
theorem sp_Mo_plane {l : Launch} {D : qD} {d : Nat} {h : qh} {Q : qQ} (hT : TW h.2) (hok : tok h.2)
    (hq : ∀ v, KS 280 [31, 32] [295, 296, 297] h.2 v → v 280 31 = tn h.2 → v 280 32 = tm h.2 → (∀ e, 0 ≤ e → e < tm h.2 → v 295 e = tT h.2 e ∧ v 296 e = tH h.2 e ∧ v 297 e = 1) → Q none (h.1, v)) : qM l D (d + 2, 0, 0) m_Mo_plane [.inr (.inr 280)] h Q := sorry
/-- an edge of the plane that is there -/
def pA (v : Int → Int → Int) (e : Int) : Prop := (0 ≤ e ∧ e < v 280 32) ∧ v 297 e ≠ 0
/-- the plane's graph -/
def pok (v : Int → Int → Int) : Prop := (0 ≤ v 280 31 ∧ v 280 31 ≤ 25) ∧ (0 ≤ v 280 32 ∧ v 280 32 ≤ 80) ∧ (∀ e, 0 ≤ e → e < v 280 32 → (0 ≤ v 295 e ∧ v 295 e < v 280 31) ∧ (0 ≤ v 296 e ∧ v 296 e < v 280 31)) ∧ nlp (v 295) (v 296) (pA v)
set_option maxRecDepth 100000 in
theorem sp_Mo_flood {l : Launch} {D : qD} {d : Nat} {a w : Int} {h : qh} {Q : qQ} (hT : TW h.2) (hok : pok h.2) (ha : 0 ≤ a ∧ a < h.2 280 31)
    (hq : ∀ v, KS 280 [] [300] h.2 v → (∀ i, 0 ≤ i → i < h.2 280 31 → (v 300 i ≠ 0 ↔ rchs (ajw (h.2 295) (h.2 296) (pA h.2) w) a i)) → Q none (h.1, v)) : qM l D (d + 1, 0, 0) m_Mo_flood [.inr (.inr 280), .inl a, .inl w] h Q := sorry
end
section
/-! ===== the twin's blocks ===== -/
set_option maxRecDepth 100000 in
theorem sp_Mo_join {l : Launch} {D : qD} {d : Nat} {a b : Int} {h : qh} {Q : qQ} (hT : TW h.2) (hm : 0 ≤ h.2 280 32 ∧ h.2 280 32 ≤ 80)
    (hq : ∀ v, KS 280 [] [287] h.2 v → (∀ e, 0 ≤ e → e < h.2 280 32 → v 287 e = if h.2 287 e = a ∨ h.2 287 e = b then (if a ≤ b then a else b) else h.2 287 e) → Q none (h.1, v)) : qM l D (d + 2, 0, 0) m_Mo_join [.inr (.inr 280), .inl a, .inl b] h Q := sorry
/-- f is the first of its class among those with A -/
def fsA (A : Int → Prop) (E : Int → Int → Prop) (f : Int) : Prop := A f ∧ ∀ g, 0 ≤ g → g < f → A g → ¬ E g f
/-- N numbers the classes of E among those with A by their first ones -/
def numA (A : Int → Prop) (E : Int → Int → Prop) (N : Int → Int) : Prop := (∀ e f, A e → A f → (N e = N f ↔ E e f)) ∧ (∀ e, A e → fsA A E e → N e = cnt (fsA A E) e.toNat)
theorem fsA_un {A : Int → Prop} {E : Int → Int → Prop} (Es : ∀ x y, E x y → E y x) (A0 : ∀ e, A e → 0 ≤ e) {f g : Int} (hf : fsA A E f) (hg : fsA A E g) (h : E f g) : f = g := sorry
theorem fsA_cnt {A : Int → Prop} {E : Int → Int → Prop} (A0 : ∀ e, A e → 0 ≤ e) {f g : Int} (hf : fsA A E f) (hg : fsA A E g) (h : cnt (fsA A E) f.toNat = cnt (fsA A E) g.toNat) : f = g := sorry
/-- with all there it is the numbering of all -/
theorem numA_num {m : Nat} {E : Int → Int → Prop} {N : Int → Int} (h : numA (blw m) E N) : num E m N := sorry
theorem cntA_nums {m : Nat} {E : Int → Int → Prop} : cnt (fsA (blw m) E) m = nums E m := sorry
/-- what is known while labels run together -/
def lbl (v : Int → Int → Int) (h0 : Int → Int → Int) (z x y : Int) : Prop := (∀ e, 0 ≤ e → e < h0 280 32 → 0 ≤ v 287 e ∧ v 287 e < h0 280 32) ∧
  (∀ e f, 0 ≤ e → e < h0 280 32 → 0 ≤ f → f < h0 280 32 → v 287 e = v 287 f → bk (h0 295) (h0 296) (pA h0) e f) ∧
  (∀ z' e f, (z' < z ∨ (z' = z ∧ (e < x ∨ (e = x ∧ f < y)))) → pA h0 e → pA h0 f → e < f → sbk (h0 295) (h0 296) (pA h0) z' e f → v 287 e = v 287 f)
theorem lbl_join {v v' h0 : Int → Int → Int} {z e f : Int} (hL : lbl v h0 z e f) (he : pA h0 e) (hf : pA h0 f) (hb : bk (h0 295) (h0 296) (pA h0) e f)
    (hv : ∀ x, 0 ≤ x → x < h0 280 32 → v' 287 x = if v 287 x = v 287 e ∨ v 287 x = v 287 f then (if v 287 e ≤ v 287 f then v 287 e else v 287 f) else v 287 x) : lbl v' h0 z e (f + 1) := sorry
theorem lbl_next {v h0 : Int → Int → Int} {z x y z2 x2 y2 : Int} (hL : lbl v h0 z x y) (h : ∀ z' e f, (z' < z2 ∨ (z' = z2 ∧ (e < x2 ∨ (e = x2 ∧ f < y2)))) → pA h0 e → pA h0 f → e < f → sbk (h0 295) (h0 296) (pA h0) z' e f → (z' < z ∨ (z' = z ∧ (e < x ∨ (e = x ∧ f < y))))) : lbl v h0 z2 x2 y2 := sorry
theorem lbl_of {v v' h0 : Int → Int → Int} {z x y : Int} (hL : lbl v h0 z x y) (e : v' 287 = v 287) : lbl v' h0 z x y := sorry
end
section
/-! ===== the twin's blocks: the whole ===== -/
theorem f_at {v h0 : Int → Int → Int} {e b : Int} (e0 : 0 ≤ e) (e1 : e < h0 280 32) (q5 : v 295 = h0 295) (q6 : v 296 = h0 296) (q7 : v 297 = h0 297) : (f_Mo_at_0 e b v = 0 ↔ ¬ (pA h0 e ∧ inc (h0 295) (h0 296) e b)) ∧ (f_Mo_at_0 e b v ≠ 0 ↔ (pA h0 e ∧ inc (h0 295) (h0 296) e b)) := sorry
theorem f_acr {v h0 : Int → Int → Int} (e b : Int) (q5 : v 295 = h0 295) (q6 : v 296 = h0 296) : f_Mo_across_0 e b v = oth (h0 295) (h0 296) e b := sorry
theorem pok.of {v v' : Int → Int → Int} (h : pok v) (e : v' 280 = v 280) (q5 : v' 295 = v 295) (q6 : v' 296 = v 296) (q7 : v' 297 = v 297) : pok v' ∧ pA v' = pA v := sorry
set_option maxRecDepth 100000 in
theorem blk_num {l : Launch} {D : qD} {d : Nat} {h : qh} {Q : qQ} (hT : TW h.2) (hok : pok h.2) (L : Int → Int) (E : Int → Int → Prop) (Es : ∀ x y, E x y → E y x) (Et : ∀ x y z, E x y → E y z → E x z) (Er : ∀ x, E x x)
    (hL : ∀ e f, pA h.2 e → pA h.2 f → (L e = L f ↔ E e f)) (hL0 : ∀ e, 0 ≤ e → e < h.2 280 32 → 0 ≤ L e ∧ L e < h.2 280 32)
    (hq : ∀ v, KS 280 [] [287, 290, 300] h.2 v → numA (pA h.2) E (v 287) → (∀ e, 0 ≤ e → e < h.2 280 32 → ¬ pA h.2 e → v 287 e = -1) → Q (some (.inl (cnt (fsA (pA h.2) E) (h.2 280 32).toNat))) (h.1, v)) :
    ∀ x3 v, KS 280 [] [287, 290, 300] h.2 v → (∀ e, 0 ≤ e → e < h.2 280 32 → v 287 e = L e) → qR l D (d + 3, 0, 0) m_Mo_blocks 139 (fun r h' => Q r ((h'.1.1, h.1.2.1, h.1.2.2), h'.2)) [some (.inr (.inr 280)), some (.inl 0), some (.inl 0), x3] [] ((h.1.1, 0, 0), v) := sorry
end
section
set_option maxRecDepth 100000 in
theorem sp_Mo_blocks {l : Launch} {D : qD} {d : Nat} {h : qh} {Q : qQ} (hT : TW h.2) (hok : pok h.2)
    (hq : ∀ v, KS 280 [] [287, 290, 300] h.2 v → numA (pA h.2) (bk (h.2 295) (h.2 296) (pA h.2)) (v 287) → (∀ e, 0 ≤ e → e < h.2 280 32 → ¬ pA h.2 e → v 287 e = -1) → Q (some (.inl (cnt (fsA (pA h.2) (bk (h.2 295) (h.2 296) (pA h.2))) (h.2 280 32).toNat))) (h.1, v)) : qM l D (d + 3, 0, 0) m_Mo_blocks [.inr (.inr 280)] h Q := sorry
end
section
/-! ===== the twin's cores ===== -/
/-- as many edges to a set as neighbours in it -/
theorem dgr_edges {t h : Int → Int} {m n : Nat} (hs : smp t h (blw m)) (hl : nlp t h (blw m)) (hen : ∀ e, blw m e → blw n (t e) ∧ blw n (h e)) (S : Int → Prop) (j : Int) : cnt (fun e => inc t h e j ∧ S (oth t h e j)) m = dgr (aj t h (blw m)) n S j := sorry
theorem f_has2 {v h0 : Int → Int → Int} (e j : Int) (q : v 280 5 = h0 280 5) (q2 : v 282 = h0 282) : (f_Mo_has e j v = 0 ↔ ¬ inc (tT h0) (tH h0) e j) ∧ (f_Mo_has e j v ≠ 0 ↔ inc (tT h0) (tH h0) e j) ∧ f_Mo_other e j v = oth (tT h0) (tH h0) e j := sorry
set_option maxRecDepth 100000 in
theorem sp_Mo_isInCore {l : Launch} {D : qD} {d k : Nat} {i : Int} {h : qh} {Q : qQ} (hT : TW h.2) (hok : tok h.2) (hs : smp (tT h.2) (tH h.2) (blw (tm h.2).toNat)) (hi : 0 ≤ i ∧ i < tn h.2)
    (hq : ∀ v z, KS 280 [] [292] h.2 v → (z = 0 ∨ z = 1) → (z = 1 ↔ kco (tj h.2) (tn h.2).toNat k i) → Q (some (.inl z)) (h.1, v)) : qM l D (d + 3, 0, 0) m_Mo_isInCore [.inr (.inr 280), .inl i, .inl (k : Int)] h Q := sorry
set_option maxRecDepth 100000 in
theorem sp_Mo_core {l : Launch} {D : qD} {d : Nat} {i : Int} {h : qh} {Q : qQ} (hT : TW h.2) (hok : tok h.2) (hs : smp (tT h.2) (tH h.2) (blw (tm h.2).toNat)) (hi : 0 ≤ i ∧ i < tn h.2)
    (hq : ∀ v (k : Nat), KS 280 [] [292] h.2 v → crn (tj h.2) (tn h.2).toNat i k → Q (some (.inl (k : Int))) (h.1, v)) : qM l D (d + 4, 0, 0) m_Mo_core [.inr (.inr 280), .inl i] h Q := sorry
end
section
/-! ===== the twin's flows: a way to the sink ===== -/
/-- something is left from a to b -/
def lft (N : Nat) (r : Int → Int) (a b : Int) : Prop := 0 ≤ b ∧ b < N ∧ 0 ≤ a ∧ a < N ∧ r (N * a + b) ≠ 0
/-- the row of what is reached: l of them; those ahead of f are looked at whole, that at f - 1 up to j -/
def bfs (N : Nat) (r C W : Int → Int) (s f l j : Int) : Prop :=
  (1 ≤ l ∧ 0 ≤ f ∧ f ≤ l ∧ l = cnt (fun j => 0 ≤ C j) N) ∧ (∀ p : Int, 0 ≤ p → p < l → (0 ≤ W p ∧ W p < N) ∧ 0 ≤ C (W p)) ∧ (∀ x : Int, 0 ≤ x → x < N → 0 ≤ C x → ∃ p : Int, 0 ≤ p ∧ p < l ∧ W p = x) ∧ (∀ x : Int, 0 ≤ x → x < N → 0 ≤ C x ∨ C x = -1) ∧
  (W 0 = s ∧ C s = s ∧ ∀ p, 0 < p → p < l → ∃ q, 0 ≤ q ∧ q < p ∧ C (W p) = W q ∧ lft N r (W q) (W p)) ∧ (∀ p q, 0 ≤ p → p < l → 0 ≤ q → q < l → W p = W q → p = q) ∧
  (∀ p x, 0 ≤ p → (p < f - 1 ∨ (p = f - 1 ∧ x < j)) → lft N r (W p) x → 0 ≤ C x)
theorem bfs_rc {N : Nat} {r C W : Int → Int} {s f l j : Int} (h : bfs N r C W s f l j) : ∀ (k : Nat) p, 0 ≤ p → p < l → p ≤ k → rchs (lft N r) s (W p) := sorry
/-- at the end all that is reached stands in the row -/
theorem bfs_end {N : Nat} {r C W : Int → Int} {s l j : Int} (h : bfs N r C W s l l j) (hj : j = N) {x : Int} (x0 : 0 ≤ x) (x1 : x < N) : 0 ≤ C x ↔ rchs (lft N r) s x := sorry
/-- one more is reached -/
theorem bfs_push {N : Nat} {r C W C' W' : Int → Int} {s f l j : Int} (h : bfs N r C W s f l j) (f1 : 1 ≤ f) (j0 : 0 ≤ j) (j1 : j < N) (hc : C j < 0) (hl : lft N r (W (f - 1)) j) (c1 : C' j = W (f - 1)) (c2 : ∀ x, x ≠ j → C' x = C x) (w1 : W' l = j) (w2 : ∀ p, p ≠ l → W' p = W p) : l < N ∧ bfs N r C' W' s f (l + 1) (j + 1) := sorry
theorem bfs_skip {N : Nat} {r C W : Int → Int} {s f l j : Int} (h : bfs N r C W s f l j) (hj : 1 ≤ f → lft N r (W (f - 1)) j → 0 ≤ C j) : bfs N r C W s f l (j + 1) := sorry
theorem bfs_next {N : Nat} {r C W : Int → Int} {s f l : Int} (h : bfs N r C W s f l N) (hf : f < l) : bfs N r C W s (f + 1) l 0 := sorry
end
section
/-! ===== the twin's flows: along a way ===== -/
/-- along the way from x back to s at least m is left -/
def fwy (N : Nat) (r C : Int → Int) (s m : Int) : Nat → Int → Prop
  | 0, x => x = s
  | k + 1, x => x ≠ s ∧ m ≤ r (N * C x + x) ∧ fwy N r C s m k (C x)
/-- reached, and its place in the row is above that of the one it came by -/
def rkd (N : Nat) (r C : Int → Int) (s : Int) (g : Int → Int) : Prop := ∀ x : Int, 0 ≤ x → x < N → 0 ≤ C x → 0 ≤ g x ∧ (x ≠ s → (C x < N ∧ 0 ≤ C (C x)) ∧ g (C x) < g x ∧ lft N r (C x) x)
theorem bfs_rkd {N : Nat} {r C W : Int → Int} {s f l j : Int} (h : bfs N r C W s f l j) : ∃ g, rkd N r C s g := sorry
theorem fl_eq {N : Nat} {i j a b : Int} (hj : 0 ≤ j) (hj1 : j < N) (hb : 0 ≤ b) (hb1 : b < N) (h : (N : Int) * i + j = N * a + b) : i = a ∧ j = b := sorry
theorem fwy_keep {N : Nat} {r r' r0 C g : Int → Int} {s m R : Int} (hk : rkd N r0 C s g) (hr : ∀ y : Int, 0 ≤ y → y < N → 0 ≤ C y → y ≠ s → g y < R → r' (N * C y + y) = r (N * C y + y)) : ∀ (k : Nat) (x : Int), 0 ≤ x → x < N → 0 ≤ C x → g x < R → fwy N r C s m k x → fwy N r' C s m k x := sorry
/-- what stays true while m is sent along a way: from x on to t it is done -/
def pinv (N : Nat) (r0 r : Int → Int) (m x t : Int) : Prop :=
  (∀ p : Int, 0 ≤ p → p < ((N * N : Nat) : Int) → 0 ≤ r p) ∧ (∀ i j : Int, 0 ≤ i → i < N → 0 ≤ j → j < N → r (N * i + j) + r (N * j + i) = r0 (N * i + j) + r0 (N * j + i)) ∧
  (∀ u : Int → Int, (∀ i, u i = 0 ∨ u i = 1) → cutv N r u = cutv N r0 u - m * (u x - u t))
theorem pinv_st {N : Nat} {r0 r r1 r2 : Int → Int} {m a b t : Int} (h : pinv N r0 r m b t) (ha : 0 ≤ a) (ha1 : a < N) (hb : 0 ≤ b) (hb1 : b < N) (ab : a ≠ b) (m0 : 0 ≤ m) (hm : m ≤ r (N * a + b)) (h1 : r1 (N * a + b) = r (N * a + b) - m) (h2 : ∀ p, p ≠ N * a + b → r1 p = r p) (h3 : r2 (N * b + a) = r1 (N * b + a) + m) (h4 : ∀ p, p ≠ N * b + a → r2 p = r1 p) : pinv N r0 r2 m a t := sorry
theorem fl_r {N : Nat} (hN : N ≤ 78) {i j : Int} (hi : 0 ≤ i) (hi1 : i < N) (hj : 0 ≤ j) (hj1 : j < N) : (0 ≤ (N : Int) * i ∧ (N : Int) * i ≤ 6084) ∧ (0 ≤ (N : Int) * i + j ∧ (N : Int) * i + j < 6084) := sorry
end
section
/-! ===== the twin's augment ===== -/
set_option maxRecDepth 100000 in
theorem sp_Mo_augment {l : Launch} {D : qD} {d N : Nat} {h : qh} {Q : qQ} (a90 : h.2 280 90 = 342) (a91 : h.2 280 91 = 343) (a92 : h.2 280 92 = 344) (N2 : 2 ≤ N) (N78 : N ≤ 78) (r0 : ∀ p : Int, 0 ≤ p → p < ((N * N : Nat) : Int) → 0 ≤ h.2 342 p) (rs : ∀ i j : Int, 0 ≤ i → i < N → 0 ≤ j → j < N → h.2 342 (N * i + j) + h.2 342 (N * j + i) ≤ 2147483647)
    (q0 : ∀ v, KS 280 [] [343, 344] h.2 v → (∀ x : Int, 0 ≤ x → x < N → (0 ≤ v 343 x ↔ rchs (lft N (h.2 342)) ((N : Int) - 2) x)) → ¬ rchs (lft N (h.2 342)) ((N : Int) - 2) ((N : Int) - 1) → Q (some (.inl 0)) (h.1, v))
    (q1 : ∀ v m, KS 280 [] [342, 343, 344] h.2 v → 1 ≤ m → pinv N (h.2 342) (v 342) m ((N : Int) - 2) ((N : Int) - 1) → Q (some (.inl 1)) (h.1, v)) :
    qM l D (d + 2, 0, 0) m_Mo_augment [.inr (.inr 280), .inl (N : Int), .inl ((N : Int) - 2), .inl ((N : Int) - 1)] h Q := sorry
end
section
/-! ===== the net whose cuts are the costs of going up ===== -/
theorem sm_su (f : Int → Int) {k : Int} (k0 : 0 ≤ k) : sm f (k + 1).toNat = sm f k.toNat + f k := sorry
/-- after the costs ahead of k: c the net, g what the points cost alone -/
def nB (N n : Nat) (ca cb cw cp x : Int → Int) (k : Int) (c g : Int → Int) : Prop :=
  (∀ p : Int, 0 ≤ p → p < ((N * N : Nat) : Int) → 0 ≤ c p ∧ c p ≤ 2 * sm cw k.toNat) ∧ (∀ i : Int, 0 ≤ i → i < n → -(sm cw k.toNat) ≤ g i ∧ g i ≤ sm cw k.toNat) ∧
  (∀ i j : Int, 0 ≤ i → i < N → 0 ≤ j → j < N → (n : Int) ≤ i ∨ (n : Int) ≤ j → c (N * i + j) = 0) ∧
  (∀ u : Int → Int, (∀ i, u i = 0 ∨ u i = 1) → cutv N c u + sm (fun i => g i * u i) n = fco k.toNat ca cb cw cp (pls x u 1) - fco k.toNat ca cb cw cp x)
theorem nB_0 {N n : Nat} {ca cb cw cp x c g : Int → Int} (hc : ∀ p : Int, 0 ≤ p → p < ((N * N : Nat) : Int) → c p = 0) (hg : ∀ i : Int, 0 ≤ i → i < n → g i = 0) : nB N n ca cb cw cp x 0 c g := sorry
theorem fco_su {ca cb cw cp x : Int → Int} {k : Int} (k0 : 0 ≤ k) : fco (k + 1).toNat ca cb cw cp x = fco k.toNat ca cb cw cp x + fct (cp k) (ca k) (cb k) (cw k) x := sorry
theorem nB_g {N n : Nat} {ca cb cw cp x c g g1 g2 : Int → Int} {k a b w : Int} (h : nB N n ca cb cw cp x k c g) (k0 : 0 ≤ k) (ha : 0 ≤ a) (ha1 : a < n) (hb : 0 ≤ b) (hb1 : b < n) (hw : -(cw k) ≤ w ∧ w ≤ cw k)
    (hd : ∀ u : Int → Int, (∀ i, u i = 0 ∨ u i = 1) → fct (cp k) (ca k) (cb k) (cw k) (pls x u 1) - fct (cp k) (ca k) (cb k) (cw k) x = w * (u b - u a))
    (h1 : g1 a = g a - w) (h2 : ∀ i, i ≠ a → g1 i = g i) (h3 : g2 b = g1 b + w) (h4 : ∀ i, i ≠ b → g2 i = g1 i) : nB N n ca cb cw cp x (k + 1) c g2 := sorry
theorem nB_c {N n : Nat} {ca cb cw cp x c c1 c2 g : Int → Int} {k : Int} (h : nB N n ca cb cw cp x k c g) (nN : n ≤ N) (k0 : 0 ≤ k) (ha : 0 ≤ ca k) (ha1 : ca k < n) (hb : 0 ≤ cb k) (hb1 : cb k < n) (hw : 0 ≤ cw k) (hp : cp k ≠ 1) (hx : x (ca k) = x (cb k))
    (h1 : c1 (N * ca k + cb k) = c (N * ca k + cb k) + cw k) (h2 : ∀ i, i ≠ N * ca k + cb k → c1 i = c i) (h3 : c2 (N * cb k + ca k) = c1 (N * cb k + ca k) + cw k) (h4 : ∀ i, i ≠ N * cb k + ca k → c2 i = c1 i) : nB N n ca cb cw cp x (k + 1) c2 g := sorry
/-- after the points ahead of I -/
def nC (N n : Nat) (S : Int) (c0 g : Int → Int) (I : Int) (c : Int → Int) : Prop :=
  (∀ p : Int, 0 ≤ p → p < ((N * N : Nat) : Int) → 0 ≤ c p ∧ c p ≤ 2 * S) ∧ (∀ i : Int, I ≤ i → i < n → c (N * n + i) = 0 ∧ c (N * i + (n + 1)) = 0) ∧
  (∀ u : Int → Int, (∀ i, u i = 0 ∨ u i = 1) → u n = 1 → u (n + 1) = 0 → cutv N c u = cutv N c0 u + sm (fun i => g i * u i) I.toNat + sm (fun i => if g i < 0 then -g i else 0) I.toNat)
theorem nC_0 {N n : Nat} {ca cb cw cp x c g : Int → Int} {k : Int} (hN : N = n + 2) (h : nB N n ca cb cw cp x k c g) : nC N n (sm cw k.toNat) c g 0 c := sorry
theorem nC_1 {N n : Nat} {S : Int} {c0 c c' g : Int → Int} {I : Int} (hN : N = n + 2) (h : nC N n S c0 g I c) (i0 : 0 ≤ I) (i1 : I < n) (hS : -S ≤ g I) (hg : g I < 0) (h1 : c' (N * n + I) = -g I) (h2 : ∀ p, p ≠ N * n + I → c' p = c p) : nC N n S c0 g (I + 1) c' := sorry
theorem nC_2 {N n : Nat} {S : Int} {c0 c c' g : Int → Int} {I : Int} (hN : N = n + 2) (h : nC N n S c0 g I c) (i0 : 0 ≤ I) (i1 : I < n) (hS : g I ≤ S) (hg : 0 ≤ g I) (h1 : c' (N * I + (n + 1)) = g I) (h2 : ∀ p, p ≠ N * I + (n + 1) → c' p = c p) : nC N n S c0 g (I + 1) c' := sorry
/-- after the pairs ahead of k -/
def nD (N : Nat) (S : Int) (aa bb dd x : Int → Int) (n : Nat) (c1 : Int → Int) (k : Int) (c : Int → Int) : Prop :=
  (∀ p : Int, 0 ≤ p → p < ((N * N : Nat) : Int) → 0 ≤ c p ∧ c p ≤ 2 * S + 1000000 * k) ∧
  (∀ u : Int → Int, (∀ i, u i = 0 ∨ u i = 1) → u n = 1 → u (n + 1) = 0 → cutv N c u = cutv N c1 u + 1000000 * vio k.toNat aa bb dd x u)
theorem nD_0 {N n : Nat} {S : Int} {c0 g c aa bb dd x : Int → Int} {I : Int} (h : nC N n S c0 g I c) : nD N S aa bb dd x n c 0 c := sorry
theorem nD_no {N n : Nat} {S : Int} {c1 c aa bb dd x : Int → Int} {k : Int} (h : nD N S aa bb dd x n c1 k c) (k0 : 0 ≤ k) (hx : x (bb k) - x (aa k) ≠ dd k) : nD N S aa bb dd x n c1 (k + 1) c := sorry
theorem nD_yes {N n : Nat} {S : Int} {c1 c c' aa bb dd x : Int → Int} {k : Int} (h : nD N S aa bb dd x n c1 k c) (k0 : 0 ≤ k) (ha : 0 ≤ aa k) (ha1 : aa k < N) (hb : 0 ≤ bb k) (hb1 : bb k < N) (hx : x (bb k) - x (aa k) = dd k) (h1 : c' (N * aa k + bb k) = c (N * aa k + bb k) + 1000000) (h2 : ∀ p, p ≠ N * aa k + bb k → c' p = c p) : nD N S aa bb dd x n c1 (k + 1) c' := sorry
end
section
/-! ===== the twin's up: an add that may go round ===== -/
def w32 (z : Int) : Int := (Int32.ofInt z).toInt
def s_iaddw (K : qK) : qK := fun ls st h => match st with
  | .inl y :: .inl x :: r => K ls (.inl (w32 (x + y)) :: r) h
  | _ => False
theorem ok_iaddw {l : Launch} {D : qD} {d : Nat × Nat × Nat} {M : qm} {pc : Nat} {Q : qQ} {K : qK} (hd : decode M.2.1 pc = .ok (.iadd, 1)) (k : qI (K) (qR l D d M (pc + 1) Q)) : qI (s_iaddw K) (qR l D d M pc Q) := sorry
def wu_429 (l : Launch) (D : qD) (d0 : Nat) (B : Nat × Nat) (Q : qQ) : qK := (s_aload 0 (s_iload 1 (s_iload 2 (s_iload 3 (s_invV l D (d0, 0, 0) 18 m_Mo_augment 3 (s_if_eq (w_Mo_up_452 l D d0 B Q) (s_aload 0 (s_dup (s_getI 18 94 (s_ic (1) (s_iaddw (s_putI 18 94 (qR l D (d0 + 1, B) m_Mo_up 429 Q)))))))))))))
theorem Mo_up_429u {l : Launch} {D : qD} {d0 : Nat} {B : Nat × Nat} {Q : qQ} : qI (wu_429 l D d0 B Q) (qR l D (d0 + 1, B) m_Mo_up 429 Q) := sorry
theorem sm_mo {f : Int → Int} {m n : Nat} (h : m ≤ n) (hf : ∀ k : Int, 0 ≤ k → k < n → 0 ≤ f k) : sm f m ≤ sm f n := sorry
theorem u345_280 (v : Int → Int → Int) (a z : Int) : up2 v 345 a z 280 = v 280 := sorry
theorem u345_337 (v : Int → Int → Int) (a z : Int) : up2 v 345 a z 337 = v 337 := sorry
theorem u342_280 (v : Int → Int → Int) (a z : Int) : up2 v 342 a z 280 = v 280 := sorry
theorem u342_337 (v : Int → Int → Int) (a z : Int) : up2 v 342 a z 337 = v 337 := sorry
theorem u342_345 (v : Int → Int → Int) (a z : Int) : up2 v 342 a z 345 = v 345 := sorry
theorem u345_342 (v : Int → Int → Int) (a z : Int) : up2 v 345 a z 342 = v 342 := sorry
theorem u345_343 (v : Int → Int → Int) (a z : Int) : up2 v 345 a z 343 = v 343 := sorry
/-- the twin's system of costs and pairs: n points, K costs, A pairs -/
def lok (n K A : Nat) (v : Int → Int → Int) : Prop :=
  (v 280 79 = n ∧ v 280 80 = K ∧ v 280 81 = A) ∧ (n ≤ 76 ∧ K ≤ 200 ∧ A ≤ 200) ∧
  (∀ k : Int, 0 ≤ k → k < K → (0 ≤ v 335 k ∧ v 335 k < n) ∧ (0 ≤ v 336 k ∧ v 336 k < n)) ∧ (∀ k : Int, 0 ≤ k → k < K → 0 ≤ v 337 k) ∧ (∀ k : Int, 0 ≤ k → k < K → v 338 k = 0 ∨ v 338 k = 1) ∧ sm (v 337) K < 1000000 ∧
  (∀ k : Int, 0 ≤ k → k < A → (0 ≤ v 339 k ∧ v 339 k < n) ∧ (0 ≤ v 340 k ∧ v 340 k < n))
end
section
set_option maxRecDepth 100000 in
theorem sp_Mo_up {l : Launch} {D : qD} {d n K A : Nat} {h : qh} {Q : qQ} (hT : TW h.2) (L : lok n K A h.2) (hx0 : ∀ i : Int, 0 ≤ i → i < n → 0 ≤ h.2 334 i ∧ h.2 334 i ≤ 100000000) (hf : fea A (h.2 339) (h.2 340) (h.2 341) (h.2 334))
    (hq : ∀ v z, KS 280 [94] [342, 343, 344, 345] h.2 v → (∀ i : Int, 0 ≤ i → i < n → v 345 i = 0 ∨ v 345 i = 1) → mncut n K A (h.2 335) (h.2 336) (h.2 337) (h.2 338) (h.2 339) (h.2 340) (h.2 341) (h.2 334) (fun i => if 0 ≤ i ∧ i < n then v 345 i else 0) → z = sm (v 345) n → Q (some (.inl z)) (h.1, v)) :
    qM l D (d + 3, 0, 0) m_Mo_up [.inr (.inr 280)] h Q := sorry
end
section
/-! ===== the twin's rise ===== -/
theorem TW.k94 {C : List Int} {v v' : Int → Int → Int} (h : TW v) (k : KS 280 [94] C v v') : TW v' := sorry
theorem pls_0 {x u : Int → Int} {n : Nat} (h : ∀ i : Int, 0 ≤ i → i < n → u i = 0) {i : Int} (i0 : 0 ≤ i) (i1 : i < n) : pls x u 1 i = x i := sorry
theorem sm_0z {f : Int → Int} {n : Nat} (h : ∀ i : Int, 0 ≤ i → i < n → 0 ≤ f i) (hz : sm f n ≤ 0) : ∀ i : Int, 0 ≤ i → i < n → f i = 0 := sorry
set_option maxRecDepth 100000 in
theorem sp_Mo_rise {l : Launch} {D : qD} {d n K A : Nat} {h : qh} {Q : qQ} {ys : Int → Int} (hT : TW h.2) (L : lok n K A h.2) (hdb : ∀ k : Int, 0 ≤ k → k < A → -1000000 ≤ h.2 341 k ∧ h.2 341 k ≤ 1000000)
    (hys : lopt n (fea A (h.2 339) (h.2 340) (h.2 341)) (fco K (h.2 335) (h.2 336) (h.2 337) (h.2 338)) ys) (hyb : ∀ i : Int, 0 ≤ i → i < n → ys i ≤ 100000000)
    (hq : ∀ v, KS 280 [94] [334, 342, 343, 344, 345] h.2 v → (∀ i : Int, 0 ≤ i → i < n → v 334 i = ys i) → Q none (h.1, v)) :
    qM l D (d + 4, 0, 0) m_Mo_rise [.inr (.inr 280)] h Q := sorry
end
section
/-! ===== rings that pay: rows on the component's search for one ===== -/
/-- what flows without rings is no more than all that is sent -/
theorem flw_bd {P : Nat} {a b w x τ : Int → Int} (hb : bal P a b w x) (hx : ∀ k : Int, 0 ≤ k → k < P → 0 ≤ x k) (hw : ∀ k : Int, 0 ≤ k → k < P → 0 ≤ w k) (hτ : ∀ k : Int, 0 ≤ k → k < P → τ (a k) < τ (b k)) {k : Int} (k0 : 0 ≤ k) (k1 : k < P) : x k ≤ sm w P := sorry
/-- a row of n + 1 among n: the last stands on a ring -/
theorem anc_cyc {par : Int → Int} {n : Nat} {c : Int} (hin : ∀ m : Nat, m ≤ n → 0 ≤ anc par m c ∧ anc par m c < n) : ∃ p : Nat, 0 < p ∧ p ≤ n ∧ anc par p (anc par n c) = anc par n c := sorry
/-- the search at the time now: arcs in turn, m of them; T the time of the last change, pb the arc that changed it -/
def trn (n m : Nat) (fr to len : Int → Int) (ok : Int → Prop) (y pb T : Int → Int) (now : Int) : Prop :=
  (∀ c : Int, 0 ≤ c → c < n → T c < now ∧ ((T c = -1 ∧ pb c = -1) ∨ ((0 ≤ T c ∧ 0 ≤ pb c ∧ pb c < m) ∧ ok (pb c) ∧ to (pb c) = c ∧ T c % m = pb c ∧ y c + (if T c < T (fr (pb c)) then 1 else 0) ≤ y (fr (pb c)) + len (pb c) ∧ (m ≤ T c → T c - m < T (fr (pb c)))))) ∧
  (∀ t : Int, 0 ≤ t → now - m ≤ t → t < now → ok (t % m) → T (fr (t % m)) ≤ t → y (fr (t % m)) + len (t % m) ≤ y (to (t % m)))
theorem trn_0 {n m : Nat} {fr to len : Int → Int} {ok : Int → Prop} {y pb : Int → Int} (h : ∀ c : Int, 0 ≤ c → c < n → pb c = -1) : trn n m fr to len ok y pb (fun _ => -1) 0 := sorry
theorem trn_no {n m : Nat} {fr to len : Int → Int} {ok : Int → Prop} {y pb T : Int → Int} {now : Int} (h : trn n m fr to len ok y pb T now) (hq : ok (now % m) → y (fr (now % m)) + len (now % m) ≤ y (to (now % m))) : trn n m fr to len ok y pb T (now + 1) := sorry
theorem trn_up {n m : Nat} {fr to len : Int → Int} {ok : Int → Prop} {y pb T y' pb' T' : Int → Int} {now q : Int} (h : trn n m fr to len ok y pb T now) (now0 : 0 ≤ now) (m0 : 0 < m) (hq : now % m = q) (okq : ok q) (hin : ∀ j : Int, 0 ≤ j → j < m → (0 ≤ fr j ∧ fr j < n) ∧ (0 ≤ to j ∧ to j < n) ∧ fr j ≠ to j) (hy : y (to q) < y (fr q) + len q)
    (y1 : y' (to q) = y (fr q) + len q) (y2 : ∀ c, c ≠ to q → y' c = y c) (p1 : pb' (to q) = q) (p2 : ∀ c, c ≠ to q → pb' c = pb c) (t1 : T' (to q) = now) (t2 : ∀ c, c ≠ to q → T' c = T c) : trn n m fr to len ok y' pb' T' (now + 1) := sorry
/-- a whole turn without a change -/
theorem trn_end {n m : Nat} {fr to len : Int → Int} {ok : Int → Prop} {y pb T : Int → Int} {s : Int} (h : trn n m fr to len ok y pb T (m * s + m)) (s0 : 0 ≤ s) (hin : ∀ j : Int, 0 ≤ j → j < m → 0 ≤ fr j ∧ fr j < n) (hn : ∀ c : Int, 0 ≤ c → c < n → T c < m * s) : ∀ q : Int, 0 ≤ q → q < m → ok q → y (fr q) + len q ≤ y (to q) := sorry
/-- a change in turn n: a way back of n steps, none of them without an arc -/
theorem trn_back {n m : Nat} {fr to len : Int → Int} {ok : Int → Prop} {y pb T : Int → Int} {now : Int} (h : trn n m fr to len ok y pb T now) (hin : ∀ j : Int, 0 ≤ j → j < m → 0 ≤ fr j ∧ fr j < n) {c : Int} (c0 : 0 ≤ c) (c1 : c < n) (hc : (m : Int) * n ≤ T c) : ∀ k : Nat, k ≤ n → (0 ≤ anc (fun c => fr (pb c)) k c ∧ anc (fun c => fr (pb c)) k c < n) ∧ (m : Int) * (n - k) ≤ T (anc (fun c => fr (pb c)) k c) := sorry
end
section
/-! ===== rings that pay: the ring, and the turn around it ===== -/
theorem anc_all {par : Int → Int} {n : Nat} {c : Int} (hin : ∀ m : Nat, m ≤ n → 0 ≤ anc par m c ∧ anc par m c < n) : ∀ k : Nat, ∃ k' : Nat, k' ≤ n ∧ anc par k c = anc par k' c := sorry
/-- the first return -/
theorem anc_min {par : Int → Int} {s : Int} {p : Nat} (p0 : 0 < p) (h : anc par p s = s) : ∃ r : Nat, 0 < r ∧ r ≤ p ∧ anc par r s = s ∧ ∀ k : Nat, 0 < k → k < r → anc par k s ≠ s := sorry
theorem anc_inj {par : Int → Int} {s : Int} {r : Nat} (hr : anc par r s = s) (hm : ∀ k : Nat, 0 < k → k < r → anc par k s ≠ s) {i j : Nat} (hij : i < j) (hj : j < r) : anc par i s ≠ anc par j s := sorry
/-- the ring that is found pays, and every step of it has its arc -/
theorem trn_pay {n m : Nat} {fr to len : Int → Int} {ok : Int → Prop} {y pb T : Int → Int} {now : Int} (h : trn n m fr to len ok y pb T now) (hin : ∀ j : Int, 0 ≤ j → j < m → (0 ≤ fr j ∧ fr j < n) ∧ (0 ≤ to j ∧ to j < n) ∧ fr j ≠ to j) {c : Int} (c0 : 0 ≤ c) (c1 : c < n) (hc : (m : Int) * n ≤ T c) :
    (∀ k : Nat, (0 ≤ anc (fun c => fr (pb c)) k c ∧ anc (fun c => fr (pb c)) k c < n) ∧ (0 ≤ pb (anc (fun c => fr (pb c)) k c) ∧ pb (anc (fun c => fr (pb c)) k c) < m) ∧ ok (pb (anc (fun c => fr (pb c)) k c)) ∧ to (pb (anc (fun c => fr (pb c)) k c)) = anc (fun c => fr (pb c)) k c) ∧
    ∃ r : Nat, 0 < r ∧ r ≤ n ∧ anc (fun c => fr (pb c)) r (anc (fun c => fr (pb c)) n c) = anc (fun c => fr (pb c)) n c ∧ (∀ k : Nat, 0 < k → k < r → anc (fun c => fr (pb c)) k (anc (fun c => fr (pb c)) n c) ≠ anc (fun c => fr (pb c)) n c) ∧ 0 < gan (fun c => fr (pb c)) (fun c => len (pb c)) r (anc (fun c => fr (pb c)) n c) := sorry
end
section
/-! ===== Places: arcs 2k (pair k as it goes) and 2k + 1 (back) ===== -/
theorem z_h0 {k : Int} : Int.tdiv (2 * k) 2 = k ∧ Int.tmod (2 * k) 2 = 0 := sorry
theorem z_h1 {k : Int} (h : 0 ≤ k) : Int.tdiv (2 * k + 1) 2 = k ∧ Int.tmod (2 * k + 1) 2 = 1 := sorry
theorem z_h {q : Int} (h : 0 ≤ q) : (q = 2 * Int.tdiv q 2 ∧ Int.tmod q 2 = 0) ∨ (q = 2 * Int.tdiv q 2 + 1 ∧ Int.tmod q 2 = 1) := sorry
def pfr (a b : Int → Int) (q : Int) : Int := if Int.tmod q 2 ≠ 0 then b (Int.tdiv q 2) else a (Int.tdiv q 2)
def pto (a b : Int → Int) (q : Int) : Int := if Int.tmod q 2 ≠ 0 then a (Int.tdiv q 2) else b (Int.tdiv q 2)
def pln (d : Int → Int) (q : Int) : Int := if Int.tmod q 2 ≠ 0 then -d (Int.tdiv q 2) else d (Int.tdiv q 2)
def pkk (x : Int → Int) (q : Int) : Prop := Int.tmod q 2 ≠ 0 → 0 < x (Int.tdiv q 2)
/-- no pair stands twice in a ring that pays -/
theorem ring_df {a b d pb : Int → Int} {s : Int} {r : Nat} (hr : anc (fun c => pfr a b (pb c)) r s = s) (hm : ∀ k : Nat, 0 < k → k < r → anc (fun c => pfr a b (pb c)) k s ≠ s) (hg : 0 < gan (fun c => pfr a b (pb c)) (fun c => pln d (pb c)) r s)
    (ha : ∀ k : Nat, 0 ≤ pb (anc (fun c => pfr a b (pb c)) k s) ∧ pto a b (pb (anc (fun c => pfr a b (pb c)) k s)) = anc (fun c => pfr a b (pb c)) k s) {i j : Nat} (hij : i < j) (hj : j < r) :
    Int.tdiv (pb (anc (fun c => pfr a b (pb c)) i s)) 2 ≠ Int.tdiv (pb (anc (fun c => pfr a b (pb c)) j s)) 2 := sorry
theorem gan_s (par len : Int → Int) (m : Nat) (c : Int) : gan par len (m + 1) c = gan par len m c + len (anc par m c) := sorry
/-- k steps of the ring are turned by le -/
def rng (P : Nat) (a b d pb x : Int → Int) (s : Int) (r : Nat) (le : Int) (k : Nat) (xk : Int → Int) : Prop :=
  (∀ i : Nat, k ≤ i → i < r → xk (Int.tdiv (pb (anc (fun c => pfr a b (pb c)) i s)) 2) = x (Int.tdiv (pb (anc (fun c => pfr a b (pb c)) i s)) 2)) ∧ (∀ j : Int, 0 ≤ j → j < P → 0 ≤ xk j) ∧
  (∀ z : Int → Int, cst P a b xk z = cst P a b x z + le * (z s - z (anc (fun c => pfr a b (pb c)) k s))) ∧ wrt P d xk = wrt P d x + le * gan (fun c => pfr a b (pb c)) (fun c => pln d (pb c)) k s
theorem rng_0 {P : Nat} {a b d pb x : Int → Int} {s : Int} {r : Nat} {le : Int} (hx : ∀ j : Int, 0 ≤ j → j < P → 0 ≤ x j) : rng P a b d pb x s r le 0 x := sorry
theorem rng_st {P : Nat} {a b d pb x xk x' : Int → Int} {s le c : Int} {r k : Nat} (h : rng P a b d pb x s r le k xk) (hk : k < r) (l0 : 0 ≤ le)
    (df : ∀ i : Nat, k < i → i < r → Int.tdiv (pb (anc (fun c => pfr a b (pb c)) k s)) 2 ≠ Int.tdiv (pb (anc (fun c => pfr a b (pb c)) i s)) 2)
    (hc : anc (fun c => pfr a b (pb c)) k s = c) (ht : pto a b (pb c) = c) (j0 : 0 ≤ Int.tdiv (pb c) 2) (j1 : Int.tdiv (pb c) 2 < P) (hle : Int.tmod (pb c) 2 ≠ 0 → le ≤ x (Int.tdiv (pb c) 2))
    (h1 : x' (Int.tdiv (pb c) 2) = xk (Int.tdiv (pb c) 2) + (if Int.tmod (pb c) 2 ≠ 0 then -le else le)) (h2 : ∀ j, j ≠ Int.tdiv (pb c) 2 → x' j = xk j) : rng P a b d pb x s r le (k + 1) x' := sorry
end
section
/-! ===== Places.turnRound ===== -/
theorem u214_210 (v : Int → Int → Int) (a z : Int) : up2 v 214 a z 210 = v 210 := sorry
theorem u214_211 (v : Int → Int → Int) (a z : Int) : up2 v 214 a z 211 = v 211 := sorry
theorem u214_212 (v : Int → Int → Int) (a z : Int) : up2 v 214 a z 212 = v 212 := sorry
theorem u214_216 (v : Int → Int → Int) (a z : Int) : up2 v 214 a z 216 = v 216 := sorry
/-- the fields of the component's Places -/
def PF (v : Int → Int → Int) : Prop := v 210 2 = 211 ∧ v 210 3 = 212 ∧ v 210 4 = 213 ∧ v 210 5 = 214 ∧ v 210 6 = 215 ∧ v 210 7 = 216
set_option maxRecDepth 100000 in
theorem sp_Ps_turnRound {l : Launch} {D : qD} {d n P r : Nat} {la s X : Int} {h : qh} {Q : qQ} {a b dd pb x : Int → Int} (hF : PF h.2) (ha : h.2 211 = a) (hb : h.2 212 = b) (hp : h.2 216 = pb) (hx : h.2 214 = x) (n0 : h.2 210 0 = n) (n220 : n ≤ 220) (P420 : P ≤ 420) (hX : X ≤ 1000000000) (x0 : ∀ j : Int, 0 ≤ j → j < P → 0 ≤ x j ∧ x j ≤ X)
    (hv : ∀ k : Nat, (0 ≤ anc (fun c => pfr a b (pb c)) k la ∧ anc (fun c => pfr a b (pb c)) k la < n) ∧ (0 ≤ pb (anc (fun c => pfr a b (pb c)) k la) ∧ pb (anc (fun c => pfr a b (pb c)) k la) < ((2 * P : Nat) : Int)) ∧ pkk x (pb (anc (fun c => pfr a b (pb c)) k la)) ∧ pto a b (pb (anc (fun c => pfr a b (pb c)) k la)) = anc (fun c => pfr a b (pb c)) k la)
    (hs : anc (fun c => pfr a b (pb c)) n la = s) (r0 : 0 < r) (hr : anc (fun c => pfr a b (pb c)) r s = s) (hm : ∀ k : Nat, 0 < k → k < r → anc (fun c => pfr a b (pb c)) k s ≠ s) (hg : 0 < gan (fun c => pfr a b (pb c)) (fun c => pln dd (pb c)) r s) (hbk : ∃ k : Nat, k < r ∧ Int.tmod (pb (anc (fun c => pfr a b (pb c)) k s)) 2 ≠ 0)
    (hq : ∀ v le, KS 210 [] [214] h.2 v → 1 ≤ le → rng P a b dd pb x s r le r (v 214) → Q none (h.1, v)) : qM l D (d + 2, 0, 0) m_Ps_turnRound [.inr (.inr 210), .inl la] h Q := sorry
end
section
/-! ===== Places.turnOne ===== -/
def tin (n m : Nat) (a b d x y pb T : Int → Int) (now lo la : Int) : Prop :=
  trn n m (pfr a b) (pto a b) (pln d) (pkk x) y pb T now ∧ (∀ c : Int, 0 ≤ c → c < n → 0 ≤ y c ∧ y c ≤ 10000 * now) ∧ ((la = -1 ∧ ∀ c : Int, 0 ≤ c → c < n → T c < lo) ∨ ((0 ≤ la ∧ la < n) ∧ lo ≤ T la))
theorem tin_no {n m : Nat} {a b d x y pb T : Int → Int} {now lo la q : Int} (h : tin n m a b d x y pb T now lo la) (e : now % m = q) (hq : pkk x q → y (pfr a b q) + pln d q ≤ y (pto a b q)) : tin n m a b d x y pb T (now + 1) lo la := sorry
theorem tin_up {n m : Nat} {a b d x y pb T y' pb' : Int → Int} {now lo la q : Int} (h : tin n m a b d x y pb T now lo la) (now0 : 0 ≤ now) (m0 : 0 < m) (lo1 : lo ≤ now) (hq : now % m = q) (okq : pkk x q) (hin : ∀ j : Int, 0 ≤ j → j < m → (0 ≤ pfr a b j ∧ pfr a b j < n) ∧ (0 ≤ pto a b j ∧ pto a b j < n) ∧ pfr a b j ≠ pto a b j) (hd : pln d q ≤ 10000) (hy : y (pto a b q) < y (pfr a b q) + pln d q)
    (y1 : y' (pto a b q) = y (pfr a b q) + pln d q) (y2 : ∀ c, c ≠ pto a b q → y' c = y c) (p1 : pb' (pto a b q) = q) (p2 : ∀ c, c ≠ pto a b q → pb' c = pb c) : tin n m a b d x y' pb' (fun c => if c = pto a b q then now else T c) (now + 1) lo (pto a b q) := sorry
theorem p_ev {a b d x : Int → Int} {k : Int} : pfr a b (2 * k) = a k ∧ pto a b (2 * k) = b k ∧ pln d (2 * k) = d k ∧ pkk x (2 * k) := sorry
theorem p_od {a b d x : Int → Int} {k : Int} (k0 : 0 ≤ k) : pfr a b (2 * k + 1) = b k ∧ pto a b (2 * k + 1) = a k ∧ pln d (2 * k + 1) = -d k ∧ (pkk x (2 * k + 1) ↔ 0 < x k) := sorry
theorem m_at {m : Nat} {t q : Int} (q0 : 0 ≤ q) (q1 : q < m) : ((m : Int) * t + q) % m = q := sorry
theorem u215_210 (v : Int → Int → Int) (a z : Int) : up2 v 215 a z 210 = v 210 := sorry
theorem u215_211 (v : Int → Int → Int) (a z : Int) : up2 v 215 a z 211 = v 211 := sorry
theorem u215_212 (v : Int → Int → Int) (a z : Int) : up2 v 215 a z 212 = v 212 := sorry
theorem u215_216 (v : Int → Int → Int) (a z : Int) : up2 v 215 a z 216 = v 216 := sorry
theorem u216_210 (v : Int → Int → Int) (a z : Int) : up2 v 216 a z 210 = v 210 := sorry
theorem u216_211 (v : Int → Int → Int) (a z : Int) : up2 v 216 a z 211 = v 211 := sorry
theorem u216_212 (v : Int → Int → Int) (a z : Int) : up2 v 216 a z 212 = v 212 := sorry
theorem u216_215 (v : Int → Int → Int) (a z : Int) : up2 v 216 a z 215 = v 215 := sorry
end
section
theorem gan_le {par len y0 : Int → Int} {s : Int} : ∀ r : Nat, (∀ k : Nat, k < r → len (anc par k s) ≤ y0 (anc par k s) - y0 (par (anc par k s))) → gan par len r s ≤ y0 s - y0 (anc par r s) := sorry
set_option maxRecDepth 100000 in
theorem sp_Ps_turnOne {l : Launch} {D : qD} {d n P : Nat} {X : Int} {h : qh} {Q : qQ} {a b dd x y0 : Int → Int} (hF : PF h.2) (ha : h.2 211 = a) (hb : h.2 212 = b) (hd : h.2 213 = dd) (hx : h.2 214 = x) (n0 : h.2 210 0 = n) (n1 : h.2 210 1 = P) (n220 : n ≤ 220) (P420 : P ≤ 420) (hX : X ≤ 1000000000) (x0 : ∀ j : Int, 0 ≤ j → j < P → 0 ≤ x j ∧ x j ≤ X)
    (hin : ∀ j : Int, 0 ≤ j → j < P → (0 ≤ a j ∧ a j < n) ∧ (0 ≤ b j ∧ b j < n) ∧ a j ≠ b j) (hdb : ∀ j : Int, 0 ≤ j → j < P → -10000 ≤ dd j ∧ dd j ≤ 10000) (hy0 : fea P a b dd y0)
    (q0 : ∀ v, KS 210 [] [215, 216] h.2 v → (∀ j : Int, 0 ≤ j → j < P → v 215 (a j) + dd j ≤ v 215 (b j) ∧ (0 < x j → v 215 (b j) - dd j ≤ v 215 (a j))) → (∀ c : Int, 0 ≤ c → c < n → 0 ≤ v 215 c ∧ v 215 c ≤ 1900000000) → Q (some (.inl 0)) (h.1, v))
    (q1 : ∀ v, KS 210 [] [214, 215, 216] h.2 v → (∀ j : Int, 0 ≤ j → j < P → 0 ≤ v 214 j) → (∀ z, cst P a b (v 214) z = cst P a b x z) → wrt P dd x < wrt P dd (v 214) → Q (some (.inl 1)) (h.1, v)) :
    qM l D (d + 3, 0, 0) m_Ps_turnOne [.inr (.inr 210)] h Q := sorry
end
section
/-! ===== Places.solve ===== -/
/-- a row that keeps all pairs, not below 0, and is tight where something flows -/
def sol (n P : Nat) (a b d x z : Int → Int) : Prop := fea P a b d z ∧ (∀ i : Int, 0 ≤ i → i < n → 0 ≤ z i) ∧ (∀ k : Int, 0 ≤ k → k < P → 0 < x k → z (b k) = z (a k) + d k)
set_option maxRecDepth 100000 in
theorem sp_Ps_solve {l : Launch} {D : qD} {d n P : Nat} {h : qh} {Q : qQ} {a b dd w y0 τ : Int → Int} (hF : PF h.2) (ha : h.2 211 = a) (hb : h.2 212 = b) (hd : h.2 213 = dd) (hw : h.2 214 = w) (n0 : h.2 210 0 = n) (n1 : h.2 210 1 = P) (n220 : n ≤ 220) (P420 : P ≤ 420) (hS : sm w P ≤ 1000000000) (w0 : ∀ j : Int, 0 ≤ j → j < P → 0 ≤ w j)
    (hτ : ∀ j : Int, 0 ≤ j → j < P → τ (a j) < τ (b j)) (hin : ∀ j : Int, 0 ≤ j → j < P → (0 ≤ a j ∧ a j < n) ∧ (0 ≤ b j ∧ b j < n)) (hdb : ∀ j : Int, 0 ≤ j → j < P → -10000 ≤ dd j ∧ dd j ≤ 10000) (hy0 : fea P a b dd y0)
    (hq : ∀ v, KS 210 [] [214, 215, 216] h.2 v → lopt n (fea P a b dd) (cst P a b w) (v 215) → (∀ c : Int, 0 ≤ c → c < n → 0 ≤ v 215 c ∧ v 215 c ≤ 1900000000) → Q none (h.1, v)) :
    qM l D (d + 4, 0, 0) m_Ps_solve [.inr (.inr 210)] h Q := sorry
end
section
/-! ===== bridges, blocks of a node ===== -/
theorem cnt_brg {m : Nat} {B : Int → Int} {e : Int} (e0 : 0 ≤ e) (e1 : e < m) : cnt (fun f => B f = B e) m = 1 ↔ ∀ f : Int, 0 ≤ f → f < m → B f = B e → f = e := sorry
set_option maxRecDepth 100000 in
theorem sp_Mo_isBridge {l : Launch} {D : qD} {d m : Nat} {e : Int} {h : qh} {Q : qQ} (hT : TW h.2) (hm : h.2 280 32 = m) (m48 : m ≤ 80) (e0 : 0 ≤ e) (e1 : e < m)
    (hq : ∀ z, (z = 0 ∨ z = 1) → (z = 1 ↔ ∀ f : Int, 0 ≤ f → f < m → h.2 287 f = h.2 287 e → f = e) → Q (some (.inl z)) h) : qM l D (d + 1, 0, 0) m_Mo_isBridge [.inr (.inr 280), .inl e] h Q := sorry
set_option maxRecDepth 100000 in
theorem sp_Sh_isBridge {l : Launch} {D : qD} {d m : Nat} {s g e : Int} {h : qh} {Q : qQ} (hs : isS s) (hg : isG g) (sa : h.2 s 4 = s + 5) (eg : h.2 s 15 = g) (hm : h.2 g 1 = m) (m48 : m ≤ 48) (e0 : 0 ≤ e) (e1 : e < m)
    (hq : ∀ z, (z = 0 ∨ z = 1) → (z = 1 ↔ ∀ f : Int, 0 ≤ f → f < m → h.2 (s + 5) f = h.2 (s + 5) e → f = e) → Q (some (.inl z)) h) : qM l D (d + 1, 0, 0) m_Sh_isBridge [.inr (.inr s), .inl e] h Q := sorry
end
section
/-! ===== the twin's blocks of a node ===== -/
set_option maxRecDepth 100000 in
theorem sp_Mo_blocksOf {l : Launch} {D : qD} {d m : Nat} {i : Int} {h : qh} {Q : qQ} (hT : TW h.2) (hm : h.2 280 32 = m) (m80 : m ≤ 80)
    (hq : Q (some (.inl (cnt (fun b => ∃ e, (pA h.2 e ∧ inc (h.2 295) (h.2 296) e i) ∧ h.2 287 e = b) 48 : Int))) h) : qM l D (d + 2, 0, 0) m_Mo_blocksOf [.inr (.inr 280), .inl i] h Q := sorry
end
section
/-! ===== Shape.far ===== -/
theorem ar32 {k M : Nat} (h : 32 - k < M + 1) (l : k + 1 < 32) : 32 - (k + 1) < M := sorry
set_option maxRecDepth 100000 in
theorem sp_Sh_far {l : Launch} {D : qD} {d : Nat} {s g a b : Int} {h : qh} {Q : qQ} (hs : isS s) (hg : isG g) (sa : h.2 s 0 = s + 1) (eg : h.2 s 15 = g) (hN : 0 ≤ h.2 g 0 ∧ h.2 g 0 ≤ 24) (ha : 0 ≤ a ∧ a < h.2 g 0) (hb : 0 ≤ b ∧ b < h.2 g 0)
    (hq : ∀ z, (∃ k : Nat, dst (rbt (h.2 (s + 1)) (h.2 g 0)) a b k ∧ z = (k : Int)) ∨ (¬ rchs (rbt (h.2 (s + 1)) (h.2 g 0)) a b ∧ z = -1) → Q (some (.inl z)) h) : qM l D (d + 1, 0, 0) m_Sh_far [.inr (.inr s), .inl a, .inl b] h Q := sorry
end
section
/-! ===== Long.bitCount ===== -/
theorem z_l2i_127 {w : Nat} (hw : w < 9223372036854775808) : z_iand (z_l2i (w : Int)) 127 = ((w % 128 : Nat) : Int) := sorry
end
section
/-! ===== pieces: edges that hang together off the border ===== -/
def cn (t h : Int → Int) (N : Int → Prop) (Q : Int → Prop) (e f : Int) : Prop := Q e ∧ rchs (fun f g => Q g ∧ ∃ v, (t f = v ∨ h f = v) ∧ (t g = v ∨ h g = v) ∧ ¬ N v) e f
theorem cn.rf {t h : Int → Int} {N Q : Int → Prop} {e : Int} (q : Q e) : cn t h N Q e e := sorry
theorem cn.st {t h : Int → Int} {N Q : Int → Prop} {e f g v : Int} (z : cn t h N Q e f) (k1 : Q g) (k2 : t f = v ∨ h f = v) (k3 : t g = v ∨ h g = v) (k4 : ¬ N v) : cn t h N Q e g := sorry
theorem cn.ind {t h : Int → Int} {N Q : Int → Prop} {e : Int} {motive : (f : Int) → cn t h N Q e f → Prop} (rf : ∀ q : Q e, motive e (cn.rf q)) (st : ∀ {f g v : Int} (z : cn t h N Q e f) (k1 : Q g) (k2 : t f = v ∨ h f = v) (k3 : t g = v ∨ h g = v) (k4 : ¬ N v), motive f z → motive g (cn.st z k1 k2 k3 k4)) {f : Int} (q : cn t h N Q e f) : motive f q := sorry
theorem cn.q {t h : Int → Int} {N Q : Int → Prop} {e f : Int} (q : cn t h N Q e f) : Q f := sorry
theorem cn.q0 {t h : Int → Int} {N Q : Int → Prop} {e f : Int} (q : cn t h N Q e f) : Q e := sorry
theorem cn.tr {t h : Int → Int} {N Q : Int → Prop} {e f g : Int} (q : cn t h N Q e f) (q2 : cn t h N Q f g) : cn t h N Q e g := sorry
theorem cn.sy {t h : Int → Int} {N Q : Int → Prop} {e f : Int} (q : cn t h N Q e f) : cn t h N Q f e := sorry
theorem cn.eq {t h : Int → Int} {N Q : Int → Prop} {e f : Int} (q : cn t h N Q e f) : cn t h N Q e = cn t h N Q f := sorry
/-- from one border and row of edges to another: as long as the next edge and the shared node go along -/
theorem cn.mp {t h : Int → Int} {N Q N' Q' : Int → Prop} {e f : Int} (h0 : Q' e) (hs : ∀ f g v, cn t h N Q e f → Q' f → Q g → (t f = v ∨ h f = v) → (t g = v ∨ h g = v) → ¬ N v → Q' g ∧ ¬ N' v) (q : cn t h N Q e f) : cn t h N' Q' e f := sorry
/-- the edges of a way hang together -/
theorem way_cn {t h : Int → Int} {N Q : Int → Prop} (hs : smp t h Q) : ∀ {l : List Int} {a b y : Int} {e g : Int}, (a :: b :: l).getLast? = some y → (∀ v, v ∈ b :: l → v ≠ y → ¬ N v) → (a :: b :: l).Nodup → chn (jq t h Q) (a :: b :: l) → Q e → jn1 t h e a b → Q g → pE t h (a :: b :: l) g → cn t h N Q e g := sorry
theorem way_one {t h : Int → Int} {c : List Int} {Q : Int → Prop} (hs : smp t h Q) {x : Int} {I : List Int} {y : Int} (hw : wy t h c Q x I y) {e g : Int} (he : Q e) (hg : Q g) (pe : pE t h (x :: I ++ [y]) e) (pg : pE t h (x :: I ++ [y]) g) : cn t h (· ∈ c) Q e g := sorry
/-- a node of a way is touched by one of its edges -/
theorem way_at {t h : Int → Int} {Q : Int → Prop} : ∀ {l : List Int} {v : Int}, chn (jq t h Q) l → v ∈ l → 2 ≤ l.length → ∃ g, Q g ∧ pE t h l g ∧ (t g = v ∨ h g = v) := sorry
/-- any two pieces do not get in each other's way -/
def pnx (t h : Int → Int) (c : List Int) (Q : Int → Prop) : Prop := ∀ e f, Q e → Q f → ¬ cn t h (· ∈ c) Q e f → nx c (tch t h (cn t h (· ∈ c) Q e)) (tch t h (cn t h (· ∈ c) Q f))
theorem cn_tch {t h : Int → Int} {N Q : Int → Prop} {e v : Int} (q : tch t h (cn t h N Q e) v) : tch t h Q v := sorry
/-- a piece that hangs not with the way is a piece of its side -/
theorem pc_off {t h : Int → Int} {c : List Int} {Q : Int → Prop} {x : Int} {A : List Int} {y : Int} {B I : List Int} {Q1 Q2 : Int → Prop} (h1 : cyc c (x :: A ++ y :: B)) (h2 : wy t h c Q x I y) (h3 : prt t h Q x A y B I Q1 Q2)
    {e : Int} (he : Q1 e) (hoff : ∀ g, Q g → pE t h (x :: I ++ [y]) g → ¬ cn t h (· ∈ c) Q e g) : cn t h (· ∈ c) Q e = cn t h (· ∈ x :: A ++ y :: I.reverse) Q1 e := sorry
/-- one that hangs with the way has an end on it -/
theorem pc_on {t h : Int → Int} {c : List Int} {Q : Int → Prop} {x : Int} {A : List Int} {y : Int} {B I : List Int} {Q1 Q2 : Int → Prop} (h1 : cyc c (x :: A ++ y :: B)) (h3 : prt t h Q x A y B I Q1 Q2)
    {e g : Int} (he : Q1 e) (hp : pE t h (x :: I ++ [y]) g) (hg : cn t h (· ∈ c) Q e g) : ∃ i, i ∈ I ∧ tch t h (cn t h (· ∈ x :: A ++ y :: I.reverse) Q1 e) i := sorry
theorem cyc_U {c : List Int} {x : Int} {A : List Int} {y : Int} {B : List Int} (h1 : cyc c (x :: A ++ y :: B)) : cyc c ((x :: A ++ [y]) ++ B) := sorry
theorem nd_U {c : List Int} {x : Int} {A : List Int} {y : Int} {B : List Int} (hc : c.Nodup) (h1 : cyc c (x :: A ++ y :: B)) : (x :: A ++ [y]).Nodup := sorry
/-- one piece with the way, one that hangs not with it -/
theorem pc_mix {t h : Int → Int} {c : List Int} {Q : Int → Prop} {x : Int} {A : List Int} {y : Int} {B I : List Int} {Q1 Q2 : Int → Prop} (hc : c.Nodup) (h1 : cyc c (x :: A ++ y :: B)) (h2 : wy t h c Q x I y) (h3 : prt t h Q x A y B I Q1 Q2)
    (ih : pnx t h (x :: A ++ y :: I.reverse) Q1) {e f g0 : Int} (hg0 : pE t h (x :: I ++ [y]) g0) (hon : cn t h (· ∈ c) Q e g0) (hf : Q1 f) (hoff : ∀ g, Q g → pE t h (x :: I ++ [y]) g → ¬ cn t h (· ∈ c) Q f g) :
    nx c (tch t h (cn t h (· ∈ c) Q e)) (tch t h (cn t h (· ∈ c) Q f)) := sorry
/-- two of one side -/
theorem pc_side {t h : Int → Int} {c : List Int} {Q : Int → Prop} {x : Int} {A : List Int} {y : Int} {B I : List Int} {Q1 Q2 : Int → Prop} (hc : c.Nodup) (h1 : cyc c (x :: A ++ y :: B)) (h2 : wy t h c Q x I y) (h3 : prt t h Q x A y B I Q1 Q2)
    (ih : pnx t h (x :: A ++ y :: I.reverse) Q1) {e f : Int} (he : Q1 e) (hf : Q1 f) (hoe : ∀ g, Q g → pE t h (x :: I ++ [y]) g → ¬ cn t h (· ∈ c) Q e g) (hof : ∀ g, Q g → pE t h (x :: I ++ [y]) g → ¬ cn t h (· ∈ c) Q f g) (hn : ¬ cn t h (· ∈ c) Q e f) :
    nx c (tch t h (cn t h (· ∈ c) Q e)) (tch t h (cn t h (· ∈ c) Q f)) := sorry
/-- two of different sides -/
theorem pc_two {c : List Int} {x : Int} {A : List Int} {y : Int} {B : List Int} (hc : c.Nodup) (h1 : cyc c (x :: A ++ y :: B)) {S T : Int → Prop} (hS : ∀ v, v ∈ c → S v → v ∉ B) (hT : ∀ v, v ∈ c → T v → v ∉ A) : nx c S T := sorry
/-- pieces of what is drawn do not get in each other's way -/
theorem Dsc_nx {t h : Int → Int} {k : Nat} : ∀ {c : List Int} {Q : Int → Prop}, c.Nodup → smp t h Q → Dsc t h k c Q → pnx t h c Q := sorry
theorem Ds_nx {t h : Int → Int} {c : List Int} {Q : Int → Prop} (hc : c.Nodup) (hs : smp t h Q) (q : Ds t h c Q) : pnx t h c Q := sorry
/-- a piece alone -/
theorem Ds_pc {t h : Int → Int} {m : Nat} {c : List Int} {Q : Int → Prop} (hc : c.Nodup) (hb : ∀ e, Q e → blw m e) (hs : smp t h Q) (hd : Ds t h c Q) (P : Int → Prop) (hP : ∀ e, P e → Q e) (hcl : ∀ e f v, P e → Q f → (t e = v ∨ h e = v) → (t f = v ∨ h f = v) → v ∉ c → P f) : Ds t h c P := sorry
theorem Ds_cn {t h : Int → Int} {m : Nat} {c : List Int} {Q : Int → Prop} (hc : c.Nodup) (hb : ∀ e, Q e → blw m e) (hs : smp t h Q) (hd : Ds t h c Q) (e : Int) : Ds t h c (cn t h (· ∈ c) Q e) := sorry
/-- the middle of three in a stretch: the outer two are its ends -/
theorem mid_ends {c : List Int} {x : Int} {A : List Int} {y : Int} {B : List Int} (h1 : cyc c (x :: A ++ y :: B)) {S T : Int → Prop} (n : nx c S T) (sx : S x) (sy : S y) {t1 s t2 : Int} (q : List.Sublist [t1, s, t2] (x :: A ++ [y])) (k1 : T t1) (k2 : S s) (k3 : T t2) : t1 = x ∧ t2 = y := sorry
/-- nor that, when the other piece has a node between, or the one has one on the other side -/
theorem mid_no {c : List Int} {x : Int} {A : List Int} {y : Int} {B : List Int} (hc : c.Nodup) (h1 : cyc c (x :: A ++ y :: B)) {S T : Int → Prop} (n : nx c S T) (sx : S x) (sy : S y) (hr : (∃ v, v ∈ A ∧ T v) ∨ (∃ v, v ∈ B ∧ S v) ∨ ∀ v, v ∈ A → ¬ S v) {t1 s t2 : Int} (q : List.Sublist [t1, s, t2] (x :: A ++ [y])) (k1 : T t1) (k2 : S s) (k3 : T t2) : False := sorry
/-- one side, when each piece but the one with the way goes to a side as a whole -/
theorem of_side {t h : Int → Int} {m : Nat} {c : List Int} {Q P : Int → Prop} {x : Int} {A : List Int} {y : Int} {B I : List Int} {P1 s : Int → Prop} (hc : c.Nodup) (hb : ∀ e, Q e → blw m e) (hs : smp t h Q) (hd : ∀ e, Q e → Ds t h c (cn t h (· ∈ c) Q e)) (hn : pnx t h c Q)
    (Psub : ∀ e, P e → Q e) (Pcl : ∀ e f v, P e → Q f → (t e = v ∨ h e = v) → (t f = v ∨ h f = v) → v ∉ c → P f) (Pno : ∀ f, Q f → ¬ P f → nx c (tch t h P) (tch t h (cn t h (· ∈ c) Q f)))
    (hcy : cyc c (x :: A ++ y :: B)) (hw : wy t h c P x I y) (hnd : (x :: A ++ y :: I.reverse).Nodup) (P1s : ∀ e, P1 e → P e) (p3 : ∀ v, tch t h P1 v → v ∉ B) (d1 : Ds t h (x :: A ++ y :: I.reverse) P1)
    (sB : ∀ f v, Q f → ¬ P f → s f → v ∈ B → ¬ tch t h (cn t h (· ∈ c) Q f) v) (scl : ∀ f g, cn t h (· ∈ c) Q f g → s f → s g)
    (shr : ∀ f, Q f → ¬ P f → s f → (∃ v, v ∈ A ∧ tch t h (cn t h (· ∈ c) Q f) v) ∨ (∃ v, v ∈ B ∧ tch t h P v) ∨ ∀ v, v ∈ A → ¬ tch t h P v) :
    (∀ e, (P1 e ∨ (Q e ∧ ¬ P e ∧ s e)) → Ds t h (x :: A ++ y :: I.reverse) (cn t h (· ∈ x :: A ++ y :: I.reverse) (fun e => P1 e ∨ (Q e ∧ ¬ P e ∧ s e)) e)) ∧ pnx t h (x :: A ++ y :: I.reverse) (fun e => P1 e ∨ (Q e ∧ ¬ P e ∧ s e)) := sorry
/-- pieces that can be drawn one by one and do not get in each other's way can be drawn together -/
theorem Ds_of {t h : Int → Int} {m : Nat} : ∀ (N : Nat) (c : List Int) (Q : Int → Prop), c.Nodup → (∀ e, Q e → blw m e) → smp t h Q → cnt Q m ≤ N → (∀ e, Q e → Ds t h c (cn t h (· ∈ c) Q e)) → pnx t h c Q → Ds t h c Q := sorry
end
section
/-! ===== the faces of what is drawn, and what is still to be drawn ===== -/
/-- two faces have their common nodes in opposite order -/
def mir (c d : List Int) : Prop := cyc (c.filter (fun v => decide (v ∈ d))) (d.filter (fun v => decide (v ∈ c))).reverse
theorem mir_sym {c d : List Int} (q : mir c d) : mir d c := sorry
abbrev Fi (F : Nat → List Int) (n : Nat) : Prop := (∀ f, f < n → (F f).Nodup) ∧ (∀ f g, f < n → g < n → f ≠ g → mir (F f) (F g)) ∧ (∀ f g k, f < n → g < n → k < n → f ≠ g → f ≠ k → g ≠ k → nx (F f) (· ∈ F g) (· ∈ F k))
theorem Fi.nd {F : Nat → List Int} {n : Nat} (H_ : Fi F n) : ∀ f, f < n → (F f).Nodup := sorry
theorem Fi.mr {F : Nat → List Int} {n : Nat} (H_ : Fi F n) : ∀ f g, f < n → g < n → f ≠ g → mir (F f) (F g) := sorry
theorem Fi.tr {F : Nat → List Int} {n : Nat} (H_ : Fi F n) : ∀ f g k, f < n → g < n → k < n → f ≠ g → f ≠ k → g ≠ k → nx (F f) (· ∈ F g) (· ∈ F k) := sorry
def Dr (F : Nat → List Int) (n : Nat) (v : Int) : Prop := ∃ f, f < n ∧ v ∈ F f
/-- each piece has a face -/
abbrev ag0 (t h : Int → Int) (F : Nat → List Int) (n : Nat) (Q : Int → Prop) (a : Int → Nat) : Prop := (∀ e, Q e → a e < n) ∧ (∀ e f v, Q e → Q f → (t e = v ∨ h e = v) → (t f = v ∨ h f = v) → ¬ Dr F n v → a e = a f) ∧ (∀ e v, Q e → (t e = v ∨ h e = v) → Dr F n v → v ∈ F (a e))
theorem ag0.lt {t h : Int → Int} {F : Nat → List Int} {n : Nat} {Q : Int → Prop} {a : Int → Nat} (H_ : ag0 t h F n Q a) : ∀ e, Q e → a e < n := sorry
theorem ag0.sh {t h : Int → Int} {F : Nat → List Int} {n : Nat} {Q : Int → Prop} {a : Int → Nat} (H_ : ag0 t h F n Q a) : ∀ e f v, Q e → Q f → (t e = v ∨ h e = v) → (t f = v ∨ h f = v) → ¬ Dr F n v → a e = a f := sorry
theorem ag0.on {t h : Int → Int} {F : Nat → List Int} {n : Nat} {Q : Int → Prop} {a : Int → Nat} (H_ : ag0 t h F n Q a) : ∀ e v, Q e → (t e = v ∨ h e = v) → Dr F n v → v ∈ F (a e) := sorry
def ag (t h : Int → Int) (F : Nat → List Int) (n : Nat) (Q : Int → Prop) (a : Int → Nat) : Prop := ag0 t h F n Q a ∧ ∀ f, f < n → Ds t h (F f) (fun e => Q e ∧ a e = f)
/-- what is to be drawn can be drawn in the faces -/
def Gd (t h : Int → Int) (F : Nat → List Int) (n : Nat) (Q : Int → Prop) : Prop := ∃ a, ag t h F n Q a
/-- a piece fits a face -/
def fit (t h : Int → Int) (F : Nat → List Int) (n : Nat) (Q : Int → Prop) (e : Int) (f : Nat) : Prop := ∀ v, tch t h (cn t h (Dr F n) Q e) v → Dr F n v → v ∈ F f
theorem ag0.a_cn {t h : Int → Int} {F : Nat → List Int} {n : Nat} {Q : Int → Prop} {a : Int → Nat} (A : ag0 t h F n Q a) {e f : Int} (q : cn t h (Dr F n) Q e f) : a f = a e := sorry
theorem ag0.fits {t h : Int → Int} {F : Nat → List Int} {n : Nat} {Q : Int → Prop} {a : Int → Nat} (A : ag0 t h F n Q a) {e : Int} (_he : Q e) : fit t h F n Q e (a e) := sorry
theorem ag0.cn_eq {t h : Int → Int} {F : Nat → List Int} {n : Nat} {Q : Int → Prop} {a : Int → Nat} (A : ag0 t h F n Q a) {e : Int} (he : Q e) : cn t h (· ∈ F (a e)) (fun f => Q f ∧ a f = a e) e = cn t h (Dr F n) Q e := sorry
/-- to be drawn in the faces: piece by piece -/
theorem ag_iff {t h : Int → Int} {m : Nat} {F : Nat → List Int} {n : Nat} {Q : Int → Prop} {a : Int → Nat} (hF : Fi F n) (hb : ∀ e, Q e → blw m e) (hs : smp t h Q) (A : ag0 t h F n Q a) :
    (∀ f, f < n → Ds t h (F f) (fun e => Q e ∧ a e = f)) ↔ ((∀ e, Q e → Ds t h (F (a e)) (cn t h (Dr F n) Q e)) ∧ ∀ e f, Q e → Q f → a e = a f → ¬ cn t h (Dr F n) Q e f → nx (F (a e)) (tch t h (cn t h (Dr F n) Q e)) (tch t h (cn t h (Dr F n) Q f))) := sorry
/-- the common nodes of two faces tell -/
theorem mir_p {c d : List Int} (q : mir c d) : cyc (c.filter (fun v => decide ((v ∈ c ∧ v ∈ d) ∨ (v ∉ c ∧ v ∉ d)))) (d.filter (fun v => decide ((v ∈ c ∧ v ∈ d) ∨ (v ∉ c ∧ v ∉ d)))).reverse := sorry
theorem fit_cn {t h : Int → Int} {F : Nat → List Int} {n : Nat} {Q : Int → Prop} {e f : Int} {k : Nat} (q : cn t h (Dr F n) Q e f) : fit t h F n Q e k ↔ fit t h F n Q f k := sorry
/-- pieces that fit two faces change over -/
theorem ag_swap {t h : Int → Int} {m : Nat} {F : Nat → List Int} {n : Nat} {Q : Int → Prop} {a : Int → Nat} (hF : Fi F n) (hb : ∀ e, Q e → blw m e) (hs : smp t h Q) (A : ag t h F n Q a) {f0 g0 : Nat} (hf0 : f0 < n) (hg0 : g0 < n) (hne : f0 ≠ g0)
    (M : Int → Prop) (Mc : ∀ e f, cn t h (Dr F n) Q e f → M e → M f) (Mf : ∀ e, Q e → M e → fit t h F n Q e f0 ∧ fit t h F n Q e g0) (Ma : ∀ e, Q e → M e → a e = f0 ∨ a e = g0)
    (Mn : ∀ e f, Q e → Q f → M e → ¬ M f → a f = f0 ∨ a f = g0 → nx (F (a f)) (tch t h (cn t h (Dr F n) Q e)) (tch t h (cn t h (Dr F n) Q f))) :
    ∃ a', ag t h F n Q a' ∧ (∀ e, M e → a e = g0 → a' e = f0) := sorry
theorem nx_fit {t h : Int → Int} {F : Nat → List Int} {n : Nat} {Q : Int → Prop} (hF : Fi F n) {e f : Int} {i j k : Nat} (hi : i < n) (hj : j < n) (hk : k < n) (h1 : i ≠ j) (h2 : i ≠ k) (h3 : j ≠ k) (k1 : fit t h F n Q e j) (k2 : fit t h F n Q f k) : nx (F i) (tch t h (cn t h (Dr F n) Q e)) (tch t h (cn t h (Dr F n) Q f)) := sorry
/-- a piece with one face alone, or any piece when each has two faces: it can be drawn in a face that it fits -/
theorem Gd_pick {t h : Int → Int} {m : Nat} {F : Nat → List Int} {n : Nat} {Q : Int → Prop} (hF : Fi F n) (hb : ∀ e, Q e → blw m e) (hs : smp t h Q) (G : Gd t h F n Q) {e0 : Int} {f0 : Nat} (he0 : Q e0) (hf0 : f0 < n) (ft : fit t h F n Q e0 f0)
    (hch : (∀ g, g < n → fit t h F n Q e0 g → g = f0) ∨ (∀ e, Q e → ∃ g g', g < n ∧ g' < n ∧ g ≠ g' ∧ fit t h F n Q e g ∧ fit t h F n Q e g')) : ∃ a, ag t h F n Q a ∧ a e0 = f0 := sorry
end
section
/-! ===== a face is split ===== -/
/-- a face in whose place two stand -/
def spl (F : Nat → List Int) (n f0 : Nat) (c1 c2 : List Int) : Nat → List Int := fun k => if k = f0 then c1 else if k = n then c2 else F k
theorem spl_0 {F : Nat → List Int} {n f0 : Nat} {c1 c2 : List Int} : spl F n f0 c1 c2 f0 = c1 := sorry
theorem spl_n {F : Nat → List Int} {n f0 : Nat} {c1 c2 : List Int} (h : f0 < n) : spl F n f0 c1 c2 n = c2 := sorry
theorem spl_k {F : Nat → List Int} {n f0 k : Nat} {c1 c2 : List Int} (h1 : k ≠ f0) (h2 : k ≠ n) : spl F n f0 c1 c2 k = F k := sorry
theorem mir_sub {c d U B V : List Int} (hc : c.Nodup) (h : cyc c (U ++ B)) (hV : ∀ v, v ∈ V → v ∉ d) (q : mir c d) : mir (U ++ V) d := sorry
theorem nx_str {c c1 U V V' : List Int} {S T : Int → Prop} (hn1 : c1.Nodup) (h : cyc c (U ++ V)) (h' : cyc c1 (U ++ V')) (hS : ∀ v, v ∈ c1 → S v → v ∈ U) (hT : ∀ v, v ∈ c1 → T v → v ∈ U) (q : nx c S T) : nx c1 S T := sorry
/-- the two faces that come out of one -/
theorem mir_two {x : Int} {A : List Int} {y : Int} {B I : List Int} (h1 : (x :: A ++ y :: B).Nodup) (h2 : (x :: I ++ [y]).Nodup) (h3 : ∀ v, v ∈ I → v ∉ x :: A ++ y :: B) : mir (x :: A ++ y :: I.reverse) (y :: B ++ x :: I) := sorry
theorem Fi_spl {F : Nat → List Int} {n f0 : Nat} {x : Int} {A : List Int} {y : Int} {B I : List Int} (hF : Fi F n) (hf0 : f0 < n) (hcy : cyc (F f0) (x :: A ++ y :: B)) (hw : (x :: I ++ [y]).Nodup) (hI : ∀ v, v ∈ I → ¬ Dr F n v) :
    Fi (spl F n f0 (x :: A ++ y :: I.reverse) (y :: B ++ x :: I)) (n + 1) := sorry
theorem Dr_spl {F : Nat → List Int} {n f0 : Nat} {x : Int} {A : List Int} {y : Int} {B I : List Int} (hf0 : f0 < n) (hcy : cyc (F f0) (x :: A ++ y :: B)) (v : Int) : Dr (spl F n f0 (x :: A ++ y :: I.reverse) (y :: B ++ x :: I)) (n + 1) v ↔ Dr F n v ∨ v ∈ I := sorry
/-- on: a way of a piece splits its face -/
theorem Gd_fwd {t h : Int → Int} {m : Nat} {F : Nat → List Int} {n : Nat} {Q : Int → Prop} {a : Int → Nat} {e0 : Int} {f0 : Nat} {x : Int} {A : List Int} {y : Int} {B I : List Int} (hF : Fi F n) (hb : ∀ e, Q e → blw m e) (hs : smp t h Q) (G : ag t h F n Q a) (he0 : Q e0) (ha : a e0 = f0)
    (hcy : cyc (F f0) (x :: A ++ y :: B)) (hw : (x :: I ++ [y]).Nodup) (hI : ∀ v, v ∈ I → ¬ Dr F n v) (hch : chn (jq t h (cn t h (Dr F n) Q e0)) (x :: I ++ [y])) :
    Gd t h (spl F n f0 (x :: A ++ y :: I.reverse) (y :: B ++ x :: I)) (n + 1) (fun e => Q e ∧ ¬ pE t h (x :: I ++ [y]) e) := sorry
/-- back: what could be drawn after the split could be drawn before -/
theorem Gd_bwd {t h : Int → Int} {F : Nat → List Int} {n : Nat} {Q : Int → Prop} {f0 : Nat} {x : Int} {A : List Int} {y : Int} {B I : List Int} (hF : Fi F n) (hf0 : f0 < n)
    (hcy : cyc (F f0) (x :: A ++ y :: B)) (hw : (x :: I ++ [y]).Nodup) (hI : ∀ v, v ∈ I → ¬ Dr F n v) (hch : chn (jq t h Q) (x :: I ++ [y]))
    (G : Gd t h (spl F n f0 (x :: A ++ y :: I.reverse) (y :: B ++ x :: I)) (n + 1) (fun e => Q e ∧ ¬ pE t h (x :: I ++ [y]) e)) : Gd t h F n Q := sorry
end
section
/-! ===== rings of edges, blocks ===== -/
def cl (c : List Int) : List Int := c ++ [c.headD 0]
/-- a ring -/
def Rg (t h : Int → Int) (X : Int → Prop) (c : List Int) : Prop := c.Nodup ∧ 3 ≤ c.length ∧ chn (jq t h X) (cl c)
/-- two edges of a ring -/
def onR (t h : Int → Int) (X : Int → Prop) (e f : Int) : Prop := ∃ c, Rg t h X c ∧ X e ∧ X f ∧ pE t h (cl c) e ∧ pE t h (cl c) f
theorem cl_chn {E : Int → Int → Prop} {c : List Int} {r : Int} {A : List Int} {s : Int} {B : List Int} (h : cyc c (r :: A ++ s :: B)) : chn E (cl c) ↔ chn E (r :: A ++ [s]) ∧ chn E (s :: B ++ [r]) := sorry
theorem cl_pE {t h : Int → Int} {e : Int} {c : List Int} {r : Int} {A : List Int} {s : Int} {B : List Int} (q : cyc c (r :: A ++ s :: B)) : pE t h (cl c) e ↔ pE t h (r :: A ++ [s]) e ∨ pE t h (s :: B ++ [r]) e := sorry
theorem Rg_cyc {t h : Int → Int} {X : Int → Prop} {c c' : List Int} (q : cyc c c') (r : Rg t h X c) : Rg t h X c' := sorry
theorem Rg_pE {t h : Int → Int} {e : Int} {c c' : List Int} (q : cyc c c') (hl : 2 ≤ c.length) : pE t h (cl c) e ↔ pE t h (cl c') e := sorry
/-- an edge of a ring stands between two nodes of it that stand side by side -/
theorem Rg_at {t h : Int → Int} {e : Int} {c : List Int} (hl : 2 ≤ c.length) (q : pE t h (cl c) e) : ∃ a b l, cyc c (a :: b :: l) ∧ jn1 t h e a b := sorry
theorem pE_jn {t h : Int → Int} {e a b : Int} {l1 l2 : List Int} (q : jn1 t h e a b) : pE t h (l1 ++ a :: b :: l2) e := sorry
/-- two rings with a common edge -/
theorem onR_tr {t h : Int → Int} {X : Int → Prop} (hs : smp t h X) {e f g : Int} (q1 : onR t h X e f) (q2 : onR t h X f g) : onR t h X e g := sorry
theorem onR_sym {t h : Int → Int} {X : Int → Prop} {e f : Int} (q : onR t h X e f) : onR t h X f e := sorry
/-- a way without a node met twice -/
theorem rchs_way {E : Int → Int → Prop} {a b : Int} (q : rchs E a b) : a = b ∨ ∃ I, (a :: I ++ [b]).Nodup ∧ chn E (a :: I ++ [b]) := sorry
theorem aj_jq {t h : Int → Int} {X : Int → Prop} {x y : Int} (q : aj t h X x y) : jq t h X x y := sorry
theorem jq_aj {t h : Int → Int} {X : Int → Prop} (hl : nlp t h X) {x y : Int} (q : jq t h X x y) : aj t h X x y := sorry
theorem inc_jn {t h : Int → Int} {e z : Int} (q : inc t h e z) : jn1 t h e z (oth t h e z) := sorry
/-- two edges at a node whose other ends are joined without it are of a ring -/
theorem sb1_onR {t h : Int → Int} {X : Int → Prop} (hs : smp t h X) (hl : nlp t h X) {e f : Int} (q : sb1 t h X e f) : e = f ∨ onR t h X e f := sorry
theorem bk_onR {t h : Int → Int} {X : Int → Prop} (hs : smp t h X) (hl : nlp t h X) {e f : Int} (q : bk t h X e f) : e = f ∨ onR t h X e f := sorry
/-- a step further round a ring -/
theorem ring_st {t h : Int → Int} {X : Int → Prop} (hl : nlp t h X) {a b d : Int} {l : List Int} (r : Rg t h X (a :: b :: d :: l)) {e f : Int} (xe : X e) (xf : X f) (je : jn1 t h e a b) (jf : jn1 t h f b d) : sb1 t h X e f := sorry
/-- the edges of a ring are of one block -/
theorem onR_bk {t h : Int → Int} {X : Int → Prop} (hl : nlp t h X) {e f : Int} (q : onR t h X e f) (hs : smp t h X) : bk t h X e f := sorry
/-- two edges of a block lie on a ring of the block -/
theorem blk_ring {t h : Int → Int} {A : Int → Prop} (hs : smp t h A) (hl : nlp t h A) {e0 e f : Int} (he : A e) (hf : A f) (q1 : bk t h A e0 e) (q2 : bk t h A e0 f) : e = f ∨ onR t h (fun g => A g ∧ bk t h A e0 g) e f := sorry
end
section
/-! ===== planar: told by an edge, by a ring, by the faces ===== -/
def Pd (t h : Int → Int) (X : Int → Prop) (e : Int) : Prop := Ds t h [t e, h e] (fun f => X f ∧ f ≠ e)
/-- any two edges lie on a ring -/
def B2 (t h : Int → Int) (X : Int → Prop) : Prop := ∀ e f, X e → X f → e = f ∨ onR t h X e f
def RG (t h : Int → Int) (X : Int → Prop) (c : List Int) : Prop := ∃ Q1 Q2 : Int → Prop, (∀ g, (X g ∧ ¬ pE t h (cl c) g) ↔ (Q1 g ∨ Q2 g)) ∧ (∀ g, Q1 g → ¬ Q2 g) ∧ (∀ v, tch t h Q1 v → tch t h Q2 v → v ∈ c) ∧ Ds t h c Q1 ∧ Ds t h c Q2
/-- the rest of a ring is a way from the one end of an edge to the other one -/
theorem ring_way {t h : Int → Int} {X : Int → Prop} (hs : smp t h X) {c : List Int} (r : Rg t h X c) {e : Int} (xe : X e) {a b : Int} {l : List Int} (hc : cyc c (a :: b :: l)) (je : jn1 t h e a b) :
    wy t h [a, b] (fun f => X f ∧ f ≠ e) b l a ∧ (∀ g, X g → (pE t h (cl c) g ↔ g = e ∨ pE t h (b :: l ++ [a]) g)) ∧ ¬ pE t h (b :: l ++ [a]) e := sorry
theorem Pd_ab {t h : Int → Int} {X : Int → Prop} {e a b : Int} (je : jn1 t h e a b) : Pd t h X e ↔ Ds t h [a, b] (fun f => X f ∧ f ≠ e) := sorry
theorem Pd_RG {t h : Int → Int} {m : Nat} {X : Int → Prop} (hb : ∀ e, X e → blw m e) (hs : smp t h X) {c : List Int} (r : Rg t h X c) {e : Int} (xe : X e) (pe : pE t h (cl c) e) : Pd t h X e ↔ RG t h X c := sorry
/-- which edge is taken tells nothing -/
theorem Pd_any {t h : Int → Int} {m : Nat} {X : Int → Prop} (hb : ∀ e, X e → blw m e) (hs : smp t h X) (b2 : B2 t h X) {e f : Int} (xe : X e) (xf : X f) : Pd t h X e ↔ Pd t h X f := sorry
theorem B2_Wf {t h : Int → Int} {X : Int → Prop} (hs : smp t h X) (b2 : B2 t h X) {e : Int} (xe : X e) : Wf t h [t e, h e] (fun f => X f ∧ f ≠ e) := sorry
/-- a part of a planar one is planar -/
theorem Pd_sub {t h : Int → Int} {m : Nat} {X X' : Int → Prop} (hb : ∀ e, X e → blw m e) (hs : smp t h X) (hl : nlp t h X) (hsub : ∀ e, X' e → X e) (b2 : B2 t h X') {e : Int} (xe : X' e) (q : Pd t h X e) : Pd t h X' e := sorry
theorem nx_two {a b : Int} {S T : Int → Prop} : nx [a, b] S T := sorry
/-- two that share an edge alone -/
theorem Pd_glue {t h : Int → Int} {m : Nat} {X X1 X2 : Int → Prop} (hb : ∀ e, X e → blw m e) (hs : smp t h X) (hl : nlp t h X) {e : Int} (xe : X e) (hX : ∀ f, X f ↔ (X1 f ∨ X2 f)) (hsh : ∀ f g v, X1 f → X2 g → f ≠ e → g ≠ e → (t f = v ∨ h f = v) → (t g = v ∨ h g = v) → v = t e ∨ v = h e)
    (q1 : Pd t h X1 e) (q2 : Pd t h X2 e) : Pd t h X e := sorry
/-- the first two faces -/
theorem Fi_ini {F : Nat → List Int} {c : List Int} (hc : c.Nodup) (h0 : cyc c (F 0)) (h1 : cyc c.reverse (F 1)) : Fi F 2 := sorry
theorem Gd_ini {t h : Int → Int} {X : Int → Prop} {F : Nat → List Int} {c : List Int} (h0 : cyc c (F 0)) (h1 : cyc c.reverse (F 1)) : Gd t h F 2 (fun g => X g ∧ ¬ pE t h (cl c) g) ↔ RG t h X c := sorry
/-- one step of the drawing changes nothing -/
theorem Gd_step {t h : Int → Int} {m : Nat} {F : Nat → List Int} {n : Nat} {Q : Int → Prop} {e0 : Int} {f0 : Nat} {x : Int} {A : List Int} {y : Int} {B I : List Int} (hF : Fi F n) (hb : ∀ e, Q e → blw m e) (hs : smp t h Q) (he0 : Q e0) (hf0 : f0 < n) (ft : fit t h F n Q e0 f0)
    (hch : (∀ g, g < n → fit t h F n Q e0 g → g = f0) ∨ (∀ e, Q e → ∃ g g', g < n ∧ g' < n ∧ g ≠ g' ∧ fit t h F n Q e g ∧ fit t h F n Q e g'))
    (hcy : cyc (F f0) (x :: A ++ y :: B)) (hw : (x :: I ++ [y]).Nodup) (hI : ∀ v, v ∈ I → ¬ Dr F n v) (hc : chn (jq t h (cn t h (Dr F n) Q e0)) (x :: I ++ [y])) :
    Gd t h F n Q ↔ Gd t h (spl F n f0 (x :: A ++ y :: I.reverse) (y :: B ++ x :: I)) (n + 1) (fun e => Q e ∧ ¬ pE t h (x :: I ++ [y]) e) := sorry
theorem Gd_nil {t h : Int → Int} {F : Nat → List Int} {n : Nat} {Q : Int → Prop} (q : ∀ e, ¬ Q e) : Gd t h F n Q := sorry
theorem Gd_no {t h : Int → Int} {F : Nat → List Int} {n : Nat} {Q : Int → Prop} {e : Int} (he : Q e) (q : ∀ f, f < n → ¬ fit t h F n Q e f) : ¬ Gd t h F n Q := sorry
end
section
/-! ===== one node more, joined to all: block by block, or all at once ===== -/
/-- edges of A and, for the nodes they touch, the ones to the node n -/
def XS (t h : Int → Int) (n m : Nat) (S : Int → Prop) (e : Int) : Prop := S e ∨ ∃ i, blw n i ∧ tch t h S i ∧ e = m + i
abbrev Apx (t h : Int → Int) (n m : Nat) : Prop := (∀ e, blw m e → blw n (t e) ∧ blw n (h e)) ∧ (nlp t h (blw m)) ∧ (smp t h (blw m)) ∧ (∀ i, blw n i → t (m + i) = i ∧ h (m + i) = n)
theorem Apx.rg {t h : Int → Int} {n m : Nat} (H_ : Apx t h n m) : ∀ e, blw m e → blw n (t e) ∧ blw n (h e) := sorry
theorem Apx.lp {t h : Int → Int} {n m : Nat} (H_ : Apx t h n m) : nlp t h (blw m) := sorry
theorem Apx.sm {t h : Int → Int} {n m : Nat} (H_ : Apx t h n m) : smp t h (blw m) := sorry
theorem Apx.ap {t h : Int → Int} {n m : Nat} (H_ : Apx t h n m) : ∀ i, blw n i → t (m + i) = i ∧ h (m + i) = n := sorry
theorem tch_n {t h : Int → Int} {n m : Nat} (H : Apx t h n m) {S : Int → Prop} (hS : ∀ e, S e → blw m e) {v : Int} (q : tch t h S v) : blw n v := sorry
theorem XS_cs {t h : Int → Int} {n m : Nat} {S : Int → Prop} (hS : ∀ e, S e → blw m e) {e : Int} (q : XS t h n m S e) : (blw m e ∧ S e) ∨ ∃ i, blw n i ∧ tch t h S i ∧ e = m + i ∧ ¬ blw m e := sorry
theorem XS_nlp {t h : Int → Int} {n m : Nat} (H : Apx t h n m) {S : Int → Prop} (hS : ∀ e, S e → blw m e) : nlp t h (XS t h n m S) := sorry
theorem XS_smp {t h : Int → Int} {n m : Nat} (H : Apx t h n m) {S : Int → Prop} (hS : ∀ e, S e → blw m e) : smp t h (XS t h n m S) := sorry
theorem XS_blw {t h : Int → Int} {n m : Nat} {S : Int → Prop} (hS : ∀ e, S e → blw m e) {e : Int} (q : XS t h n m S e) : blw (m + n) e := sorry
/-- an edge and the two to the node n from its ends -/
theorem XS_tri {t h : Int → Int} {n m : Nat} (H : Apx t h n m) {S : Int → Prop} (hS : ∀ e, S e → blw m e) {e v : Int} (he : S e) (hv : inc t h e v) : bk t h (XS t h n m S) e (m + v) := sorry
/-- edges that hang together -/
def cnc (t h : Int → Int) (S : Int → Prop) : Prop := ∀ e f, S e → S f → cn t h (fun _ => False) S e f
theorem XS_B2 {t h : Int → Int} {n m : Nat} (H : Apx t h n m) {S : Int → Prop} (hS : ∀ e, S e → blw m e) (hc : cnc t h S) : B2 t h (XS t h n m S) := sorry
/-- the edges of a block hang together -/
theorem bk_cn {t h : Int → Int} {A : Int → Prop} {e f : Int} (S : Int → Prop) (hS : ∀ g, bk t h A e g → A g → S g) (he : A e) (q : bk t h A e f) : cn t h (fun _ => False) S e f := sorry
/-- without a node two edges of one block still hang together -/
theorem bk_cnv {t h : Int → Int} {A S : Int → Prop} (hs : smp t h A) (hl : nlp t h A) (hSA : ∀ e, S e → A e) (hcl : ∀ e f, S e → A f → bk t h A e f → S f) {e f v : Int} (he : S e) (hf : S f) (q : bk t h A e f) : cn t h (· = v) S e f := sorry
/-- joined through edges without v: the ends are joined without v -/
theorem cn_end {t h : Int → Int} {A S : Int → Prop} (hl : nlp t h A) (hSA : ∀ e, S e → A e) {e v : Int} (hv : inc t h e v) {g : Int} (q : cn t h (· = v) S e g) : ∀ u, inc t h g u → u ≠ v → rchs (ajw t h A v) (oth t h e v) u := sorry
/-- planar with the node n, when each block is -/
theorem XS_pd {t h : Int → Int} {n m : Nat} (H : Apx t h n m) : ∀ (N : Nat) (S : Int → Prop), (∀ e, S e → blw m e) → (∀ e f, S e → blw m f → bk t h (blw m) e f → S f) → cnc t h S → cnt S m ≤ N →
    (∀ e, S e → Pd t h (XS t h n m (fun f => blw m f ∧ bk t h (blw m) e f)) e) → ∀ v, tch t h S v → Pd t h (XS t h n m S) (m + v) := sorry
theorem Apx_cs {t h : Int → Int} {n m : Nat} {e : Int} (q : blw (m + n) e) : blw m e ∨ ∃ i, blw n i ∧ e = m + i := sorry
theorem Apx_nlp {t h : Int → Int} {n m : Nat} (H : Apx t h n m) : nlp t h (blw (m + n)) := sorry
theorem Apx_smp {t h : Int → Int} {n m : Nat} (H : Apx t h n m) : smp t h (blw (m + n)) := sorry
theorem onR_mono {t h : Int → Int} {X X' : Int → Prop} (hsub : ∀ e, X e → X' e) {e f : Int} (q : onR t h X e f) : onR t h X' e f := sorry
/-- block by block, or all at once -/
theorem outer_iff {t h : Int → Int} {n m : Nat} (H : Apx t h n m) :
    (∀ e, blw m e → Pd t h (XS t h n m (fun f => blw m f ∧ bk t h (blw m) e f)) e) ↔ (∀ e, blw (m + n) e → Pd t h (fun f => blw (m + n) f ∧ bk t h (blw (m + n)) e f) e) := sorry
end
section
/-! ===== other names for nodes and edges ===== -/
abbrev Iso (t h t' h' : Int → Int) (X : Int → Prop) (p s : Int → Int) : Prop := (∀ a b, p a = p b → a = b) ∧ (∀ e f, X e → X f → s e = s f → e = f) ∧ (∀ e, X e → t' (s e) = p (t e)) ∧ (∀ e, X e → h' (s e) = p (h e))
theorem Iso.pi {t h t' h' : Int → Int} {X : Int → Prop} {p s : Int → Int} (H_ : Iso t h t' h' X p s) : ∀ a b, p a = p b → a = b := sorry
theorem Iso.si {t h t' h' : Int → Int} {X : Int → Prop} {p s : Int → Int} (H_ : Iso t h t' h' X p s) : ∀ e f, X e → X f → s e = s f → e = f := sorry
theorem Iso.tt {t h t' h' : Int → Int} {X : Int → Prop} {p s : Int → Int} (H_ : Iso t h t' h' X p s) : ∀ e, X e → t' (s e) = p (t e) := sorry
theorem Iso.hh {t h t' h' : Int → Int} {X : Int → Prop} {p s : Int → Int} (H_ : Iso t h t' h' X p s) : ∀ e, X e → h' (s e) = p (h e) := sorry
def img (s : Int → Int) (Q : Int → Prop) (e' : Int) : Prop := ∃ e, Q e ∧ s e = e'
theorem Iso.jn {t h t' h' : Int → Int} {X : Int → Prop} {p s : Int → Int} (I : Iso t h t' h' X p s) {e a b : Int} (he : X e) : jn1 t' h' (s e) (p a) (p b) ↔ jn1 t h e a b := sorry
theorem Iso.pe {t h t' h' : Int → Int} {X : Int → Prop} {p s : Int → Int} (I : Iso t h t' h' X p s) {e : Int} (he : X e) : ∀ {l : List Int}, pE t' h' (l.map p) (s e) ↔ pE t h l e := sorry
theorem Iso.ch {t h t' h' : Int → Int} {X : Int → Prop} {p s : Int → Int} (I : Iso t h t' h' X p s) {Q : Int → Prop} (hQ : ∀ e, Q e → X e) : ∀ {l : List Int}, chn (jq t h Q) l → chn (jq t' h' (img s Q)) (l.map p) := sorry
theorem map_mem {p : Int → Int} (pi : ∀ a b, p a = p b → a = b) {l : List Int} {v : Int} : p v ∈ l.map p ↔ v ∈ l := sorry
theorem map_nd {p : Int → Int} (pi : ∀ a b, p a = p b → a = b) {l : List Int} (q : l.Nodup) : (l.map p).Nodup := sorry
theorem map_cyc {p : Int → Int} {c c' : List Int} (q : cyc c c') : cyc (c.map p) (c'.map p) := sorry
theorem Iso.tc {t h t' h' : Int → Int} {X : Int → Prop} {p s : Int → Int} (I : Iso t h t' h' X p s) {Q : Int → Prop} (hQ : ∀ e, Q e → X e) {v' : Int} (q : tch t' h' (img s Q) v') : ∃ v, v' = p v ∧ tch t h Q v := sorry
theorem Dsc_iso {t h t' h' : Int → Int} {X : Int → Prop} {p s : Int → Int} (I : Iso t h t' h' X p s) {k : Nat} : ∀ {c : List Int} {Q : Int → Prop}, (∀ e, Q e → X e) → Dsc t h k c Q → Dsc t' h' k (c.map p) (img s Q) := sorry
/-- planar under other names -/
theorem Pd_iso {t h t' h' : Int → Int} {X X' : Int → Prop} {p s : Int → Int} (I : Iso t h t' h' X p s) (hX : ∀ e', X' e' ↔ img s X e') {e : Int} (he : X e) (q : Pd t h X e) : Pd t' h' X' (s e) := sorry
end
section
/-! ===== what holds while faces are split ===== -/
/-- how many nodes the faces have in sum -/
def szs (F : Nat → List Int) : Nat → Nat
  | 0 => 0
  | n + 1 => szs F n + (F n).length
theorem szs_c {F F' : Nat → List Int} : ∀ {n : Nat}, (∀ k, k < n → (F k).length = (F' k).length) → szs F n = szs F' n := sorry
theorem szs_u {F F' : Nat → List Int} {f0 : Nat} : ∀ {n : Nat}, f0 < n → (∀ k, k < n → k ≠ f0 → F k = F' k) → szs F n + (F' f0).length = szs F' n + (F f0).length := sorry
theorem szs_3 {F : Nat → List Int} : ∀ {n : Nat}, (∀ k, k < n → 3 ≤ (F k).length) → 3 * n ≤ szs F n := sorry
/-- as many as a row without repeats has -/
theorem cnt_list {N : Nat} : ∀ {l : List Int}, l.Nodup → (∀ v, v ∈ l → blw N v) → cnt (· ∈ l) N = l.length := sorry
theorem cnt_ap {N : Nat} {P : Int → Prop} : ∀ {l : List Int}, l.Nodup → (∀ v, v ∈ l → blw N v) → (∀ v, v ∈ l → ¬ P v) → cnt (fun v => P v ∨ v ∈ l) N = cnt P N + l.length := sorry
abbrev DI (t h : Int → Int) (X : Int → Prop) (N : Nat) (F : Nat → List Int) (n : Nat) (Q : Int → Prop) : Prop := (Fi F n) ∧ (∀ e, Q e → X e) ∧ (∀ k, k < n → chn (jq t h (fun e => X e ∧ ¬ Q e)) (cl (F k))) ∧ (∀ k, k < n → 3 ≤ (F k).length) ∧ (∀ k, k < n → ∀ v, v ∈ F k → blw N v) ∧ (∃ E, szs F n = 2 * E ∧ n + cnt (Dr F n) N = E + 2) ∧ (∀ e v, X e → ¬ Q e → (t e = v ∨ h e = v) → Dr F n v)
theorem DI.fi {t h : Int → Int} {X : Int → Prop} {N : Nat} {F : Nat → List Int} {n : Nat} {Q : Int → Prop} (H_ : DI t h X N F n Q) : Fi F n := sorry
theorem DI.sub {t h : Int → Int} {X : Int → Prop} {N : Nat} {F : Nat → List Int} {n : Nat} {Q : Int → Prop} (H_ : DI t h X N F n Q) : ∀ e, Q e → X e := sorry
theorem DI.ch {t h : Int → Int} {X : Int → Prop} {N : Nat} {F : Nat → List Int} {n : Nat} {Q : Int → Prop} (H_ : DI t h X N F n Q) : ∀ k, k < n → chn (jq t h (fun e => X e ∧ ¬ Q e)) (cl (F k)) := sorry
theorem DI.ln {t h : Int → Int} {X : Int → Prop} {N : Nat} {F : Nat → List Int} {n : Nat} {Q : Int → Prop} (H_ : DI t h X N F n Q) : ∀ k, k < n → 3 ≤ (F k).length := sorry
theorem DI.rg {t h : Int → Int} {X : Int → Prop} {N : Nat} {F : Nat → List Int} {n : Nat} {Q : Int → Prop} (H_ : DI t h X N F n Q) : ∀ k, k < n → ∀ v, v ∈ F k → blw N v := sorry
theorem DI.eu {t h : Int → Int} {X : Int → Prop} {N : Nat} {F : Nat → List Int} {n : Nat} {Q : Int → Prop} (H_ : DI t h X N F n Q) : ∃ E, szs F n = 2 * E ∧ n + cnt (Dr F n) N = E + 2 := sorry
theorem DI.dr {t h : Int → Int} {X : Int → Prop} {N : Nat} {F : Nat → List Int} {n : Nat} {Q : Int → Prop} (H_ : DI t h X N F n Q) : ∀ e v, X e → ¬ Q e → (t e = v ∨ h e = v) → Dr F n v := sorry
theorem DI.le {t h : Int → Int} {X : Int → Prop} {N : Nat} {F : Nat → List Int} {n : Nat} {Q : Int → Prop} (D : DI t h X N F n Q) : n + 4 ≤ 2 * N := sorry
theorem DI.len {t h : Int → Int} {X : Int → Prop} {N : Nat} {F : Nat → List Int} {n : Nat} {Q : Int → Prop} (D : DI t h X N F n Q) {k : Nat} (hk : k < n) : (F k).length ≤ N := sorry
/-- the ring -/
theorem DI_ini {t h : Int → Int} {X : Int → Prop} {N : Nat} {F : Nat → List Int} {c : List Int} (r : Rg t h X c) (hr : ∀ v, v ∈ c → blw N v) (h0 : cyc c (F 0)) (h1 : cyc c.reverse (F 1)) : DI t h X N F 2 (fun g => X g ∧ ¬ pE t h (cl c) g) := sorry
/-- a split -/
theorem DI_spl {t h : Int → Int} {X : Int → Prop} {N : Nat} {F : Nat → List Int} {n f0 : Nat} {Q : Int → Prop} {x : Int} {A : List Int} {y : Int} {B I : List Int} (D : DI t h X N F n Q) (hs : smp t h X) (hf0 : f0 < n) (hcy : cyc (F f0) (x :: A ++ y :: B)) (hw : (x :: I ++ [y]).Nodup) (hI : ∀ v, v ∈ I → ¬ Dr F n v) (hIN : ∀ v, v ∈ I → blw N v) (hc : chn (jq t h Q) (x :: I ++ [y])) :
    DI t h X N (spl F n f0 (x :: A ++ y :: I.reverse) (y :: B ++ x :: I)) (n + 1) (fun e => Q e ∧ ¬ pE t h (x :: I ++ [y]) e) := sorry
/-- a piece has two ends -/
theorem DI.two {t h : Int → Int} {X : Int → Prop} {N : Nat} {F : Nat → List Int} {n : Nat} {Q : Int → Prop} (D : DI t h X N F n Q) (hs : smp t h X) (b2 : B2 t h X) {e d : Int} (he : Q e) (hd : X d) (hdq : ¬ Q d) :
    ∃ x I y, Dr F n x ∧ Dr F n y ∧ (∀ v, v ∈ I → ¬ Dr F n v) ∧ (x :: I ++ [y]).Nodup ∧ chn (jq t h (cn t h (Dr F n) Q e)) (x :: I ++ [y]) := sorry
end
section
/-! ===== the least of the shortest ways ===== -/
/-- W leads from a to G -/
def pw (E : Int → Int → Prop) (G : Int → Prop) : Int → List Int → Prop
  | a, [] => G a
  | a, j :: W => E a j ∧ pw E G j W
def lex : List Int → List Int → Prop
  | [], _ => True
  | _ :: _, [] => False
  | a :: l, b :: l' => a < b ∨ (a = b ∧ lex l l')
theorem lex_rf : ∀ l : List Int, lex l l := sorry
theorem lex_tot : ∀ l l' : List Int, l.length = l'.length → lex l l' ∨ lex l' l := sorry
theorem lex_as : ∀ l l' : List Int, l.length = l'.length → lex l l' → lex l' l → l = l' := sorry
theorem lex_tr : ∀ l l' l'' : List Int, l.length = l'.length → l'.length = l''.length → lex l l' → lex l' l'' → lex l l'' := sorry
/-- the least of the shortest -/
def LSw (E : Int → Int → Prop) (G : Int → Prop) (a : Int) (W : List Int) : Prop := pw E G a W ∧ ∀ W', pw E G a W' → W.length ≤ W'.length ∧ (W'.length = W.length → lex W W')
theorem LSw_un {E : Int → Int → Prop} {G : Int → Prop} {a : Int} {W W' : List Int} (h1 : LSw E G a W) (h2 : LSw E G a W') : W = W' := sorry
theorem LSw_nil {E : Int → Int → Prop} {G : Int → Prop} {a : Int} (h : G a) : LSw E G a [] := sorry
theorem LSw_cons {E : Int → Int → Prop} {G : Int → Prop} {a j : Int} {W : List Int} (hg : ¬ G a) (hj : E a j) (hW : LSw E G j W) (hb : ∀ j' W', E a j' → pw E G j' W' → W.length ≤ W'.length ∧ (W'.length = W.length → j ≤ j')) : LSw E G a (j :: W) := sorry
theorem pw_app {E : Int → Int → Prop} {G : Int → Prop} : ∀ {W1 : List Int} {a j : Int} {W2 : List Int}, pw E G a (W1 ++ j :: W2) ↔ pw E (· = j) a (W1 ++ [j]) ∧ pw E G j W2 := sorry
theorem pw_to {E : Int → Int → Prop} {G : Int → Prop} {W : List Int} {a j : Int} (q : pw E (· = j) a W) (g : G j) : pw E G a W := sorry
/-- no goal ahead of the end -/
theorem LSw_goal {E : Int → Int → Prop} {G : Int → Prop} {a : Int} {W1 : List Int} {j : Int} {W2 : List Int} (h : LSw E G a (W1 ++ j :: W2)) (hj : G j) : W2 = [] := sorry
/-- no node twice -/
theorem LSw_nd {E : Int → Int → Prop} {G : Int → Prop} {a : Int} {W : List Int} (h : LSw E G a W) : W.Nodup := sorry
theorem pw_chn {E : Int → Int → Prop} {G : Int → Prop} : ∀ {W : List Int} {a : Int}, pw E G a W → chn E (a :: W) := sorry
theorem chn_pw {E : Int → Int → Prop} {G : Int → Prop} : ∀ {W : List Int} {a y : Int}, chn E (a :: W ++ [y]) → G y → pw E G a (W ++ [y]) := sorry
/-- to one goal after the other: the best of them -/
theorem LSw_best {E : Int → Int → Prop} {G N : Int → Prop} (hE : ∀ a j, E a j → G j ∨ N j) (hGN : ∀ j, G j → ¬ N j) {a : Int} {W : List Int} {b : Int} (hb : G b) (hW : LSw (fun i j => E i j ∧ (j = b ∨ N j)) (· = b) a W)
    (hm : ∀ b' W', G b' → LSw (fun i j => E i j ∧ (j = b' ∨ N j)) (· = b') a W' → W.length ≤ W'.length ∧ (W'.length = W.length → lex W W')) (hx : ∀ b', G b' → (∃ W', pw (fun i j => E i j ∧ (j = b' ∨ N j)) (· = b') a W') → ∃ W', LSw (fun i j => E i j ∧ (j = b' ∨ N j)) (· = b') a W') : LSw E G a W := sorry
end
section
/-! ===== the step that both take ===== -/
def frst (t h : Int → Int) (F : Nat → List Int) (n : Nat) (Q : Int → Prop) (e : Int) : Prop := Q e ∧ ∀ f, cn t h (Dr F n) Q e f → e ≤ f
noncomputable def nft (t h : Int → Int) (F : Nat → List Int) (n : Nat) (Q : Int → Prop) (e : Int) : Nat := cnt (fun k => fit t h F n Q e k.toNat) n
def edp (t h : Int → Int) (F : Nat → List Int) (n : Nat) (Q : Int → Prop) (e v : Int) : Prop := Dr F n v ∧ tch t h (cn t h (Dr F n) Q e) v
def stE (t h : Int → Int) (F : Nat → List Int) (n : Nat) (Q : Int → Prop) (e x i j : Int) : Prop := jq t h (cn t h (Dr F n) Q e) i j ∧ ((edp t h F n Q e j ∧ j ≠ x) ∨ ¬ Dr F n j)
abbrev CS (t h : Int → Int) (F : Nat → List Int) (n : Nat) (Q : Int → Prop) (e0 : Int) (f0 : Nat) (x : Int) (A : List Int) (y : Int) (B I : List Int) : Prop := (frst t h F n Q e0) ∧ (∀ e, frst t h F n Q e → nft t h F n Q e0 ≤ nft t h F n Q e ∧ (nft t h F n Q e = nft t h F n Q e0 → e0 ≤ e)) ∧ (f0 < n) ∧ (fit t h F n Q e0 f0) ∧ (∀ k, k < f0 → ¬ fit t h F n Q e0 k) ∧ (edp t h F n Q e0 x) ∧ (∀ v, edp t h F n Q e0 v → x ≤ v) ∧ (LSw (stE t h F n Q e0 x) (fun j => edp t h F n Q e0 j ∧ j ≠ x) x (I ++ [y])) ∧ (cyc (F f0) (x :: A ++ y :: B))
theorem CS.fr {t h : Int → Int} {F : Nat → List Int} {n : Nat} {Q : Int → Prop} {e0 : Int} {f0 : Nat} {x : Int} {A : List Int} {y : Int} {B I : List Int} (H_ : CS t h F n Q e0 f0 x A y B I) : frst t h F n Q e0 := sorry
theorem CS.mn {t h : Int → Int} {F : Nat → List Int} {n : Nat} {Q : Int → Prop} {e0 : Int} {f0 : Nat} {x : Int} {A : List Int} {y : Int} {B I : List Int} (H_ : CS t h F n Q e0 f0 x A y B I) : ∀ e, frst t h F n Q e → nft t h F n Q e0 ≤ nft t h F n Q e ∧ (nft t h F n Q e = nft t h F n Q e0 → e0 ≤ e) := sorry
theorem CS.f0n {t h : Int → Int} {F : Nat → List Int} {n : Nat} {Q : Int → Prop} {e0 : Int} {f0 : Nat} {x : Int} {A : List Int} {y : Int} {B I : List Int} (H_ : CS t h F n Q e0 f0 x A y B I) : f0 < n := sorry
theorem CS.ft {t h : Int → Int} {F : Nat → List Int} {n : Nat} {Q : Int → Prop} {e0 : Int} {f0 : Nat} {x : Int} {A : List Int} {y : Int} {B I : List Int} (H_ : CS t h F n Q e0 f0 x A y B I) : fit t h F n Q e0 f0 := sorry
theorem CS.ff {t h : Int → Int} {F : Nat → List Int} {n : Nat} {Q : Int → Prop} {e0 : Int} {f0 : Nat} {x : Int} {A : List Int} {y : Int} {B I : List Int} (H_ : CS t h F n Q e0 f0 x A y B I) : ∀ k, k < f0 → ¬ fit t h F n Q e0 k := sorry
theorem CS.xe {t h : Int → Int} {F : Nat → List Int} {n : Nat} {Q : Int → Prop} {e0 : Int} {f0 : Nat} {x : Int} {A : List Int} {y : Int} {B I : List Int} (H_ : CS t h F n Q e0 f0 x A y B I) : edp t h F n Q e0 x := sorry
theorem CS.xl {t h : Int → Int} {F : Nat → List Int} {n : Nat} {Q : Int → Prop} {e0 : Int} {f0 : Nat} {x : Int} {A : List Int} {y : Int} {B I : List Int} (H_ : CS t h F n Q e0 f0 x A y B I) : ∀ v, edp t h F n Q e0 v → x ≤ v := sorry
theorem CS.ls {t h : Int → Int} {F : Nat → List Int} {n : Nat} {Q : Int → Prop} {e0 : Int} {f0 : Nat} {x : Int} {A : List Int} {y : Int} {B I : List Int} (H_ : CS t h F n Q e0 f0 x A y B I) : LSw (stE t h F n Q e0 x) (fun j => edp t h F n Q e0 j ∧ j ≠ x) x (I ++ [y]) := sorry
theorem CS.cy {t h : Int → Int} {F : Nat → List Int} {n : Nat} {Q : Int → Prop} {e0 : Int} {f0 : Nat} {x : Int} {A : List Int} {y : Int} {B I : List Int} (H_ : CS t h F n Q e0 f0 x A y B I) : cyc (F f0) (x :: A ++ y :: B) := sorry
theorem CS_un {t h : Int → Int} {F : Nat → List Int} {n : Nat} {Q : Int → Prop} {e0 e1 : Int} {f0 f1 : Nat} {x x1 : Int} {A A1 : List Int} {y y1 : Int} {B B1 I I1 : List Int} (hF : Fi F n) (C : CS t h F n Q e0 f0 x A y B I) (C1 : CS t h F n Q e1 f1 x1 A1 y1 B1 I1) :
    e0 = e1 ∧ f0 = f1 ∧ x = x1 ∧ A = A1 ∧ y = y1 ∧ B = B1 ∧ I = I1 := sorry
theorem CS.way {t h : Int → Int} {F : Nat → List Int} {n : Nat} {Q : Int → Prop} {e0 : Int} {f0 : Nat} {x : Int} {A : List Int} {y : Int} {B I : List Int} (C : CS t h F n Q e0 f0 x A y B I) :
    (x :: I ++ [y]).Nodup ∧ (∀ v, v ∈ I → ¬ Dr F n v) ∧ chn (jq t h (cn t h (Dr F n) Q e0)) (x :: I ++ [y]) := sorry
/-- a first edge of the piece -/
theorem frst_ex {t h : Int → Int} {F : Nat → List Int} {n : Nat} {Q : Int → Prop} {m : Nat} (hb : ∀ e, Q e → blw m e) {e : Int} (he : Q e) : ∃ f, cn t h (Dr F n) Q e f ∧ frst t h F n Q f := sorry
theorem cnt_two {P : Int → Prop} {n : Nat} (q : 2 ≤ cnt P n) : ∃ i j : Int, blw n i ∧ blw n j ∧ i ≠ j ∧ P i ∧ P j := sorry
/-- the step keeps what holds, and what can be drawn -/
theorem CS.ok {t h : Int → Int} {X : Int → Prop} {N m : Nat} {F : Nat → List Int} {n : Nat} {Q : Int → Prop} {e0 : Int} {f0 : Nat} {x : Int} {A : List Int} {y : Int} {B I : List Int} (D : DI t h X N F n Q) (hs : smp t h X) (hb : ∀ e, X e → blw m e) (hr : ∀ e, X e → blw N (t e) ∧ blw N (h e)) (C : CS t h F n Q e0 f0 x A y B I) :
    DI t h X N (spl F n f0 (x :: A ++ y :: I.reverse) (y :: B ++ x :: I)) (n + 1) (fun e => Q e ∧ ¬ pE t h (x :: I ++ [y]) e) ∧ (Gd t h F n Q ↔ Gd t h (spl F n f0 (x :: A ++ y :: I.reverse) (y :: B ++ x :: I)) (n + 1) (fun e => Q e ∧ ¬ pE t h (x :: I ++ [y]) e)) := sorry
/-- there is a way from an end of a piece to another one -/
theorem way_ex {t h : Int → Int} {F : Nat → List Int} {n : Nat} {Q : Int → Prop} {e x y : Int} (hx : edp t h F n Q e x) (hy : edp t h F n Q e y) (hne : y ≠ x) : ∃ W, pw (stE t h F n Q e x) (fun j => edp t h F n Q e j ∧ j ≠ x) x W := sorry
end
section
/-! ===== how far the goals are, and the way by the least next ones ===== -/
def sof (F : Int → Int) : Nat → Int
  | 0 => 0
  | n + 1 => sof F n + F n
theorem sof_c {F F' : Int → Int} : ∀ {n : Nat}, (∀ k : Int, 0 ≤ k → k < n → F k = F' k) → sof F n = sof F' n := sorry
theorem sof_u {F F' : Int → Int} {i : Int} : ∀ {n : Nat}, 0 ≤ i → i < n → (∀ k : Int, k ≠ i → F' k = F k) → sof F' n = sof F n + (F' i - F i) := sorry
theorem sof_0 {F : Int → Int} : ∀ {n : Nat}, (∀ k : Int, 0 ≤ k → k < n → 0 ≤ F k) → 0 ≤ sof F n := sorry
/-- lengths of ways to a goal, or none yet -/
def bfL (n : Nat) (E : Int → Int → Prop) (G : Int → Prop) (F : Int → Int) : Prop := ∀ i, blw n i → (0 ≤ F i ∧ F i ≤ 1000000) ∧ (G i → F i = 0) ∧ (F i < 1000000 → ∃ W, pw E G i W ∧ (W.length : Int) = F i)
theorem bfL_0 {n : Nat} {E : Int → Int → Prop} {G : Int → Prop} {F : Int → Int} (q : bfL n E G F) {i : Int} (hi : blw n i) : F i = 0 ↔ G i := sorry
theorem bfL_up {n : Nat} {E : Int → Int → Prop} {G : Int → Prop} {F F' : Int → Int} {i j : Int} (q : bfL n E G F) (hi : blw n i) (hj : blw n j) (hE : E i j) (hlt : F j + 1 < F i) (h1 : F' i = F j + 1) (h2 : ∀ k, k ≠ i → F' k = F k) : bfL n E G F' ∧ sof F' n < sof F n := sorry
/-- at the end -/
abbrev bfE (n : Nat) (E : Int → Int → Prop) (G S : Int → Prop) (F : Int → Int) : Prop := (bfL n E G F) ∧ (∀ i j, S i → E i j → F i ≤ F j + 1) ∧ (∀ i j, E i j → blw n i ∧ blw n j) ∧ (∀ i j, E i j → G j ∨ S j)
theorem bfE.l {n : Nat} {E : Int → Int → Prop} {G S : Int → Prop} {F : Int → Int} (H_ : bfE n E G S F) : bfL n E G F := sorry
theorem bfE.e {n : Nat} {E : Int → Int → Prop} {G S : Int → Prop} {F : Int → Int} (H_ : bfE n E G S F) : ∀ i j, S i → E i j → F i ≤ F j + 1 := sorry
theorem bfE.b {n : Nat} {E : Int → Int → Prop} {G S : Int → Prop} {F : Int → Int} (H_ : bfE n E G S F) : ∀ i j, E i j → blw n i ∧ blw n j := sorry
theorem bfE.s {n : Nat} {E : Int → Int → Prop} {G S : Int → Prop} {F : Int → Int} (H_ : bfE n E G S F) : ∀ i j, E i j → G j ∨ S j := sorry
theorem bfE.le {n : Nat} {E : Int → Int → Prop} {G S : Int → Prop} {F : Int → Int} (H : bfE n E G S F) : ∀ {W : List Int} {i : Int}, blw n i → S i ∨ G i → pw E G i W → F i ≤ W.length := sorry
theorem LSw_tl {E : Int → Int → Prop} {G : Int → Prop} {a j : Int} {W : List Int} (h : LSw E G a (j :: W)) : LSw E G j W := sorry
theorem bfE.ls {n : Nat} {E : Int → Int → Prop} {G S : Int → Prop} {F : Int → Int} (H : bfE n E G S F) : ∀ (k : Nat) (i : Int), blw n i → S i ∨ G i → F i = k → F i < 1000000 → ∃ W, LSw E G i W ∧ W.length = k := sorry
/-- the head of it is the least next one -/
theorem bfE.hd {n : Nat} {E : Int → Int → Prop} {G S : Int → Prop} {F : Int → Int} (H : bfE n E G S F) {i j : Int} {W : List Int} (hi : blw n i) (hS : S i) (L : LSw E G i (j :: W)) (hF : F i = W.length + 1) : E i j ∧ F j = W.length ∧ ∀ j', E i j' → F j' = W.length → j ≤ j' := sorry
theorem bfE.len {n : Nat} {E : Int → Int → Prop} {G S : Int → Prop} {F : Int → Int} (H : bfE n E G S F) {i : Int} {W : List Int} (hi : blw n i) (hS : S i ∨ G i) (L : LSw E G i W) : F i = W.length ∨ (F i = 1000000 ∧ 1000000 ≤ W.length) := sorry
theorem LSw_short {n : Nat} {E : Int → Int → Prop} {G : Int → Prop} (hb : ∀ i j, E i j → blw n i ∧ blw n j) {i : Int} {W : List Int} (L : LSw E G i W) : W.length ≤ n := sorry
end
section
/-! ===== Embedding: its fields, take ===== -/
def EF (v : Int → Int → Int) : Prop := v 152 0 = 153 ∧ v 152 1 = 154 ∧ v 152 4 = 155 ∧ v 152 6 = 156 ∧ v 152 9 = 157 ∧ v 152 10 = 158 ∧ v 152 11 = 159 ∧ v 152 12 = 160 ∧ v 152 13 = 161 ∧ v 152 15 = 162 ∧ v 152 16 = 163 ∧ v 152 18 = 164 ∧ v 152 19 = 165
theorem EF.k {v v' : Int → Int → Int} {F C : List Int} (hF : EF v) (K : KS 152 F C v v') (h : ∀ j, j ∈ F → j = 2 ∨ j = 3 ∨ j = 5 ∨ j = 7 ∨ j = 8 ∨ j = 14 ∨ j = 17) : EF v' := sorry
/-- e is of the list -/
def inL (m : Int) (L : Int → Int) (e : Int) : Prop := ∃ k, 0 ≤ k ∧ k < m ∧ L k = e
theorem inL_s {m : Int} {L : Int → Int} {e : Int} (h : 0 ≤ m) : inL (m + 1) L e ↔ inL m L e ∨ e = L m := sorry
set_option maxRecDepth 100000 in
theorem sp_Em_take {l : Launch} {D : qD} {d : Nat} {a b : Int} {h : qh} {Q : qQ} (hF : EF h.2) (m0 : 0 ≤ h.2 152 5 ∧ h.2 152 5 ≤ 72) (hL : ∀ k, 0 ≤ k → k < h.2 152 5 → 0 ≤ h.2 155 k ∧ h.2 155 k < 72)
    (hq : ∀ v, KS 152 [] [156] h.2 v → (∀ e, (inL (h.2 152 5) (h.2 155) e ∧ jn1 (h.2 153) (h.2 154) e a b → v 156 e = 0) ∧ (¬ (inL (h.2 152 5) (h.2 155) e ∧ jn1 (h.2 153) (h.2 154) e a b) → v 156 e = h.2 156 e)) → Q none (h.1, v)) :
    qM l D (d + 1, 0, 0) m_Em_take [.inr (.inr 152), .inl a, .inl b] h Q := sorry
theorem u152_153 {v : Int → Int → Int} {k z : Int} : up2 v 152 k z 153 = v 153 := sorry
theorem u152_154 {v : Int → Int → Int} {k z : Int} : up2 v 152 k z 154 = v 154 := sorry
theorem u152_155 {v : Int → Int → Int} {k z : Int} : up2 v 152 k z 155 = v 155 := sorry
theorem u152_156 {v : Int → Int → Int} {k z : Int} : up2 v 152 k z 156 = v 156 := sorry
theorem u152_157 {v : Int → Int → Int} {k z : Int} : up2 v 152 k z 157 = v 157 := sorry
theorem u152_158 {v : Int → Int → Int} {k z : Int} : up2 v 152 k z 158 = v 158 := sorry
theorem u152_159 {v : Int → Int → Int} {k z : Int} : up2 v 152 k z 159 = v 159 := sorry
theorem u152_160 {v : Int → Int → Int} {k z : Int} : up2 v 152 k z 160 = v 160 := sorry
theorem u152_161 {v : Int → Int → Int} {k z : Int} : up2 v 152 k z 161 = v 161 := sorry
theorem u152_162 {v : Int → Int → Int} {k z : Int} : up2 v 152 k z 162 = v 162 := sorry
theorem u152_163 {v : Int → Int → Int} {k z : Int} : up2 v 152 k z 163 = v 163 := sorry
theorem u152_164 {v : Int → Int → Int} {k z : Int} : up2 v 152 k z 164 = v 164 := sorry
theorem u152_165 {v : Int → Int → Int} {k z : Int} : up2 v 152 k z 165 = v 165 := sorry
theorem u156_152 {v : Int → Int → Int} {k z : Int} : up2 v 156 k z 152 = v 152 := sorry
theorem u156_153 {v : Int → Int → Int} {k z : Int} : up2 v 156 k z 153 = v 153 := sorry
theorem u156_154 {v : Int → Int → Int} {k z : Int} : up2 v 156 k z 154 = v 154 := sorry
theorem u156_155 {v : Int → Int → Int} {k z : Int} : up2 v 156 k z 155 = v 155 := sorry
theorem u156_157 {v : Int → Int → Int} {k z : Int} : up2 v 156 k z 157 = v 157 := sorry
theorem u156_158 {v : Int → Int → Int} {k z : Int} : up2 v 156 k z 158 = v 158 := sorry
theorem u156_159 {v : Int → Int → Int} {k z : Int} : up2 v 156 k z 159 = v 159 := sorry
theorem u156_160 {v : Int → Int → Int} {k z : Int} : up2 v 156 k z 160 = v 160 := sorry
theorem u156_161 {v : Int → Int → Int} {k z : Int} : up2 v 156 k z 161 = v 161 := sorry
theorem u156_162 {v : Int → Int → Int} {k z : Int} : up2 v 156 k z 162 = v 162 := sorry
theorem u156_163 {v : Int → Int → Int} {k z : Int} : up2 v 156 k z 163 = v 163 := sorry
theorem u156_164 {v : Int → Int → Int} {k z : Int} : up2 v 156 k z 164 = v 164 := sorry
theorem u156_165 {v : Int → Int → Int} {k z : Int} : up2 v 156 k z 165 = v 165 := sorry
theorem u157_152 {v : Int → Int → Int} {k z : Int} : up2 v 157 k z 152 = v 152 := sorry
theorem u157_153 {v : Int → Int → Int} {k z : Int} : up2 v 157 k z 153 = v 153 := sorry
theorem u157_154 {v : Int → Int → Int} {k z : Int} : up2 v 157 k z 154 = v 154 := sorry
theorem u157_155 {v : Int → Int → Int} {k z : Int} : up2 v 157 k z 155 = v 155 := sorry
theorem u157_156 {v : Int → Int → Int} {k z : Int} : up2 v 157 k z 156 = v 156 := sorry
theorem u157_158 {v : Int → Int → Int} {k z : Int} : up2 v 157 k z 158 = v 158 := sorry
theorem u157_159 {v : Int → Int → Int} {k z : Int} : up2 v 157 k z 159 = v 159 := sorry
theorem u157_160 {v : Int → Int → Int} {k z : Int} : up2 v 157 k z 160 = v 160 := sorry
theorem u157_161 {v : Int → Int → Int} {k z : Int} : up2 v 157 k z 161 = v 161 := sorry
theorem u157_162 {v : Int → Int → Int} {k z : Int} : up2 v 157 k z 162 = v 162 := sorry
theorem u157_163 {v : Int → Int → Int} {k z : Int} : up2 v 157 k z 163 = v 163 := sorry
theorem u157_164 {v : Int → Int → Int} {k z : Int} : up2 v 157 k z 164 = v 164 := sorry
theorem u157_165 {v : Int → Int → Int} {k z : Int} : up2 v 157 k z 165 = v 165 := sorry
theorem u158_152 {v : Int → Int → Int} {k z : Int} : up2 v 158 k z 152 = v 152 := sorry
theorem u158_153 {v : Int → Int → Int} {k z : Int} : up2 v 158 k z 153 = v 153 := sorry
theorem u158_154 {v : Int → Int → Int} {k z : Int} : up2 v 158 k z 154 = v 154 := sorry
theorem u158_155 {v : Int → Int → Int} {k z : Int} : up2 v 158 k z 155 = v 155 := sorry
theorem u158_156 {v : Int → Int → Int} {k z : Int} : up2 v 158 k z 156 = v 156 := sorry
theorem u158_157 {v : Int → Int → Int} {k z : Int} : up2 v 158 k z 157 = v 157 := sorry
theorem u158_159 {v : Int → Int → Int} {k z : Int} : up2 v 158 k z 159 = v 159 := sorry
theorem u158_160 {v : Int → Int → Int} {k z : Int} : up2 v 158 k z 160 = v 160 := sorry
theorem u158_161 {v : Int → Int → Int} {k z : Int} : up2 v 158 k z 161 = v 161 := sorry
theorem u158_162 {v : Int → Int → Int} {k z : Int} : up2 v 158 k z 162 = v 162 := sorry
theorem u158_163 {v : Int → Int → Int} {k z : Int} : up2 v 158 k z 163 = v 163 := sorry
theorem u158_164 {v : Int → Int → Int} {k z : Int} : up2 v 158 k z 164 = v 164 := sorry
theorem u158_165 {v : Int → Int → Int} {k z : Int} : up2 v 158 k z 165 = v 165 := sorry
theorem u159_152 {v : Int → Int → Int} {k z : Int} : up2 v 159 k z 152 = v 152 := sorry
theorem u159_153 {v : Int → Int → Int} {k z : Int} : up2 v 159 k z 153 = v 153 := sorry
theorem u159_154 {v : Int → Int → Int} {k z : Int} : up2 v 159 k z 154 = v 154 := sorry
theorem u159_155 {v : Int → Int → Int} {k z : Int} : up2 v 159 k z 155 = v 155 := sorry
theorem u159_156 {v : Int → Int → Int} {k z : Int} : up2 v 159 k z 156 = v 156 := sorry
theorem u159_157 {v : Int → Int → Int} {k z : Int} : up2 v 159 k z 157 = v 157 := sorry
theorem u159_158 {v : Int → Int → Int} {k z : Int} : up2 v 159 k z 158 = v 158 := sorry
theorem u159_160 {v : Int → Int → Int} {k z : Int} : up2 v 159 k z 160 = v 160 := sorry
theorem u159_161 {v : Int → Int → Int} {k z : Int} : up2 v 159 k z 161 = v 161 := sorry
theorem u159_162 {v : Int → Int → Int} {k z : Int} : up2 v 159 k z 162 = v 162 := sorry
theorem u159_163 {v : Int → Int → Int} {k z : Int} : up2 v 159 k z 163 = v 163 := sorry
theorem u159_164 {v : Int → Int → Int} {k z : Int} : up2 v 159 k z 164 = v 164 := sorry
theorem u159_165 {v : Int → Int → Int} {k z : Int} : up2 v 159 k z 165 = v 165 := sorry
theorem u160_152 {v : Int → Int → Int} {k z : Int} : up2 v 160 k z 152 = v 152 := sorry
theorem u160_153 {v : Int → Int → Int} {k z : Int} : up2 v 160 k z 153 = v 153 := sorry
theorem u160_154 {v : Int → Int → Int} {k z : Int} : up2 v 160 k z 154 = v 154 := sorry
theorem u160_155 {v : Int → Int → Int} {k z : Int} : up2 v 160 k z 155 = v 155 := sorry
theorem u160_156 {v : Int → Int → Int} {k z : Int} : up2 v 160 k z 156 = v 156 := sorry
theorem u160_157 {v : Int → Int → Int} {k z : Int} : up2 v 160 k z 157 = v 157 := sorry
theorem u160_158 {v : Int → Int → Int} {k z : Int} : up2 v 160 k z 158 = v 158 := sorry
theorem u160_159 {v : Int → Int → Int} {k z : Int} : up2 v 160 k z 159 = v 159 := sorry
theorem u160_161 {v : Int → Int → Int} {k z : Int} : up2 v 160 k z 161 = v 161 := sorry
theorem u160_162 {v : Int → Int → Int} {k z : Int} : up2 v 160 k z 162 = v 162 := sorry
theorem u160_163 {v : Int → Int → Int} {k z : Int} : up2 v 160 k z 163 = v 163 := sorry
theorem u160_164 {v : Int → Int → Int} {k z : Int} : up2 v 160 k z 164 = v 164 := sorry
theorem u160_165 {v : Int → Int → Int} {k z : Int} : up2 v 160 k z 165 = v 165 := sorry
theorem u161_152 {v : Int → Int → Int} {k z : Int} : up2 v 161 k z 152 = v 152 := sorry
theorem u161_153 {v : Int → Int → Int} {k z : Int} : up2 v 161 k z 153 = v 153 := sorry
theorem u161_154 {v : Int → Int → Int} {k z : Int} : up2 v 161 k z 154 = v 154 := sorry
theorem u161_155 {v : Int → Int → Int} {k z : Int} : up2 v 161 k z 155 = v 155 := sorry
theorem u161_156 {v : Int → Int → Int} {k z : Int} : up2 v 161 k z 156 = v 156 := sorry
theorem u161_157 {v : Int → Int → Int} {k z : Int} : up2 v 161 k z 157 = v 157 := sorry
theorem u161_158 {v : Int → Int → Int} {k z : Int} : up2 v 161 k z 158 = v 158 := sorry
theorem u161_159 {v : Int → Int → Int} {k z : Int} : up2 v 161 k z 159 = v 159 := sorry
theorem u161_160 {v : Int → Int → Int} {k z : Int} : up2 v 161 k z 160 = v 160 := sorry
theorem u161_162 {v : Int → Int → Int} {k z : Int} : up2 v 161 k z 162 = v 162 := sorry
theorem u161_163 {v : Int → Int → Int} {k z : Int} : up2 v 161 k z 163 = v 163 := sorry
theorem u161_164 {v : Int → Int → Int} {k z : Int} : up2 v 161 k z 164 = v 164 := sorry
theorem u161_165 {v : Int → Int → Int} {k z : Int} : up2 v 161 k z 165 = v 165 := sorry
theorem u162_152 {v : Int → Int → Int} {k z : Int} : up2 v 162 k z 152 = v 152 := sorry
theorem u162_153 {v : Int → Int → Int} {k z : Int} : up2 v 162 k z 153 = v 153 := sorry
theorem u162_154 {v : Int → Int → Int} {k z : Int} : up2 v 162 k z 154 = v 154 := sorry
theorem u162_155 {v : Int → Int → Int} {k z : Int} : up2 v 162 k z 155 = v 155 := sorry
theorem u162_156 {v : Int → Int → Int} {k z : Int} : up2 v 162 k z 156 = v 156 := sorry
theorem u162_157 {v : Int → Int → Int} {k z : Int} : up2 v 162 k z 157 = v 157 := sorry
theorem u162_158 {v : Int → Int → Int} {k z : Int} : up2 v 162 k z 158 = v 158 := sorry
theorem u162_159 {v : Int → Int → Int} {k z : Int} : up2 v 162 k z 159 = v 159 := sorry
theorem u162_160 {v : Int → Int → Int} {k z : Int} : up2 v 162 k z 160 = v 160 := sorry
theorem u162_161 {v : Int → Int → Int} {k z : Int} : up2 v 162 k z 161 = v 161 := sorry
theorem u162_163 {v : Int → Int → Int} {k z : Int} : up2 v 162 k z 163 = v 163 := sorry
theorem u162_164 {v : Int → Int → Int} {k z : Int} : up2 v 162 k z 164 = v 164 := sorry
theorem u162_165 {v : Int → Int → Int} {k z : Int} : up2 v 162 k z 165 = v 165 := sorry
theorem u163_152 {v : Int → Int → Int} {k z : Int} : up2 v 163 k z 152 = v 152 := sorry
theorem u163_153 {v : Int → Int → Int} {k z : Int} : up2 v 163 k z 153 = v 153 := sorry
theorem u163_154 {v : Int → Int → Int} {k z : Int} : up2 v 163 k z 154 = v 154 := sorry
theorem u163_155 {v : Int → Int → Int} {k z : Int} : up2 v 163 k z 155 = v 155 := sorry
theorem u163_156 {v : Int → Int → Int} {k z : Int} : up2 v 163 k z 156 = v 156 := sorry
theorem u163_157 {v : Int → Int → Int} {k z : Int} : up2 v 163 k z 157 = v 157 := sorry
theorem u163_158 {v : Int → Int → Int} {k z : Int} : up2 v 163 k z 158 = v 158 := sorry
theorem u163_159 {v : Int → Int → Int} {k z : Int} : up2 v 163 k z 159 = v 159 := sorry
theorem u163_160 {v : Int → Int → Int} {k z : Int} : up2 v 163 k z 160 = v 160 := sorry
theorem u163_161 {v : Int → Int → Int} {k z : Int} : up2 v 163 k z 161 = v 161 := sorry
theorem u163_162 {v : Int → Int → Int} {k z : Int} : up2 v 163 k z 162 = v 162 := sorry
theorem u163_164 {v : Int → Int → Int} {k z : Int} : up2 v 163 k z 164 = v 164 := sorry
theorem u163_165 {v : Int → Int → Int} {k z : Int} : up2 v 163 k z 165 = v 165 := sorry
theorem u164_152 {v : Int → Int → Int} {k z : Int} : up2 v 164 k z 152 = v 152 := sorry
theorem u164_153 {v : Int → Int → Int} {k z : Int} : up2 v 164 k z 153 = v 153 := sorry
theorem u164_154 {v : Int → Int → Int} {k z : Int} : up2 v 164 k z 154 = v 154 := sorry
theorem u164_155 {v : Int → Int → Int} {k z : Int} : up2 v 164 k z 155 = v 155 := sorry
theorem u164_156 {v : Int → Int → Int} {k z : Int} : up2 v 164 k z 156 = v 156 := sorry
theorem u164_157 {v : Int → Int → Int} {k z : Int} : up2 v 164 k z 157 = v 157 := sorry
theorem u164_158 {v : Int → Int → Int} {k z : Int} : up2 v 164 k z 158 = v 158 := sorry
theorem u164_159 {v : Int → Int → Int} {k z : Int} : up2 v 164 k z 159 = v 159 := sorry
theorem u164_160 {v : Int → Int → Int} {k z : Int} : up2 v 164 k z 160 = v 160 := sorry
theorem u164_161 {v : Int → Int → Int} {k z : Int} : up2 v 164 k z 161 = v 161 := sorry
theorem u164_162 {v : Int → Int → Int} {k z : Int} : up2 v 164 k z 162 = v 162 := sorry
theorem u164_163 {v : Int → Int → Int} {k z : Int} : up2 v 164 k z 163 = v 163 := sorry
theorem u164_165 {v : Int → Int → Int} {k z : Int} : up2 v 164 k z 165 = v 165 := sorry
theorem u165_152 {v : Int → Int → Int} {k z : Int} : up2 v 165 k z 152 = v 152 := sorry
theorem u165_153 {v : Int → Int → Int} {k z : Int} : up2 v 165 k z 153 = v 153 := sorry
theorem u165_154 {v : Int → Int → Int} {k z : Int} : up2 v 165 k z 154 = v 154 := sorry
theorem u165_155 {v : Int → Int → Int} {k z : Int} : up2 v 165 k z 155 = v 155 := sorry
theorem u165_156 {v : Int → Int → Int} {k z : Int} : up2 v 165 k z 156 = v 156 := sorry
theorem u165_157 {v : Int → Int → Int} {k z : Int} : up2 v 165 k z 157 = v 157 := sorry
theorem u165_158 {v : Int → Int → Int} {k z : Int} : up2 v 165 k z 158 = v 158 := sorry
theorem u165_159 {v : Int → Int → Int} {k z : Int} : up2 v 165 k z 159 = v 159 := sorry
theorem u165_160 {v : Int → Int → Int} {k z : Int} : up2 v 165 k z 160 = v 160 := sorry
theorem u165_161 {v : Int → Int → Int} {k z : Int} : up2 v 165 k z 161 = v 161 := sorry
theorem u165_162 {v : Int → Int → Int} {k z : Int} : up2 v 165 k z 162 = v 162 := sorry
theorem u165_163 {v : Int → Int → Int} {k z : Int} : up2 v 165 k z 163 = v 163 := sorry
theorem u165_164 {v : Int → Int → Int} {k z : Int} : up2 v 165 k z 164 = v 164 := sorry
end
section
/-! ===== Embedding.shortest ===== -/
/-- a step to a goal or over a node that may be gone over -/
def wE (T H : Int → Int) (A : Int → Prop) (gs ov i j : Int) : Prop := jq T H A i j ∧ (bt gs j ∨ bt ov j)
theorem nr_Em {a b c e : Int} (v : Int → Int → Int) (a0 : 0 ≤ a ∧ a < 25) (b0 : 0 ≤ b ∧ b < 25) :
    (f_Em_nearer a b c e v = 1 ∧ g_Em_nearer a b c e v = up2 v 163 a (v 163 b + 1) ∧ (v 163 b = 0 ∨ bt c b) ∧ v 163 b + 1 < v 163 a ∧ (a = e ∨ bt c a)) ∨
    (f_Em_nearer a b c e v = 0 ∧ g_Em_nearer a b c e v = v ∧ ¬ ((v 163 b = 0 ∨ bt c b) ∧ v 163 b + 1 < v 163 a ∧ (a = e ∨ bt c a))) := sorry
theorem pr_Em {a b c e : Int} {v : Int → Int → Int} (a0 : 0 ≤ a ∧ a < 25) (b0 : 0 ≤ b ∧ b < 25) (hv : 0 ≤ v 163 b ∧ v 163 b ≤ 1000000) : p_Em_nearer a b c e v := sorry
theorem ior01 {x y : Int} (hx : x = 0 ∨ x = 1) (hy : y = 0 ∨ y = 1) : z_ior x y = if x = 0 ∧ y = 0 then 0 else 1 := sorry
set_option maxRecDepth 100000 in
theorem Em_sh_down {l : Launch} {D : qD} {d : Nat} {a gs ov p : Int} {h : qh} {Q : qQ} {T H L B P : Int → Int} {m : Int} {A : Int → Prop} (hF : EF h.2) (n25 : h.2 152 2 = 25) (em : h.2 152 5 = m) (eT : h.2 153 = T) (eH : h.2 154 = H) (eL : h.2 155 = L) (eB : h.2 156 = B) (eP : h.2 160 = P) (m0 : 0 ≤ m ∧ m ≤ 72)
    (hL : ∀ k, 0 ≤ k → k < m → (0 ≤ L k ∧ L k < 72) ∧ (0 ≤ T (L k) ∧ T (L k) < 25) ∧ (0 ≤ H (L k) ∧ H (L k) < 25)) (hA : ∀ e, A e ↔ (inL m L e ∧ B e ≠ 0 ∧ (p = -1 ∨ P e = p))) (a0 : 0 ≤ a ∧ a < 25)
    (hq : ∀ v I y, KS 152 [17] [162, 163] h.2 v → LSw (wE T H A gs ov) (bt gs) a (I ++ [y]) → v 152 17 = I.length → (∀ k : Nat, k < I.length → v 162 k = I.getD k 0) → Q (some (.inl y)) (h.1, v)) :
    ∀ (W : List Int) (pre : List Int) (F : Int → Int) i v x7 x8 x9 x10 x11 (mo : Int), bfE 25 (wE T H A gs ov) (bt gs) (fun i => i = a ∨ bt ov i) F → v 163 = F → KS 152 [17] [162, 163] h.2 v → W ≠ [] → LSw (wE T H A gs ov) (bt gs) i W → F i = W.length → (i = a ∨ bt ov i) → blw 25 i → LSw (wE T H A gs ov) (bt gs) a (pre ++ W) → v 152 17 = pre.length → (∀ k : Nat, k < pre.length → v 162 k = pre.getD k 0) → qR l D (d + 2, 0, 0) m_Em_shortest 171 (fun r h' => Q r ((h'.1.1, h.1.2.1, h.1.2.2), h'.2)) [some (.inr (.inr 152)), some (.inl a), some (.inl gs), some (.inl ov), some (.inl p), some (.inl mo), some (.inl i), x7, x8, x9, x10, x11] [] ((h.1.1, 0, 0), v) := sorry
end
section
/-- a way that is not longer than there are nodes -/
theorem pw_short {n : Nat} {E : Int → Int → Prop} {G : Int → Prop} (hb : ∀ i j, E i j → blw n i ∧ blw n j) {a : Int} : ∀ (N : Nat) (W : List Int), W.length ≤ N → pw E G a W → ∃ W', pw E G a W' ∧ W'.length ≤ n := sorry
set_option maxRecDepth 100000 in
theorem sp_Em_shortest {l : Launch} {D : qD} {d : Nat} {a gs ov p : Int} {h : qh} {Q : qQ} {T H L B P : Int → Int} {m : Int} {A : Int → Prop} (hF : EF h.2) (n25 : h.2 152 2 = 25) (em : h.2 152 5 = m) (eT : h.2 153 = T) (eH : h.2 154 = H) (eL : h.2 155 = L) (eB : h.2 156 = B) (eP : h.2 160 = P) (m0 : 0 ≤ m ∧ m ≤ 72)
    (hL : ∀ k, 0 ≤ k → k < m → (0 ≤ L k ∧ L k < 72) ∧ (0 ≤ T (L k) ∧ T (L k) < 25) ∧ (0 ≤ H (L k) ∧ H (L k) < 25)) (hA : ∀ e, A e ↔ (inL m L e ∧ B e ≠ 0 ∧ (p = -1 ∨ P e = p))) (a0 : 0 ≤ a ∧ a < 25) (ag : ¬ bt gs a) (hex : ∃ W, pw (wE T H A gs ov) (bt gs) a W)
    (hq : ∀ v I y, KS 152 [17] [162, 163] h.2 v → LSw (wE T H A gs ov) (bt gs) a (I ++ [y]) → v 152 17 = I.length → (∀ k : Nat, k < I.length → v 162 k = I.getD k 0) → Q (some (.inl y)) (h.1, v)) :
    qM l D (d + 2, 0, 0) m_Em_shortest [.inr (.inr 152), .inl a, .inl gs, .inl ov, .inl p] h Q := sorry
end
section
/-! ===== Embedding: setOf, gather ===== -/
set_option maxRecDepth 100000 in
theorem sp_Em_setOf {l : Launch} {D : qD} {d : Nat} {f n : Int} {h : qh} {Q : qQ} (hF : EF h.2) (f0 : 0 ≤ f ∧ f < 48) (en : h.2 158 f = n) (n0 : 0 ≤ n ∧ n ≤ 26) (hv : ∀ k, 0 ≤ k → k < n → 0 ≤ h.2 157 (26 * f + k) ∧ h.2 157 (26 * f + k) < 25)
    (hq : ∀ z, i32 z → (∀ u, 0 ≤ u → u < 32 → (bt z u ↔ ∃ k, (0 ≤ k ∧ k < n) ∧ h.2 157 (26 * f + k) = u)) → Q (some (.inl z)) h) : qM l D (d + 1, 0, 0) m_Em_setOf [.inr (.inr 152), .inl f] h Q := sorry
set_option maxRecDepth 100000 in
theorem sp_Em_gather {l : Launch} {D : qD} {d : Nat} {fi pp dr m : Int} {T H L B P0 : Int → Int} {N : Int → Prop} {h : qh} {Q : qQ} (hF : EF h.2) (em : h.2 152 5 = m) (ed : h.2 152 7 = dr) (ep : h.2 152 14 = pp) (eT : h.2 153 = T) (eH : h.2 154 = H) (eL : h.2 155 = L) (eB : h.2 156 = B) (eP : h.2 160 = P0) (m0 : 0 ≤ m ∧ m ≤ 72) (p0 : 0 ≤ pp ∧ pp < 72)
    (hL : ∀ k, 0 ≤ k → k < m → (0 ≤ L k ∧ L k < 72) ∧ (0 ≤ T (L k) ∧ T (L k) < 25) ∧ (0 ≤ H (L k) ∧ H (L k) < 25)) (hN : ∀ u, 0 ≤ u → u < 25 → (bt dr u ↔ N u)) (hf : inL m L fi) (hfB : B fi ≠ 0) (hfP : P0 fi = -1)
    (hcl : ∀ e f v, (inL m L e ∧ B e ≠ 0) → (inL m L f ∧ B f ≠ 0) → P0 e ≠ -1 → (T e = v ∨ H e = v) → (T f = v ∨ H f = v) → ¬ N v → P0 f ≠ -1) (hpp : ∀ e, (inL m L e ∧ B e ≠ 0) → P0 e ≠ pp)
    (hq : ∀ v, KS 152 [] [160, 161] h.2 v → (∀ e, (cn T H N (fun e => inL m L e ∧ B e ≠ 0) fi e → v 160 e = pp) ∧ (¬ cn T H N (fun e => inL m L e ∧ B e ≠ 0) fi e → v 160 e = P0 e)) → (∀ j, j ≠ pp → v 161 j = h.2 161 j) → i32 (v 161 pp) → (∀ u, 0 ≤ u → u < 32 → (bt (v 161 pp) u ↔ u < 25 ∧ N u ∧ tch T H (cn T H N (fun e => inL m L e ∧ B e ≠ 0) fi) u)) → Q none (h.1, v)) :
    qM l D (d + 1, 0, 0) m_Em_gather [.inr (.inr 152), .inl fi] h Q := sorry
end
section
/-! ===== Embedding.lookPieces ===== -/
set_option maxRecDepth 100000 in
theorem sp_Em_lookPieces {l : Launch} {D : qD} {d : Nat} {dr m : Int} {T H L B : Int → Int} {N : Int → Prop} {h : qh} {Q : qQ} (hF : EF h.2) (em : h.2 152 5 = m) (ed : h.2 152 7 = dr) (eT : h.2 153 = T) (eH : h.2 154 = H) (eL : h.2 155 = L) (eB : h.2 156 = B) (m0 : 0 ≤ m ∧ m ≤ 72)
    (hL : ∀ k, 0 ≤ k → k < m → (0 ≤ L k ∧ L k < 72) ∧ (0 ≤ T (L k) ∧ T (L k) < 25) ∧ (0 ≤ H (L k) ∧ H (L k) < 25)) (hLi : ∀ j k, 0 ≤ j → j < k → k < m → L j < L k) (hN : ∀ u, 0 ≤ u → u < 25 → (bt dr u ↔ N u))
    (hq : ∀ v n (r : Int → Int), KS 152 [14] [160, 161] h.2 v → v 152 14 = n → (0 ≤ n ∧ n ≤ m) → (∀ p, 0 ≤ p → p < n → ((inL m L (r p) ∧ B (r p) ≠ 0) ∧ ∀ f, cn T H N (fun e => inL m L e ∧ B e ≠ 0) (r p) f → r p ≤ f ∧ v 160 f = p) ∧ i32 (v 161 p) ∧ ∀ u, 0 ≤ u → u < 32 → (bt (v 161 p) u ↔ u < 25 ∧ N u ∧ tch T H (cn T H N (fun e => inL m L e ∧ B e ≠ 0) (r p)) u)) → (∀ p q, 0 ≤ p → p < q → q < n → r p < r q) → (∀ e, (inL m L e ∧ B e ≠ 0) → (0 ≤ v 160 e ∧ v 160 e < n) ∧ cn T H N (fun e => inL m L e ∧ B e ≠ 0) (r (v 160 e)) e) → Q (some (.inl (if n ≤ 0 then 0 else 1))) (h.1, v)) :
    qM l D (d + 2, 0, 0) m_Em_lookPieces [.inr (.inr 152)] h Q := sorry
end
section
/-! ===== rows of numbers by their places ===== -/
def li (l : List Int) (k : Int) : Int := l.getD k.toNat 0
theorem li_ap1 {l1 l2 : List Int} {k : Int} (h1 : k < l1.length) (h0 : 0 ≤ k) : li (l1 ++ l2) k = li l1 k := sorry
theorem li_ap2 {l1 l2 : List Int} {k : Int} (h1 : l1.length ≤ k) : li (l1 ++ l2) k = li l2 (k - l1.length) := sorry
theorem li_c0 {a : Int} {l : List Int} : li (a :: l) 0 = a := sorry
theorem li_cs {a : Int} {l : List Int} {k : Int} (h : 1 ≤ k) : li (a :: l) k = li l (k - 1) := sorry
theorem li_mem {l : List Int} {k : Int} (h0 : 0 ≤ k) (h1 : k < l.length) : li l k ∈ l := sorry
theorem mem_li {l : List Int} {v : Int} (h : v ∈ l) : ∃ k : Int, (0 ≤ k ∧ k < l.length) ∧ li l k = v := sorry
theorem li_inj {l : List Int} (hn : l.Nodup) {j k : Int} (j0 : 0 ≤ j) (j1 : j < l.length) (k0 : 0 ≤ k) (k1 : k < l.length) (e : li l j = li l k) : j = k := sorry
theorem li_rev {l : List Int} {k : Int} (h0 : 0 ≤ k) (h1 : k < l.length) : li l.reverse k = li l (l.length - 1 - k) := sorry
theorem li_ext {l l' : List Int} (h : l.length = l'.length) (q : ∀ k : Int, 0 ≤ k → k < l.length → li l k = li l' k) : l = l' := sorry
theorem pE_li {t h : Int → Int} {e : Int} : ∀ {l : List Int}, pE t h l e ↔ ∃ j : Int, (0 ≤ j ∧ j + 1 < l.length) ∧ jn1 t h e (li l j) (li l (j + 1)) := sorry
/-- a row begun elsewhere -/
theorem li_rot {l1 l2 : List Int} {k : Int} (h0 : 0 ≤ k) (h1 : k < l1.length + l2.length) : li (l2 ++ l1) k = li (l1 ++ l2) (if l1.length + k < (l1.length : Int) + l2.length then l1.length + k else l1.length + k - (l1.length + l2.length)) := sorry
theorem tmod_2 {x n : Int} (h0 : 0 ≤ x) (h1 : x < 2 * n) : Int.tmod x n = if x < n then x else x - n := sorry
theorem cyc_li {c : List Int} {a : Int} {R : List Int} (h : cyc c (a :: R)) : ∃ r : Int, (0 ≤ r ∧ r < c.length) ∧ li c r = a ∧ (a :: R).length = c.length ∧ ∀ k : Int, 0 ≤ k → k < c.length → li (a :: R) k = li c (Int.tmod (r + k) c.length) := sorry
end
section
/-! ===== Embedding.split ===== -/
set_option maxRecDepth 100000 in
theorem sp_Em_split {l : Launch} {D : qD} {d : Nat} {f g a b m : Int} {T H L : Int → Int} {c A B I : List Int} {h : qh} {Q : qQ} (hF : EF h.2) (em : h.2 152 5 = m) (eg : h.2 152 8 = g) (eT : h.2 153 = T) (eH : h.2 154 = H) (eL : h.2 155 = L) (m0 : 0 ≤ m ∧ m ≤ 72) (f0 : 0 ≤ f ∧ f < g) (g0 : g < 48)
    (hL : ∀ k, 0 ≤ k → k < m → 0 ≤ L k ∧ L k < 72) (hc : ∀ j : Int, 0 ≤ j → j < c.length → h.2 157 (26 * f + j) = li c j) (hn : h.2 158 f = c.length) (nd : c.Nodup) (cy : cyc c (a :: A ++ b :: B)) (cr : ∀ u, u ∈ c → 0 ≤ u ∧ u < 25) (Ir : ∀ u, u ∈ I → 0 ≤ u ∧ u < 25) (l1 : (a :: A ++ b :: I.reverse).length ≤ 25) (l2 : (b :: B ++ a :: I).length ≤ 25)
    (hdr : i32 (h.2 152 7)) (hI : h.2 152 17 = I.length) (hIv : ∀ j : Int, 0 ≤ j → j < I.length → h.2 162 j = li I j)
    (hq : ∀ v, KS 152 [7, 8] [156, 157, 158, 159, 165] h.2 v → (∀ j : Int, 0 ≤ j → j < (a :: A ++ b :: I.reverse).length → v 157 (26 * f + j) = li (a :: A ++ b :: I.reverse) j) → (∀ j : Int, 0 ≤ j → j < (b :: B ++ a :: I).length → v 157 (26 * g + j) = li (b :: B ++ a :: I) j) → (∀ j, ¬ (26 * f ≤ j ∧ j < 26 * f + 26) → ¬ (26 * g ≤ j ∧ j < 26 * g + 26) → v 157 j = h.2 157 j) → v 158 f = (a :: A ++ b :: I.reverse).length → v 158 g = (b :: B ++ a :: I).length → (∀ j, j ≠ f → j ≠ g → v 158 j = h.2 158 j) → (∀ e, (inL m L e ∧ pE T H (a :: I ++ [b]) e → v 156 e = 0) ∧ (¬ (inL m L e ∧ pE T H (a :: I ++ [b]) e) → v 156 e = h.2 156 e)) → v 152 8 = g + 1 → i32 (v 152 7) → (∀ u, 0 ≤ u → u < 32 → (bt (v 152 7) u ↔ bt (h.2 152 7) u ∨ u ∈ I ++ [b])) → (∀ j, j ≠ f → j ≠ g → v 159 j = h.2 159 j) → (∀ u, 0 ≤ u → u < 32 → (bt (v 159 f) u ↔ u ∈ (a :: A ++ b :: I.reverse))) → (∀ u, 0 ≤ u → u < 32 → (bt (v 159 g) u ↔ u ∈ (b :: B ++ a :: I))) → Q none (h.1, v)) :
    qM l D (d + 2, 0, 0) m_Em_split [.inr (.inr 152), .inl f, .inl a, .inl b] h Q := sorry
end
section
/-! ===== Embedding.ring ===== -/
theorem pw_cg {E E' : Int → Int → Prop} {G G' R : Int → Prop} (hE : ∀ i j, E i j ↔ E' i j) (hG : ∀ j, R j → (G j ↔ G' j)) (hR : ∀ i j, E i j → R j) : ∀ {W : List Int} {a : Int}, R a → (pw E G a W ↔ pw E' G' a W) := sorry
theorem LSw_cg {E E' : Int → Int → Prop} {G G' R : Int → Prop} (hE : ∀ i j, E i j ↔ E' i j) (hG : ∀ j, R j → (G j ↔ G' j)) (hR : ∀ i j, E i j → R j) {W : List Int} {a : Int} (ha : R a) : LSw E G a W ↔ LSw E' G' a W := sorry
theorem LSw_st {E : Int → Int → Prop} {G : Int → Prop} {a : Int} {W : List Int} (h : LSw E G a W) : a ∉ W := sorry
set_option maxRecDepth 100000 in
theorem sp_Em_ring {l : Launch} {D : qD} {d : Nat} {a b m : Int} {T H L : Int → Int} {h : qh} {Q : qQ} (hF : EF h.2) (n25 : h.2 152 2 = 25) (em : h.2 152 5 = m) (eT : h.2 153 = T) (eH : h.2 154 = H) (eL : h.2 155 = L) (m0 : 1 ≤ m ∧ m ≤ 72)
    (hL : ∀ k, 0 ≤ k → k < m → (0 ≤ L k ∧ L k < 72) ∧ (0 ≤ T (L k) ∧ T (L k) < 25) ∧ (0 ≤ H (L k) ∧ H (L k) < 25)) (ea : T (L 0) = a) (eb : H (L 0) = b) (hS : ∀ e, inL m L e → h.2 156 e ≠ 0) (hab : a ≠ b)
    (nj : ∀ e, inL m L e → e ≠ L 0 → ¬ jn1 T H e a b) (ex : ∃ W, pw (jq T H (fun e => inL m L e ∧ e ≠ L 0)) (· = a) b W)
    (hq : ∀ v I, KS 152 [7, 8, 17] [156, 157, 158, 159, 162, 163] h.2 v → LSw (jq T H (fun e => inL m L e ∧ e ≠ L 0)) (· = a) b (I ++ [a]) → (∀ j : Int, 0 ≤ j → j < I.length + 2 → v 157 j = li (a :: b :: I) j) → (∀ j : Int, 0 ≤ j → j < I.length + 2 → v 157 (26 + j) = li (a :: (b :: I).reverse) j) → v 158 0 = I.length + 2 → v 158 1 = I.length + 2 → (∀ e, (inL m L e ∧ pE T H (cl (a :: b :: I)) e → v 156 e = 0) ∧ (¬ (inL m L e ∧ pE T H (cl (a :: b :: I)) e) → v 156 e = h.2 156 e ∨ e = L 0)) → v 152 8 = 2 → i32 (v 152 7) → (∀ u, 0 ≤ u → u < 32 → (bt (v 152 7) u ↔ u ∈ a :: b :: I)) → v 159 0 = v 152 7 → v 159 1 = v 152 7 → Q none (h.1, v)) :
    qM l D (d + 3, 0, 0) m_Em_ring [.inr (.inr 152)] h Q := sorry
end
section
/-! ===== the least bit, by the JDK's code ===== -/
theorem ntz_y {x : Int} {k : Nat} (h0 : 0 < x) (h1 : x < 33554432) (hk : bt x k) (hl : ∀ j : Int, 0 ≤ j → j < k → ¬ bt x j) : z_iand (z_ixor x (-1)) (x - 1) = z_ishl 1 k - 1 ∧ k ≤ 24 := sorry
theorem zu_131071_16 : z_iushr 131071 16 = 1 := sorry
theorem zu_262143_16 : z_iushr 262143 16 = 3 := sorry
theorem zu_524287_16 : z_iushr 524287 16 = 7 := sorry
theorem zu_1048575_16 : z_iushr 1048575 16 = 15 := sorry
theorem zu_2097151_16 : z_iushr 2097151 16 = 31 := sorry
theorem zu_4194303_16 : z_iushr 4194303 16 = 63 := sorry
theorem zu_8388607_16 : z_iushr 8388607 16 = 127 := sorry
theorem zu_16777215_16 : z_iushr 16777215 16 = 255 := sorry
theorem zu_511_8 : z_iushr 511 8 = 1 := sorry
theorem zu_1023_8 : z_iushr 1023 8 = 3 := sorry
theorem zu_2047_8 : z_iushr 2047 8 = 7 := sorry
theorem zu_4095_8 : z_iushr 4095 8 = 15 := sorry
theorem zu_8191_8 : z_iushr 8191 8 = 31 := sorry
theorem zu_16383_8 : z_iushr 16383 8 = 63 := sorry
theorem zu_32767_8 : z_iushr 32767 8 = 127 := sorry
theorem zu_65535_8 : z_iushr 65535 8 = 255 := sorry
theorem zu_31_4 : z_iushr 31 4 = 1 := sorry
theorem zu_63_4 : z_iushr 63 4 = 3 := sorry
theorem zu_127_4 : z_iushr 127 4 = 7 := sorry
theorem zu_255_4 : z_iushr 255 4 = 15 := sorry
theorem zu_7_2 : z_iushr 7 2 = 1 := sorry
theorem zu_15_2 : z_iushr 15 2 = 3 := sorry
theorem zu_1_1 : z_iushr 1 1 = 0 := sorry
theorem zu_3_1 : z_iushr 3 1 = 1 := sorry
theorem za_0_32 : z_iand 0 32 = 0 := sorry
set_option maxRecDepth 100000 in
theorem sp_Integer_ntz {l : Launch} {D : qD} {d k : Nat} {x : Int} {h : qh} {Q : qQ} (h0 : 0 < x) (h1 : x < 33554432) (hk : bt x k) (hl : ∀ j : Int, 0 ≤ j → j < k → ¬ bt x j) (hq : Q (some (.inl (k : Int))) h) : qM l D (d + 1, 0, 0) m_Integer_numberOfTrailingZeros [.inl x] h Q := sorry
end
section
/-! ===== the drawing, step by step ===== -/
def FA0 (c c1 : List Int) : Nat → List Int := fun k => if k = 0 then c else if k = 1 then c1 else []
def Rn (t h : Int → Int) (X : Int → Prop) (c c1 : List Int) : Nat → (Nat → List Int) → Nat → (Int → Prop) → Prop
  | 0, F, n, Q => n = 2 ∧ F = FA0 c c1 ∧ Q = fun g => X g ∧ ¬ pE t h (cl c) g
  | k + 1, F', n', Q' => ∃ F n Q e0 f0 x A y B I, Rn t h X c c1 k F n Q ∧ CS t h F n Q e0 f0 x A y B I ∧ n' = n + 1 ∧ F' = spl F n f0 (x :: A ++ y :: I.reverse) (y :: B ++ x :: I) ∧ Q' = fun e => Q e ∧ ¬ pE t h (x :: I ++ [y]) e
theorem Rn_ok {t h : Int → Int} {X : Int → Prop} {N m : Nat} {c c1 : List Int} (r : Rg t h X c) (hr : ∀ v, v ∈ c → blw N v) (h1 : cyc c.reverse c1) (hs : smp t h X) (hb : ∀ e, X e → blw m e) (hX : ∀ e, X e → blw N (t e) ∧ blw N (h e)) :
    ∀ (k : Nat) (F : Nat → List Int) (n : Nat) (Q : Int → Prop), Rn t h X c c1 k F n Q → DI t h X N F n Q ∧ (Gd t h F n Q ↔ RG t h X c) := sorry
theorem Rn_un {t h : Int → Int} {X : Int → Prop} {N m : Nat} {c c1 : List Int} (r : Rg t h X c) (hr : ∀ v, v ∈ c → blw N v) (h1 : cyc c.reverse c1) (hs : smp t h X) (hb : ∀ e, X e → blw m e) (hX : ∀ e, X e → blw N (t e) ∧ blw N (h e)) :
    ∀ (k : Nat) {F F' : Nat → List Int} {n n' : Nat} {Q Q' : Int → Prop}, Rn t h X c c1 k F n Q → Rn t h X c c1 k F' n' Q' → F = F' ∧ n = n' ∧ Q = Q' := sorry
theorem Rn_pre {t h : Int → Int} {X : Int → Prop} {c c1 : List Int} {k : Nat} : ∀ {j : Nat} {F : Nat → List Int} {n : Nat} {Q : Int → Prop}, k < j → Rn t h X c c1 j F n Q → ∃ F' n' Q' e, Rn t h X c c1 k F' n' Q' ∧ Q' e := sorry
/-- at the end both stand at the same -/
theorem Rn_end {t h : Int → Int} {X : Int → Prop} {N m : Nat} {c c1 : List Int} (r : Rg t h X c) (hr : ∀ v, v ∈ c → blw N v) (h1 : cyc c.reverse c1) (hs : smp t h X) (hb : ∀ e, X e → blw m e) (hX : ∀ e, X e → blw N (t e) ∧ blw N (h e))
    {k k' : Nat} {F F' : Nat → List Int} {n n' : Nat} {Q Q' : Int → Prop} (q : Rn t h X c c1 k F n Q) (q' : Rn t h X c c1 k' F' n' Q') (hQ : ∀ e, ¬ Q e) (hQ' : ∀ e, ¬ Q' e) : F = F' ∧ n = n' := sorry
set_option maxRecDepth 100000 in
theorem sp_Em_wayOf {l : Launch} {D : qD} {d : Nat} {p a : Int} {h : qh} {Q : qQ} {T H L B P : Int → Int} {m gs ov : Int} {A : Int → Prop} (hF : EF h.2) (n25 : h.2 152 2 = 25) (em : h.2 152 5 = m) (eT : h.2 153 = T) (eH : h.2 154 = H) (eL : h.2 155 = L) (eB : h.2 156 = B) (eP : h.2 160 = P) (m0 : 0 ≤ m ∧ m ≤ 72) (p0 : 0 ≤ p ∧ p < 72)
    (hL : ∀ k, 0 ≤ k → k < m → (0 ≤ L k ∧ L k < 72) ∧ (0 ≤ T (L k) ∧ T (L k) < 25) ∧ (0 ≤ H (L k) ∧ H (L k) < 25)) (hA : ∀ e, A e ↔ (inL m L e ∧ B e ≠ 0 ∧ (p = -1 ∨ P e = p))) (a0 : 0 ≤ a ∧ a < 25) (egs : z_iand (h.2 161 p) (z_ixor (z_ishl 1 a) (-1)) = gs) (eov : z_ixor (h.2 152 7) (-1) = ov) (ag : ¬ bt gs a) (hex : ∃ W, pw (wE T H A gs ov) (bt gs) a W)
    (hq : ∀ v I y, KS 152 [17] [162, 163] h.2 v → LSw (wE T H A gs ov) (bt gs) a (I ++ [y]) → v 152 17 = I.length → (∀ k : Nat, k < I.length → v 162 k = I.getD k 0) → Q (some (.inl y)) (h.1, v)) :
    qM l D (d + 3, 0, 0) m_Em_wayOf [.inr (.inr 152), .inl p, .inl a] h Q := sorry
end
section
/-! ===== Embedding.draw ===== -/
theorem cnt_y {P : Int → Prop} {n : Nat} (q : P (n : Int)) : cnt P (n + 1) = cnt P n + 1 := sorry
theorem cnt_n {P : Int → Prop} {n : Nat} (q : ¬ P (n : Int)) : cnt P (n + 1) = cnt P n := sorry
theorem cnt_ex {P : Int → Prop} : ∀ {n : Nat}, 0 < cnt P n → ∃ k : Nat, k < n ∧ P (k : Int) := sorry
theorem Rn_sub {t h : Int → Int} {X : Int → Prop} {c c1 : List Int} : ∀ {k : Nat} {F : Nat → List Int} {n : Nat} {Q : Int → Prop} {e : Int}, Rn t h X c c1 k F n Q → Q e → ¬ pE t h (cl c) e := sorry
theorem pw_last {E : Int → Int → Prop} {G : Int → Prop} {y : Int} : ∀ {I : List Int} {a : Int}, pw E G a (I ++ [y]) → G y := sorry
theorem nat_least {P : Nat → Prop} : ∀ (N : Nat), (∃ k, k < N ∧ P k) → ∃ k, (k < N ∧ P k) ∧ ∀ j, j < k → ¬ P j := sorry
set_option maxRecDepth 100000 in
theorem sp_Em_draw {l : Launch} {D : qD} {d : Nat} {m : Int} {T H L : Int → Int} {h : qh} {Q : qQ} (hF : EF h.2) (n25 : h.2 152 2 = 25) (em : h.2 152 5 = m) (eT : h.2 153 = T) (eH : h.2 154 = H) (eL : h.2 155 = L) (m0 : 1 ≤ m ∧ m ≤ 72)
    (hL : ∀ k, 0 ≤ k → k < m → (0 ≤ L k ∧ L k < 72) ∧ (0 ≤ T (L k) ∧ T (L k) < 25) ∧ (0 ≤ H (L k) ∧ H (L k) < 25)) (hLi : ∀ j k, 0 ≤ j → j < k → k < m → L j < L k) (hs : smp T H (inL m L)) (hl : nlp T H (inL m L)) (b2 : B2 T H (inL m L))
    (q1 : m = 1 → ∀ v, KS 152 [7, 8, 14, 17] [156, 157, 158, 159, 160, 161, 162, 163, 165] h.2 v → v 152 8 = 0 → Q (some (.inl 1)) (h.1, v))
    (q2 : 2 ≤ m → ∀ v I k F n Qp, KS 152 [7, 8, 14, 17] [156, 157, 158, 159, 160, 161, 162, 163, 165] h.2 v → LSw (jq T H (fun e => inL m L e ∧ e ≠ L 0)) (· = T (L 0)) (H (L 0)) (I ++ [T (L 0)]) → Rn T H (inL m L) (T (L 0) :: H (L 0) :: I) (T (L 0) :: (H (L 0) :: I).reverse) k F n Qp → (∀ e, ¬ Qp e) → (∀ f : Nat, f < n → v 158 f = (F f).length ∧ ∀ j : Int, 0 ≤ j → j < (F f).length → v 157 (26 * f + j) = li (F f) j) → v 152 8 = n → Pd T H (inL m L) (L 0) → Q (some (.inl 1)) (h.1, v))
    (q0 : 2 ≤ m → ∀ v, KS 152 [7, 8, 14, 17] [156, 157, 158, 159, 160, 161, 162, 163, 165] h.2 v → ¬ Pd T H (inL m L) (L 0) → Q (some (.inl 0)) (h.1, v)) :
    qM l D (d + 4, 0, 0) m_Em_draw [.inr (.inr 152)] h Q := sorry
end
section
/-! ===== the twin's drawing: fields, edgeOf, missing, firstFit, choose ===== -/
def MF (v : Int → Int → Int) : Prop := v 280 17 = 287 ∧ v 280 20 = 290 ∧ v 280 33 = 295 ∧ v 280 34 = 296 ∧ v 280 35 = 297 ∧ v 280 40 = 301 ∧ v 280 41 = 302 ∧ v 280 42 = 303 ∧ v 280 43 = 304 ∧ v 280 44 = 305 ∧ v 280 46 = 306 ∧ v 280 48 = 307 ∧ v 280 50 = 308 ∧ v 280 51 = 309 ∧ v 280 52 = 310
theorem TW.mf {v : Int → Int → Int} (h : TW v) : MF v := sorry
theorem MF.k {v v' : Int → Int → Int} {F C : List Int} (hF : MF v) (K : KS 280 F C v v') (h : ∀ j, j ∈ F → j = 31 ∨ j = 32 ∨ j = 39 ∨ j = 45 ∨ j = 49 ∨ j = 53) : MF v' := sorry
theorem t280_287 {v : Int → Int → Int} {k z : Int} : up2 v 280 k z 287 = v 287 := sorry
theorem t280_290 {v : Int → Int → Int} {k z : Int} : up2 v 280 k z 290 = v 290 := sorry
theorem t280_295 {v : Int → Int → Int} {k z : Int} : up2 v 280 k z 295 = v 295 := sorry
theorem t280_296 {v : Int → Int → Int} {k z : Int} : up2 v 280 k z 296 = v 296 := sorry
theorem t280_297 {v : Int → Int → Int} {k z : Int} : up2 v 280 k z 297 = v 297 := sorry
theorem t280_301 {v : Int → Int → Int} {k z : Int} : up2 v 280 k z 301 = v 301 := sorry
theorem t280_302 {v : Int → Int → Int} {k z : Int} : up2 v 280 k z 302 = v 302 := sorry
theorem t280_303 {v : Int → Int → Int} {k z : Int} : up2 v 280 k z 303 = v 303 := sorry
theorem t280_304 {v : Int → Int → Int} {k z : Int} : up2 v 280 k z 304 = v 304 := sorry
theorem t280_305 {v : Int → Int → Int} {k z : Int} : up2 v 280 k z 305 = v 305 := sorry
theorem t280_306 {v : Int → Int → Int} {k z : Int} : up2 v 280 k z 306 = v 306 := sorry
theorem t280_307 {v : Int → Int → Int} {k z : Int} : up2 v 280 k z 307 = v 307 := sorry
theorem t280_308 {v : Int → Int → Int} {k z : Int} : up2 v 280 k z 308 = v 308 := sorry
theorem t280_309 {v : Int → Int → Int} {k z : Int} : up2 v 280 k z 309 = v 309 := sorry
theorem t280_310 {v : Int → Int → Int} {k z : Int} : up2 v 280 k z 310 = v 310 := sorry
theorem t290_280 {v : Int → Int → Int} {k z : Int} : up2 v 290 k z 280 = v 280 := sorry
theorem t290_287 {v : Int → Int → Int} {k z : Int} : up2 v 290 k z 287 = v 287 := sorry
theorem t290_295 {v : Int → Int → Int} {k z : Int} : up2 v 290 k z 295 = v 295 := sorry
theorem t290_296 {v : Int → Int → Int} {k z : Int} : up2 v 290 k z 296 = v 296 := sorry
theorem t290_297 {v : Int → Int → Int} {k z : Int} : up2 v 290 k z 297 = v 297 := sorry
theorem t290_301 {v : Int → Int → Int} {k z : Int} : up2 v 290 k z 301 = v 301 := sorry
theorem t290_302 {v : Int → Int → Int} {k z : Int} : up2 v 290 k z 302 = v 302 := sorry
theorem t290_303 {v : Int → Int → Int} {k z : Int} : up2 v 290 k z 303 = v 303 := sorry
theorem t290_304 {v : Int → Int → Int} {k z : Int} : up2 v 290 k z 304 = v 304 := sorry
theorem t290_305 {v : Int → Int → Int} {k z : Int} : up2 v 290 k z 305 = v 305 := sorry
theorem t290_306 {v : Int → Int → Int} {k z : Int} : up2 v 290 k z 306 = v 306 := sorry
theorem t290_307 {v : Int → Int → Int} {k z : Int} : up2 v 290 k z 307 = v 307 := sorry
theorem t290_308 {v : Int → Int → Int} {k z : Int} : up2 v 290 k z 308 = v 308 := sorry
theorem t290_309 {v : Int → Int → Int} {k z : Int} : up2 v 290 k z 309 = v 309 := sorry
theorem t290_310 {v : Int → Int → Int} {k z : Int} : up2 v 290 k z 310 = v 310 := sorry
theorem t301_280 {v : Int → Int → Int} {k z : Int} : up2 v 301 k z 280 = v 280 := sorry
theorem t301_287 {v : Int → Int → Int} {k z : Int} : up2 v 301 k z 287 = v 287 := sorry
theorem t301_290 {v : Int → Int → Int} {k z : Int} : up2 v 301 k z 290 = v 290 := sorry
theorem t301_295 {v : Int → Int → Int} {k z : Int} : up2 v 301 k z 295 = v 295 := sorry
theorem t301_296 {v : Int → Int → Int} {k z : Int} : up2 v 301 k z 296 = v 296 := sorry
theorem t301_297 {v : Int → Int → Int} {k z : Int} : up2 v 301 k z 297 = v 297 := sorry
theorem t301_302 {v : Int → Int → Int} {k z : Int} : up2 v 301 k z 302 = v 302 := sorry
theorem t301_303 {v : Int → Int → Int} {k z : Int} : up2 v 301 k z 303 = v 303 := sorry
theorem t301_304 {v : Int → Int → Int} {k z : Int} : up2 v 301 k z 304 = v 304 := sorry
theorem t301_305 {v : Int → Int → Int} {k z : Int} : up2 v 301 k z 305 = v 305 := sorry
theorem t301_306 {v : Int → Int → Int} {k z : Int} : up2 v 301 k z 306 = v 306 := sorry
theorem t301_307 {v : Int → Int → Int} {k z : Int} : up2 v 301 k z 307 = v 307 := sorry
theorem t301_308 {v : Int → Int → Int} {k z : Int} : up2 v 301 k z 308 = v 308 := sorry
theorem t301_309 {v : Int → Int → Int} {k z : Int} : up2 v 301 k z 309 = v 309 := sorry
theorem t301_310 {v : Int → Int → Int} {k z : Int} : up2 v 301 k z 310 = v 310 := sorry
theorem t302_280 {v : Int → Int → Int} {k z : Int} : up2 v 302 k z 280 = v 280 := sorry
theorem t302_287 {v : Int → Int → Int} {k z : Int} : up2 v 302 k z 287 = v 287 := sorry
theorem t302_290 {v : Int → Int → Int} {k z : Int} : up2 v 302 k z 290 = v 290 := sorry
theorem t302_295 {v : Int → Int → Int} {k z : Int} : up2 v 302 k z 295 = v 295 := sorry
theorem t302_296 {v : Int → Int → Int} {k z : Int} : up2 v 302 k z 296 = v 296 := sorry
theorem t302_297 {v : Int → Int → Int} {k z : Int} : up2 v 302 k z 297 = v 297 := sorry
theorem t302_301 {v : Int → Int → Int} {k z : Int} : up2 v 302 k z 301 = v 301 := sorry
theorem t302_303 {v : Int → Int → Int} {k z : Int} : up2 v 302 k z 303 = v 303 := sorry
theorem t302_304 {v : Int → Int → Int} {k z : Int} : up2 v 302 k z 304 = v 304 := sorry
theorem t302_305 {v : Int → Int → Int} {k z : Int} : up2 v 302 k z 305 = v 305 := sorry
theorem t302_306 {v : Int → Int → Int} {k z : Int} : up2 v 302 k z 306 = v 306 := sorry
theorem t302_307 {v : Int → Int → Int} {k z : Int} : up2 v 302 k z 307 = v 307 := sorry
theorem t302_308 {v : Int → Int → Int} {k z : Int} : up2 v 302 k z 308 = v 308 := sorry
theorem t302_309 {v : Int → Int → Int} {k z : Int} : up2 v 302 k z 309 = v 309 := sorry
theorem t302_310 {v : Int → Int → Int} {k z : Int} : up2 v 302 k z 310 = v 310 := sorry
theorem t303_280 {v : Int → Int → Int} {k z : Int} : up2 v 303 k z 280 = v 280 := sorry
theorem t303_287 {v : Int → Int → Int} {k z : Int} : up2 v 303 k z 287 = v 287 := sorry
theorem t303_290 {v : Int → Int → Int} {k z : Int} : up2 v 303 k z 290 = v 290 := sorry
theorem t303_295 {v : Int → Int → Int} {k z : Int} : up2 v 303 k z 295 = v 295 := sorry
theorem t303_296 {v : Int → Int → Int} {k z : Int} : up2 v 303 k z 296 = v 296 := sorry
theorem t303_297 {v : Int → Int → Int} {k z : Int} : up2 v 303 k z 297 = v 297 := sorry
theorem t303_301 {v : Int → Int → Int} {k z : Int} : up2 v 303 k z 301 = v 301 := sorry
theorem t303_302 {v : Int → Int → Int} {k z : Int} : up2 v 303 k z 302 = v 302 := sorry
theorem t303_304 {v : Int → Int → Int} {k z : Int} : up2 v 303 k z 304 = v 304 := sorry
theorem t303_305 {v : Int → Int → Int} {k z : Int} : up2 v 303 k z 305 = v 305 := sorry
theorem t303_306 {v : Int → Int → Int} {k z : Int} : up2 v 303 k z 306 = v 306 := sorry
theorem t303_307 {v : Int → Int → Int} {k z : Int} : up2 v 303 k z 307 = v 307 := sorry
theorem t303_308 {v : Int → Int → Int} {k z : Int} : up2 v 303 k z 308 = v 308 := sorry
theorem t303_309 {v : Int → Int → Int} {k z : Int} : up2 v 303 k z 309 = v 309 := sorry
theorem t303_310 {v : Int → Int → Int} {k z : Int} : up2 v 303 k z 310 = v 310 := sorry
theorem t304_280 {v : Int → Int → Int} {k z : Int} : up2 v 304 k z 280 = v 280 := sorry
theorem t304_287 {v : Int → Int → Int} {k z : Int} : up2 v 304 k z 287 = v 287 := sorry
theorem t304_290 {v : Int → Int → Int} {k z : Int} : up2 v 304 k z 290 = v 290 := sorry
theorem t304_295 {v : Int → Int → Int} {k z : Int} : up2 v 304 k z 295 = v 295 := sorry
theorem t304_296 {v : Int → Int → Int} {k z : Int} : up2 v 304 k z 296 = v 296 := sorry
theorem t304_297 {v : Int → Int → Int} {k z : Int} : up2 v 304 k z 297 = v 297 := sorry
theorem t304_301 {v : Int → Int → Int} {k z : Int} : up2 v 304 k z 301 = v 301 := sorry
theorem t304_302 {v : Int → Int → Int} {k z : Int} : up2 v 304 k z 302 = v 302 := sorry
theorem t304_303 {v : Int → Int → Int} {k z : Int} : up2 v 304 k z 303 = v 303 := sorry
theorem t304_305 {v : Int → Int → Int} {k z : Int} : up2 v 304 k z 305 = v 305 := sorry
theorem t304_306 {v : Int → Int → Int} {k z : Int} : up2 v 304 k z 306 = v 306 := sorry
theorem t304_307 {v : Int → Int → Int} {k z : Int} : up2 v 304 k z 307 = v 307 := sorry
theorem t304_308 {v : Int → Int → Int} {k z : Int} : up2 v 304 k z 308 = v 308 := sorry
theorem t304_309 {v : Int → Int → Int} {k z : Int} : up2 v 304 k z 309 = v 309 := sorry
theorem t304_310 {v : Int → Int → Int} {k z : Int} : up2 v 304 k z 310 = v 310 := sorry
theorem t305_280 {v : Int → Int → Int} {k z : Int} : up2 v 305 k z 280 = v 280 := sorry
theorem t305_287 {v : Int → Int → Int} {k z : Int} : up2 v 305 k z 287 = v 287 := sorry
theorem t305_290 {v : Int → Int → Int} {k z : Int} : up2 v 305 k z 290 = v 290 := sorry
theorem t305_295 {v : Int → Int → Int} {k z : Int} : up2 v 305 k z 295 = v 295 := sorry
theorem t305_296 {v : Int → Int → Int} {k z : Int} : up2 v 305 k z 296 = v 296 := sorry
theorem t305_297 {v : Int → Int → Int} {k z : Int} : up2 v 305 k z 297 = v 297 := sorry
theorem t305_301 {v : Int → Int → Int} {k z : Int} : up2 v 305 k z 301 = v 301 := sorry
theorem t305_302 {v : Int → Int → Int} {k z : Int} : up2 v 305 k z 302 = v 302 := sorry
theorem t305_303 {v : Int → Int → Int} {k z : Int} : up2 v 305 k z 303 = v 303 := sorry
theorem t305_304 {v : Int → Int → Int} {k z : Int} : up2 v 305 k z 304 = v 304 := sorry
theorem t305_306 {v : Int → Int → Int} {k z : Int} : up2 v 305 k z 306 = v 306 := sorry
theorem t305_307 {v : Int → Int → Int} {k z : Int} : up2 v 305 k z 307 = v 307 := sorry
theorem t305_308 {v : Int → Int → Int} {k z : Int} : up2 v 305 k z 308 = v 308 := sorry
theorem t305_309 {v : Int → Int → Int} {k z : Int} : up2 v 305 k z 309 = v 309 := sorry
theorem t305_310 {v : Int → Int → Int} {k z : Int} : up2 v 305 k z 310 = v 310 := sorry
theorem t306_280 {v : Int → Int → Int} {k z : Int} : up2 v 306 k z 280 = v 280 := sorry
theorem t306_287 {v : Int → Int → Int} {k z : Int} : up2 v 306 k z 287 = v 287 := sorry
theorem t306_290 {v : Int → Int → Int} {k z : Int} : up2 v 306 k z 290 = v 290 := sorry
theorem t306_295 {v : Int → Int → Int} {k z : Int} : up2 v 306 k z 295 = v 295 := sorry
theorem t306_296 {v : Int → Int → Int} {k z : Int} : up2 v 306 k z 296 = v 296 := sorry
theorem t306_297 {v : Int → Int → Int} {k z : Int} : up2 v 306 k z 297 = v 297 := sorry
theorem t306_301 {v : Int → Int → Int} {k z : Int} : up2 v 306 k z 301 = v 301 := sorry
theorem t306_302 {v : Int → Int → Int} {k z : Int} : up2 v 306 k z 302 = v 302 := sorry
theorem t306_303 {v : Int → Int → Int} {k z : Int} : up2 v 306 k z 303 = v 303 := sorry
theorem t306_304 {v : Int → Int → Int} {k z : Int} : up2 v 306 k z 304 = v 304 := sorry
theorem t306_305 {v : Int → Int → Int} {k z : Int} : up2 v 306 k z 305 = v 305 := sorry
theorem t306_307 {v : Int → Int → Int} {k z : Int} : up2 v 306 k z 307 = v 307 := sorry
theorem t306_308 {v : Int → Int → Int} {k z : Int} : up2 v 306 k z 308 = v 308 := sorry
theorem t306_309 {v : Int → Int → Int} {k z : Int} : up2 v 306 k z 309 = v 309 := sorry
theorem t306_310 {v : Int → Int → Int} {k z : Int} : up2 v 306 k z 310 = v 310 := sorry
theorem t307_280 {v : Int → Int → Int} {k z : Int} : up2 v 307 k z 280 = v 280 := sorry
theorem t307_287 {v : Int → Int → Int} {k z : Int} : up2 v 307 k z 287 = v 287 := sorry
theorem t307_290 {v : Int → Int → Int} {k z : Int} : up2 v 307 k z 290 = v 290 := sorry
theorem t307_295 {v : Int → Int → Int} {k z : Int} : up2 v 307 k z 295 = v 295 := sorry
theorem t307_296 {v : Int → Int → Int} {k z : Int} : up2 v 307 k z 296 = v 296 := sorry
theorem t307_297 {v : Int → Int → Int} {k z : Int} : up2 v 307 k z 297 = v 297 := sorry
theorem t307_301 {v : Int → Int → Int} {k z : Int} : up2 v 307 k z 301 = v 301 := sorry
theorem t307_302 {v : Int → Int → Int} {k z : Int} : up2 v 307 k z 302 = v 302 := sorry
theorem t307_303 {v : Int → Int → Int} {k z : Int} : up2 v 307 k z 303 = v 303 := sorry
theorem t307_304 {v : Int → Int → Int} {k z : Int} : up2 v 307 k z 304 = v 304 := sorry
theorem t307_305 {v : Int → Int → Int} {k z : Int} : up2 v 307 k z 305 = v 305 := sorry
theorem t307_306 {v : Int → Int → Int} {k z : Int} : up2 v 307 k z 306 = v 306 := sorry
theorem t307_308 {v : Int → Int → Int} {k z : Int} : up2 v 307 k z 308 = v 308 := sorry
theorem t307_309 {v : Int → Int → Int} {k z : Int} : up2 v 307 k z 309 = v 309 := sorry
theorem t307_310 {v : Int → Int → Int} {k z : Int} : up2 v 307 k z 310 = v 310 := sorry
theorem t308_280 {v : Int → Int → Int} {k z : Int} : up2 v 308 k z 280 = v 280 := sorry
theorem t308_287 {v : Int → Int → Int} {k z : Int} : up2 v 308 k z 287 = v 287 := sorry
theorem t308_290 {v : Int → Int → Int} {k z : Int} : up2 v 308 k z 290 = v 290 := sorry
theorem t308_295 {v : Int → Int → Int} {k z : Int} : up2 v 308 k z 295 = v 295 := sorry
theorem t308_296 {v : Int → Int → Int} {k z : Int} : up2 v 308 k z 296 = v 296 := sorry
theorem t308_297 {v : Int → Int → Int} {k z : Int} : up2 v 308 k z 297 = v 297 := sorry
theorem t308_301 {v : Int → Int → Int} {k z : Int} : up2 v 308 k z 301 = v 301 := sorry
theorem t308_302 {v : Int → Int → Int} {k z : Int} : up2 v 308 k z 302 = v 302 := sorry
theorem t308_303 {v : Int → Int → Int} {k z : Int} : up2 v 308 k z 303 = v 303 := sorry
theorem t308_304 {v : Int → Int → Int} {k z : Int} : up2 v 308 k z 304 = v 304 := sorry
theorem t308_305 {v : Int → Int → Int} {k z : Int} : up2 v 308 k z 305 = v 305 := sorry
theorem t308_306 {v : Int → Int → Int} {k z : Int} : up2 v 308 k z 306 = v 306 := sorry
theorem t308_307 {v : Int → Int → Int} {k z : Int} : up2 v 308 k z 307 = v 307 := sorry
theorem t308_309 {v : Int → Int → Int} {k z : Int} : up2 v 308 k z 309 = v 309 := sorry
theorem t308_310 {v : Int → Int → Int} {k z : Int} : up2 v 308 k z 310 = v 310 := sorry
theorem t309_280 {v : Int → Int → Int} {k z : Int} : up2 v 309 k z 280 = v 280 := sorry
theorem t309_287 {v : Int → Int → Int} {k z : Int} : up2 v 309 k z 287 = v 287 := sorry
theorem t309_290 {v : Int → Int → Int} {k z : Int} : up2 v 309 k z 290 = v 290 := sorry
theorem t309_295 {v : Int → Int → Int} {k z : Int} : up2 v 309 k z 295 = v 295 := sorry
theorem t309_296 {v : Int → Int → Int} {k z : Int} : up2 v 309 k z 296 = v 296 := sorry
theorem t309_297 {v : Int → Int → Int} {k z : Int} : up2 v 309 k z 297 = v 297 := sorry
theorem t309_301 {v : Int → Int → Int} {k z : Int} : up2 v 309 k z 301 = v 301 := sorry
theorem t309_302 {v : Int → Int → Int} {k z : Int} : up2 v 309 k z 302 = v 302 := sorry
theorem t309_303 {v : Int → Int → Int} {k z : Int} : up2 v 309 k z 303 = v 303 := sorry
theorem t309_304 {v : Int → Int → Int} {k z : Int} : up2 v 309 k z 304 = v 304 := sorry
theorem t309_305 {v : Int → Int → Int} {k z : Int} : up2 v 309 k z 305 = v 305 := sorry
theorem t309_306 {v : Int → Int → Int} {k z : Int} : up2 v 309 k z 306 = v 306 := sorry
theorem t309_307 {v : Int → Int → Int} {k z : Int} : up2 v 309 k z 307 = v 307 := sorry
theorem t309_308 {v : Int → Int → Int} {k z : Int} : up2 v 309 k z 308 = v 308 := sorry
theorem t309_310 {v : Int → Int → Int} {k z : Int} : up2 v 309 k z 310 = v 310 := sorry
theorem t310_280 {v : Int → Int → Int} {k z : Int} : up2 v 310 k z 280 = v 280 := sorry
theorem t310_287 {v : Int → Int → Int} {k z : Int} : up2 v 310 k z 287 = v 287 := sorry
theorem t310_290 {v : Int → Int → Int} {k z : Int} : up2 v 310 k z 290 = v 290 := sorry
theorem t310_295 {v : Int → Int → Int} {k z : Int} : up2 v 310 k z 295 = v 295 := sorry
theorem t310_296 {v : Int → Int → Int} {k z : Int} : up2 v 310 k z 296 = v 296 := sorry
theorem t310_297 {v : Int → Int → Int} {k z : Int} : up2 v 310 k z 297 = v 297 := sorry
theorem t310_301 {v : Int → Int → Int} {k z : Int} : up2 v 310 k z 301 = v 301 := sorry
theorem t310_302 {v : Int → Int → Int} {k z : Int} : up2 v 310 k z 302 = v 302 := sorry
theorem t310_303 {v : Int → Int → Int} {k z : Int} : up2 v 310 k z 303 = v 303 := sorry
theorem t310_304 {v : Int → Int → Int} {k z : Int} : up2 v 310 k z 304 = v 304 := sorry
theorem t310_305 {v : Int → Int → Int} {k z : Int} : up2 v 310 k z 305 = v 305 := sorry
theorem t310_306 {v : Int → Int → Int} {k z : Int} : up2 v 310 k z 306 = v 306 := sorry
theorem t310_307 {v : Int → Int → Int} {k z : Int} : up2 v 310 k z 307 = v 307 := sorry
theorem t310_308 {v : Int → Int → Int} {k z : Int} : up2 v 310 k z 308 = v 308 := sorry
theorem t310_309 {v : Int → Int → Int} {k z : Int} : up2 v 310 k z 309 = v 309 := sorry
theorem f_at1 {e i : Int} {v : Int → Int → Int} : f_Mo_at_0 e i v = 1 ↔ (v 297 e ≠ 0 ∧ inc (v 295) (v 296) e i) := sorry
theorem f_at0 {e i : Int} {v : Int → Int → Int} : f_Mo_at_0 e i v = 0 ↔ ¬ (v 297 e ≠ 0 ∧ inc (v 295) (v 296) e i) := sorry
end
section
/-! ===== the twin: edgeOf, missing, drawWay ===== -/
theorem inc_jn2 {t h : Int → Int} {A : Int → Prop} (hl : nlp t h A) {e a b : Int} (he : A e) : (inc t h e a ∧ inc t h e b ∧ a ≠ b) ↔ jn1 t h e a b := sorry
set_option maxRecDepth 100000 in
theorem sp_Mo_edgeOf {l : Launch} {D : qD} {d : Nat} {a b : Int} {h : qh} {Q : qQ} (hF : MF h.2) (m0 : 0 ≤ h.2 280 32 ∧ h.2 280 32 ≤ 80) (hl : nlp (h.2 295) (h.2 296) (pA h.2))
    (hq : ∀ z, ((z = -1 ∧ ∀ e, pA h.2 e → ¬ jn1 (h.2 295) (h.2 296) e a b) ∨ (pA h.2 z ∧ jn1 (h.2 295) (h.2 296) z a b)) → Q (some (.inl z)) h) : qM l D (d + 2, 0, 0) m_Mo_edgeOf [.inr (.inr 280), .inl a, .inl b] h Q := sorry
set_option maxRecDepth 100000 in
theorem sp_Mo_missing {l : Launch} {D : qD} {d : Nat} {h : qh} {Q : qQ} (hF : MF h.2) (m0 : 0 ≤ h.2 280 32 ∧ h.2 280 32 ≤ 80)
    (q1 : (∃ e, (0 ≤ e ∧ e < h.2 280 32) ∧ h.2 304 e = 0) → Q (some (.inl 1)) h) (q0 : (∀ e, 0 ≤ e → e < h.2 280 32 → h.2 304 e ≠ 0) → Q (some (.inl 0)) h) : qM l D (d + 1, 0, 0) m_Mo_missing [.inr (.inr 280)] h Q := sorry
set_option maxRecDepth 100000 in
theorem sp_Mo_drawWay {l : Launch} {D : qD} {d : Nat} {W : List Int} {h : qh} {Q : qQ} (hF : MF h.2) (m0 : 0 ≤ h.2 280 32 ∧ h.2 280 32 ≤ 80) (hl : nlp (h.2 295) (h.2 296) (pA h.2)) (hs : smp (h.2 295) (h.2 296) (pA h.2)) (hW : h.2 280 45 = W.length) (lW : W.length ≤ 30) (hv : ∀ j : Int, 0 ≤ j → j < W.length → h.2 306 j = li W j) (Wr : ∀ u, u ∈ W → 0 ≤ u ∧ u < 26) (hc : chn (jq (h.2 295) (h.2 296) (pA h.2)) W)
    (hq : ∀ v, KS 280 [] [303, 304] h.2 v → (∀ u, (u ∈ W → v 303 u = 1) ∧ (u ∉ W → v 303 u = h.2 303 u)) → (∀ e, (pA h.2 e ∧ pE (h.2 295) (h.2 296) W e → v 304 e = 1) ∧ (¬ (pA h.2 e ∧ pE (h.2 295) (h.2 296) W e) → v 304 e = h.2 304 e)) → Q none (h.1, v)) : qM l D (d + 3, 0, 0) m_Mo_drawWay [.inr (.inr 280)] h Q := sorry
end
section
/-! ===== the twin: pieces ===== -/
theorem f_share {a b : Int} {v : Int → Int → Int} : f_Mo_shareNew a b v = 1 ↔ ∃ u, (v 295 a = u ∨ v 296 a = u) ∧ (v 295 b = u ∨ v 296 b = u) ∧ v 303 u = 0 := sorry
theorem p_share {a b : Int} {v : Int → Int → Int} (h1 : 0 ≤ a ∧ a < 80) (h2 : 0 ≤ b ∧ b < 80) (h3 : 0 ≤ v 295 a ∧ v 295 a < 26) (h4 : 0 ≤ v 296 a ∧ v 296 a < 26) : p_Mo_shareNew a b v := sorry
set_option maxRecDepth 100000 in
theorem sp_Mo_pieces {l : Launch} {D : qD} {d : Nat} {M : Int} {T H Nn Dn : Int → Int} {h : qh} {Q : qQ} (hF : MF h.2) (em : h.2 280 32 = M) (eT : h.2 295 = T) (eH : h.2 296 = H) (eN : h.2 303 = Nn) (eD : h.2 304 = Dn) (m0 : 0 ≤ M ∧ M ≤ 80) (hr : ∀ e, 0 ≤ e → e < M → (0 ≤ T e ∧ T e < 26) ∧ (0 ≤ H e ∧ H e < 26))
    (hq : ∀ v, KS 280 [] [305] h.2 v → (∀ e, (fun e => (0 ≤ e ∧ e < M) ∧ Dn e = 0) e → cn T H (fun u => Nn u ≠ 0) (fun e => (0 ≤ e ∧ e < M) ∧ Dn e = 0) e (v 305 e) ∧ ∀ f, cn T H (fun u => Nn u ≠ 0) (fun e => (0 ≤ e ∧ e < M) ∧ Dn e = 0) e f → v 305 e ≤ f ∧ v 305 f = v 305 e) → (∀ e, 0 ≤ e → e < M → Dn e ≠ 0 → v 305 e = -1) → Q none (h.1, v)) :
    qM l D (d + 2, 0, 0) m_Mo_pieces [.inr (.inr 280)] h Q := sorry
end
section
/-! ===== the twin: firstFit, choose, bits ===== -/
theorem f_fits {p f : Int} {v : Int → Int → Int} : (f_Mo_fitsFace p f v = 0 ↔ z_iand (v 308 p) (z_ixor (v 309 f) (-1)) ≠ 0) ∧ (f_Mo_fitsFace p f v ≠ 0 ↔ z_iand (v 308 p) (z_ixor (v 309 f) (-1)) = 0) := sorry
set_option maxRecDepth 100000 in
theorem sp_Mo_firstFit {l : Launch} {D : qD} {d : Nat} {p : Int} {h : qh} {Q : qQ} (hF : MF h.2) (n0 : 0 ≤ h.2 280 39 ∧ h.2 280 39 ≤ 120) (p0 : 0 ≤ p ∧ p < 80)
    (q1 : ∀ f, 0 ≤ f → f < h.2 280 39 → z_iand (h.2 308 p) (z_ixor (h.2 309 f) (-1)) = 0 → (∀ g, 0 ≤ g → g < f → ¬ z_iand (h.2 308 p) (z_ixor (h.2 309 g) (-1)) = 0) → Q (some (.inl f)) h) (q0 : (∀ g, 0 ≤ g → g < h.2 280 39 → ¬ z_iand (h.2 308 p) (z_ixor (h.2 309 g) (-1)) = 0) → Q (some (.inl (-1))) h) :
    qM l D (d + 2, 0, 0) m_Mo_firstFit [.inr (.inr 280), .inl p] h Q := sorry
set_option maxRecDepth 100000 in
theorem sp_Mo_choose {l : Launch} {D : qD} {d : Nat} {h : qh} {Q : qQ} (hF : MF h.2) (m0 : 0 ≤ h.2 280 32 ∧ h.2 280 32 ≤ 80) (n0 : 0 ≤ h.2 280 39 ∧ h.2 280 39 ≤ 120)
    (qn : (∃ p, (0 ≤ p ∧ p < h.2 280 32) ∧ h.2 305 p = p ∧ cnt (fun k => z_iand (h.2 308 (p)) (z_ixor (h.2 309 k) (-1)) = 0) (h.2 280 39).toNat = 0) → Q (some (.inl (-1))) h)
    (q0 : (∀ p, 0 ≤ p → p < h.2 280 32 → h.2 305 p ≠ p) → Q (some (.inl (-1))) h)
    (qy : ∀ b, 0 ≤ b → b < h.2 280 32 → h.2 305 b = b → (∀ p, 0 ≤ p → p < h.2 280 32 → h.2 305 p = p → 0 < cnt (fun k => z_iand (h.2 308 (p)) (z_ixor (h.2 309 k) (-1)) = 0) (h.2 280 39).toNat ∧ cnt (fun k => z_iand (h.2 308 (b)) (z_ixor (h.2 309 k) (-1)) = 0) (h.2 280 39).toNat ≤ cnt (fun k => z_iand (h.2 308 (p)) (z_ixor (h.2 309 k) (-1)) = 0) (h.2 280 39).toNat ∧ (cnt (fun k => z_iand (h.2 308 (p)) (z_ixor (h.2 309 k) (-1)) = 0) (h.2 280 39).toNat = cnt (fun k => z_iand (h.2 308 (b)) (z_ixor (h.2 309 k) (-1)) = 0) (h.2 280 39).toNat → b ≤ p)) → Q (some (.inl b)) h) :
    qM l D (d + 2, 0, 0) m_Mo_choose [.inr (.inr 280)] h Q := sorry
set_option maxRecDepth 100000 in
theorem sp_Mo_bits {l : Launch} {D : qD} {d : Nat} {M nf : Int} {T H Fm Fa Nn Dn P : Int → Int} {h : qh} {Q : qQ} (hF : MF h.2) (em : h.2 280 32 = M) (en : h.2 280 39 = nf) (eT : h.2 295 = T) (eH : h.2 296 = H) (eFm : h.2 301 = Fm) (eFa : h.2 302 = Fa) (eN : h.2 303 = Nn) (eD : h.2 304 = Dn) (eP : h.2 305 = P) (m0 : 0 ≤ M ∧ M ≤ 80) (n0 : 0 ≤ nf ∧ nf ≤ 120) (hr : ∀ e, 0 ≤ e → e < M → (0 ≤ T e ∧ T e < 26) ∧ (0 ≤ H e ∧ H e < 26)) (hP : ∀ e, 0 ≤ e → e < M → Dn e = 0 → 0 ≤ P e ∧ P e < M)
    (hfm : ∀ f, 0 ≤ f → f < nf → 0 ≤ Fm f ∧ Fm f ≤ 60 ∧ ∀ k, 0 ≤ k → k < Fm f → 0 ≤ Fa (60 * f + k) ∧ Fa (60 * f + k) < 26)
    (hq : ∀ v, KS 280 [] [308, 309] h.2 v → (∀ p, 0 ≤ p → p < M → i32 (v 308 p) ∧ ∀ u, 0 ≤ u → u < 32 → (bt (v 308 p) u ↔ (∃ e, (0 ≤ e ∧ e < M) ∧ Dn e = 0 ∧ P e = p ∧ (T e = u ∨ H e = u) ∧ Nn u ≠ 0))) → (∀ g, 0 ≤ g → g < nf → i32 (v 309 g) ∧ ∀ u, 0 ≤ u → u < 32 → (bt (v 309 g) u ↔ ∃ k, (0 ≤ k ∧ k < Fm g) ∧ Fa (60 * g + k) = u)) → Q none (h.1, v)) :
    qM l D (d + 2, 0, 0) m_Mo_bits [.inr (.inr 280)] h Q := sorry
end
section
/-! ===== the twin: shortest ===== -/
def tWE (T H : Int → Int) (A : Int → Prop) (Nn : Int → Int) (nw b i j : Int) : Prop := jq T H A i j ∧ (nw = 0 ∨ j = b ∨ Nn j = 0)
theorem nr_Mo {a b c e i : Int} (v : Int → Int → Int) :
    (f_Mo_closer a b c e i v = 1 ∧ g_Mo_closer a b c e i v = up2 v 307 a (v 307 b + 1) ∧ (i = 0 ∨ b = e ∨ v 303 b = 0) ∧ v 307 b + 1 < v 307 a ∧ (i = 0 ∨ a = c ∨ v 303 a = 0)) ∨
    (f_Mo_closer a b c e i v = 0 ∧ g_Mo_closer a b c e i v = v ∧ ¬ ((i = 0 ∨ b = e ∨ v 303 b = 0) ∧ v 307 b + 1 < v 307 a ∧ (i = 0 ∨ a = c ∨ v 303 a = 0))) := sorry
theorem pr_Mo {a b c e i : Int} {v : Int → Int → Int} (a0 : 0 ≤ a ∧ a < 26) (b0 : 0 ≤ b ∧ b < 26) (hv : 0 ≤ v 307 b ∧ v 307 b ≤ 1000000) : p_Mo_closer a b c e i v := sorry
theorem f_may {e : Int} {v : Int → Int → Int} : (f_Mo_mayGo e v = 0 ↔ ¬ (v 304 e = 0 ∧ (v 280 49 < 0 ∨ v 305 e = v 280 49))) ∧ (f_Mo_mayGo e v ≠ 0 ↔ (v 304 e = 0 ∧ (v 280 49 < 0 ∨ v 305 e = v 280 49))) := sorry
set_option maxRecDepth 100000 in
theorem sp_Mo_shortest {l : Launch} {D : qD} {d N : Nat} {a b nw M op : Int} {T H AL Nn Dn P : Int → Int} {h : qh} {Q : qQ} (hF : MF h.2) (en : h.2 280 31 = N) (em : h.2 280 32 = M) (eo : h.2 280 49 = op) (eT : h.2 295 = T) (eH : h.2 296 = H) (eA : h.2 297 = AL) (eN : h.2 303 = Nn) (eD : h.2 304 = Dn) (eP : h.2 305 = P) (n0 : N ≤ 25) (m0 : 0 ≤ M ∧ M ≤ 80) (hr : ∀ e, 0 ≤ e → e < M → (0 ≤ T e ∧ T e < N) ∧ (0 ≤ H e ∧ H e < N)) (hal : ∀ e, 0 ≤ e → e < M → Dn e = 0 → AL e ≠ 0) (hl : nlp T H (fun e => (0 ≤ e ∧ e < M) ∧ AL e ≠ 0)) (hs : smp T H (fun e => (0 ≤ e ∧ e < M) ∧ AL e ≠ 0)) (a0 : 0 ≤ a ∧ a < N) (b0 : 0 ≤ b ∧ b < N) (w0 : nw = 0 ∨ nw = 1)
    (hy : ∀ v W, KS 280 [45] [306, 307] h.2 v → LSw (tWE T H (fun e => (0 ≤ e ∧ e < M) ∧ Dn e = 0 ∧ (op < 0 ∨ P e = op)) Nn nw b) (· = b) a W → v 280 45 = W.length + 1 → (∀ j : Int, 0 ≤ j → j < W.length + 1 → v 306 j = li (a :: W) j) → Q none (h.1, v))
    (hn : ∀ v, KS 280 [45] [306, 307] h.2 v → (∀ W, ¬ pw (tWE T H (fun e => (0 ≤ e ∧ e < M) ∧ Dn e = 0 ∧ (op < 0 ∨ P e = op)) Nn nw b) (· = b) a W) → v 280 45 = 0 → Q none (h.1, v)) :
    qM l D (d + 3, 0, 0) m_Mo_shortest [.inr (.inr 280), .inl a, .inl b, .inl nw] h Q := sorry
end
section
/-! ===== the twin: wayOf ===== -/
theorem lex_at : ∀ {l l' : List Int} {k : Int}, l.length = l'.length → 0 ≤ k → k < l.length → (∀ j, 0 ≤ j → j < k → li l j = li l' j) → li l k < li l' k → lex l l' := sorry
theorem LSw_ex {n : Nat} {E : Int → Int → Prop} {G : Int → Prop} (hn : n < 1000000) (hb : ∀ i j, E i j → blw n i ∧ blw n j) {a : Int} (ha : blw n a) {W : List Int} (hW : pw E G a W) : ∃ W, LSw E G a W := sorry
theorem f_end {p i : Int} {v : Int → Int → Int} (h0 : 0 ≤ i) (h1 : i < 32) : (f_Mo_isEnd p i v = 0 ↔ ¬ bt (v 308 p) i) ∧ (f_Mo_isEnd p i v ≠ 0 ↔ bt (v 308 p) i) := sorry
set_option maxRecDepth 100000 in
theorem sp_Mo_wayOf {l : Launch} {D : qD} {d N : Nat} {p a M : Int} {T H AL Nn Dn P : Int → Int} {h : qh} {Q : qQ} (hF : MF h.2) (en : h.2 280 31 = N) (em : h.2 280 32 = M) (eT : h.2 295 = T) (eH : h.2 296 = H) (eA : h.2 297 = AL) (eN : h.2 303 = Nn) (eD : h.2 304 = Dn) (eP : h.2 305 = P) (n0 : N ≤ 25) (m0 : 0 ≤ M ∧ M ≤ 80) (p0 : 0 ≤ p ∧ p < 80) (hr : ∀ e, 0 ≤ e → e < M → (0 ≤ T e ∧ T e < N) ∧ (0 ≤ H e ∧ H e < N)) (hal : ∀ e, 0 ≤ e → e < M → Dn e = 0 → AL e ≠ 0) (hl : nlp T H (fun e => (0 ≤ e ∧ e < M) ∧ AL e ≠ 0)) (hs : smp T H (fun e => (0 ≤ e ∧ e < M) ∧ AL e ≠ 0)) (a0 : 0 ≤ a ∧ a < N) (ae : bt (h.2 308 p) a) (al : ∀ j, 0 ≤ j → j < a → ¬ bt (h.2 308 p) j)
    (hg : ∀ j : Int, (0 ≤ j ∧ j < (N : Int)) → bt (h.2 308 p) j → Nn j ≠ 0) (hex : ∃ W, pw (fun i j => jq T H (fun e => (0 ≤ e ∧ e < M) ∧ Dn e = 0 ∧ (p < 0 ∨ P e = p)) i j ∧ (((0 ≤ j ∧ j < (N : Int)) ∧ bt (h.2 308 p) j ∧ j ≠ a) ∨ Nn j = 0)) (fun j : Int => (0 ≤ j ∧ j < (N : Int)) ∧ bt (h.2 308 p) j ∧ j ≠ a) a W)
    (hq : ∀ v W, KS 280 [45, 49] [306, 307, 310] h.2 v → LSw (fun i j => jq T H (fun e => (0 ≤ e ∧ e < M) ∧ Dn e = 0 ∧ (p < 0 ∨ P e = p)) i j ∧ (((0 ≤ j ∧ j < (N : Int)) ∧ bt (h.2 308 p) j ∧ j ≠ a) ∨ Nn j = 0)) (fun j : Int => (0 ≤ j ∧ j < (N : Int)) ∧ bt (h.2 308 p) j ∧ j ≠ a) a W → v 280 45 = W.length + 1 → (∀ j : Int, 0 ≤ j → j < W.length + 1 → v 306 j = li (a :: W) j) → v 280 49 = -1 → Q none (h.1, v)) :
    qM l D (d + 4, 0, 0) m_Mo_wayOf [.inr (.inr 280), .inl p] h Q := sorry
end
section
/-! ===== the twin: split ===== -/
set_option maxRecDepth 100000 in
theorem sp_Mo_split {l : Launch} {D : qD} {d : Nat} {f g a b : Int} {c A B I : List Int} {h : qh} {Q : qQ} (hF : MF h.2) (eg : h.2 280 39 = g) (f0 : 0 ≤ f ∧ f < g) (g0 : g < 120)
    (hc : ∀ j : Int, 0 ≤ j → j < c.length → h.2 302 (60 * f + j) = li c j) (hn : h.2 301 f = c.length) (nd : c.Nodup) (cy : cyc c (a :: A ++ b :: B)) (cr : ∀ u, u ∈ c → 0 ≤ u ∧ u < 26) (l1 : (a :: A ++ b :: I.reverse).length ≤ 26) (l2 : (b :: B ++ a :: I).length ≤ 26)
    (hI : h.2 280 45 = I.length + 2) (hIv : ∀ j : Int, 0 ≤ j → j < I.length + 2 → h.2 306 j = li (a :: I ++ [b]) j)
    (hq : ∀ v, KS 280 [39] [290, 301, 302] h.2 v → (∀ j : Int, 0 ≤ j → j < (a :: A ++ b :: I.reverse).length → v 302 (60 * f + j) = li (a :: A ++ b :: I.reverse) j) → (∀ j : Int, 0 ≤ j → j < (b :: B ++ a :: I).length → v 302 (60 * g + j) = li (b :: B ++ a :: I) j) → (∀ j, ¬ (60 * f ≤ j ∧ j < 60 * f + 60) → ¬ (60 * g ≤ j ∧ j < 60 * g + 60) → v 302 j = h.2 302 j) → v 301 f = (a :: A ++ b :: I.reverse).length → v 301 g = (b :: B ++ a :: I).length → (∀ j, j ≠ f → j ≠ g → v 301 j = h.2 301 j) → v 280 39 = g + 1 → Q none (h.1, v)) :
    qM l D (d + 1, 0, 0) m_Mo_split [.inr (.inr 280), .inl f] h Q := sorry
end
section
/-! ===== the twin: draws ===== -/
theorem cn_N {t h : Int → Int} {N N' Q : Int → Prop} (hN : ∀ f v, Q f → (t f = v ∨ h f = v) → (N v ↔ N' v)) (e : Int) : cn t h N Q e = cn t h N' Q e := sorry
set_option maxRecDepth 100000 in
theorem Mo_dr_main {l : Launch} {D : qD} {d N : Nat} {bb M eL : Int} {T H AL BO : Int → Int} {h : qh} {Q : qQ} (hF : MF h.2) (en : h.2 280 31 = N) (em : h.2 280 32 = M) (eT : h.2 295 = T) (eH : h.2 296 = H) (eA : h.2 297 = AL) (eB : h.2 287 = BO) (n0 : N ≤ 25) (m0 : 0 ≤ M ∧ M ≤ 80) (hr : ∀ e, 0 ≤ e → e < M → (0 ≤ T e ∧ T e < N) ∧ (0 ≤ H e ∧ H e < N)) (hl : nlp T H (fun e => (0 ≤ e ∧ e < M) ∧ AL e ≠ 0)) (hs : smp T H (fun e => (0 ≤ e ∧ e < M) ∧ AL e ≠ 0)) (b2 : B2 T H (fun e => (0 ≤ e ∧ e < M) ∧ AL e ≠ 0 ∧ BO e = bb)) (xL : (fun e => (0 ≤ e ∧ e < M) ∧ AL e ≠ 0 ∧ BO e = bb) eL) (lL : ∀ e, (fun e => (0 ≤ e ∧ e < M) ∧ AL e ≠ 0 ∧ BO e = bb) e → eL ≤ e)
    (q2 : ∀ v I k F n Qp, KS 280 [39, 45, 49] [290, 301, 302, 303, 304, 305, 306, 307, 308, 309, 310] h.2 v → LSw (jq T H (fun e => (fun e => (0 ≤ e ∧ e < M) ∧ AL e ≠ 0 ∧ BO e = bb) e ∧ e ≠ eL)) (· = T eL) (H eL) (I ++ [T eL]) → Rn T H (fun e => (0 ≤ e ∧ e < M) ∧ AL e ≠ 0 ∧ BO e = bb) (T eL :: H eL :: I) (T eL :: (H eL :: I).reverse) k F n Qp → (∀ e, ¬ Qp e) → (∀ f : Nat, f < n → v 301 f = (F f).length ∧ ∀ j : Int, 0 ≤ j → j < (F f).length → v 302 (60 * f + j) = li (F f) j) → v 280 39 = n → v 280 49 = -1 → Pd T H (fun e => (0 ≤ e ∧ e < M) ∧ AL e ≠ 0 ∧ BO e = bb) eL → Q (some (.inl 1)) (h.1, v))
    (q0 : ∀ v, KS 280 [39, 45, 49] [290, 301, 302, 303, 304, 305, 306, 307, 308, 309, 310] h.2 v → v 280 49 = -1 → ¬ Pd T H (fun e => (0 ≤ e ∧ e < M) ∧ AL e ≠ 0 ∧ BO e = bb) eL → Q (some (.inl 0)) (h.1, v))  :
    ∀ I, LSw (jq T H (fun e => (fun e => (0 ≤ e ∧ e < M) ∧ AL e ≠ 0 ∧ BO e = bb) e ∧ e ≠ eL)) (· = T eL) (H eL) (I ++ [T eL]) → Rg T H (fun e => (0 ≤ e ∧ e < M) ∧ AL e ≠ 0 ∧ BO e = bb) (T eL :: H eL :: I) → (∀ v, v ∈ (T eL :: H eL :: I) → blw 25 v) → ∀ (G k : Nat) F n Qp v x2 (x3 : Int) x4 x5, cnt Qp 80 < G → KS 280 [39, 45, 49] [290, 301, 302, 303, 304, 305, 306, 307, 308, 309, 310] h.2 v → Rn T H (fun e => (0 ≤ e ∧ e < M) ∧ AL e ≠ 0 ∧ BO e = bb) (T eL :: H eL :: I) (T eL :: (H eL :: I).reverse) k F n Qp → (∀ f : Nat, f < n → v 301 f = (F f).length ∧ ∀ j : Int, 0 ≤ j → j < (F f).length → v 302 (60 * f + j) = li (F f) j) → v 280 39 = n → v 280 49 = -1 → (∀ u : Int, 0 ≤ u → u < N → (v 303 u ≠ 0 ↔ Dr F n u)) → (∀ e, 0 ≤ e → e < M → (v 304 e = 0 ↔ Qp e)) → qR l D (d + 5, 0, 0) m_Mo_draws 296 (fun r h' => Q r ((h'.1.1, h.1.2.1, h.1.2.2), h'.2)) [some (.inr (.inr 280)), some (.inl bb), x2, some (.inl x3), x4, x5] [] ((h.1.1, 0, 0), v) := sorry
end
section
/-! ===== the twin: draws ===== -/
set_option maxRecDepth 100000 in
theorem sp_Mo_draws {l : Launch} {D : qD} {d N : Nat} {bb M eL : Int} {T H AL BO : Int → Int} {h : qh} {Q : qQ} (hF : MF h.2) (en : h.2 280 31 = N) (em : h.2 280 32 = M) (eT : h.2 295 = T) (eH : h.2 296 = H) (eA : h.2 297 = AL) (eB : h.2 287 = BO) (n0 : N ≤ 25) (m0 : 0 ≤ M ∧ M ≤ 80) (hr : ∀ e, 0 ≤ e → e < M → (0 ≤ T e ∧ T e < N) ∧ (0 ≤ H e ∧ H e < N)) (hl : nlp T H (fun e => (0 ≤ e ∧ e < M) ∧ AL e ≠ 0)) (hs : smp T H (fun e => (0 ≤ e ∧ e < M) ∧ AL e ≠ 0)) (b2 : B2 T H (fun e => (0 ≤ e ∧ e < M) ∧ AL e ≠ 0 ∧ BO e = bb)) (xL : (fun e => (0 ≤ e ∧ e < M) ∧ AL e ≠ 0 ∧ BO e = bb) eL) (lL : ∀ e, (fun e => (0 ≤ e ∧ e < M) ∧ AL e ≠ 0 ∧ BO e = bb) e → eL ≤ e)
    (q2 : ∀ v I k F n Qp, KS 280 [39, 45, 49] [290, 301, 302, 303, 304, 305, 306, 307, 308, 309, 310] h.2 v → LSw (jq T H (fun e => (fun e => (0 ≤ e ∧ e < M) ∧ AL e ≠ 0 ∧ BO e = bb) e ∧ e ≠ eL)) (· = T eL) (H eL) (I ++ [T eL]) → Rn T H (fun e => (0 ≤ e ∧ e < M) ∧ AL e ≠ 0 ∧ BO e = bb) (T eL :: H eL :: I) (T eL :: (H eL :: I).reverse) k F n Qp → (∀ e, ¬ Qp e) → (∀ f : Nat, f < n → v 301 f = (F f).length ∧ ∀ j : Int, 0 ≤ j → j < (F f).length → v 302 (60 * f + j) = li (F f) j) → v 280 39 = n → v 280 49 = -1 → Pd T H (fun e => (0 ≤ e ∧ e < M) ∧ AL e ≠ 0 ∧ BO e = bb) eL → Q (some (.inl 1)) (h.1, v))
    (q0 : ∀ v, KS 280 [39, 45, 49] [290, 301, 302, 303, 304, 305, 306, 307, 308, 309, 310] h.2 v → v 280 49 = -1 → ¬ Pd T H (fun e => (0 ≤ e ∧ e < M) ∧ AL e ≠ 0 ∧ BO e = bb) eL → Q (some (.inl 0)) (h.1, v)) (eo : h.2 280 49 = -1)
    (q1 : (∀ e, (fun e => (0 ≤ e ∧ e < M) ∧ AL e ≠ 0 ∧ BO e = bb) e → e = eL) → ∀ v, KS 280 [39, 45, 49] [290, 301, 302, 303, 304, 305, 306, 307, 308, 309, 310] h.2 v → v 280 39 = 0 → v 280 49 = -1 → Q (some (.inl 1)) (h.1, v)) :
    qM l D (d + 5, 0, 0) m_Mo_draws [.inr (.inr 280), .inl bb] h Q := sorry
end
section
/-! ===== the order round a node, told by the faces ===== -/
/-- i stands behind u in the ring -/
def pq (c : List Int) (u i : Int) : Prop := ∃ R, cyc c (u :: i :: R)
def lc (l : List Int) (u i : Int) : Prop := ∃ s t, l = s ++ u :: i :: t
theorem lc_ap {l1 l2 : List Int} {a u i : Int} : lc (l1 ++ a :: l2) u i ↔ lc (l1 ++ [a]) u i ∨ lc (a :: l2) u i := sorry
theorem pq_cyc {c c' : List Int} (h : cyc c c') {u i : Int} : pq c u i ↔ pq c' u i := sorry
theorem pq_mem {c : List Int} {u i : Int} (q : pq c u i) : u ∈ c ∧ i ∈ c := sorry
/-- along the one stretch or along the other one -/
theorem pq_two {c : List Int} {r : Int} {A : List Int} {s : Int} {B : List Int} (h : cyc c (r :: A ++ s :: B)) {u i : Int} : pq c u i ↔ lc (r :: A ++ [s]) u i ∨ lc (s :: B ++ [r]) u i := sorry
theorem pq_un {c : List Int} (hn : c.Nodup) {u i w : Int} (h1 : pq c u i) (h2 : pq c u w) : i = w := sorry
theorem pq_un' {c : List Int} (hn : c.Nodup) {u i w : Int} (h1 : pq c u i) (h2 : pq c w i) : u = w := sorry
theorem pq_nx {c : List Int} {u : Int} (h : u ∈ c) (hl : 2 ≤ c.length) : ∃ i, pq c u i := sorry
theorem lc_mem {l : List Int} {u i : Int} (q : lc l u i) : u ∈ l ∧ i ∈ l := sorry
theorem lc_rev {l : List Int} {u i : Int} (q : lc l u i) : lc l.reverse i u := sorry
/-- the order round each node -/
abbrev RS (F : Nat → List Int) (n : Nat) : Prop := (∀ f g u i, f < n → g < n → pq (F f) u i → pq (F g) u i → f = g) ∧ (∀ i, Dr F n i → ∃ L : List Int, L.Nodup ∧ 2 ≤ L.length ∧ (∀ u, u ∈ L ↔ ∃ f, f < n ∧ pq (F f) u i) ∧ ∀ u w, pq L u w → ∃ f, f < n ∧ pq (F f) u i ∧ pq (F f) i w)
theorem RS.un {F : Nat → List Int} {n : Nat} (H_ : RS F n) : ∀ f g u i, f < n → g < n → pq (F f) u i → pq (F g) u i → f = g := sorry
theorem RS.rd {F : Nat → List Int} {n : Nat} (H_ : RS F n) : ∀ i, Dr F n i → ∃ L : List Int, L.Nodup ∧ 2 ≤ L.length ∧ (∀ u, u ∈ L ↔ ∃ f, f < n ∧ pq (F f) u i) ∧ ∀ u w, pq L u w → ∃ f, f < n ∧ pq (F f) u i ∧ pq (F f) i w := sorry
theorem pq_rev {c : List Int} {u i : Int} : pq c.reverse u i ↔ pq c i u := sorry
theorem lc_fst {l : List Int} {z u i : Int} (q : lc (l ++ [z]) u i) : u ∈ l := sorry
theorem lc_li {l : List Int} {u i : Int} (q : lc l u i) : ∃ k : Int, (0 ≤ k ∧ k + 1 < l.length) ∧ li l k = u ∧ li l (k + 1) = i := sorry
theorem lc_as {l : List Int} (hn : l.Nodup) {u i : Int} (q : lc l u i) (q' : lc l i u) : False := sorry
/-- the order round the first end of the way -/
theorem RS_x {F : Nat → List Int} {n f0 : Nat} {x : Int} {A : List Int} {y : Int} {B I : List Int} (hn0 : (F f0).Nodup) (hcy : cyc (F f0) (x :: A ++ y :: B)) (n1 : (x :: A ++ y :: I.reverse).Nodup) (n2 : (y :: B ++ x :: I).Nodup) (hun : ∀ g u i, g < n → pq (F g) u i → pq (F f0) u i → g = f0)
    (L : List Int) (l1 : L.Nodup) (l2 : 2 ≤ L.length) (l3 : ∀ u, u ∈ L ↔ ∃ f, f < n ∧ pq (F f) u x) (l4 : ∀ u w, pq L u w → ∃ f, f < n ∧ pq (F f) u x ∧ pq (F f) x w) (hf0 : f0 < n)
    (hnew : ∀ f, f < n → ¬ pq (F f) ((I ++ [y]).headD 0) x) :
    ∃ L' : List Int, L'.Nodup ∧ 2 ≤ L'.length ∧ (∀ u, u ∈ L' ↔ ((∃ f, f < n ∧ f ≠ f0 ∧ pq (F f) u x) ∨ pq (x :: A ++ y :: I.reverse) u x ∨ pq (y :: B ++ x :: I) u x)) ∧ ∀ u w, pq L' u w → (∃ f, f < n ∧ f ≠ f0 ∧ pq (F f) u x ∧ pq (F f) x w) ∨ (pq (x :: A ++ y :: I.reverse) u x ∧ pq (x :: A ++ y :: I.reverse) x w) ∨ (pq (y :: B ++ x :: I) u x ∧ pq (y :: B ++ x :: I) x w) := sorry
theorem RS_ini {F : Nat → List Int} {c : List Int} (hc : c.Nodup) (hl : 3 ≤ c.length) (h0 : cyc c (F 0)) (h1 : cyc c.reverse (F 1)) : RS F 2 := sorry
theorem RS_spl {F : Nat → List Int} {n f0 : Nat} {x : Int} {A : List Int} {y : Int} {B I : List Int} (hF : Fi F n) (hR : RS F n) (hf0 : f0 < n) (hcy : cyc (F f0) (x :: A ++ y :: B)) (hw : (x :: I ++ [y]).Nodup) (hI : ∀ v, v ∈ I → ¬ Dr F n v)
    (hnew : I = [] → ∀ f, f < n → ¬ pq (F f) x y ∧ ¬ pq (F f) y x) : RS (spl F n f0 (x :: A ++ y :: I.reverse) (y :: B ++ x :: I)) (n + 1) := sorry
/-- the order round the nodes along a run -/
theorem Rn_RS {t h : Int → Int} {X : Int → Prop} {N m : Nat} {c c1 : List Int} (r : Rg t h X c) (hr : ∀ v, v ∈ c → blw N v) (h1 : cyc c.reverse c1) (hs : smp t h X) (hb : ∀ e, X e → blw m e) (hX : ∀ e, X e → blw N (t e) ∧ blw N (h e)) :
    ∀ (k : Nat) (F : Nat → List Int) (n : Nat) (Q : Int → Prop), Rn t h X c c1 k F n Q → RS F n := sorry
end
section
/-! ===== the twin: behind ===== -/
theorem pq_li {c : List Int} (hn : c.Nodup) (hl : 2 ≤ c.length) {u i : Int} : pq c u i ↔ ∃ k : Int, (0 ≤ k ∧ k < c.length) ∧ li c k = u ∧ li c (Int.tmod (k + 1) c.length) = i := sorry
/-- the one behind, and the one behind that -/
theorem pq_li2 {c : List Int} (hn : c.Nodup) (hl : 3 ≤ c.length) {u i w : Int} {k : Int} (k1 : 0 ≤ k ∧ k < c.length) (k2 : li c k = u) (h1 : pq c u i) (h2 : pq c i w) : li c (Int.tmod (k + 1) c.length) = i ∧ li c (Int.tmod (k + 2) c.length) = w := sorry
set_option maxRecDepth 100000 in
theorem sp_Mo_behind {l : Launch} {D : qD} {d n : Nat} {u i w : Int} {F : Nat → List Int} {h : qh} {Q : qQ} (hF : MF h.2) (en : h.2 280 39 = n) (n0 : n ≤ 120) (hf : Fi F n) (hR : RS F n) (hl : ∀ f, f < n → 3 ≤ (F f).length ∧ (F f).length ≤ 26)
    (rows : ∀ f : Nat, f < n → h.2 301 f = (F f).length ∧ ∀ j : Int, 0 ≤ j → j < (F f).length → h.2 302 (60 * f + j) = li (F f) j) (hw : ∃ f, f < n ∧ pq (F f) u i ∧ pq (F f) i w) (hq : Q (some (.inl w)) h) :
    qM l D (d + 1, 0, 0) m_Mo_behind [.inr (.inr 280), .inl u, .inl i] h Q := sorry
end
section
/-! ===== the twin: turnRound ===== -/
theorem v298 {v : Int → Int → Int} {k z b : Int} (h : b ≠ 298) : up2 v 298 k z b = v b := sorry
theorem v299 {v : Int → Int → Int} {k z b : Int} (h : b ≠ 299) : up2 v 299 k z b = v b := sorry
set_option maxRecDepth 100000 in
theorem sp_Mo_turnRound {l : Launch} {D : qD} {d n : Nat} {i bb M rm e1 : Int} {T H AL BO : Int → Int} {L : List Int} {F : Nat → List Int} {h : qh} {Q : qQ} (hF : MF h.2) (a36 : h.2 280 36 = 298) (a37 : h.2 280 37 = 299) (em : h.2 280 32 = M) (en : h.2 280 39 = n) (eT : h.2 295 = T) (eH : h.2 296 = H) (eA : h.2 297 = AL) (eB : h.2 287 = BO) (m0 : 0 ≤ M ∧ M ≤ 80) (n0 : 1 ≤ n ∧ n ≤ 120) (i0 : 0 ≤ i ∧ i < 26) (hl : nlp T H (fun e => (0 ≤ e ∧ e < M) ∧ AL e ≠ 0)) (hs : smp T H (fun e => (0 ≤ e ∧ e < M) ∧ AL e ≠ 0))
    (hf : Fi F n) (hR : RS F n) (hlen : ∀ f, f < n → 3 ≤ (F f).length ∧ (F f).length ≤ 26) (rows : ∀ f : Nat, f < n → h.2 301 f = (F f).length ∧ ∀ j : Int, 0 ≤ j → j < (F f).length → h.2 302 (60 * f + j) = li (F f) j)
    (l1 : L.Nodup) (l2 : 2 ≤ L.length) (l4 : ∀ u w, pq L u w → ∃ f, f < n ∧ pq (F f) u i ∧ pq (F f) i w) (lX : ∀ u, u ∈ L → ∃ e, (fun e => (0 ≤ e ∧ e < M) ∧ AL e ≠ 0 ∧ BO e = bb) e ∧ jn1 T H e i u)
    (x1 : (fun e => (0 ≤ e ∧ e < M) ∧ AL e ≠ 0 ∧ BO e = bb) e1) (j1 : jn1 T H e1 i (li L 0)) (f1 : ∀ e, (fun e => (0 ≤ e ∧ e < M) ∧ AL e ≠ 0 ∧ BO e = bb) e → inc T H e i → e1 ≤ e) (er : h.2 298 i = rm) (r0 : 0 ≤ rm ∧ rm + L.length ≤ 80)
    (hq : ∀ v, KS 280 [] [298, 299] h.2 v → v 298 i = rm + L.length → (∀ j, j ≠ i → v 298 j = h.2 298 j) → (∀ (k : Int) e, 0 ≤ k → k < L.length → (fun e => (0 ≤ e ∧ e < M) ∧ AL e ≠ 0 ∧ BO e = bb) e → jn1 T H e i (li L k) → v 299 (80 * i + rm + k) = e) → (∀ j, ¬ (80 * i + rm ≤ j ∧ j < 80 * i + rm + L.length) → v 299 j = h.2 299 j) → Q none (h.1, v)) :
    qM l D (d + 3, 0, 0) m_Mo_turnRound [.inr (.inr 280), .inl i, .inl bb] h Q := sorry
end
section
/-! ===== the twin: turnRound, nothing there or one edge alone ===== -/
set_option maxRecDepth 100000 in
theorem sp_Mo_turnRound0 {l : Launch} {D : qD} {d : Nat} {i bb M rm : Int} {T H AL BO : Int → Int} {h : qh} {Q : qQ} (hF : MF h.2) (a36 : h.2 280 36 = 298) (a37 : h.2 280 37 = 299) (em : h.2 280 32 = M) (eT : h.2 295 = T) (eH : h.2 296 = H) (eA : h.2 297 = AL) (eB : h.2 287 = BO) (m0 : 0 ≤ M ∧ M ≤ 80) (i0 : 0 ≤ i ∧ i < 26) (er : h.2 298 i = rm) (r0 : 0 ≤ rm ∧ rm < 80)
    (hn : (∀ e, (fun e => (0 ≤ e ∧ e < M) ∧ AL e ≠ 0 ∧ BO e = bb) e → ¬ inc T H e i) → Q none h)
    (hq : ∀ e1, (fun e => (0 ≤ e ∧ e < M) ∧ AL e ≠ 0 ∧ BO e = bb) e1 → inc T H e1 i → (∀ e, (fun e => (0 ≤ e ∧ e < M) ∧ AL e ≠ 0 ∧ BO e = bb) e → inc T H e i → e1 ≤ e) → h.2 280 39 = 0 ∧ Q none (h.1, up2 (up2 h.2 299 (80 * i + rm) e1) 298 i (rm + 1))) :
    qM l D (d + 3, 0, 0) m_Mo_turnRound [.inr (.inr 280), .inl i, .inl bb] h Q := sorry
end
section
/-! ===== the house: a block for the embedding ===== -/
set_option maxRecDepth 100000 in
theorem sp_DH_list {l : Launch} {D : qD} {d : Nat} {g s bb : Int} {h : qh} {Q : qQ} (a10 : h.2 0 10 = 152) (hF : EF h.2) (hg : isG g) (hA : GA h.2 g) (hs : isS s) (s4 : h.2 s 4 = s + 5) (hE : 0 ≤ h.2 g 1 ∧ h.2 g 1 ≤ 48)
    (hq : ∀ v m, KS 152 [2, 5] [153, 154, 155] h.2 v → v 152 2 = 25 → (∀ f, 0 ≤ f → f < h.2 g 1 → v 153 f = h.2 (g + 6) f ∧ v 154 f = h.2 (g + 7) f) → v 152 5 = m → (0 ≤ m ∧ m ≤ h.2 g 1) → (∀ k, 0 ≤ k → k < m → (0 ≤ v 155 k ∧ v 155 k < h.2 g 1) ∧ h.2 (s + 5) (v 155 k) = bb) → (∀ j k, 0 ≤ j → j < k → k < m → v 155 j < v 155 k) → (∀ f, 0 ≤ f → f < h.2 g 1 → h.2 (s + 5) f = bb → inL m (v 155) f) → Q none (h.1, v)) : qM l D (d + 1, 0, 0) m_DH_list [.inr (.inr 0), .inr (.inr g), .inr (.inr s), .inl bb] h Q := sorry
end
section
/-! ===== the house: planar, block by block ===== -/
theorem cnt_at {P : Int → Prop} : ∀ {m b : Nat}, b < cnt P m → ∃ f : Nat, f < m ∧ P (f : Int) ∧ cnt P f = b := sorry
theorem Pd_cg {t h t' h' : Int → Int} {X : Int → Prop} (ht : ∀ e, X e → t' e = t e) (hh : ∀ e, X e → h' e = h e) {e : Int} (he : X e) : Pd t h X e ↔ Pd t' h' X e := sorry
theorem jn1_cg {t h t' h' : Int → Int} {e a b : Int} (ht : t' e = t e) (hh : h' e = h e) : jn1 t' h' e a b ↔ jn1 t h e a b := sorry
theorem onR_cg {t h t' h' : Int → Int} {X : Int → Prop} (ht : ∀ e, X e → t' e = t e) (hh : ∀ e, X e → h' e = h e) {e f : Int} (q : onR t h X e f) : onR t' h' X e f := sorry
set_option maxRecDepth 100000 in
theorem sp_DH_isPlanar {l : Launch} {D : qD} {d E : Nat} {g s : Int} {T H : Int → Int} {h : qh} {Q : qQ} (a10 : h.2 0 10 = 152) (hF : EF h.2) (hg : isG g) (hA : GA h.2 g) (hs : isS s) (hS : SA h.2 s) (hok : gok h.2 g) (eE : h.2 g 1 = E) (eT : h.2 (g + 6) = T) (eH : h.2 (g + 7) = H) (hsm : smp T H (blw E)) (hnum : num (bk T H (blw E)) E (h.2 (s + 5))) (hb : h.2 s 7 = nums (bk T H (blw E)) E) (hgs : g ≠ s ∧ ∀ c, c ∈ [153, 154, 155, 156, 157, 158, 159, 160, 161, 162, 163, 165, 152] → c ≠ g ∧ c ≠ g + 6 ∧ c ≠ g + 7 ∧ c ≠ s ∧ c ≠ s + 5)
    (q1 : (∀ e, blw E e → Pd T H (fun f => blw E f ∧ bk T H (blw E) e f) e) → ∀ v, KS 152 [2, 5, 7, 8, 14, 17] [153, 154, 155, 156, 157, 158, 159, 160, 161, 162, 163, 165] h.2 v → Q (some (.inl 1)) (h.1, v)) (q0 : ¬ (∀ e, blw E e → Pd T H (fun f => blw E f ∧ bk T H (blw E) e f) e) → ∀ v, KS 152 [2, 5, 7, 8, 14, 17] [153, 154, 155, 156, 157, 158, 159, 160, 161, 162, 163, 165] h.2 v → Q (some (.inl 0)) (h.1, v)) :
    qM l D (d + 5, 0, 0) m_DH_isPlanar [.inr (.inr 0), .inr (.inr g), .inr (.inr s)] h Q := sorry
end
section
/-! ===== the edges of a block round a node, in order ===== -/
theorem pE_lc {t h : Int → Int} {e : Int} : ∀ {l : List Int}, pE t h l e → ∃ a b, jn1 t h e a b ∧ lc l a b := sorry
theorem lc_cl {c : List Int} (hl : 2 ≤ c.length) {a b : Int} (q : lc (cl c) a b) : pq c a b := sorry
theorem pq_pv {c : List Int} {u : Int} (h : u ∈ c) (hl : 2 ≤ c.length) : ∃ w, pq c w u := sorry
/-- every edge that is drawn lies along a face -/
theorem Rn_ed {t h : Int → Int} {X : Int → Prop} {N m : Nat} {c c1 : List Int} (r : Rg t h X c) (hr : ∀ v, v ∈ c → blw N v) (h1 : cyc c.reverse c1) (hs : smp t h X) (hb : ∀ e, X e → blw m e) (hX : ∀ e, X e → blw N (t e) ∧ blw N (h e)) :
    ∀ (k : Nat) (F : Nat → List Int) (n : Nat) (Q : Int → Prop), Rn t h X c c1 k F n Q → ∀ e, X e → ¬ Q e → ∃ f a b, f < n ∧ jn1 t h e a b ∧ pq (F f) a b := sorry
/-- who stands round a node when all is drawn -/
theorem Rn_at {t h : Int → Int} {X : Int → Prop} {N m : Nat} {c c1 : List Int} (r : Rg t h X c) (hr : ∀ v, v ∈ c → blw N v) (h1 : cyc c.reverse c1) (hs : smp t h X) (hb : ∀ e, X e → blw m e) (hX : ∀ e, X e → blw N (t e) ∧ blw N (h e)) {k : Nat} {F : Nat → List Int} {n : Nat} {Q : Int → Prop} (q : Rn t h X c c1 k F n Q) (hQ : ∀ e, ¬ Q e) (u i : Int) :
    (∃ f, f < n ∧ pq (F f) u i) ↔ ∃ e, X e ∧ jn1 t h e i u := sorry
theorem int_least {P : Int → Prop} (h0 : ∀ e, P e → 0 ≤ e) {e : Int} (he : P e) : ∃ a, P a ∧ ∀ b, P b → a ≤ b := sorry
theorem li_pq {l : List Int} {k : Int} (h0 : 0 ≤ k) (h1 : k + 1 < l.length) : pq l (li l k) (li l (k + 1)) := sorry
theorem nd_le {l : List Int} (hn : l.Nodup) : ∀ {l' : List Int}, (∀ x, x ∈ l → x ∈ l') → l.length ≤ l'.length := sorry
/-- a row from its first on, by who stands behind whom -/
theorem pq_ext {l l' : List Int} (hn : l.Nodup) (hn' : l'.Nodup) (hm : ∀ x, x ∈ l ↔ x ∈ l') (h0 : li l 0 = li l' 0) (hp : ∀ a b c, pq l a b → pq l' a c → b = c) : l = l' := sorry
/-- the edges of a block round a node, from the least one on -/
def BR (t h : Int → Int) (X : Int → Prop) (i : Int) (L : List Int) : Prop :=
  ((∀ e, X e → ¬ inc t h e i) ∧ L = []) ∨ (∃ e1, X e1 ∧ (∀ e, X e → e = e1) ∧ inc t h e1 i ∧ L = [e1]) ∨
  (∃ e0 I k F n Qp, X e0 ∧ (∀ e, X e → e0 ≤ e) ∧ (∃ e, X e ∧ e ≠ e0) ∧ LSw (jq t h (fun e => X e ∧ e ≠ e0)) (· = t e0) (h e0) (I ++ [t e0]) ∧ Rn t h X (t e0 :: h e0 :: I) (t e0 :: (h e0 :: I).reverse) k F n Qp ∧ (∀ e, ¬ Qp e) ∧ L.Nodup ∧ 2 ≤ L.length ∧ (∀ e, e ∈ L ↔ X e ∧ inc t h e i) ∧ (∀ e, e ∈ L → li L 0 ≤ e) ∧ ∀ e e', pq L e e' → ∃ f, f < n ∧ pq (F f) (oth t h e i) i ∧ pq (F f) i (oth t h e' i))
theorem BR.mem {t h : Int → Int} {X : Int → Prop} {i : Int} {L : List Int} (q : BR t h X i L) (e : Int) : e ∈ L ↔ X e ∧ inc t h e i := sorry
theorem BR.nd {t h : Int → Int} {X : Int → Prop} {i : Int} {L : List Int} (q : BR t h X i L) : L.Nodup := sorry
/-- the first ring of a drawing -/
theorem LSw_Rg {t h : Int → Int} {X : Int → Prop} {N : Nat} (hs : smp t h X) (hl : nlp t h X) (hX : ∀ e, X e → blw N (t e) ∧ blw N (h e)) {e0 : Int} {I : List Int} (x0 : X e0) (hls : LSw (jq t h (fun e => X e ∧ e ≠ e0)) (· = t e0) (h e0) (I ++ [t e0])) : Rg t h X (t e0 :: h e0 :: I) ∧ ∀ v, v ∈ (t e0 :: h e0 :: I) → blw N v := sorry
theorem cyc_r1 (a : Int) (l : List Int) : cyc (a :: l).reverse (a :: l.reverse) := sorry
theorem BR_un {t h : Int → Int} {X : Int → Prop} {N m : Nat} (hs : smp t h X) (hl : nlp t h X) (hb : ∀ e, X e → blw m e) (hX : ∀ e, X e → blw N (t e) ∧ blw N (h e)) {i : Int} {L L' : List Int} (q : BR t h X i L) (q' : BR t h X i L') : L = L' := sorry
/-- the row of nodes, the row of edges -/
theorem BR_ex {t h : Int → Int} {X : Int → Prop} {N m : Nat} (hs : smp t h X) (hl : nlp t h X) (hb : ∀ e, X e → blw m e) (hX : ∀ e, X e → blw N (t e) ∧ blw N (h e)) {i e0 : Int} {I : List Int} {k : Nat} {F : Nat → List Int} {n : Nat} {Qp : Int → Prop} (x0 : X e0) (z0 : ∀ e, X e → e0 ≤ e) (z1 : ∃ e, X e ∧ e ≠ e0) (ls : LSw (jq t h (fun e => X e ∧ e ≠ e0)) (· = t e0) (h e0) (I ++ [t e0])) (rn : Rn t h X (t e0 :: h e0 :: I) (t e0 :: (h e0 :: I).reverse) k F n Qp) (hQ : ∀ e, ¬ Qp e) (hi : ∃ e, X e ∧ inc t h e i) :
    (Fi F n ∧ RS F n ∧ (∀ f, f < n → 3 ≤ (F f).length ∧ (F f).length ≤ N) ∧ n + 4 ≤ 2 * N) ∧ ∃ Ln L : List Int, Ln.Nodup ∧ 2 ≤ Ln.length ∧ (∀ u w, pq Ln u w → ∃ f, f < n ∧ pq (F f) u i ∧ pq (F f) i w) ∧ (∀ u, u ∈ Ln → ∃ e, X e ∧ jn1 t h e i u) ∧ X (li L 0) ∧ jn1 t h (li L 0) i (li Ln 0) ∧ (∀ e, X e → inc t h e i → li L 0 ≤ e) ∧ BR t h X i L ∧ L.length = Ln.length ∧ (∀ e, X e → inc t h e i → oth t h e i ∈ Ln) ∧ ∀ k : Int, 0 ≤ k → k < L.length → X (li L k) ∧ jn1 t h (li L k) i (li Ln k) := sorry
end
section
/-! ===== the whole order round a node ===== -/
def RO (t h : Int → Int) (Y : Int → Int → Prop) : Nat → Int → List Int → Prop
  | 0, _, L => L = []
  | b + 1, i, L => ∃ L1 L2, RO t h Y b i L1 ∧ BR t h (Y b) i L2 ∧ L = L1 ++ L2
theorem RO_mem {t h : Int → Int} {Y : Int → Int → Prop} {i : Int} : ∀ {b : Nat} {L : List Int}, RO t h Y b i L → ∀ e, e ∈ L ↔ (∃ c : Nat, c < b ∧ Y c e) ∧ inc t h e i := sorry
theorem RO_nd {t h : Int → Int} {Y : Int → Int → Prop} (dj : ∀ c c' e, Y c e → Y c' e → c = c') {i : Int} : ∀ {b : Nat} {L : List Int}, RO t h Y b i L → L.Nodup := sorry
theorem RO_un {t h : Int → Int} {Y : Int → Int → Prop} {N m : Nat} (hs : ∀ c, smp t h (Y c)) (hl : ∀ c, nlp t h (Y c)) (hb : ∀ c e, Y c e → blw m e) (hX : ∀ c e, Y c e → blw N (t e) ∧ blw N (h e)) {i : Int} : ∀ {b : Nat} {L L' : List Int}, RO t h Y b i L → RO t h Y b i L' → L = L' := sorry
/-- no more edges at a node than there are nodes -/
theorem at_len {t h : Int → Int} {X : Int → Prop} {N : Nat} (hs : smp t h X) (hX : ∀ e, X e → blw N (t e) ∧ blw N (h e)) {i : Int} {L : List Int} (hn : L.Nodup) (hm : ∀ e, e ∈ L → X e ∧ inc t h e i) : L.length ≤ N := sorry
theorem RO_len {t h : Int → Int} {Y : Int → Int → Prop} {N : Nat} {X : Int → Prop} (hY : ∀ c e, Y c e → X e) (hs : smp t h X) (hX : ∀ e, X e → blw N (t e) ∧ blw N (h e)) (dj : ∀ c c' e, Y c e → Y c' e → c = c') {i : Int} {b : Nat} {L : List Int} (q : RO t h Y b i L) : L.length ≤ N := sorry
/-! ===== the twin: a block's edges round a node ===== -/
set_option maxRecDepth 100000 in
theorem sp_Mo_turnBR {l : Launch} {D : qD} {d N : Nat} {i bb M rm : Int} {T H AL BO : Int → Int} {h : qh} {Q : qQ} (hF : MF h.2) (a36 : h.2 280 36 = 298) (a37 : h.2 280 37 = 299) (em : h.2 280 32 = M) (eT : h.2 295 = T) (eH : h.2 296 = H) (eA : h.2 297 = AL) (eB : h.2 287 = BO) (m0 : 0 ≤ M ∧ M ≤ 80) (n0 : N ≤ 25) (hr : ∀ e, 0 ≤ e → e < M → (0 ≤ T e ∧ T e < N) ∧ (0 ≤ H e ∧ H e < N)) (i0 : 0 ≤ i ∧ i < N) (hl : nlp T H (fun e => (0 ≤ e ∧ e < M) ∧ AL e ≠ 0)) (hs : smp T H (fun e => (0 ≤ e ∧ e < M) ∧ AL e ≠ 0))
    (FC : (∃ e1, (fun e => (0 ≤ e ∧ e < M) ∧ AL e ≠ 0 ∧ BO e = bb) e1 ∧ (∀ e, (fun e => (0 ≤ e ∧ e < M) ∧ AL e ≠ 0 ∧ BO e = bb) e → e = e1) ∧ h.2 280 39 = 0) ∨ (∃ e0 I k F n Qp, (fun e => (0 ≤ e ∧ e < M) ∧ AL e ≠ 0 ∧ BO e = bb) e0 ∧ (∀ e, (fun e => (0 ≤ e ∧ e < M) ∧ AL e ≠ 0 ∧ BO e = bb) e → e0 ≤ e) ∧ (∃ e, (fun e => (0 ≤ e ∧ e < M) ∧ AL e ≠ 0 ∧ BO e = bb) e ∧ e ≠ e0) ∧ LSw (jq T H (fun e => (fun e => (0 ≤ e ∧ e < M) ∧ AL e ≠ 0 ∧ BO e = bb) e ∧ e ≠ e0)) (· = T e0) (H e0) (I ++ [T e0]) ∧ Rn T H (fun e => (0 ≤ e ∧ e < M) ∧ AL e ≠ 0 ∧ BO e = bb) (T e0 :: H e0 :: I) (T e0 :: (H e0 :: I).reverse) k F n Qp ∧ (∀ e, ¬ Qp e) ∧ h.2 280 39 = n ∧ ∀ f : Nat, f < n → h.2 301 f = (F f).length ∧ ∀ j : Int, 0 ≤ j → j < (F f).length → h.2 302 (60 * f + j) = li (F f) j))
    (er : h.2 298 i = rm) (r0 : 0 ≤ rm ∧ rm ≤ 30)
    (hq : ∀ v L, KS 280 [] [298, 299] h.2 v → BR T H (fun e => (0 ≤ e ∧ e < M) ∧ AL e ≠ 0 ∧ BO e = bb) i L → v 298 i = rm + L.length → (∀ j, j ≠ i → v 298 j = h.2 298 j) → (∀ k : Int, 0 ≤ k → k < L.length → v 299 (80 * i + rm + k) = li L k) → (∀ j, ¬ (80 * i + rm ≤ j ∧ j < 80 * i + rm + L.length) → v 299 j = h.2 299 j) → Q none (h.1, v)) :
    qM l D (d + 3, 0, 0) m_Mo_turnRound [.inr (.inr 280), .inl i, .inl bb] h Q := sorry
end
section
/-! ===== the twin: embed ===== -/
set_option maxRecDepth 100000 in
theorem sp_Mo_embed {l : Launch} {D : qD} {d N : Nat} {M : Int} {T H AL : Int → Int} {h : qh} {Q : qQ} (hT : TW h.2) (en : h.2 280 31 = N) (em : h.2 280 32 = M) (eT : h.2 295 = T) (eH : h.2 296 = H) (eA : h.2 297 = AL) (n0 : N ≤ 25) (m0 : 0 ≤ M ∧ M ≤ 80) (hr : ∀ e, 0 ≤ e → e < M → (0 ≤ T e ∧ T e < N) ∧ (0 ≤ H e ∧ H e < N)) (hl : nlp T H (fun e => (0 ≤ e ∧ e < M) ∧ AL e ≠ 0)) (hs : smp T H (fun e => (0 ≤ e ∧ e < M) ∧ AL e ≠ 0))
    (q1 : (∀ e, (fun e => (0 ≤ e ∧ e < M) ∧ AL e ≠ 0) e → Pd T H (fun f => (fun e => (0 ≤ e ∧ e < M) ∧ AL e ≠ 0) f ∧ bk T H (fun e => (0 ≤ e ∧ e < M) ∧ AL e ≠ 0) e f) e) → ∀ v BO, KS 280 [39, 45, 49] [287, 290, 298, 299, 300, 301, 302, 303, 304, 305, 306, 307, 308, 309, 310] h.2 v → v 287 = BO → numA (fun e => (0 ≤ e ∧ e < M) ∧ AL e ≠ 0) (bk T H (fun e => (0 ≤ e ∧ e < M) ∧ AL e ≠ 0)) BO → (∀ i : Int, 0 ≤ i → i < N → (∃ L, RO T H (fun b e => (0 ≤ e ∧ e < M) ∧ AL e ≠ 0 ∧ BO e = b) (cnt (fsA (fun e => (0 ≤ e ∧ e < M) ∧ AL e ≠ 0) (bk T H (fun e => (0 ≤ e ∧ e < M) ∧ AL e ≠ 0))) M.toNat) i L ∧ v 298 i = L.length ∧ ∀ k : Int, 0 ≤ k → k < L.length → v 299 (80 * i + k) = li L k)) → Q (some (.inl 1)) (h.1, v))
    (q0 : ¬ (∀ e, (fun e => (0 ≤ e ∧ e < M) ∧ AL e ≠ 0) e → Pd T H (fun f => (fun e => (0 ≤ e ∧ e < M) ∧ AL e ≠ 0) f ∧ bk T H (fun e => (0 ≤ e ∧ e < M) ∧ AL e ≠ 0) e f) e) → ∀ v, KS 280 [39, 45, 49] [287, 290, 298, 299, 300, 301, 302, 303, 304, 305, 306, 307, 308, 309, 310] h.2 v → Q (some (.inl 0)) (h.1, v)) :
    qM l D (d + 6, 0, 0) m_Mo_embed [.inr (.inr 280)] h Q := sorry
end
section
/-! ===== what only looks at the edges of a set ===== -/
theorem inc_cg {t h t' h' : Int → Int} {e x : Int} (ht : t' e = t e) (hh : h' e = h e) : inc t' h' e x ↔ inc t h e x := sorry
theorem oth_cg {t h t' h' : Int → Int} {e x : Int} (ht : t' e = t e) (hh : h' e = h e) : oth t' h' e x = oth t h e x := sorry
abbrev agr (t h t' h' : Int → Int) (X : Int → Prop) : Prop := ∀ e, X e → t' e = t e ∧ h' e = h e
theorem agr_sym {t h t' h' : Int → Int} {X : Int → Prop} (q : agr t h t' h' X) : agr t' h' t h X := sorry
theorem agr_sub {t h t' h' : Int → Int} {X Y : Int → Prop} (q : agr t h t' h' X) (s : ∀ e, Y e → X e) : agr t h t' h' Y := sorry
theorem jq_fn {t h t' h' : Int → Int} {Q : Int → Prop} (q : agr t h t' h' Q) : jq t' h' Q = jq t h Q := sorry
theorem tch_fn {t h t' h' : Int → Int} {Q : Int → Prop} (q : agr t h t' h' Q) : tch t' h' Q = tch t h Q := sorry
theorem aj_fn {t h t' h' : Int → Int} {Q : Int → Prop} (q : agr t h t' h' Q) : aj t' h' Q = aj t h Q := sorry
theorem sb1_fn {t h t' h' : Int → Int} {Q : Int → Prop} (q : agr t h t' h' Q) : sb1 t' h' Q = sb1 t h Q := sorry
theorem bk_fn {t h t' h' : Int → Int} {Q : Int → Prop} (q : agr t h t' h' Q) : bk t' h' Q = bk t h Q := sorry
theorem cn_fn {t h t' h' : Int → Int} {N Q : Int → Prop} (q : agr t h t' h' Q) : cn t' h' N Q = cn t h N Q := sorry
theorem cn_sb {t h : Int → Int} {N Q : Int → Prop} {e f : Int} (q : cn t h N Q e f) : Q f := sorry
theorem tcn_fn {t h t' h' : Int → Int} {N Q : Int → Prop} {e : Int} (q : agr t h t' h' Q) : tch t' h' (cn t' h' N Q e) = tch t h (cn t h N Q e) := sorry
theorem fit_fn {t h t' h' : Int → Int} {F : Nat → List Int} {n : Nat} {Q : Int → Prop} (q : agr t h t' h' Q) : fit t' h' F n Q = fit t h F n Q := sorry
theorem edp_fn {t h t' h' : Int → Int} {F : Nat → List Int} {n : Nat} {Q : Int → Prop} (q : agr t h t' h' Q) : edp t' h' F n Q = edp t h F n Q := sorry
theorem frst_fn {t h t' h' : Int → Int} {F : Nat → List Int} {n : Nat} {Q : Int → Prop} (q : agr t h t' h' Q) : frst t' h' F n Q = frst t h F n Q := sorry
theorem nft_fn {t h t' h' : Int → Int} {F : Nat → List Int} {n : Nat} {Q : Int → Prop} (q : agr t h t' h' Q) : nft t' h' F n Q = nft t h F n Q := sorry
theorem stE_fn {t h t' h' : Int → Int} {F : Nat → List Int} {n : Nat} {Q : Int → Prop} (q : agr t h t' h' Q) : stE t' h' F n Q = stE t h F n Q := sorry
theorem CS_cg {t h t' h' : Int → Int} {F : Nat → List Int} {n : Nat} {Q : Int → Prop} {e0 : Int} {f0 : Nat} {x : Int} {A : List Int} {y : Int} {B I : List Int} (q : agr t h t' h' Q) : CS t' h' F n Q e0 f0 x A y B I ↔ CS t h F n Q e0 f0 x A y B I := sorry
theorem pE_cg {t h t' h' : Int → Int} {g : Int} (q : t' g = t g ∧ h' g = h g) : ∀ {l : List Int}, pE t' h' l g ↔ pE t h l g := sorry
theorem Rn_cg {t h t' h' : Int → Int} {X : Int → Prop} {c c1 : List Int} (q : agr t h t' h' X) : ∀ {k : Nat} {F : Nat → List Int} {n : Nat} {Q : Int → Prop}, Rn t' h' X c c1 k F n Q → Rn t h X c c1 k F n Q ∧ ∀ e, Q e → X e := sorry
theorem BR_cg {t h t' h' : Int → Int} {X : Int → Prop} (q : agr t h t' h' X) {i : Int} {L : List Int} (r : BR t' h' X i L) : BR t h X i L := sorry
theorem RO_cg {t h t' h' : Int → Int} {Y Y' : Int → Int → Prop} {i : Int} : ∀ {b : Nat} {L : List Int}, (∀ c : Nat, c < b → Y c = Y' c ∧ agr t h t' h' (Y c)) → RO t' h' Y' b i L → RO t h Y b i L := sorry
theorem smp_cg {t h t' h' : Int → Int} {X : Int → Prop} (q : agr t h t' h' X) (s : smp t h X) : smp t' h' X := sorry
theorem nlp_cg {t h t' h' : Int → Int} {X : Int → Prop} (q : agr t h t' h' X) (s : nlp t h X) : nlp t' h' X := sorry
/-- every block can be drawn -/
def PL (t h : Int → Int) (A : Int → Prop) : Prop := ∀ e, A e → Pd t h (fun f => A f ∧ bk t h A e f) e
theorem PL_cg {t h t' h' : Int → Int} {A : Int → Prop} (q : agr t h t' h' A) : PL t' h' A ↔ PL t h A := sorry
end
section
/-! ===== the twin: isPlanar ===== -/
theorem TW.ks {F C : List Int} {v v' : Int → Int → Int} (h : TW v) (k : KS 280 F C v v') (hF : F.all (fun j => twr.all (fun i => decide (i ≠ j))) = true) : TW v' := sorry
/-- the blocks by their numbers -/
def Yc (t h : Int → Int) (m : Nat) : Int → Int → Prop := fun b e => blw m e ∧ ∃ f : Int, 0 ≤ f ∧ fst1 (bk t h (blw m)) f ∧ bk t h (blw m) f e ∧ (cnt (fst1 (bk t h (blw m))) f.toNat : Int) = b
theorem Yc_num {t h : Int → Int} {m : Nat} {N : Int → Int} (q : num (bk t h (blw m)) m N) (b e : Int) : Yc t h m b e ↔ blw m e ∧ N e = b := sorry
/-- the order round a node of a graph that can be drawn -/
def ROT (t h : Int → Int) (m : Nat) (i : Int) (L : List Int) : Prop := RO t h (Yc t h m) (nums (bk t h (blw m)) m) i L
theorem ROT_un {t h : Int → Int} {m N : Nat} (hs : smp t h (blw m)) (hl : nlp t h (blw m)) (hX : ∀ e, blw m e → blw N (t e) ∧ blw N (h e)) {i : Int} {L L' : List Int} (q : ROT t h m i L) (q' : ROT t h m i L') : L = L' := sorry
theorem Yc_dj {t h : Int → Int} {m : Nat} (c c' e : Int) (q : Yc t h m c e) (q' : Yc t h m c' e) : c = c' := sorry
theorem ROT_nd {t h : Int → Int} {m : Nat} {i : Int} {L : List Int} (q : ROT t h m i L) : L.Nodup := sorry
theorem ROT_mem {t h : Int → Int} {m : Nat} {i : Int} {L : List Int} (q : ROT t h m i L) (e : Int) : e ∈ L ↔ blw m e ∧ inc t h e i := sorry
theorem ROT_len {t h : Int → Int} {m N : Nat} (hs : smp t h (blw m)) (hX : ∀ e, blw m e → blw N (t e) ∧ blw N (h e)) {i : Int} {L : List Int} (q : ROT t h m i L) : L.length ≤ N := sorry
theorem bk_iff {t h : Int → Int} {m : Nat} {t' h' : Int → Int} (q : agr t h t' h' (blw m)) : Yc t' h' m = Yc t h m := sorry
theorem ROT_cg {t h t' h' : Int → Int} {m : Nat} (q : agr t h t' h' (blw m)) {i : Int} {L : List Int} (r : ROT t' h' m i L) : ROT t h m i L := sorry
/-- what stands in the rows after the graph has been laid out -/
def plnT (v : Int → Int → Int) (N m : Nat) (T H : Int → Int) : Prop := v 280 31 = N ∧ v 280 32 = m ∧ ∀ e, 0 ≤ e → e < (m : Int) → v 295 e = T e ∧ v 296 e = H e ∧ v 297 e = 1
def rotT (v : Int → Int → Int) (N m : Nat) (T H : Int → Int) : Prop := ∀ i : Int, 0 ≤ i → i < N → ∃ L, ROT T H m i L ∧ v 298 i = L.length ∧ ∀ k : Int, 0 ≤ k → k < L.length → v 299 (80 * i + k) = li L k
set_option maxRecDepth 100000 in
theorem sp_Mo_isPlanar {l : Launch} {D : qD} {d N m : Nat} {T H : Int → Int} {h : qh} {Q : qQ} (hT : TW h.2) (hok : tok h.2) (en : tn h.2 = N) (em : tm h.2 = m) (eT : tT h.2 = T) (eH : tH h.2 = H) (hs : smp T H (blw m))
    (q1 : PL T H (blw m) → ∀ v, KS 280 [31, 32, 39, 45, 49] [287, 290, 295, 296, 297, 298, 299, 300, 301, 302, 303, 304, 305, 306, 307, 308, 309, 310] h.2 v → plnT v N m T H → num (bk T H (blw m)) m (v 287) → rotT v N m T H → Q (some (.inl 1)) (h.1, v))
    (q0 : ¬ PL T H (blw m) → ∀ v, KS 280 [31, 32, 39, 45, 49] [287, 290, 295, 296, 297, 298, 299, 300, 301, 302, 303, 304, 305, 306, 307, 308, 309, 310] h.2 v → Q (some (.inl 0)) (h.1, v)) :
    qM l D (d + 7, 0, 0) m_Mo_isPlanar [.inr (.inr 280)] h Q := sorry
end
section
/-! ===== the twin: isOuter ===== -/
/-- the graph and a node joined to all of its nodes -/
def apT (T : Int → Int) (m : Nat) (e : Int) : Int := if e < m then T e else e - m
def apH (H : Int → Int) (m N : Nat) (e : Int) : Int := if e < m then H e else N
def OUT (T H : Int → Int) (N m : Nat) : Prop := PL (apT T m) (apH H m N) (blw (m + N))
theorem ap_Apx {T H : Int → Int} {N m : Nat} (hr : ∀ e, blw m e → blw N (T e) ∧ blw N (H e)) (hl : nlp T H (blw m)) (hs : smp T H (blw m)) : nlp (apT T m) (apH H m N) (blw (m + N)) ∧ smp (apT T m) (apH H m N) (blw (m + N)) ∧ ∀ e, blw (m + N) e → blw (N + 1) (apT T m e) ∧ blw (N + 1) (apH H m N e) := sorry
set_option maxRecDepth 100000 in
theorem sp_Mo_isOuter {l : Launch} {D : qD} {d N m : Nat} {T H : Int → Int} {h : qh} {Q : qQ} (hT : TW h.2) (hok : tok h.2) (en : tn h.2 = N) (em : tm h.2 = m) (eT : tT h.2 = T) (eH : tH h.2 = H) (hs : smp T H (blw m))
    (q1 : OUT T H N m → ∀ v, KS 280 [31, 32, 39, 45, 49] [287, 290, 295, 296, 297, 298, 299, 300, 301, 302, 303, 304, 305, 306, 307, 308, 309, 310] h.2 v → Q (some (.inl 1)) (h.1, v))
    (q0 : ¬ OUT T H N m → ∀ v, KS 280 [31, 32, 39, 45, 49] [287, 290, 295, 296, 297, 298, 299, 300, 301, 302, 303, 304, 305, 306, 307, 308, 309, 310] h.2 v → Q (some (.inl 0)) (h.1, v)) :
    qM l D (d + 7, 0, 0) m_Mo_isOuter [.inr (.inr 280)] h Q := sorry
end
section
/-! ===== a block and a node joined to all of its nodes, with other numbers ===== -/
theorem onR_iso {t h t' h' : Int → Int} {X : Int → Prop} {p s : Int → Int} (I : Iso t h t' h' X p s) {e f : Int} (q : onR t h X e f) : onR t' h' (img s X) (s e) (s f) := sorry
theorem B2_iso {t h t' h' : Int → Int} {X X' : Int → Prop} {p s : Int → Int} (I : Iso t h t' h' X p s) (hX : ∀ e', X' e' ↔ img s X e') (q : B2 t h X) : B2 t' h' X' := sorry
theorem smp_iso {t h t' h' : Int → Int} {X X' : Int → Prop} {p s : Int → Int} (I : Iso t h t' h' X p s) (hX : ∀ e', X' e' ↔ img s X e') (q : smp t h X) : smp t' h' X' := sorry
theorem nlp_iso {t h t' h' : Int → Int} {X X' : Int → Prop} {p s : Int → Int} (I : Iso t h t' h' X p s) (hX : ∀ e', X' e' ↔ img s X e') (q : nlp t h X) : nlp t' h' X' := sorry
theorem cnt_lt2 {P : Int → Prop} {i j : Int} (i0 : 0 ≤ i) (hi : P i) (hj : i < j) : cnt P i.toNat < cnt P j.toNat := sorry
theorem OB {t h T' H' : Int → Int} {n m : Nat} (H : Apx t h n m) (n24 : n ≤ 24) {S X : Int → Prop} (hS : ∀ e, S e → blw m e) (hc : cnc t h S)
    (hX : ∀ e, X e ↔ S e ∨ ∃ i, blw n i ∧ tch t h S i ∧ e = m + cnt (tch t h S) i.toNat) (hT : ∀ e, S e → T' e = t e ∧ H' e = h e) (hA : ∀ i, blw n i → tch t h S i → T' (m + cnt (tch t h S) i.toNat) = i ∧ H' (m + cnt (tch t h S) i.toNat) = 24) :
    smp T' H' X ∧ nlp T' H' X ∧ B2 T' H' X ∧ ∀ e, S e → (Pd T' H' X e ↔ Pd t h (XS t h n m S) e) := sorry
/-- a block hangs together -/
theorem blk_cnc {t h : Int → Int} {m : Nat} {f : Int} (hf : blw m f) : cnc t h (fun e => blw m e ∧ bk t h (blw m) f e) := sorry
theorem OUT_iff {T H : Int → Int} {N m : Nat} (hr : ∀ e, blw m e → blw N (T e) ∧ blw N (H e)) (hl : nlp T H (blw m)) (hs : smp T H (blw m)) : Apx (apT T m) (apH H m N) N m ∧ ((∀ e, blw m e → Pd (apT T m) (apH H m N) (XS (apT T m) (apH H m N) N m (fun f => blw m f ∧ bk T H (blw m) e f)) e) ↔ OUT T H N m) := sorry
end
section
/-! ===== every even set of edges parts the faces ===== -/
theorem cnt_0 {P : Int → Prop} {m : Nat} (q : ∀ e, ¬ P e) : cnt P m = 0 := sorry
theorem cnt_xor {P R : Int → Prop} {m : Nat} : (cnt (fun e => ¬ (P e ↔ R e)) m + cnt P m + cnt R m) % 2 = 0 := sorry
/-- how many edges of a set stand round a node -/
noncomputable def dg (t h : Int → Int) (m : Nat) (Z : Int → Prop) (i : Int) : Nat := cnt (fun e => Z e ∧ inc t h e i) m
def Ev (t h : Int → Int) (m : Nat) (Z : Int → Prop) : Prop := ∀ i, dg t h m Z i % 2 = 0
theorem dg_xor {t h : Int → Int} {m : Nat} {Z Y : Int → Prop} {i : Int} : (dg t h m (fun e => ¬ (Z e ↔ Y e)) i + dg t h m Z i + dg t h m Y i) % 2 = 0 := sorry
theorem Ev_xor {t h : Int → Int} {m : Nat} {Z Y : Int → Prop} (a : Ev t h m Z) (b : Ev t h m Y) : Ev t h m (fun e => ¬ (Z e ↔ Y e)) := sorry
theorem pq_jq {E : Int → Int → Prop} {c : List Int} (q : chn E (cl c)) {a b : Int} (p : pq c a b) : E a b := sorry
theorem pq_as {c : List Int} (hc : c.Nodup) (hl : 3 ≤ c.length) {u i : Int} (p : pq c u i) (h' : pq c i u) : False := sorry
theorem pq_pE {t h : Int → Int} {c : List Int} {e a b : Int} (p : pq c a b) (j : jn1 t h e a b) : pE t h (cl c) e := sorry
/-- the edges of a ring round a node of it are two -/
theorem ring_two {t h : Int → Int} {X : Int → Prop} {c : List Int} (r : Rg t h X c) (hs : smp t h X) {i : Int} (hi : i ∈ c) :
    ∃ p q e1 e2, pq c p i ∧ pq c i q ∧ p ≠ q ∧ X e1 ∧ X e2 ∧ jn1 t h e1 p i ∧ jn1 t h e2 i q ∧ e1 ≠ e2 ∧ ∀ e, (X e ∧ pE t h (cl c) e) ∧ inc t h e i ↔ e = e1 ∨ e = e2 := sorry
theorem cnt_2 {m : Nat} {e1 e2 : Int} (h1 : blw m e1) (h2 : blw m e2) (ne : e1 ≠ e2) {P : Int → Prop} (q : ∀ e, P e ↔ e = e1 ∨ e = e2) : cnt P m = 2 := sorry
theorem cnt_1 {m : Nat} {e1 : Int} (h1 : blw m e1) {P : Int → Prop} (q : ∀ e, P e ↔ e = e1) : cnt P m = 1 := sorry
theorem ring_ev {t h : Int → Int} {X : Int → Prop} {m : Nat} {c : List Int} (r : Rg t h X c) (hs : smp t h X) (hb : ∀ e, X e → blw m e) : Ev t h m (fun e => X e ∧ pE t h (cl c) e) := sorry
/-- where two edges alone stand, both are in an even set or none -/
theorem two_par {t h : Int → Int} {m : Nat} {Z : Int → Prop} (hb : ∀ e, Z e → blw m e) {v e1 e2 : Int} (i1 : inc t h e1 v) (i2 : inc t h e2 v) (hz : ∀ e, Z e → inc t h e v → e = e1 ∨ e = e2) (ev : dg t h m Z v % 2 = 0) : Z e1 ↔ Z e2 := sorry
theorem pE_same {t h : Int → Int} {X Z : Int → Prop} (hs : smp t h X) : ∀ {l : List Int} {a b e1 : Int}, chn (jq t h X) (a :: b :: l) → X e1 → jn1 t h e1 a b →
    (∀ s u v w r e f, a :: b :: l = s ++ u :: v :: w :: r → X e → X f → jn1 t h e u v → jn1 t h f v w → (Z e ↔ Z f)) → ∀ e, X e → pE t h (a :: b :: l) e → (Z e ↔ Z e1) := sorry
theorem lc_pq {l : List Int} {a b : Int} (q : lc l a b) : pq l a b := sorry
theorem way_two {t h : Int → Int} {l s r : List Int} {u v w e : Int} (hn : l.Nodup) (el : l = s ++ u :: v :: w :: r) (pe : pE t h l e) (ie : inc t h e v) : jn1 t h e u v ∨ jn1 t h e v w := sorry
/-- each even set of what is drawn parts the faces -/
def FJ (t h : Int → Int) (X : Int → Prop) (m : Nat) (F : Nat → List Int) (n : Nat) (Q : Int → Prop) : Prop :=
  ∀ Z : Int → Prop, (∀ e, Z e → X e ∧ ¬ Q e) → Ev t h m Z → ∃ c : Nat → Prop, ∀ e f g, X e → ¬ Q e → f < n → g < n → pq (F f) (t e) (h e) → pq (F g) (h e) (t e) → (Z e ↔ ¬ (c f ↔ c g))
theorem FJ_ini {t h : Int → Int} {X : Int → Prop} {m : Nat} {F : Nat → List Int} {c : List Int} (r : Rg t h X c) (hs : smp t h X) (hb : ∀ e, X e → blw m e) (h0 : cyc c (F 0)) (h1 : cyc c.reverse (F 1)) : FJ t h X m F 2 (fun g => X g ∧ ¬ pE t h (cl c) g) := sorry
theorem FJ_spl {t h : Int → Int} {X : Int → Prop} {N m : Nat} {F : Nat → List Int} {n f0 : Nat} {Q : Int → Prop} {x : Int} {A : List Int} {y : Int} {B I : List Int} (D : DI t h X N F n Q) (hR : RS F n) (hs : smp t h X) (hb : ∀ e, X e → blw m e) (hf0 : f0 < n) (hcy : cyc (F f0) (x :: A ++ y :: B)) (hw : (x :: I ++ [y]).Nodup) (hI : ∀ v, v ∈ I → ¬ Dr F n v) (hc : chn (jq t h Q) (x :: I ++ [y]))
    (D' : DI t h X N (spl F n f0 (x :: A ++ y :: I.reverse) (y :: B ++ x :: I)) (n + 1) (fun e => Q e ∧ ¬ pE t h (x :: I ++ [y]) e)) (hR' : RS (spl F n f0 (x :: A ++ y :: I.reverse) (y :: B ++ x :: I)) (n + 1))
    (q : FJ t h X m F n Q) : FJ t h X m (spl F n f0 (x :: A ++ y :: I.reverse) (y :: B ++ x :: I)) (n + 1) (fun e => Q e ∧ ¬ pE t h (x :: I ++ [y]) e) := sorry
/-- along a run -/
theorem Rn_FJ {t h : Int → Int} {X : Int → Prop} {N m : Nat} {c c1 : List Int} (r : Rg t h X c) (hr : ∀ v, v ∈ c → blw N v) (h1 : cyc c.reverse c1) (hs : smp t h X) (hb : ∀ e, X e → blw m e) (hX : ∀ e, X e → blw N (t e) ∧ blw N (h e)) :
    ∀ (k : Nat) (F : Nat → List Int) (n : Nat) (Q : Int → Prop), Rn t h X c c1 k F n Q → FJ t h X m F n Q := sorry
end
section
/-! ===== the whole web: orders round the nodes ===== -/
theorem lc_snoc {l : List Int} {s u i : Int} : lc (l ++ [s]) u i ↔ lc l u i ∨ (i = s ∧ ∃ l', l = l' ++ [u]) := sorry
/-- each even set has colours: o e i is the colour on the way along e out of i -/
def WJ (t h : Int → Int) (m : Nat) (A : Int → Prop) (rot : Int → List Int) : Prop :=
  ∀ Z : Int → Prop, (∀ e, Z e → A e) → Ev t h m Z → ∃ o : Int → Int → Prop, (∀ i e e', lc (cl (rot i)) e e' → (o e' i ↔ o e (oth t h e i))) ∧ ∀ e, A e → (Z e ↔ ¬ (o e (t e) ↔ o e (h e)))
/-- sums over nodes -/
noncomputable def nsm (S : Int → Prop) (f : Int → Nat) : Nat → Nat
  | 0 => 0
  | n + 1 => nsm S f n + @ite Nat (S (n : Int)) (Classical.propDecidable _) (f n) 0
theorem nsm_cg {S : Int → Prop} {f g : Int → Nat} : ∀ {n : Nat}, (∀ j, blw n j → S j → f j = g j) → nsm S f n = nsm S g n := sorry
theorem nsm_ad {S : Int → Prop} {f g : Int → Nat} : ∀ {n : Nat}, nsm S (fun j => f j + g j) n = nsm S f n + nsm S g n := sorry
theorem nsm_0 {S : Int → Prop} {f : Int → Nat} : ∀ {n : Nat}, (∀ j, blw n j → S j → f j = 0) → nsm S f n = 0 := sorry
theorem nsm_ev {S : Int → Prop} {f : Int → Nat} : ∀ {n : Nat}, (∀ j, blw n j → S j → f j % 2 = 0) → nsm S f n % 2 = 0 := sorry
theorem nsm_1 {S : Int → Prop} {f : Int → Nat} {x : Int} : ∀ {n : Nat}, blw n x → S x → (∀ j, blw n j → j ≠ x → f j = 0) → nsm S f n = f x := sorry
/-- each edge has two ends -/
theorem hand {t h : Int → Int} {N : Nat} {S E : Int → Prop} (hS : ∀ e, E e → (S (t e) ↔ S (h e))) (hr : ∀ e, E e → blw N (t e) ∧ blw N (h e)) (hl : ∀ e, E e → t e ≠ h e) : ∀ m, nsm S (dg t h m E) N % 2 = 0 := sorry
theorem dg_or {t h : Int → Int} {m : Nat} {P R : Int → Prop} (q : ∀ e, P e → ¬ R e) (i : Int) : dg t h m (fun e => P e ∨ R e) i = dg t h m P i + dg t h m R i := sorry
theorem dg_0 {t h : Int → Int} {m : Nat} {P : Int → Prop} {i : Int} (q : ∀ e, P e → ¬ inc t h e i) : dg t h m P i = 0 := sorry
/-- what hangs together by single nodes: each part is even by itself -/
theorem Ev_part {t h : Int → Int} {m N : Nat} {A B Z : Int → Prop} (dj : ∀ e, A e → ¬ B e) (hr : ∀ e, A e → blw N (t e) ∧ blw N (h e)) (hrB : ∀ e, B e → blw N (t e) ∧ blw N (h e)) (hl : nlp t h A) (hc : ∀ y y', tch t h B y → tch t h B y' → rchs (aj t h A) y y' → y = y') (hZ : ∀ e, Z e → A e ∨ B e) (hE : Ev t h m Z) :
    Ev t h m (fun e => Z e ∧ A e) ∧ Ev t h m (fun e => Z e ∧ B e) := sorry
theorem cl_cons (a : Int) (l : List Int) : cl (a :: l) = a :: l ++ [a] := sorry
theorem WJ_cat {t h : Int → Int} {m N : Nat} {A B : Int → Prop} {rA rB : Int → List Int} (dj : ∀ e, A e → ¬ B e) (hr : ∀ e, A e → blw N (t e) ∧ blw N (h e)) (hrB : ∀ e, B e → blw N (t e) ∧ blw N (h e)) (hl : nlp t h A) (hc : ∀ y y', tch t h B y → tch t h B y' → rchs (aj t h A) y y' → y = y')
    (mA : ∀ i e, e ∈ rA i ↔ A e ∧ inc t h e i) (mB : ∀ i e, e ∈ rB i ↔ B e ∧ inc t h e i) (wA : WJ t h m A rA) (wB : WJ t h m B rB) : WJ t h m (fun e => A e ∨ B e) (fun i => rA i ++ rB i) := sorry
/-- one edge alone -/
theorem WJ_one {t h : Int → Int} {m : Nat} {x : Int} (hb : blw m x) (rot : Int → List Int) : WJ t h m (fun e => e = x) rot := sorry
theorem WJ_blk {t h : Int → Int} {X : Int → Prop} {N m : Nat} (hs : smp t h X) (hl : nlp t h X) (hb : ∀ e, X e → blw m e) (hX : ∀ e, X e → blw N (t e) ∧ blw N (h e)) {rot : Int → List Int} (hB : ∀ i, BR t h X i (rot i)) : WJ t h m X rot := sorry
/-- two nodes of a block hang together by the block alone -/
theorem blk_one {t h : Int → Int} {X A B : Int → Prop} (hs : smp t h X) (hl : nlp t h X) (hA : ∀ e, A e → X e) (hB : ∀ e, B e → X e) (b2 : B2 t h B) (nb : ∀ e f, A e → B f → ¬ bk t h X e f) : ∀ y y', tch t h B y → tch t h B y' → rchs (aj t h A) y y' → y = y' := sorry
end
section
theorem WJ_RO {t h : Int → Int} {X : Int → Prop} {Y : Int → Int → Prop} {N m : Nat} (hs : smp t h X) (hl : nlp t h X) (hb : ∀ e, X e → blw m e) (hX : ∀ e, X e → blw N (t e) ∧ blw N (h e)) (hY : ∀ c e, Y c e → X e) (b2 : ∀ c, B2 t h (Y c)) (nb : ∀ c c' e f, Y c e → Y c' f → bk t h X e f → c = c') :
    ∀ (b : Nat) (rot : Int → List Int), (∀ i, RO t h Y b i (rot i)) → WJ t h m (fun e => ∃ c : Nat, c < b ∧ Y c e) rot := sorry
theorem Yc_bk {t h : Int → Int} {m : Nat} (c c' e f : Int) (q : Yc t h m c e) (q' : Yc t h m c' f) (k : bk t h (blw m) e f) : c = c' := sorry
theorem Yc_B2 {t h : Int → Int} {m : Nat} (hs : smp t h (blw m)) (hl : nlp t h (blw m)) (c : Int) : B2 t h (Yc t h m c) := sorry
theorem WJ_ROT {t h : Int → Int} {N m : Nat} (hs : smp t h (blw m)) (hl : nlp t h (blw m)) (hX : ∀ e, blw m e → blw N (t e) ∧ blw N (h e)) {rot : Int → List Int} (q : ∀ i, ROT t h m i (rot i)) : WJ t h m (blw m) rot := sorry
/-! ===== an edge comes into a face ===== -/
/-- e' stands behind e in the ring -/
def sx (L : List Int) (e e' : Int) : Prop := lc (cl L) e e'
theorem sx_pq {L : List Int} (h2 : 2 ≤ L.length) {e e' : Int} : sx L e e' ↔ pq L e e' := sorry
theorem sx_cyc {L L' : List Int} (c : cyc L L') {e e' : Int} : sx L e e' ↔ sx L' e e' := sorry
theorem sx_ahead {L1 L2 : List Int} {e d f f' : Int} (hn : (L1 ++ d :: L2).Nodup) (he : e ∉ L1 ++ d :: L2) (q : sx (L1 ++ e :: d :: L2) f f') :
    (f = e ∧ f' = d) ∨ (f' = e ∧ f ≠ e ∧ sx (L1 ++ d :: L2) f d) ∨ (f ≠ e ∧ f' ≠ e ∧ f' ≠ d ∧ sx (L1 ++ d :: L2) f f') := sorry
theorem sx_behind {L1 L2 : List Int} {e x f f' : Int} (hn : (L1 ++ x :: L2).Nodup) (he : e ∉ L1 ++ x :: L2) (q : sx (L1 ++ x :: e :: L2) f f') :
    (f = x ∧ f' = e) ∨ (f = e ∧ f' ≠ e ∧ sx (L1 ++ x :: L2) x f') ∨ (f ≠ e ∧ f' ≠ e ∧ f ≠ x ∧ sx (L1 ++ x :: L2) f f') := sorry
theorem sx_nx {L : List Int} (hn : L.Nodup) {e f g : Int} (a : sx L e f) (b : sx L e g) : f = g := sorry
theorem sx_pv {L : List Int} (hn : L.Nodup) {e f g : Int} (a : sx L f e) (b : sx L g e) : f = g := sorry
theorem sx_mem {L : List Int} {e f : Int} (a : sx L e f) : e ∈ L ∧ f ∈ L := sorry
theorem sx_ex {L : List Int} {e : Int} (h : e ∈ L) : ∃ f, sx L e f := sorry
/-- an edge comes between two corners of a face that stand two apart -/
theorem WJ_ins {t h : Int → Int} {m : Nat} {A : Int → Prop} {rot rot' : Int → List Int} {e d x b : Int} {L1 L2 M1 M2 : List Int} (hn : ∀ i, (rot i).Nodup) (mA : ∀ i f, f ∈ rot i ↔ A f ∧ inc t h f i) (hs : smp t h (fun f => A f ∨ f = e)) (hl : nlp t h (fun f => A f ∨ f = e)) (hb : ∀ f, A f ∨ f = e → blw m f) (ne : ¬ A e)
    (jd : jn1 t h d (t e) b) (jx : jn1 t h x b (h e)) (hdx : sx (rot b) d x) (ea : rot (t e) = L1 ++ d :: L2) (ec : rot (h e) = M1 ++ x :: M2) (ea' : rot' (t e) = L1 ++ e :: d :: L2) (ec' : rot' (h e) = M1 ++ x :: e :: M2) (eo : ∀ i, i ≠ t e → i ≠ h e → rot' i = rot i) (w : WJ t h m A rot) : WJ t h m (fun f => A f ∨ f = e) rot' := sorry
end
section
/-! ===== what the colours tell: there is room for an edge ===== -/
theorem lc_all {P : Int → Prop} : ∀ {l : List Int} {a : Int}, (∀ u i, lc (a :: l) u i → P u → P i) → P a → ∀ x, x ∈ a :: l → P x := sorry
/-- the colours of an even set -/
def CO (t h : Int → Int) (A : Int → Prop) (rot : Int → List Int) (Z : Int → Prop) (o : Int → Int → Prop) : Prop := (∀ i e e', sx (rot i) e e' → (o e' i ↔ o e (oth t h e i))) ∧ ∀ e, A e → (Z e ↔ ¬ (o e (t e) ↔ o e (h e)))
theorem CO.at {t h : Int → Int} {A : Int → Prop} {rot : Int → List Int} {Z : Int → Prop} {o : Int → Int → Prop} (q : CO t h A rot Z o) (hl : nlp t h A) {e i : Int} (he : A e) (hi : inc t h e i) : Z e ↔ ¬ (o e i ↔ o e (oth t h e i)) := sorry
theorem WJ.co {t h : Int → Int} {m : Nat} {A : Int → Prop} {rot : Int → List Int} (w : WJ t h m A rot) {Z : Int → Prop} (hZ : ∀ e, Z e → A e) (hE : Ev t h m Z) : ∃ o, CO t h A rot Z o := sorry
/-- round a node the colour stays until an edge of the set comes -/
theorem CO.run {t h : Int → Int} {A : Int → Prop} {rot : Int → List Int} {Z : Int → Prop} {o : Int → Int → Prop} (q : CO t h A rot Z o) (hl : nlp t h A) (mA : ∀ i f, f ∈ rot i ↔ A f ∧ inc t h f i) {i a : Int} {l : List Int} (hs : ∀ u v, lc (a :: l) u v → sx (rot i) u v) (hz : ∀ u, u ∈ (a :: l).dropLast → ¬ Z u) : ∀ x, x ∈ a :: l → (o x i ↔ o a i) := sorry
theorem lc_sx {L : List Int} {a : Int} {l : List Int} (c : cyc L (a :: l)) {u v : Int} (z : lc (a :: l) u v) : sx L u v := sorry
theorem four {t h : Int → Int} {m : Nat} {A : Int → Prop} {rot : Int → List Int} (hn : ∀ i, (rot i).Nodup) (mA : ∀ i f, f ∈ rot i ↔ A f ∧ inc t h f i) (hs : smp t h A) (hl : nlp t h A) (hb : ∀ f, A f → blw m f) (w : WJ t h m A rot) {b0 b1 b2 b3 e0 e1 e2 e3 : Int}
    (j0 : jn1 t h e0 b0 b1) (j1 : jn1 t h e1 b1 b2) (j2 : jn1 t h e2 b2 b3) (s1 : sx (rot b1) e0 e1) (s2 : sx (rot b2) e1 e2) (s3 : sx (rot b3) e2 e3) (n01 : b0 ≠ b1) (n02 : b0 ≠ b2) (n03 : b0 ≠ b3) (n12 : b1 ≠ b2) (n13 : b1 ≠ b3) (n23 : b2 ≠ b3) (q02 : jq t h A b0 b2) (q13 : jq t h A b1 b3) : False := sorry
/-- in a face of four or more there is room for an edge -/
theorem fit_ex {t h : Int → Int} {m : Nat} {A : Int → Prop} {rot : Int → List Int} (hn : ∀ i, (rot i).Nodup) (mA : ∀ i f, f ∈ rot i ↔ A f ∧ inc t h f i) (hs : smp t h A) (hl : nlp t h A) (hb : ∀ f, A f → blw m f) (w : WJ t h m A rot) {a E : Int → Int}
    (hE : ∀ k, 0 ≤ k → A (E k) ∧ jn1 t h (E k) (a k) (a (k + 1)) ∧ sx (rot (a (k + 1))) (E k) (E (k + 1))) (hi : ∀ j k, 0 ≤ j → j < k → k < j + 4 → ¬ (E j = E k ∧ a j = a k)) : ∃ k, (0 ≤ k ∧ k < 4) ∧ a k ≠ a (k + 2) ∧ ¬ jq t h A (a k) (a (k + 2)) := sorry
/-! ===== the outer ring of what is left ===== -/
/-- all faces have three -/
def TR (t h : Int → Int) (A : Int → Prop) (rot : Int → List Int) : Prop := ∀ x f f', sx (rot x) f f' → ∃ g, A g ∧ jn1 t h g (oth t h f x) (oth t h f' x) ∧ sx (rot (oth t h f' x)) f' g ∧ sx (rot (oth t h f x)) g f
abbrev OI (t h : Int → Int) (A : Int → Prop) (rot : Int → List Int) (lft : Int → Prop) (c : List Int) : Prop := c.Nodup ∧ (∀ x, x ∈ c → lft x) ∧ (∀ p x q, pq c p x → pq c x q → ∃ eR eL G R, cyc (rot x) (eR :: G ++ eL :: R) ∧ jn1 t h eR x q ∧ jn1 t h eL x p ∧ (∀ g, g ∈ G → ¬ lft (oth t h g x)) ∧ ∀ r, r ∈ R → lft (oth t h r x)) ∧ ∀ y f, lft y → y ∉ c → A f → inc t h f y → lft (oth t h f y)
theorem lc_map {φ : Int → Int} {l : List Int} {a b : Int} (q : lc (l.map φ) a b) : ∃ f f', lc l f f' ∧ φ f = a ∧ φ f' = b := sorry
theorem lc_snd {l : List Int} {z u i : Int} (q : lc (z :: l) u i) : i ∈ l := sorry
theorem jn_oth {t h : Int → Int} {e a b : Int} (j : jn1 t h e a b) : inc t h e a ∧ inc t h e b ∧ oth t h e a = b ∧ oth t h e b = a := sorry
theorem oth_inj {t h : Int → Int} {A : Int → Prop} (hs : smp t h A) {e f x : Int} (he : A e) (hf : A f) (ie : inc t h e x) (jf : inc t h f x) (z : oth t h e x = oth t h f x) : e = f := sorry
theorem sx_last {L : List Int} {a : Int} {l : List Int} (hn : L.Nodup) (c : cyc L (a :: l)) {g : Int} (s : sx L g a) : ∃ l', a :: l = l' ++ [g] := sorry
theorem sx_three {L : List Int} (hn : L.Nodup) {a b c : Int} (s1 : sx L a b) (s2 : sx L b c) (nab : a ≠ b) (nac : a ≠ c) : ∃ R, cyc L (a :: b :: c :: R) := sorry
theorem OI_step {t h : Int → Int} {A : Int → Prop} {rot : Int → List Int} {lft : Int → Prop} {c M : List Int} {p x q : Int} (hn : ∀ i, (rot i).Nodup) (mA : ∀ i f, f ∈ rot i ↔ A f ∧ inc t h f i) (hs : smp t h A) (hl : nlp t h A) (T : TR t h A rot) (O : OI t h A rot lft c) (hc : cyc c (p :: x :: q :: M)) (nc : ∀ f, A f → inc t h f x → oth t h f x ∈ c → oth t h f x = p ∨ oth t h f x = q)
    {eR eL : Int} {G R : List Int} (cx : cyc (rot x) (eR :: G ++ eL :: R)) (jR : jn1 t h eR x q) (jL : jn1 t h eL x p) (hG : ∀ g, g ∈ G → ¬ lft (oth t h g x)) (hR : ∀ r, r ∈ R → lft (oth t h r x)) (hne : R ≠ [] ∨ M ≠ []) :
    OI t h A rot (fun y => lft y ∧ y ≠ x) (p :: R.map (fun r => oth t h r x) ++ q :: M) := sorry
end
section
theorem chn_lc {E : Int → Int → Prop} : ∀ {l : List Int}, (∀ u v, lc l u v → E u v) → chn E l := sorry
/-- two chords of the outer ring do not cross -/
theorem cross {t h : Int → Int} {m : Nat} {A : Int → Prop} {rot : Int → List Int} {lft : Int → Prop} {c : List Int} (hn : ∀ i, (rot i).Nodup) (mA : ∀ i f, f ∈ rot i ↔ A f ∧ inc t h f i) (hs : smp t h A) (hl : nlp t h A) (hb : ∀ f, A f → blw m f) (w : WJ t h m A rot) (O : OI t h A rot lft c)
    {P M S : List Int} {la lb x z y : Int} (hc : c = P ++ la :: M ++ lb :: S) (xM : x ∈ M) (hz : z ∈ P ∨ z ∈ S) (jab : jq t h A la lb) (Ay : A y) (jy : jn1 t h y x z) : False := sorry
theorem li_split {l : List Int} {k : Int} (h0 : 0 ≤ k) (h1 : k < l.length) : ∃ P S, l = P ++ li l k :: S ∧ (P.length : Int) = k := sorry
theorem li_ex {l : List Int} {x : Int} (h : x ∈ l) : ∃ k : Int, (0 ≤ k ∧ k < l.length) ∧ li l k = x := sorry
/-- some node of the outer ring has no chord -/
theorem OI_ex {t h : Int → Int} {m : Nat} {A : Int → Prop} {rot : Int → List Int} {lft : Int → Prop} {c : List Int} (hn : ∀ i, (rot i).Nodup) (mA : ∀ i f, f ∈ rot i ↔ A f ∧ inc t h f i) (hs : smp t h A) (hl : nlp t h A) (hb : ∀ f, A f → blw m f) (w : WJ t h m A rot) (O : OI t h A rot lft c) (l3 : 3 ≤ c.length) :
    ∃ j : Int, (0 < j ∧ j + 1 < c.length) ∧ ∀ f, A f → inc t h f (li c j) → oth t h f (li c j) ∈ c → oth t h f (li c j) = li c (j - 1) ∨ oth t h f (li c j) = li c (j + 1) := sorry
/-- the first outer ring -/
theorem OI_ini {t h : Int → Int} {A : Int → Prop} {rot : Int → List Int} {lft : Int → Prop} (hn : ∀ i, (rot i).Nodup) (mA : ∀ i f, f ∈ rot i ↔ A f ∧ inc t h f i) {u v x e0 e1 e2 : Int} (hu : lft u) (hv : lft v) (hx : lft x) (hA : ∀ y f, A f → inc t h f y → lft (oth t h f y)) (nuv : u ≠ v) (nux : u ≠ x) (nvx : v ≠ x) (j0 : jn1 t h e0 u v) (j1 : jn1 t h e1 v x) (j2 : jn1 t h e2 x u) (s0 : sx (rot v) e0 e1) (s1 : sx (rot x) e1 e2) (s2 : sx (rot u) e2 e0) :
    OI t h A rot lft [u, x, v] := sorry
end
section
/-! ===== what is nought round all faces is a difference ===== -/
def lsm (dw : Int → Int → Int) : List Int → Int
  | [] => 0
  | [_] => 0
  | a :: b :: l => dw a b + lsm dw (b :: l)
theorem lsm_ap {dw : Int → Int → Int} {l1 : List Int} {a : Int} {l2 : List Int} : lsm dw (l1 ++ a :: l2) = lsm dw (l1 ++ [a]) + lsm dw (a :: l2) := sorry
theorem lsm_rev {dw : Int → Int → Int} (as : ∀ u v, dw u v = - dw v u) : ∀ {l : List Int}, lsm dw l.reverse = - lsm dw l := sorry
theorem lsm_two {dw : Int → Int → Int} {r s : Int} {A B : List Int} : lsm dw (cl (r :: A ++ s :: B)) = lsm dw (r :: A ++ [s]) + lsm dw (s :: B ++ [r]) := sorry
theorem lsm_cyc {dw : Int → Int → Int} {c c' : List Int} (q : cyc c c') : lsm dw (cl c) = lsm dw (cl c') := sorry
theorem lsm_pot {dw : Int → Int → Int} {p : Int → Int} : ∀ {l : List Int} {a b : Int}, (∀ u v, lc (a :: l ++ [b]) u v → dw u v = p v - p u) → lsm dw (a :: l ++ [b]) = p b - p a := sorry
theorem way_pot {dw : Int → Int → Int} : ∀ {l : List Int} {a : Int} (k : Int), (a :: l).Nodup → ∃ p : Int → Int, p a = k ∧ ∀ u v, lc (a :: l) u v → dw u v = p v - p u := sorry
def PJ (t h : Int → Int) (X : Int → Prop) (F : Nat → List Int) (n : Nat) (Q : Int → Prop) : Prop :=
  ∀ dw : Int → Int → Int, (∀ u v, dw u v = - dw v u) → (∀ f, f < n → lsm dw (cl (F f)) = 0) → ∃ p : Int → Int, ∀ e a b, X e → ¬ Q e → jn1 t h e a b → dw a b = p b - p a
theorem PJ_ini {t h : Int → Int} {X : Int → Prop} {F : Nat → List Int} {c : List Int} (r : Rg t h X c) (h0 : cyc c (F 0)) : PJ t h X F 2 (fun g => X g ∧ ¬ pE t h (cl c) g) := sorry
theorem PJ_spl {t h : Int → Int} {X : Int → Prop} {N : Nat} {F : Nat → List Int} {n f0 : Nat} {Q : Int → Prop} {x : Int} {A : List Int} {y : Int} {B I : List Int} (D : DI t h X N F n Q) (hs : smp t h X) (hf0 : f0 < n) (hcy : cyc (F f0) (x :: A ++ y :: B)) (hw : (x :: I ++ [y]).Nodup) (hI : ∀ v, v ∈ I → ¬ Dr F n v)
    (q : PJ t h X F n Q) : PJ t h X (spl F n f0 (x :: A ++ y :: I.reverse) (y :: B ++ x :: I)) (n + 1) (fun e => Q e ∧ ¬ pE t h (x :: I ++ [y]) e) := sorry
theorem Rn_PJ {t h : Int → Int} {X : Int → Prop} {N m : Nat} {c c1 : List Int} (r : Rg t h X c) (hr : ∀ v, v ∈ c → blw N v) (h1 : cyc c.reverse c1) (hs : smp t h X) (hb : ∀ e, X e → blw m e) (hX : ∀ e, X e → blw N (t e) ∧ blw N (h e)) :
    ∀ (k : Nat) (F : Nat → List Int) (n : Nat) (Q : Int → Prop), Rn t h X c c1 k F n Q → PJ t h X F n Q := sorry
/-! ===== from face to face there is no way back ===== -/
noncomputable def dwi (a b u v : Int) : Int := @ite Int (u = a ∧ v = b) (Classical.propDecidable _) 1 0 - @ite Int (u = b ∧ v = a) (Classical.propDecidable _) 1 0
noncomputable def dws (lo hi : Int → Int) : List Int → Int → Int → Int
  | [], _, _ => 0
  | e :: es, u, v => dwi (lo e) (hi e) u v + dws lo hi es u v
theorem dwi_as (a b u v : Int) : dwi a b u v = - dwi a b v u := sorry
theorem dws_as (lo hi : Int → Int) : ∀ (es : List Int) (u v : Int), dws lo hi es u v = - dws lo hi es v u := sorry
theorem lsm_add {d1 d2 : Int → Int → Int} : ∀ {l : List Int}, lsm (fun u v => d1 u v + d2 u v) l = lsm d1 l + lsm d2 l := sorry
theorem lsm_0 {d : Int → Int → Int} : ∀ {l : List Int}, (∀ u v, lc l u v → d u v = 0) → lsm d l = 0 := sorry
/-- one step along a ring: once or never -/
theorem lsm_one {c : List Int} (hn : c.Nodup) (h2 : 2 ≤ c.length) (a b : Int) : lsm (fun u v => @ite Int (u = a ∧ v = b) (Classical.propDecidable _) 1 0) (cl c) = @ite Int (pq c a b) (Classical.propDecidable _) 1 0 := sorry
theorem lsm_dwi {c : List Int} (hn : c.Nodup) (h2 : 2 ≤ c.length) (a b : Int) : lsm (dwi a b) (cl c) = @ite Int (pq c a b) (Classical.propDecidable _) 1 0 - @ite Int (pq c b a) (Classical.propDecidable _) 1 0 := sorry
/-- from face f over edges to face g -/
def dch (F : Nat → List Int) (n : Nat) (lo hi : Int → Int) : Nat → List Int → Nat → Prop
  | f, [], g => f = g
  | f, e :: es, g => ∃ k, k < n ∧ pq (F f) (lo e) (hi e) ∧ pq (F k) (hi e) (lo e) ∧ dch F n lo hi k es g
theorem dch_sum {F : Nat → List Int} {n : Nat} {lo hi : Int → Int} (R : RS F n) (hn : ∀ f, f < n → (F f).Nodup) (hl : ∀ f, f < n → 3 ≤ (F f).length) (k : Nat) (hk : k < n) : ∀ (es : List Int) (f g : Nat), f < n → g < n → dch F n lo hi f es g →
    lsm (dws lo hi es) (cl (F k)) = @ite Int (f = k) (Classical.propDecidable _) 1 0 - @ite Int (g = k) (Classical.propDecidable _) 1 0 := sorry
theorem dws_ge {lo hi : Int → Int} {u v : Int} : ∀ {es : List Int}, (∀ e, e ∈ es → ¬ (lo e = v ∧ hi e = u)) → 0 ≤ dws lo hi es u v ∧ ((∃ e, e ∈ es ∧ lo e = u ∧ hi e = v) → 1 ≤ dws lo hi es u v) := sorry
/-- numbers that grow from s to t: no way over faces comes back -/
theorem dual_ac {t h : Int → Int} {X Q : Int → Prop} {F : Nat → List Int} {n : Nat} {lo hi nu : Int → Int} {s T e0 : Int} (hs : smp t h X) (R : RS F n) (hn : ∀ f, f < n → (F f).Nodup) (hl : ∀ f, f < n → 3 ≤ (F f).length) (P : PJ t h X F n Q) (hQ : ∀ e, ¬ Q e) (hj : ∀ e, X e → jn1 t h e (lo e) (hi e)) (hlt : ∀ e, X e → nu (lo e) < nu (hi e))
    (h0 : X e0) (l0 : lo e0 = s) (t0 : hi e0 = T) (hdn : ∀ v, tch t h X v → v ≠ s → ∃ e, X e ∧ hi e = v) (hup : ∀ v, tch t h X v → v ≠ T → ∃ e, X e ∧ lo e = v) (hbd : ∀ v, tch t h X v → nu s ≤ nu v ∧ nu v ≤ nu T) {es : List Int} (hes : ∀ e, e ∈ es → X e ∧ e ≠ e0) {f : Nat} (hf : f < n) (q : dch F n lo hi f es f) : es = [] := sorry
end
section
/-! ===== orders as rows, one behind the other ===== -/
def lxl : List Int → List Int → Prop
  | a :: l, b :: l' => a < b ∨ (a = b ∧ lxl l l')
  | _, _ => False
theorem lxl_ir : ∀ {l : List Int}, ¬ lxl l l := sorry
theorem lxl_tot : ∀ {l l' : List Int}, l.length = l'.length → lxl l l' ∨ l = l' ∨ lxl l' l := sorry
theorem lxl_tr : ∀ {a b c : List Int}, lxl a b → lxl b c → lxl a c := sorry
theorem lxl_ap {A : List Int} {l l' : List Int} : lxl (A ++ l) (A ++ l') ↔ lxl l l' := sorry
/-- a falling row is the last of its orders, a rising one the first -/
theorem fall_max : ∀ {D R : List Int}, D.Pairwise (· > ·) → R.Perm D → ¬ lxl D R := sorry
theorem rise_min : ∀ {D R : List Int}, D.Pairwise (· < ·) → R.Perm D → ¬ lxl R D := sorry
/-- the next order -/
theorem next_ok {A D1 D2 : List Int} {x y : Int} (hf : (D1 ++ y :: D2).Pairwise (· > ·)) (hy : x < y) (h2 : ∀ z, z ∈ D2 → z < x) :
    (A ++ y :: (D2.reverse ++ x :: D1.reverse)).Perm (A ++ x :: (D1 ++ y :: D2)) ∧ lxl (A ++ x :: (D1 ++ y :: D2)) (A ++ y :: (D2.reverse ++ x :: D1.reverse)) ∧ ∀ R, R.Perm (A ++ x :: (D1 ++ y :: D2)) → lxl (A ++ x :: (D1 ++ y :: D2)) R → ¬ lxl R (A ++ y :: (D2.reverse ++ x :: D1.reverse)) := sorry
/-- the first of the best orders -/
def FB (L : List Int) (C : List Int → Int) (best : List Int) : Prop := best.Perm L ∧ ∀ R, R.Perm L → C best < C R ∨ (C best = C R ∧ ¬ lxl R best)
theorem FB_un {L : List Int} {C : List Int → Int} {a b : List Int} (qa : FB L C a) (qb : FB L C b) : a = b := sorry
/-- the first of the best of those up to an order -/
def FBu (L : List Int) (C : List Int → Int) (P best : List Int) : Prop := best.Perm L ∧ ¬ lxl P best ∧ ∀ R, R.Perm L → ¬ lxl P R → C best < C R ∨ (C best = C R ∧ ¬ lxl R best)
theorem FBu_0 {L : List Int} {C : List Int → Int} (hL : L.Pairwise (· < ·)) : FBu L C L L := sorry
theorem FBu_nx {L : List Int} {C : List Int → Int} {P P' best : List Int} (q : FBu L C P best) (hP : P'.Perm L) (hlt : lxl P P') (hno : ∀ R, R.Perm L → lxl P R → ¬ lxl R P') : FBu L C P' (if C P' < C best then P' else best) := sorry
theorem FBu_end {L : List Int} {C : List Int → Int} {P best : List Int} (hP : P.Perm L) (hf : P.Pairwise (· > ·)) (q : FBu L C P best) : FB L C best := sorry
/-- by what is left: the first one that may come first -/
theorem FB_cons {L L' : List Int} {C : List Int → Int} {r : Int} {best : List Int} (C0 : Int → List Int → Int) (hC : ∀ a l, C (a :: l) = C0 a l + C l) (hC0 : ∀ a l l', l.Perm l' → C0 a l = C0 a l') (hp : (r :: L').Perm L) (q : FB L' C best)
    (hmin : ∀ a l, (a :: l).Perm L → C0 r L' + C best ≤ C0 a l + C l) (hfst : ∀ a l, (a :: l).Perm L → C0 a l + C l = C0 r L' + C best → r ≤ a) : FB L C (r :: best) := sorry
end
section
/-! ===== orders by their numbers ===== -/
def fcl : Nat → Nat
  | 0 => 1
  | n + 1 => (n + 1) * fcl n
theorem fcl_pos : ∀ n, 0 < fcl n := sorry
def dec : Nat → List Int → Nat → List Int
  | 0, _, _ => []
  | n + 1, L, o => L.getD (o / fcl n) 0 :: dec n (L.eraseIdx (o / fcl n)) (o % fcl n)
theorem er_perm : ∀ {L : List Int} {k : Nat}, k < L.length → (L.getD k 0 :: L.eraseIdx k).Perm L := sorry
theorem dec_perm : ∀ {n : Nat} {L : List Int} {o : Nat}, L.length = n → o < fcl n → (dec n L o).Perm L := sorry
theorem up_er {L : List Int} {k : Nat} (hL : L.Pairwise (· < ·)) : (L.eraseIdx k).Pairwise (· < ·) := sorry
theorem up_lt : ∀ {L : List Int} {j k : Nat}, L.Pairwise (· < ·) → j < k → k < L.length → L.getD j 0 < L.getD k 0 := sorry
theorem dec_mono : ∀ {n : Nat} {L : List Int} {o o' : Nat}, L.length = n → L.Pairwise (· < ·) → o < o' → o' < fcl n → lxl (dec n L o) (dec n L o') := sorry
theorem er_mid {A B : List Int} {x : Int} : (A ++ x :: B).eraseIdx A.length = A ++ B := sorry
theorem gd_mid {A B : List Int} {x : Int} : (A ++ x :: B).getD A.length 0 = x := sorry
theorem dec_sur : ∀ {n : Nat} {L R : List Int}, L.length = n → R.Perm L → ∃ o, o < fcl n ∧ dec n L o = R := sorry
theorem dec_0 : ∀ {n : Nat} {L : List Int}, L.length = n → dec n L 0 = L := sorry
/-- the order behind one, and the last one -/
theorem dec_next {n : Nat} {L P : List Int} {o : Nat} (hL : L.Pairwise (· < ·)) (hn : L.length = n) (ho : o < fcl n) (hP : P.Perm L) (h1 : lxl (dec n L o) P) (h2 : ∀ R, R.Perm L → lxl (dec n L o) R → ¬ lxl R P) : o + 1 < fcl n ∧ P = dec n L (o + 1) := sorry
theorem dec_last {n : Nat} {L : List Int} {o : Nat} (hL : L.Pairwise (· < ·)) (hn : L.length = n) (ho : o < fcl n) (h : (dec n L o).Pairwise (· > ·)) : o + 1 = fcl n := sorry
end
section
/-! ===== faces by darts: 2 e from the tail, 2 e + 1 from the head ===== -/
def frD (t h : Int → Int) (d : Int) : Int := if d % 2 = 0 then t (d / 2) else h (d / 2)
def toD (t h : Int → Int) (d : Int) : Int := if d % 2 = 0 then h (d / 2) else t (d / 2)
def NX (t h : Int → Int) (rot : Int → List Int) (d d' : Int) : Prop := ∃ f, sx (rot (toD t h d)) (d / 2) f ∧ d' = 2 * f + if t f = toD t h d then 0 else 1
theorem frD_out {t h : Int → Int} {f i : Int} (hi : inc t h f i) : frD t h (2 * f + if t f = i then 0 else 1) = i := sorry
theorem toD_inc {t h : Int → Int} {d : Int} : inc t h (d / 2) (toD t h d) ∧ inc t h (d / 2) (frD t h d) ∧ oth t h (d / 2) (frD t h d) = toD t h d := sorry
theorem NX_fr {t h : Int → Int} {A : Int → Prop} {rot : Int → List Int} (mA : ∀ i f, f ∈ rot i ↔ A f ∧ inc t h f i) {d d' : Int} (q : NX t h rot d d') : frD t h d' = toD t h d ∧ A (d' / 2) ∧ sx (rot (toD t h d)) (d / 2) (d' / 2) := sorry
theorem NX_un {t h : Int → Int} {rot : Int → List Int} (hn : ∀ i, (rot i).Nodup) {d a b : Int} (q : NX t h rot d a) (q' : NX t h rot d b) : a = b := sorry
theorem NX_ex {t h : Int → Int} {A : Int → Prop} {rot : Int → List Int} (mA : ∀ i f, f ∈ rot i ↔ A f ∧ inc t h f i) {d : Int} (hd : A (d / 2)) : ∃ d', NX t h rot d d' := sorry
theorem NX_inj {t h : Int → Int} {A : Int → Prop} {rot : Int → List Int} (hn : ∀ i, (rot i).Nodup) (mA : ∀ i f, f ∈ rot i ↔ A f ∧ inc t h f i) (hl : nlp t h A) {a b d : Int} (q : NX t h rot a d) (q' : NX t h rot b d) : a = b := sorry
/-- the faces in the order in which they are met -/
abbrev FSp (t h : Int → Int) (m : Nat) (rot : Int → List Int) (n : Nat) (W : Nat → List Int) : Prop := (∀ f, f < n → (W f).Nodup ∧ W f ≠ [] ∧ ∀ d d', sx (W f) d d' → NX t h rot d d') ∧ (∀ f d, f < n → d ∈ W f → 0 ≤ d ∧ d < 2 * (m : Int)) ∧ (∀ f g d, f < n → g < n → d ∈ W f → d ∈ W g → f = g) ∧ ∀ f d, f < n → 0 ≤ d → d < li (W f) 0 → ∃ g, g < f ∧ d ∈ W g
def FS (t h : Int → Int) (m : Nat) (rot : Int → List Int) (n : Nat) (W : Nat → List Int) : Prop := FSp t h m rot n W ∧ ∀ d : Int, 0 ≤ d → d < 2 * (m : Int) → ∃ f, f < n ∧ d ∈ W f
theorem sx_li {L : List Int} {k : Int} (h0 : 0 ≤ k) (h1 : k < L.length) : sx L (li L k) (li L ((k + 1) % L.length)) := sorry
theorem FS_same {t h : Int → Int} {rot : Int → List Int} (hn : ∀ i, (rot i).Nodup) {L L' : List Int} (h1 : L.Nodup) (h2 : L'.Nodup) (n1 : L ≠ []) (n2 : L' ≠ []) (c1 : ∀ d d', sx L d d' → NX t h rot d d') (c2 : ∀ d d', sx L' d d' → NX t h rot d d') (h0 : li L 0 = li L' 0) : L = L' := sorry
theorem FSp_un {t h : Int → Int} {m : Nat} {rot : Int → List Int} (hn : ∀ i, (rot i).Nodup) {n n' : Nat} {W W' : Nat → List Int} (q : FSp t h m rot n W) (q' : FSp t h m rot n' W') : ∀ f, f < n → f < n' → W f = W' f := sorry
theorem FS_un {t h : Int → Int} {m : Nat} {rot : Int → List Int} (hn : ∀ i, (rot i).Nodup) {n n' : Nat} {W W' : Nat → List Int} (q : FS t h m rot n W) (q' : FS t h m rot n' W') : n = n' ∧ ∀ f, f < n → W f = W' f := sorry
/-- a walk goes on -/
theorem FS_go {t h : Int → Int} {m : Nat} {A : Int → Prop} {rot : Int → List Int} (hn : ∀ i, (rot i).Nodup) (mA : ∀ i f, f ∈ rot i ↔ A f ∧ inc t h f i) (hl : nlp t h A) {n : Nat} {W : Nat → List Int} (q : FSp t h m rot n W) {L : List Int} {a y : Int} (hc : ∀ d d', lc L d d' → NX t h rot d d') (hnd : L.Nodup) (hLW : ∀ f d, f < n → d ∈ L → d ∉ W f) (hlast : ∃ l', L = l' ++ [a]) (hy : NX t h rot a y) :
    (y = li L 0 ∨ y ∉ L) ∧ ∀ f, f < n → y ∉ W f := sorry
end
section
/-! ===== a count: edges are at most nodes and faces, less two ===== -/
noncomputable def enc (P : Nat → Prop) : Nat → Nat
  | 0 => 0
  | k + 1 => enc P k + @ite Nat (P k) (Classical.propDecidable _) (2 ^ k) 0
theorem enc_lt {P : Nat → Prop} : ∀ k, enc P k < 2 ^ k := sorry
theorem enc_inj {P R : Nat → Prop} : ∀ k, enc P k = enc R k → ∀ i, i < k → (P i ↔ R i) := sorry
theorem pigeon : ∀ (a b : Nat) (f : Nat → Nat), (∀ i, i < a → f i < b) → (∀ i j, i < a → j < a → f i = f j → i = j) → a ≤ b := sorry
/-- with colours for each even set there are faces enough -/
theorem few {t h : Int → Int} {m N : Nat} {rot : Int → List Int} (mA : ∀ i f, f ∈ rot i ↔ blw m f ∧ inc t h f i) (hl : nlp t h (blw m)) (hr : ∀ e, blw m e → blw N (t e) ∧ blw N (h e)) (w : WJ t h m (blw m) rot) {n : Nat} {W : Nat → List Int} (F : FS t h m rot n W) (hN : 1 ≤ N) (hn1 : 1 ≤ n) : m + 2 ≤ N + n := sorry
end
section
/-- the faces' darts one behind the other -/
def ctW (W : Nat → List Int) : Nat → List Int
  | 0 => []
  | n + 1 => ctW W n ++ W n
theorem ctW_mem {W : Nat → List Int} {d : Int} : ∀ {n : Nat}, d ∈ ctW W n ↔ ∃ f, f < n ∧ d ∈ W f := sorry
theorem ctW_nd {W : Nat → List Int} : ∀ {n : Nat}, (∀ f, f < n → (W f).Nodup) → (∀ f g d, f < n → g < n → d ∈ W f → d ∈ W g → f = g) → (ctW W n).Nodup := sorry
theorem ctW_len {W : Nat → List Int} {k : Nat} : ∀ {n : Nat}, (∀ f, f < n → k ≤ (W f).length) → k * n ≤ (ctW W n).length := sorry
theorem FSp_len {t h : Int → Int} {m : Nat} {rot : Int → List Int} {n : Nat} {W : Nat → List Int} (q : FSp t h m rot n W) : (ctW W n).length ≤ 2 * m := sorry
theorem FSp_2 {t h : Int → Int} {m : Nat} {A : Int → Prop} {rot : Int → List Int} {n : Nat} {W : Nat → List Int} (mA : ∀ i f, f ∈ rot i ↔ A f ∧ inc t h f i) (hl : nlp t h A) (q : FSp t h m rot n W) : ∀ f, f < n → 2 ≤ (W f).length := sorry
theorem sx_self {L : List Int} (hn : L.Nodup) {e : Int} (s : sx L e e) : ∀ f, f ∈ L → f = e := sorry
theorem FSp_3 {t h : Int → Int} {m : Nat} {A : Int → Prop} {rot : Int → List Int} {n : Nat} {W : Nat → List Int} (hn : ∀ i, (rot i).Nodup) (mA : ∀ i f, f ∈ rot i ↔ A f ∧ inc t h f i) (hs : smp t h A) (hl : nlp t h A) (q : FSp t h m rot n W) (hc : ∀ a b : Int, ∃ j, j ≠ a ∧ j ≠ b ∧ rchs (aj t h A) a j) : ∀ f, f < n → 3 ≤ (W f).length := sorry
end
section
/-! ===== the search for a map ===== -/
/-- one node's places from k on: 0 none, 1 found, 2 too many steps; the place, the steps -/
noncomputable def scn (ft : (Int → Int) → Int → Int → Prop) (mp : Int → Int) (i : Int) : Nat → Int → Int → Int × Int × Int
  | 0, k, st => (0, k, st)
  | f + 1, k, st => @ite _ (∃ a, 0 ≤ a ∧ a < i ∧ mp a = k) (Classical.propDecidable _) (scn ft mp i f (k + 1) st) (if st = 20000 then (2, k, st) else @ite _ (ft mp i k) (Classical.propDecidable _) (1, k, st + 1) (scn ft mp i f (k + 1) (st + 1)))
theorem scn_k {ft : (Int → Int) → Int → Int → Prop} {mp : Int → Int} {i : Int} : ∀ {f : Nat} {k st : Int}, (scn ft mp i f k st).1 = 1 → k ≤ (scn ft mp i f k st).2.1 ∧ (scn ft mp i f k st).2.1 < k + f := sorry
theorem scn_012 {ft : (Int → Int) → Int → Int → Prop} {mp : Int → Int} {i : Int} : ∀ {f : Nat} {k st : Int}, (scn ft mp i f k st).1 = 0 ∨ (scn ft mp i f k st).1 = 1 ∨ (scn ft mp i f k st).1 = 2 := sorry
/-- from a state to the end: the answer (-2, 0, 1), the map, the steps -/
noncomputable def srch (ft : (Int → Int) → Int → Int → Prop) (n : Int) : Nat → Int → (Int → Int) → Int → Option (Int × (Int → Int) × Int)
  | 0, _, _, _ => none
  | f + 1, i, mp, st =>
    if i < 0 then some (0, mp, st) else if n ≤ i then some (1, mp, st) else
      let s := scn ft mp i (n - (mp i + 1)).toNat (mp i + 1) st
      if s.1 = 2 then some (-2, mp, s.2.2) else if s.1 = 1 then srch ft n f (i + 1) (fun x => if x = i then s.2.1 else mp x) s.2.2 else srch ft n f (i - 1) (fun x => if x = i then -1 else mp x) s.2.2
/-- a number that falls -/
def wgt (n : Int) (mp : Int → Int) : Nat → Int
  | 0 => 0
  | j + 1 => 32 * wgt n mp j + (n - (mp j + 1))
theorem wgt_cg {n : Int} {mp mp' : Int → Int} : ∀ {j : Nat}, (∀ x : Int, 0 ≤ x → x < j → mp x = mp' x) → wgt n mp j = wgt n mp' j := sorry
theorem wgt_0 {n : Int} {mp : Int → Int} : ∀ {j : Nat}, (∀ x : Int, 0 ≤ x → x < j → mp x + 1 ≤ n) → 0 ≤ wgt n mp j := sorry
def Wt (n : Int) (mp : Int → Int) (i : Int) : Nat := if i < 0 then 0 else if i < n then (wgt n mp (i.toNat + 1)).toNat * 32 ^ (n - 1 - i).toNat else (wgt n mp n.toNat).toNat
theorem srch_ex {ft : (Int → Int) → Int → Int → Prop} {n : Int} (n0 : 0 ≤ n) (n1 : n ≤ 24) : ∀ (w k : Nat) (i : Int) (mp : Int → Int) (st : Int), -1 ≤ i → i ≤ n → (∀ x, 0 ≤ x → -1 ≤ mp x ∧ mp x < n) → (∀ x, i < x → mp x = -1) → Wt n mp i = w → i + 1 = k → ∃ f r, srch ft n f i mp st = some r := sorry
end
section
/-! ===== the same graph with other numbers ===== -/
theorem bk_ren {t h t' h' : Int → Int} {A A' : Int → Prop} {s : Int → Int} (hs : smp t h A) (hl : nlp t h A) (hs' : smp t' h' A') (hl' : nlp t' h' A') (h1 : ∀ e, A e → A' (s e) ∧ t' (s e) = t e ∧ h' (s e) = h e) (hi : ∀ e f, A e → A f → s e = s f → e = f) {e f : Int} (q : bk t h A e f) (_he : A e) (_hf : A f) : bk t' h' A' (s e) (s f) := sorry
theorem PL_ren1 {t h t' h' : Int → Int} {A A' : Int → Prop} {s s' : Int → Int} (hs : smp t h A) (hl : nlp t h A) (hs' : smp t' h' A') (hl' : nlp t' h' A') (h1 : ∀ e, A e → A' (s e) ∧ t' (s e) = t e ∧ h' (s e) = h e ∧ s' (s e) = e) (h2 : ∀ e, A' e → A (s' e) ∧ s (s' e) = e) (q : PL t h A) : PL t' h' A' := sorry
theorem PL_ren {t h t' h' : Int → Int} {A A' : Int → Prop} {s s' : Int → Int} (hs : smp t h A) (hl : nlp t h A) (h1 : ∀ e, A e → A' (s e) ∧ t' (s e) = t e ∧ h' (s e) = h e ∧ s' (s e) = e) (h2 : ∀ e, A' e → A (s' e) ∧ s (s' e) = e) : smp t' h' A' ∧ nlp t' h' A' ∧ (PL t h A ↔ PL t' h' A') := sorry
end
section
/-! ===== the twin: from dart to dart, round by round ===== -/
theorem shr_2 {x : Int} (h0 : 0 ≤ x) (h1 : x < 2147483648) : z_ishr x 1 = x / 2 := sorry
theorem and_2 {x : Int} (h0 : 0 ≤ x) (h1 : x < 2147483648) : z_iand x 1 = x % 2 := sorry
/-- rows of edges round the nodes, as the twin keeps them -/
def rowT (v : Int → Int → Int) (N : Nat) (rot : Int → List Int) : Prop := ∀ i : Int, 0 ≤ i → i < N → v 298 i = (rot i).length ∧ ∀ k : Int, 0 ≤ k → k < (rot i).length → v 299 (80 * i + k) = li (rot i) k
/-- a web: edges, nodes, orders -/
abbrev WB (t h : Int → Int) (m N : Nat) (rot : Int → List Int) : Prop := (∀ i, (rot i).Nodup) ∧ (∀ i f, f ∈ rot i ↔ blw m f ∧ inc t h f i) ∧ smp t h (blw m) ∧ nlp t h (blw m) ∧ (∀ e, blw m e → blw N (t e) ∧ blw N (h e))
theorem WB.nd {t h : Int → Int} {m N : Nat} {rot : Int → List Int} (q : WB t h m N rot) : ∀ i, (rot i).Nodup := sorry
theorem WB.mA {t h : Int → Int} {m N : Nat} {rot : Int → List Int} (q : WB t h m N rot) : ∀ i f, f ∈ rot i ↔ blw m f ∧ inc t h f i := sorry
theorem WB.hs {t h : Int → Int} {m N : Nat} {rot : Int → List Int} (q : WB t h m N rot) : smp t h (blw m) := sorry
theorem WB.hl {t h : Int → Int} {m N : Nat} {rot : Int → List Int} (q : WB t h m N rot) : nlp t h (blw m) := sorry
theorem WB.hr {t h : Int → Int} {m N : Nat} {rot : Int → List Int} (q : WB t h m N rot) : ∀ e, blw m e → blw N (t e) ∧ blw N (h e) := sorry
theorem WB.len {t h : Int → Int} {m N : Nat} {rot : Int → List Int} (q : WB t h m N rot) (i : Int) : (rot i).length ≤ N := sorry
theorem WB.to {t h : Int → Int} {m N : Nat} {rot : Int → List Int} (q : WB t h m N rot) {x : Int} (h0 : 0 ≤ x) (h1 : x < 2 * (m : Int)) : blw m (x / 2) ∧ blw N (toD t h x) ∧ blw N (frD t h x) := sorry
theorem WB.nx {t h : Int → Int} {m N : Nat} {rot : Int → List Int} (q : WB t h m N rot) {x y : Int} (n : NX t h rot x y) : 0 ≤ y ∧ y < 2 * (m : Int) := sorry
set_option maxRecDepth 100000 in
theorem sp_Mo_nextDart {l : Launch} {D : qD} {d N m : Nat} {x y : Int} {T H : Int → Int} {rot : Int → List Int} {h : qh} {Q : qQ} (a33 : h.2 280 33 = 295) (a34 : h.2 280 34 = 296) (a36 : h.2 280 36 = 298) (a37 : h.2 280 37 = 299) (eT : h.2 295 = T) (eH : h.2 296 = H) (m0 : m ≤ 80) (N0 : N ≤ 25) (wb : WB T H m N rot) (hrow : rowT h.2 N rot) (x0 : 0 ≤ x ∧ x < 2 * (m : Int)) (hy : NX T H rot x y) (hq : Q (some (.inl y)) h) :
    qM l D (d + 2, 0, 0) m_Mo_nextDart [.inr (.inr 280), .inl x] h Q := sorry
end
section
/-! ===== the twin: goRound ===== -/
theorem ctW_cg {W W' : Nat → List Int} : ∀ {n : Nat}, (∀ f, f < n → W f = W' f) → ctW W n = ctW W' n := sorry
theorem lc_ap1 {l : List Int} {a y u v : Int} (q : lc (l ++ [a] ++ [y]) u v) : lc (l ++ [a]) u v ∨ (u = a ∧ v = y) := sorry
theorem room {W : Nat → List Int} {r : Nat} {m : Nat} {L : List Int} (nd : (ctW W r).Nodup) (hin : ∀ d, d ∈ ctW W r → 0 ≤ d ∧ d < 2 * (m : Int)) (nL : L.Nodup) (hL : ∀ d, d ∈ L → 0 ≤ d ∧ d < 2 * (m : Int)) (dj : ∀ f d, f < r → d ∈ L → d ∉ W f) : (ctW W r).length + L.length ≤ 2 * m := sorry
/-- a face more -/
theorem FSp_more {t h : Int → Int} {m : Nat} {rot : Int → List Int} {r : Nat} {W : Nat → List Int} {M : List Int} (q : FSp t h m rot r W) (h1 : M.Nodup) (h2 : M ≠ []) (h3 : ∀ d d', sx M d d' → NX t h rot d d') (h4 : ∀ d, d ∈ M → 0 ≤ d ∧ d < 2 * (m : Int)) (h5 : ∀ f d, f < r → d ∈ M → d ∉ W f) (h6 : ∀ d, 0 ≤ d → d < li M 0 → ∃ g, g < r ∧ d ∈ W g) :
    FSp t h m rot (r + 1) (fun f => if f = r then M else W f) := sorry
set_option maxRecDepth 100000 in
theorem sp_Mo_goRound {l : Launch} {D : qD} {d N m : Nat} {T H : Int → Int} {rot : Int → List Int} {h : qh} {Q : qQ} (hT : TW h.2) (em : h.2 280 32 = m) (eT : h.2 295 = T) (eH : h.2 296 = H) (hal : ∀ e : Int, 0 ≤ e → e < m → h.2 297 e = 1) (m0 : m ≤ 80) (N0 : N ≤ 25) (wb : WB T H m N rot) (hrow : rowT h.2 N rot)
    (hq : ∀ v (n : Nat) (W : Nat → List Int), KS 280 [53] [311, 313, 314] h.2 v → FS T H m rot n W → v 280 53 = n → (∀ f : Nat, f ≤ n → v 313 f = (ctW W f).length) → (∀ k : Int, 0 ≤ k → k < (ctW W n).length → v 314 k = li (ctW W n) k) → (∀ (f : Nat) d, f < n → d ∈ W f → v 311 d = f) → Q none (h.1, v)) :
    qM l D (d + 3, 0, 0) m_Mo_goRound [.inr (.inr 280)] h Q := sorry
end
section
/-! ===== the house: outer planar, block by block ===== -/
set_option maxRecDepth 100000 in
theorem DH_isOuter_main {l : Launch} {D : qD} {d E n : Nat} {g s p0 : Int} {T H : Int → Int} {h : qh} {Q : qQ} (a10 : h.2 0 10 = 152) (hF : EF h.2) (hg : isG g) (hA : GA h.2 g) (hs : isS s) (hS : SA h.2 s) (hok : gok h.2 g) (en : h.2 g 0 = n) (eE : h.2 g 1 = E) (eT : h.2 (g + 6) = T) (eH : h.2 (g + 7) = H) (hsm : smp T H (blw E)) (hnum : num (bk T H (blw E)) E (h.2 (s + 5))) (hb : h.2 s 7 = nums (bk T H (blw E)) E) (hgs : g ≠ s ∧ ∀ c, c ∈ [153, 154, 155, 156, 157, 158, 159, 160, 161, 162, 163, 165, 152] → c ≠ g ∧ c ≠ g + 6 ∧ c ≠ g + 7 ∧ c ≠ s ∧ c ≠ s + 5)
    (q1 : OUT T H n E → ∀ v, KS 152 [2, 5, 7, 8, 14, 17] [153, 154, 155, 156, 157, 158, 159, 160, 161, 162, 163, 165] h.2 v → Q (some (.inl 1)) (h.1, v)) (q0 : ¬ OUT T H n E → ∀ v, KS 152 [2, 5, 7, 8, 14, 17] [153, 154, 155, 156, 157, 158, 159, 160, 161, 162, 163, 165] h.2 v → Q (some (.inl 0)) (h.1, v)) :
    ∀ x5 x6 x7 x8, qR l D (d + 5, 0, 0) m_DH_isOuter 15 (fun r h' => Q r ((h'.1.1, h.1.2.1, h.1.2.2), h'.2)) [some (.inr (.inr 0)), some (.inl p0), some (.inr (.inr g)), some (.inr (.inr s)), some (.inl 0), x5, x6, x7, x8] [] ((h.1.1, 0, 0), h.2) := sorry
end
section
/-! ===== the house's web ===== -/
/-- the walk from a dart comes back to it -/
theorem FS_orb {t h : Int → Int} {m N : Nat} {rot : Int → List Int} (wb : WB t h m N rot) {r : Nat} {W : Nat → List Int} (F : FSp t h m rot r W) {dd : Int} (d0 : 0 ≤ dd ∧ dd < 2 * (m : Int)) (dn : ∀ f, f < r → dd ∉ W f) :
    ∃ M : List Int, M.Nodup ∧ M ≠ [] ∧ (∀ a b, sx M a b → NX t h rot a b) ∧ li M 0 = dd ∧ (∀ f a, f < r → a ∈ M → a ∉ W f) ∧ ∀ a, a ∈ M → 0 ≤ a ∧ a < 2 * (m : Int) := sorry
def WF (v : Int → Int → Int) : Prop := v 166 3 = 167 ∧ v 166 4 = 168 ∧ v 166 5 = 169 ∧ v 166 6 = 170 ∧ v 166 7 = 171 ∧ v 166 8 = 172 ∧ v 166 9 = 173 ∧ v 166 10 = 174
theorem WF.k {v v' : Int → Int → Int} {F C : List Int} (hF : WF v) (K : KS 166 F C v v') (h : ∀ j, j ∈ F → j = 0 ∨ j = 1 ∨ j = 2) : WF v' := sorry
/-- rows of edges round the nodes, as the web keeps them -/
def rowC (v : Int → Int → Int) (N : Nat) (rot : Int → List Int) : Prop := ∀ i : Int, 0 ≤ i → i < N → v 169 i = (rot i).length ∧ ∀ k : Int, 0 ≤ k → k < (rot i).length → v 170 (32 * i + k) = li (rot i) k
set_option maxRecDepth 100000 in
theorem sp_We_placeOf {l : Launch} {D : qD} {d : Nat} {i e k0 : Int} {L : List Int} {h : qh} {Q : qQ} (hF : WF h.2) (i0 : 0 ≤ i ∧ i < 24) (hL : L.Nodup) (ln : L.length ≤ 32) (hrow : ∀ k : Int, 0 ≤ k → k < L.length → h.2 170 (32 * i + k) = li L k) (k1 : 0 ≤ k0 ∧ k0 < L.length) (k3 : li L k0 = e) (hq : Q (some (.inl k0)) h) :
    qM l D (d + 1, 0, 0) m_We_placeOf [.inr (.inr 166), .inl i, .inl e] h Q := sorry
set_option maxRecDepth 100000 in
theorem sp_We_behind {l : Launch} {D : qD} {d : Nat} {i e f : Int} {L : List Int} {h : qh} {Q : qQ} (hF : WF h.2) (i0 : 0 ≤ i ∧ i < 24) (hL : L.Nodup) (ln : L.length ≤ 32) (hlen : h.2 169 i = L.length) (hrow : ∀ k : Int, 0 ≤ k → k < L.length → h.2 170 (32 * i + k) = li L k) (hs : sx L e f) (hq : Q (some (.inl f)) h) :
    qM l D (d + 2, 0, 0) m_We_behind [.inr (.inr 166), .inl i, .inl e] h Q := sorry
/-- the face of a dart, as the web keeps it -/
def mkC (v : Int → Int → Int) (x : Int) : Int := if x % 2 = 0 then v 173 (x / 2) else v 174 (x / 2)
set_option maxRecDepth 100000 in
theorem sp_We_walk {l : Launch} {D : qD} {d N m r : Nat} {dd : Int} {T H : Int → Int} {rot : Int → List Int} {M : List Int} {h : qh} {Q : qQ} (hF : WF h.2) (eT : h.2 167 = T) (eH : h.2 168 = H) (m0 : m ≤ 80) (N0 : N ≤ 24) (wb : WB T H m N rot) (hrow : rowC h.2 N rot) (er : h.2 166 2 = r) (r0 : r < 60)
    (n1 : M.Nodup) (n2 : M ≠ []) (n3 : ∀ a b, sx M a b → NX T H rot a b) (n4 : li M 0 = dd) (n5 : ∀ a, a ∈ M → 0 ≤ a ∧ a < 2 * (m : Int))
    (hq : ∀ v, KS 166 [2] [171, 172, 173, 174] h.2 v → v 166 2 = r + 1 → v 172 r = M.length → (∀ k : Int, 0 ≤ k → k < M.length → v 171 (160 * r + k) = frD T H (li M k)) → (∀ x, x ∈ M → mkC v x = r) → (∀ x, 0 ≤ x → x ∉ M → mkC v x = mkC h.2 x) → (∀ f : Int, f ≠ r → v 172 f = h.2 172 f) → (∀ j : Int, j < 160 * r → v 171 j = h.2 171 j) → Q none (h.1, v)) :
    qM l D (d + 3, 0, 0) m_We_walk [.inr (.inr 166), .inl (dd / 2), .inl (frD T H dd)] h Q := sorry
end
section
/-! ===== the house's web: look ===== -/
/-- what stands in the rows when the darts below x have been met -/
def LKI (T H : Int → Int) (m : Nat) (rot : Int → List Int) (x : Int) (r : Nat) (W : Nat → List Int) (v : Int → Int → Int) : Prop := FSp T H m rot r W ∧ v 166 2 = r ∧ (∀ f : Nat, f < r → v 172 f = (W f).length ∧ ∀ k : Int, 0 ≤ k → k < (W f).length → v 171 (160 * f + k) = frD T H (li (W f) k)) ∧ (∀ d' : Int, 0 ≤ d' → d' < 2 * (m : Int) → (∃ f, f < r ∧ d' ∈ W f ∧ mkC v d' = f) ∨ (mkC v d' = -1 ∧ ∀ f, f < r → d' ∉ W f)) ∧ ∀ d' : Int, 0 ≤ d' → d' < x → ∃ f, f < r ∧ d' ∈ W f
theorem LKI.met {T H : Int → Int} {m : Nat} {rot : Int → List Int} {x : Int} {r : Nat} {W : Nat → List Int} {v : Int → Int → Int} (q : LKI T H m rot x r W v) (x0 : 0 ≤ x ∧ x < 2 * (m : Int)) (hm : mkC v x ≠ -1) : LKI T H m rot (x + 1) r W v := sorry
theorem LKI.new {T H : Int → Int} {m : Nat} {rot : Int → List Int} {x : Int} {r : Nat} {W : Nat → List Int} {v u : Int → Int → Int} {M : List Int} (q : LKI T H m rot x r W v) (h2m : m ≤ 80) (n1 : M.Nodup) (n2 : M ≠ []) (n3 : ∀ a b, sx M a b → NX T H rot a b) (n4 : li M 0 = x) (n5 : ∀ f a, f < r → a ∈ M → a ∉ W f) (n6 : ∀ a, a ∈ M → 0 ≤ a ∧ a < 2 * (m : Int))
    (u2 : u 166 2 = r + 1) (uS : u 172 r = M.length) (uR : ∀ k : Int, 0 ≤ k → k < M.length → u 171 (160 * r + k) = frD T H (li M k)) (uM : ∀ x, x ∈ M → mkC u x = r) (uO : ∀ x, 0 ≤ x → x ∉ M → mkC u x = mkC v x) (uS' : ∀ f : Int, f ≠ r → u 172 f = v 172 f) (uA : ∀ j : Int, j < 160 * r → u 171 j = v 171 j) :
    LKI T H m rot (x + 1) (r + 1) (fun f => if f = r then M else W f) u := sorry
set_option maxRecDepth 100000 in
theorem sp_We_look {l : Launch} {D : qD} {d N m : Nat} {T H : Int → Int} {rot : Int → List Int} {h : qh} {Q : qQ} (hF : WF h.2) (em : h.2 166 1 = m) (eT : h.2 167 = T) (eH : h.2 168 = H) (m0 : m ≤ 80) (N0 : N ≤ 24) (wb : WB T H m N rot) (hrow : rowC h.2 N rot) (h60 : ∀ r W, FSp T H m rot r W → r ≤ 60)
    (hq : ∀ v (n : Nat) (W : Nat → List Int), KS 166 [2] [171, 172, 173, 174] h.2 v → FS T H m rot n W → v 166 2 = n → (∀ f : Nat, f < n → v 172 f = (W f).length ∧ ∀ k : Int, 0 ≤ k → k < (W f).length → v 171 (160 * f + k) = frD T H (li (W f) k)) → (∀ (f : Nat) x, f < n → x ∈ W f → mkC v x = f) → Q none (h.1, v)) :
    qM l D (d + 4, 0, 0) m_We_look [.inr (.inr 166)] h Q := sorry
end
section
/-! ===== the house: orders come into the web ===== -/
theorem li_tk {l : List Int} {n : Nat} {j : Int} (j0 : 0 ≤ j) (j1 : j < n) : li (l.take n) j = li l j := sorry
set_option maxRecDepth 100000 in
theorem sp_We_insert {l : Launch} {D : qD} {d : Nat} {i e : Int} {L1 L2 : List Int} {h : qh} {Q : qQ} (hF : WF h.2) (i0 : 0 ≤ i ∧ i < 24) (ln : L1.length + L2.length ≤ 31) (hlen : h.2 169 i = (L1 ++ L2).length) (hrow : ∀ k : Int, 0 ≤ k → k < (L1 ++ L2).length → h.2 170 (32 * i + k) = li (L1 ++ L2) k)
    (hq : ∀ v, KS 166 [] [169, 170] h.2 v → v 169 i = (L1 ++ e :: L2).length → (∀ k : Int, 0 ≤ k → k < (L1 ++ e :: L2).length → v 170 (32 * i + k) = li (L1 ++ e :: L2) k) → (∀ j, j ≠ i → v 169 j = h.2 169 j) → (∀ j, j < 32 * i ∨ 32 * i + 32 ≤ j → v 170 j = h.2 170 j) → Q none (h.1, v)) :
    qM l D (d + 1, 0, 0) m_We_insert [.inr (.inr 166), .inl i, .inl e, .inl L1.length] h Q := sorry
set_option maxRecDepth 100000 in
theorem sp_Em_edgeBetween {l : Launch} {D : qD} {d : Nat} {m a b e : Int} {T H L : Int → Int} {h : qh} {Q : qQ} (hF : EF h.2) (eT : h.2 153 = T) (eH : h.2 154 = H) (eL : h.2 155 = L) (m0 : m ≤ 72) (hL : ∀ k, 0 ≤ k → k < m → 0 ≤ L k ∧ L k < 72) (hs : smp T H (inL m L)) (hl : nlp T H (inL m L)) (he : inL m L e) (hj : jn1 T H e a b) (hq : Q (some (.inl e)) h) :
    qM l D (d + 2, 0, 0) m_Em_edgeBetween [.inr (.inr 152), .inl a, .inl b] h Q := sorry
set_option maxRecDepth 100000 in
theorem sp_Em_around {l : Launch} {D : qD} {d : Nat} {m i : Int} {T H L : Int → Int} {L0 B : List Int} {h : qh} {Q : qQ} (hF : EF h.2) (hW : WF h.2) (em : h.2 152 5 = m) (eT : h.2 153 = T) (eH : h.2 154 = H) (eL : h.2 155 = L) (m0 : m ≤ 72) (hL : ∀ k, 0 ≤ k → k < m → 0 ≤ L k ∧ L k < 72) (hs : smp T H (inL m L)) (hl : nlp T H (inL m L)) (hr : ∀ e, inL m L e → (0 ≤ T e ∧ T e < 25) ∧ (0 ≤ H e ∧ H e < 25)) (i0 : 0 ≤ i ∧ i < 24) (ln : L0.length + B.length ≤ 32) (hlen : h.2 169 i = L0.length) (hrow : ∀ k : Int, 0 ≤ k → k < L0.length → h.2 170 (32 * i + k) = li L0 k)
    (bn : B.Nodup) (b0 : B ≠ []) (bm : ∀ e, e ∈ B → inL m L e ∧ inc T H e i) (b1 : m = 1 → B.length = 1) (bt : m ≠ 1 → ∀ k : Int, 0 ≤ k → k < B.length → h.2 164 (25 * i + oth T H (li B k) i) = oth T H (li B ((k + 1) % B.length)) i)
    (hq : ∀ v, KS 166 [] [169, 170] h.2 v → v 169 i = (L0 ++ B).length → (∀ k : Int, 0 ≤ k → k < (L0 ++ B).length → v 170 (32 * i + k) = li (L0 ++ B) k) → (∀ j, j ≠ i → v 169 j = h.2 169 j) → (∀ j, j < 32 * i ∨ 32 * i + 32 ≤ j → v 170 j = h.2 170 j) → Q none (h.1, v)) :
    qM l D (d + 3, 0, 0) m_Em_around [.inr (.inr 152), .inr (.inr 166), .inl i, .inl (li B 0)] h Q := sorry
end
section
/-! ===== the house: the orders of a block come into the web ===== -/
/-- which rows have got the block's order: those of nodes in S -/
def TLI (N : Nat) (r0 br : Int → List Int) (S : Int → Prop) (v : Int → Int → Int) : Prop := ∀ i : Int, 0 ≤ i → i < N → (S i → v 169 i = (r0 i ++ br i).length ∧ ∀ k : Int, 0 ≤ k → k < (r0 i ++ br i).length → v 170 (32 * i + k) = li (r0 i ++ br i) k) ∧ (¬ S i → v 169 i = (r0 i).length ∧ ∀ k : Int, 0 ≤ k → k < (r0 i).length → v 170 (32 * i + k) = li (r0 i) k)
set_option maxRecDepth 100000 in
theorem sp_Em_tell {l : Launch} {D : qD} {d N n : Nat} {m : Int} {T H L : Int → Int} {F : Nat → List Int} {r0 br : Int → List Int} {h : qh} {Q : qQ} (hF : EF h.2) (hW : WF h.2) (em : h.2 152 5 = m) (en : h.2 152 8 = n) (eT : h.2 153 = T) (eH : h.2 154 = H) (eL : h.2 155 = L) (m0 : 1 ≤ m ∧ m ≤ 72) (N0 : N ≤ 24) (hL : ∀ k, 0 ≤ k → k < m → 0 ≤ L k ∧ L k < 72) (hLi : ∀ j k, 0 ≤ j → j < k → k < m → L j < L k) (hs : smp T H (inL m L)) (hl : nlp T H (inL m L)) (hr : ∀ e, inL m L e → blw N (T e) ∧ blw N (H e))
    (n48 : n ≤ 48) (hR : ∀ f g u i, f < n → g < n → pq (F f) u i → pq (F g) u i → f = g) (hFn : ∀ f, f < n → (F f).Nodup ∧ 3 ≤ (F f).length ∧ (F f).length ≤ 25 ∧ ∀ u, u ∈ F f → blw N u) (rows : ∀ f : Nat, f < n → h.2 158 f = (F f).length ∧ ∀ j : Int, 0 ≤ j → j < (F f).length → h.2 157 (26 * f + j) = li (F f) j)
    (hrow : rowC h.2 N r0) (ln : ∀ i, (r0 i).length + (br i).length ≤ 32) (bn : ∀ i, (br i).Nodup) (bm : ∀ i e, e ∈ br i ↔ inL m L e ∧ inc T H e i) (b1 : m = 1 → ∀ i, (br i).length ≤ 1) (bf : ∀ i e, e ∈ br i → li (br i) 0 ≤ e) (btr : m ≠ 1 → ∀ i e e', sx (br i) e e' → ∃ f, f < n ∧ pq (F f) (oth T H e i) i ∧ pq (F f) i (oth T H e' i))
    (hq : ∀ v, KS 166 [] [164, 169, 170] h.2 v → rowC v N (fun i => r0 i ++ br i) → Q none (h.1, v)) :
    qM l D (d + 4, 0, 0) m_Em_tell [.inr (.inr 152), .inr (.inr 166)] h Q := sorry
end
section
/-! ===== the twin: what bars ===== -/
/-- what is left when the last j edges have been looked at: an edge stays when without it all can be drawn -/
def bS (t h : Int → Int) (m : Nat) : Nat → Int → Prop
  | 0 => blw m
  | j + 1 => fun f => bS t h m j f ∧ (f = (m : Int) - 1 - j → PL t h (fun g => bS t h m j g ∧ g ≠ (m : Int) - 1 - j))
theorem bS_sub {t h : Int → Int} {m : Nat} : ∀ {j : Nat} {e : Int}, bS t h m j e → blw m e := sorry
theorem bS_low {t h : Int → Int} {m : Nat} : ∀ {j : Nat} {e : Int}, blw m e → e < (m : Int) - j → bS t h m j e := sorry
/-- the edges that bar, one behind the other; the kind -/
def BAR (t h : Int → Int) (N m : Nat) (many kind : Int) (row : Int → Int) : Prop := many = cnt (bS t h m m) m ∧ (∀ e : Int, bS t h m m e → row (cnt (bS t h m m) e.toNat) = e) ∧ kind = if cnt (fun i => 2 < cnt (fun e => bS t h m m e ∧ inc t h e i) m) N = 5 then 5 else 33
set_option maxRecDepth 100000 in
theorem Mo_bar_main {l : Launch} {D : qD} {d N m : Nat} {T H : Int → Int} {h : qh} {Q : qQ} (hT : TW h.2) (en : h.2 280 31 = N) (em : h.2 280 32 = m) (eT : h.2 295 = T) (eH : h.2 296 = H) (hal : ∀ e : Int, 0 ≤ e → e < m → h.2 297 e = 1) (n0 : N ≤ 25) (m0 : m ≤ 80) (hr : ∀ e, blw m e → blw N (T e) ∧ blw N (H e)) (hs : smp T H (blw m)) (hl : nlp T H (blw m))
    (hq : ∀ v, KS 280 [39, 45, 49, 58, 59] [287, 290, 297, 298, 299, 300, 301, 302, 303, 304, 305, 306, 307, 308, 309, 310, 315] h.2 v → BAR T H N m (v 280 58) (v 280 59) (v 315) → Q none (h.1, v)) : qR l D (d + 7, 0, 0) m_Mo_bar 11 (fun r h' => Q r ((h'.1.1, h.1.2.1, h.1.2.2), h'.2)) [some (.inr (.inr 280)), some (.inl ((m : Int) - 1)), none, none, none] [] ((h.1.1, 0, 0), h.2) := sorry
end
section
/-! ===== a graph is copied ===== -/
theorem GA_cp {v : Int → Int → Int} {a0 a sp dp n g : Int} (h : GA v g) (ha : g ≠ a) : GA (cp2 v a0 a sp dp n) g := sorry
theorem GA_up {v : Int → Int → Int} {g a k z : Int} (h : GA v g) (hk : a ≠ g ∨ k < 3) : GA (up2 v a k z) g := sorry
set_option maxRecDepth 100000 in
theorem cpy_1 {K : qK} {c : Nat × Nat × Nat} {g o : Int} {v : Int → Int → Int} (hg : isG g) (ho : isG o) (A : GA v g) (B : GA v o) (q : K [some (.inr (.inr g)), some (.inr (.inr o))] [] (c, cp2 v (o + 1) (g + 1) 0 0 192)) : (s_aload 1 (s_getR 3 3 (s_ic (0) (s_aload 0 (s_getR 3 3 (s_ic (0) (s_aload 0 (s_getR 3 3 (s_alen (s_acopy K)))))))))) [some (.inr (.inr g)), some (.inr (.inr o))] [] (c, v) := sorry
set_option maxRecDepth 100000 in
theorem cpy_2 {K : qK} {c : Nat × Nat × Nat} {g o : Int} {v : Int → Int → Int} (hg : isG g) (ho : isG o) (A : GA v g) (B : GA v o) (q : K [some (.inr (.inr g)), some (.inr (.inr o))] [] (c, cp2 v (o + 2) (g + 2) 0 0 64)) : (s_aload 1 (s_getR 3 4 (s_ic (0) (s_aload 0 (s_getR 3 4 (s_ic (0) (s_aload 0 (s_getR 3 4 (s_alen (s_acopy K)))))))))) [some (.inr (.inr g)), some (.inr (.inr o))] [] (c, v) := sorry
set_option maxRecDepth 100000 in
theorem cpy_3 {K : qK} {c : Nat × Nat × Nat} {g o : Int} {v : Int → Int → Int} (hg : isG g) (ho : isG o) (A : GA v g) (B : GA v o) (q : K [some (.inr (.inr g)), some (.inr (.inr o))] [] (c, cp2 v (o + 3) (g + 3) 0 0 24)) : (s_aload 1 (s_getR 3 5 (s_ic (0) (s_aload 0 (s_getR 3 5 (s_ic (0) (s_ic (24) (s_acopy K)))))))) [some (.inr (.inr g)), some (.inr (.inr o))] [] (c, v) := sorry
set_option maxRecDepth 100000 in
theorem cpy_4 {K : qK} {c : Nat × Nat × Nat} {g o : Int} {v : Int → Int → Int} (hg : isG g) (ho : isG o) (A : GA v g) (B : GA v o) (q : K [some (.inr (.inr g)), some (.inr (.inr o))] [] (c, cp2 v (o + 4) (g + 4) 0 0 24)) : (s_aload 1 (s_getR 3 6 (s_ic (0) (s_aload 0 (s_getR 3 6 (s_ic (0) (s_ic (24) (s_acopy K)))))))) [some (.inr (.inr g)), some (.inr (.inr o))] [] (c, v) := sorry
set_option maxRecDepth 100000 in
theorem cpy_5 {K : qK} {c : Nat × Nat × Nat} {g o : Int} {v : Int → Int → Int} (hg : isG g) (ho : isG o) (A : GA v g) (B : GA v o) (q : K [some (.inr (.inr g)), some (.inr (.inr o))] [] (c, cp2 v (o + 5) (g + 5) 0 0 24)) : (s_aload 1 (s_getR 3 7 (s_ic (0) (s_aload 0 (s_getR 3 7 (s_ic (0) (s_ic (24) (s_acopy K)))))))) [some (.inr (.inr g)), some (.inr (.inr o))] [] (c, v) := sorry
set_option maxRecDepth 100000 in
theorem cpy_6 {K : qK} {c : Nat × Nat × Nat} {g o : Int} {v : Int → Int → Int} (hg : isG g) (ho : isG o) (A : GA v g) (B : GA v o) (q : K [some (.inr (.inr g)), some (.inr (.inr o))] [] (c, cp2 v (o + 6) (g + 6) 0 0 48)) : (s_aload 1 (s_getR 3 8 (s_ic (0) (s_aload 0 (s_getR 3 8 (s_ic (0) (s_ic (48) (s_acopy K)))))))) [some (.inr (.inr g)), some (.inr (.inr o))] [] (c, v) := sorry
set_option maxRecDepth 100000 in
theorem cpy_7 {K : qK} {c : Nat × Nat × Nat} {g o : Int} {v : Int → Int → Int} (hg : isG g) (ho : isG o) (A : GA v g) (B : GA v o) (q : K [some (.inr (.inr g)), some (.inr (.inr o))] [] (c, cp2 v (o + 7) (g + 7) 0 0 48)) : (s_aload 1 (s_getR 3 9 (s_ic (0) (s_aload 0 (s_getR 3 9 (s_ic (0) (s_ic (48) (s_acopy K)))))))) [some (.inr (.inr g)), some (.inr (.inr o))] [] (c, v) := sorry
set_option maxRecDepth 100000 in
theorem cpy_8 {K : qK} {c : Nat × Nat × Nat} {g o : Int} {v : Int → Int → Int} (hg : isG g) (ho : isG o) (A : GA v g) (B : GA v o) (q : K [some (.inr (.inr g)), some (.inr (.inr o))] [] (c, cp2 v (o + 8) (g + 8) 0 0 48)) : (s_aload 1 (s_getR 3 10 (s_ic (0) (s_aload 0 (s_getR 3 10 (s_ic (0) (s_ic (48) (s_acopy K)))))))) [some (.inr (.inr g)), some (.inr (.inr o))] [] (c, v) := sorry
set_option maxRecDepth 100000 in
theorem cpy_9 {K : qK} {c : Nat × Nat × Nat} {g o : Int} {v : Int → Int → Int} (hg : isG g) (ho : isG o) (A : GA v g) (B : GA v o) (q : K [some (.inr (.inr g)), some (.inr (.inr o))] [] (c, cp2 v (o + 9) (g + 9) 0 0 48)) : (s_aload 1 (s_getR 3 11 (s_ic (0) (s_aload 0 (s_getR 3 11 (s_ic (0) (s_ic (48) (s_acopy K)))))))) [some (.inr (.inr g)), some (.inr (.inr o))] [] (c, v) := sorry
set_option maxRecDepth 100000 in
theorem cpy_10 {K : qK} {c : Nat × Nat × Nat} {g o : Int} {v : Int → Int → Int} (hg : isG g) (ho : isG o) (A : GA v g) (B : GA v o) (q : K [some (.inr (.inr g)), some (.inr (.inr o))] [] (c, cp2 v (o + 10) (g + 10) 0 0 8)) : (s_aload 1 (s_getR 3 12 (s_ic (0) (s_aload 0 (s_getR 3 12 (s_ic (0) (s_ic (8) (s_acopy K)))))))) [some (.inr (.inr g)), some (.inr (.inr o))] [] (c, v) := sorry
set_option maxRecDepth 100000 in
theorem cpy_11 {K : qK} {c : Nat × Nat × Nat} {g o : Int} {v : Int → Int → Int} (hg : isG g) (ho : isG o) (A : GA v g) (B : GA v o) (q : K [some (.inr (.inr g)), some (.inr (.inr o))] [] (c, cp2 v (o + 11) (g + 11) 0 0 8)) : (s_aload 1 (s_getR 3 13 (s_ic (0) (s_aload 0 (s_getR 3 13 (s_ic (0) (s_ic (8) (s_acopy K)))))))) [some (.inr (.inr g)), some (.inr (.inr o))] [] (c, v) := sorry
set_option maxRecDepth 100000 in
theorem put_0 {K : qK} {c : Nat × Nat × Nat} {g o : Int} {v : Int → Int → Int} (hg : isG g) (ho : isG o) (q : K [some (.inr (.inr g)), some (.inr (.inr o))] [] (c, up2 v g 0 (v o 0))) : (s_aload 0 (s_aload 1 (s_getI 3 0 (s_putI 3 0 K)))) [some (.inr (.inr g)), some (.inr (.inr o))] [] (c, v) := sorry
set_option maxRecDepth 100000 in
theorem put_1 {K : qK} {c : Nat × Nat × Nat} {g o : Int} {v : Int → Int → Int} (hg : isG g) (ho : isG o) (q : K [some (.inr (.inr g)), some (.inr (.inr o))] [] (c, up2 v g 1 (v o 1))) : (s_aload 0 (s_aload 1 (s_getI 3 1 (s_putI 3 1 K)))) [some (.inr (.inr g)), some (.inr (.inr o))] [] (c, v) := sorry
set_option maxRecDepth 100000 in
theorem put_2 {K : qK} {c : Nat × Nat × Nat} {g o : Int} {v : Int → Int → Int} (hg : isG g) (ho : isG o) (q : K [some (.inr (.inr g)), some (.inr (.inr o))] [] (c, up2 v g 2 (v o 2))) : (s_aload 0 (s_aload 1 (s_getI 3 2 (s_putI 3 2 K)))) [some (.inr (.inr g)), some (.inr (.inr o))] [] (c, v) := sorry
set_option maxRecDepth 100000 in
theorem sp_Gr_copy {l : Launch} {D : qD} {d : Nat} {g o : Int} {h : qh} {Q : qQ} (hg : isG g) (ho : isG o) (A : GA h.2 g) (B : GA h.2 o) (ap : o + 11 < g ∨ g + 11 < o) (hq : Q none (h.1, cpN h.2 g o)) : qM l D (d + 1, 0, 0) m_Gr_copy [.inr (.inr g), .inr (.inr o)] h Q := sorry
end
section
/-! ===== the house: what bars ===== -/
theorem cnt_row {S P : Int → Prop} {bb : Int → Int} (h : ∀ e : Int, S e → bb (cnt S e.toNat) = e) : ∀ n : Nat, cnt (fun j => P (bb j)) (cnt S n) = cnt (fun e => S e ∧ P e) n := sorry
theorem cnt_all {S : Int → Prop} : ∀ {n : Nat}, (∀ e : Int, 0 ≤ e → e < n → S e) → cnt S n = n := sorry
theorem cnt_del {S S' : Int → Prop} {k : Int} (k0 : 0 ≤ k) (sk : S k) (h : ∀ e, S' e ↔ S e ∧ e ≠ k) : ∀ n : Nat, cnt S n = cnt S' n + if k < n then 1 else 0 := sorry
def CBR : List Int := [152, 153, 154, 155, 156, 157, 158, 159, 160, 161, 162, 163, 164, 165, 175, 176, 177, 178, 179, 180, 181, 182, 183, 184, 185, 186, 187, 188, 189, 190, 191, 192, 193, 194, 195, 196, 197]
/-- what the search for what bars leaves alone -/
def KB (v v' : Int → Int → Int) : Prop := KS 0 [17, 18] CBR v v' ∧ EF v' ∧ GA v' 175 ∧ SA v' 187
theorem KB.w {v v' v'' : Int → Int → Int} (h : KB v v') (hk : ∀ a, a ∉ CBR → a ≠ 0 → v'' a = v' a) (h0 : ∀ j, j ≠ 17 → j ≠ 18 → v'' 0 j = v' 0 j) (e : EF v'') (g : GA v'' 175) (s : SA v'' 187) : KB v v'' := sorry
set_option maxRecDepth 100000 in
theorem sp_DH_bar {l : Launch} {D : qD} {d E n : Nat} {g : Int} {T H : Int → Int} {h : qh} {Q : qQ} (a10 : h.2 0 10 = 152) (a14 : h.2 0 14 = 175) (a15 : h.2 0 15 = 187) (a16 : h.2 0 16 = 197) (hF : EF h.2) (hP : GA h.2 175) (hSS : SA h.2 187) (hg : isG g) (hA : GA h.2 g) (hok : gok h.2 g) (hfar : (1 ≤ g ∧ g + 11 < 111) ∨ 399 ≤ g) (en : h.2 g 0 = n) (eE : h.2 g 1 = E) (eT : h.2 (g + 6) = T) (eH : h.2 (g + 7) = H) (hsm : smp T H (blw E))
    (hq : ∀ v, KB h.2 v → BAR T H n E (v 0 17) (v 0 18) (v 197) → Q none (h.1, v)) :
    qM l D (d + 29, 0, 0) m_DH_bar [.inr (.inr 0), .inr (.inr g)] h Q := sorry
end
section
/-! ===== the orders of one block, by its faces ===== -/
theorem BR_run {t h : Int → Int} {X : Int → Prop} {N m : Nat} (hs : smp t h X) (hl : nlp t h X) (hb : ∀ e, X e → blw m e) (hX : ∀ e, X e → blw N (t e) ∧ blw N (h e)) {e0 : Int} {I : List Int} {k : Nat} {F : Nat → List Int} {n : Nat} {Qp : Int → Prop} (x0 : X e0) (z0 : ∀ e, X e → e0 ≤ e) (z1 : ∃ e, X e ∧ e ≠ e0) (ls : LSw (jq t h (fun e => X e ∧ e ≠ e0)) (· = t e0) (h e0) (I ++ [t e0])) (rn : Rn t h X (t e0 :: h e0 :: I) (t e0 :: (h e0 :: I).reverse) k F n Qp) (hQ : ∀ e, ¬ Qp e) :
    (n + 4 ≤ 2 * N ∧ (∀ f g u i, f < n → g < n → pq (F f) u i → pq (F g) u i → f = g) ∧ ∀ f, f < n → (F f).Nodup ∧ 3 ≤ (F f).length ∧ (F f).length ≤ N ∧ ∀ u, u ∈ F f → blw N u) ∧
    ∃ br : Int → List Int, (∀ i, BR t h X i (br i)) ∧ (∀ i e, e ∈ br i → li (br i) 0 ≤ e) ∧ ∀ i e e', sx (br i) e e' → ∃ f, f < n ∧ pq (F f) (oth t h e i) i ∧ pq (F f) i (oth t h e' i) := sorry
theorem BR_one {t h : Int → Int} {X : Int → Prop} {e1 : Int} (x1 : X e1) (hu : ∀ e, X e → e = e1) : ∃ br : Int → List Int, (∀ i, BR t h X i (br i)) ∧ (∀ i e, e ∈ br i → li (br i) 0 ≤ e) ∧ ∀ i, (br i).length ≤ 1 := sorry
theorem toD_cg {t h t' h' : Int → Int} {m : Nat} (q : agr t h t' h' (blw m)) {d : Int} (d0 : 0 ≤ d) (d1 : d < 2 * (m : Int)) : toD t' h' d = toD t h d ∧ frD t' h' d = frD t h d := sorry
theorem NX_cg {t h t' h' : Int → Int} {m : Nat} (q : agr t h t' h' (blw m)) {rot : Int → List Int} (hm : ∀ i e, e ∈ rot i → blw m e) {d d' : Int} (d0 : 0 ≤ d) (d1 : d < 2 * (m : Int)) (n : NX t h rot d d') : NX t' h' rot d d' := sorry
theorem FS_cg {t h t' h' : Int → Int} {m : Nat} (q : agr t h t' h' (blw m)) {rot : Int → List Int} (hm : ∀ i e, e ∈ rot i → blw m e) {n : Nat} {W : Nat → List Int} (F : FS t h m rot n W) : FS t' h' m rot n W := sorry
theorem WB_cg {t h t' h' : Int → Int} {m N : Nat} (q : agr t h t' h' (blw m)) {rot : Int → List Int} (w : WB t h m N rot) : WB t' h' m N rot := sorry
theorem ROT_WB {t h : Int → Int} {m N : Nat} (hs : smp t h (blw m)) (hl : nlp t h (blw m)) (hr : ∀ e, blw m e → blw N (t e) ∧ blw N (h e)) {rot : Int → List Int} (q : ∀ i, ROT t h m i (rot i)) : WB t h m N rot := sorry
end
section
/-! ===== the house: the plan of a graph ===== -/
def CPL : List Int := [152, 153, 154, 155, 156, 157, 158, 159, 160, 161, 162, 163, 164, 165, 166, 167, 168, 169, 170, 171, 172, 173, 174, 175, 176, 177, 178, 179, 180, 181, 182, 183, 184, 185, 186, 187, 188, 189, 190, 191, 192, 193, 194, 195, 196, 197]
/-- what a plan leaves alone -/
def KP (v v' : Int → Int → Int) : Prop := KS 0 [12, 13, 17, 18] CPL v v' ∧ EF v' ∧ WF v' ∧ GA v' 175 ∧ SA v' 187
theorem KP.w {v v' v'' : Int → Int → Int} (h : KP v v') (hk : ∀ a, a ∉ CPL → a ≠ 0 → v'' a = v' a) (h0 : ∀ j, j ≠ 12 → j ≠ 13 → j ≠ 17 → j ≠ 18 → v'' 0 j = v' 0 j) (e : EF v'') (w : WF v'') (g : GA v'' 175) (s : SA v'' 187) : KP v v'' := sorry
/-- what the web holds of a graph that can be drawn -/
def WEB (v : Int → Int → Int) (T H : Int → Int) (n E : Nat) : Prop := v 166 0 = n ∧ v 166 1 = E ∧ (∀ e, blw E e → v 167 e = T e ∧ v 168 e = H e) ∧ ∃ (rot : Int → List Int) (nf : Nat) (W : Nat → List Int), (∀ i, ROT T H E i (rot i)) ∧ rowC v n rot ∧ FS T H E rot nf W ∧ v 166 2 = nf ∧ (∀ f : Nat, f < nf → v 172 f = (W f).length ∧ ∀ k : Int, 0 ≤ k → k < (W f).length → v 171 (160 * f + k) = frD T H (li (W f) k)) ∧ ∀ (f : Nat) x, f < nf → x ∈ W f → mkC v x = f
set_option maxRecDepth 100000 in
theorem DH_plan_main {l : Launch} {D : qD} {d E n : Nat} {g p0 : Int} {T H : Int → Int} {h : qh} {Q : qQ} (a10 : h.2 0 10 = 152) (a11 : h.2 0 11 = 166) (a14 : h.2 0 14 = 175) (a15 : h.2 0 15 = 187) (a16 : h.2 0 16 = 197) (hF : EF h.2) (hW : WF h.2) (hP : GA h.2 175) (hSS : SA h.2 187) (hg : isG g) (hA : GA h.2 g) (hS : SA h.2 135) (hok : gok h.2 g) (hfar : (1 ≤ g ∧ g + 11 < 111) ∨ 399 ≤ g) (en : h.2 g 0 = n) (eE : h.2 g 1 = E) (eT : h.2 (g + 6) = T) (eH : h.2 (g + 7) = H) (hsm : smp T H (blw E)) (hnum : num (bk T H (blw E)) E (h.2 140)) (hb : h.2 135 7 = nums (bk T H (blw E)) E) (wn : h.2 166 0 = n) (wE : h.2 166 1 = E)
    (q1 : PL T H (blw E) → ∀ v, KP h.2 v → v 0 12 = h.2 0 12 → v 0 13 = 1 → WEB v T H n E → Q none (h.1, v)) (q0 : ¬ PL T H (blw E) → ∀ v, KP h.2 v → v 0 12 = h.2 0 12 → v 0 13 = 0 → BAR T H n E (v 0 17) (v 0 18) (v 197) → Q none (h.1, v)) :
    qR l D (d + 30, 0, 0) m_DH_plan 51 (fun r h' => Q r ((h'.1.1, h.1.2.1, h.1.2.2), h'.2)) [some (.inr (.inr 0)), some (.inl p0), some (.inr (.inr g)), some (.inr (.inr 135)), some (.inl 0)] [] ((h.1.1, 0, 0), h.2) := sorry
end
section
/-! ===== edges come into the faces, one behind the other ===== -/
/-- an edge comes ahead of another one, behind another one -/
def insA (d e : Int) : List Int → List Int
  | [] => []
  | y :: l => if y = d then e :: y :: l else y :: insA d e l
def insB (x e : Int) : List Int → List Int
  | [] => []
  | y :: l => if y = x then y :: e :: l else y :: insB x e l
theorem insA_eq {d e : Int} : ∀ {L1 L2 : List Int}, d ∉ L1 → insA d e (L1 ++ d :: L2) = L1 ++ e :: d :: L2 := sorry
theorem insB_eq {x e : Int} : ∀ {L1 L2 : List Int}, x ∉ L1 → insB x e (L1 ++ x :: L2) = L1 ++ x :: e :: L2 := sorry
theorem nd_split {L : List Int} {d : Int} (hn : L.Nodup) (h : d ∈ L) : ∃ L1 L2, L = L1 ++ d :: L2 ∧ d ∉ L1 := sorry
def updI (f : Int → Int) (m a : Int) : Int → Int := fun x => if x = m then a else f x
/-- two corners of a face, two apart, that may be joined -/
def fitW (t h : Int → Int) (m : Nat) (L : List Int) (k : Int) : Prop := frD t h (li L k) ≠ toD t h (li L ((k + 1) % L.length)) ∧ ¬ jq t h (blw m) (frD t h (li L k)) (toD t h (li L ((k + 1) % L.length)))
/-- one edge comes -/
def FLs (m : Nat) (t h : Int → Int) (rot : Int → List Int) (m' : Nat) (t' h' : Int → Int) (rot' : Int → List Int) : Prop :=
  ∃ (n : Nat) (W : Nat → List Int) (f : Nat) (k : Int), FS t h m rot n W ∧ f < n ∧ 4 ≤ (W f).length ∧ (∀ g, g < f → (W g).length < 4) ∧ (0 ≤ k ∧ k < (W f).length) ∧ fitW t h m (W f) k ∧ (∀ j, 0 ≤ j → j < k → ¬ fitW t h m (W f) j) ∧ m' = m + 1 ∧ t' = updI t m (frD t h (li (W f) k)) ∧ h' = updI h m (toD t h (li (W f) ((k + 1) % (W f).length))) ∧
    rot' = fun i => if i = frD t h (li (W f) k) then insA (li (W f) k / 2) m (rot i) else if i = toD t h (li (W f) ((k + 1) % (W f).length)) then insB (li (W f) ((k + 1) % (W f).length) / 2) m (rot i) else rot i
theorem FLs_un {m : Nat} {t h : Int → Int} {rot : Int → List Int} (hn : ∀ i, (rot i).Nodup) {m1 m2 : Nat} {t1 h1 t2 h2 : Int → Int} {r1 r2 : Int → List Int} (q1 : FLs m t h rot m1 t1 h1 r1) (q2 : FLs m t h rot m2 t2 h2 r2) : m1 = m2 ∧ t1 = t2 ∧ h1 = h2 ∧ r1 = r2 := sorry
/-- what is kept while edges come -/
abbrev GI (t h : Int → Int) (m N : Nat) (rot : Int → List Int) : Prop := WB t h m N rot ∧ WJ t h m (blw m) rot ∧ (∀ a b : Int, blw N a → blw N b → rchs (aj t h (blw m)) a b) ∧ 3 ≤ N ∧ 1 ≤ m
theorem cnt_up {P : Int → Prop} {m : Nat} (h : ∀ e, P e → blw m e) : cnt P (m + 1) = cnt P m := sorry
theorem WJ_up {t h t' h' : Int → Int} {m : Nat} {rot : Int → List Int} (ag : agr t h t' h' (blw m)) (hm : ∀ i e, e ∈ rot i → blw m e) (w : WJ t h m (blw m) rot) : WJ t' h' (m + 1) (blw m) rot := sorry
theorem sx_bnd {t h : Int → Int} {m N : Nat} {rot : Int → List Int} (w : WB t h m N rot) {x y : Int} (n : NX t h rot x y) : frD t h y = toD t h x ∧ sx (rot (toD t h x)) (x / 2) (y / 2) := sorry
theorem jn_D {t h : Int → Int} {d : Int} : jn1 t h (d / 2) (frD t h d) (toD t h d) := sorry
theorem FLs_ok {m N : Nat} {t h : Int → Int} {rot : Int → List Int} {m' : Nat} {t' h' : Int → Int} {rot' : Int → List Int} (G : GI t h m N rot) (q : FLs m t h rot m' t' h' rot') : GI t' h' m' N rot' := sorry
theorem FSp_3n {t h : Int → Int} {m : Nat} {A : Int → Prop} {rot : Int → List Int} {n : Nat} {W : Nat → List Int} (hn : ∀ i, (rot i).Nodup) (mA : ∀ i f, f ∈ rot i ↔ A f ∧ inc t h f i) (hs : smp t h A) (hl : nlp t h A) (q : FSp t h m rot n W) (hc : ∀ d : Int, 0 ≤ d → d < 2 * (m : Int) → ∃ j, j ≠ frD t h d ∧ j ≠ toD t h d ∧ rchs (aj t h A) (frD t h d) j) : ∀ f, f < n → 3 ≤ (W f).length := sorry
/-- in a web that is kept so there are few edges -/
theorem GI_few {t h : Int → Int} {m N : Nat} {rot : Int → List Int} (G : GI t h m N rot) {n : Nat} {W : Nat → List Int} (F : FS t h m rot n W) : (∀ f, f < n → 3 ≤ (W f).length) ∧ 3 * n ≤ 2 * m ∧ m + 6 ≤ 3 * N := sorry
/-- while a face has four or more an edge can come -/
theorem FLs_ex {t h : Int → Int} {m N : Nat} {rot : Int → List Int} (G : GI t h m N rot) {n : Nat} {W : Nat → List Int} (F : FS t h m rot n W) (hx : ∃ f, f < n ∧ 4 ≤ (W f).length) : ∃ (f : Nat) (k : Int), f < n ∧ 4 ≤ (W f).length ∧ (∀ g, g < f → (W g).length < 4) ∧ (0 ≤ k ∧ k < (W f).length) ∧ fitW t h m (W f) k ∧ ∀ j, 0 ≤ j → j < k → ¬ fitW t h m (W f) j := sorry
end
section
/-! ===== the grid: faces are filled ===== -/
theorem mk_even {v : Int → Int → Int} {x : Int} : mkC v x = if x % 2 = 0 then v 173 (x / 2) else v 174 (x / 2) := sorry
set_option maxRecDepth 100000 in
theorem sp_We_edgeOf {l : Launch} {D : qD} {d N m f : Nat} {k : Int} {T H : Int → Int} {rot : Int → List Int} {L : List Int} {h : qh} {Q : qQ} (hF : WF h.2) (eT : ∀ e, blw m e → h.2 167 e = T e ∧ h.2 168 e = H e) (m0 : m ≤ 80) (N0 : N ≤ 24) (f60 : f < 60) (wb : WB T H m N rot) (hrow : rowC h.2 N rot) (hL : ∀ x, x ∈ L → 0 ≤ x ∧ x < 2 * (m : Int)) (nx : ∀ a b, sx L a b → NX T H rot a b) (hsz : h.2 172 f = L.length) (hR : ∀ k : Int, 0 ≤ k → k < L.length → h.2 171 (160 * f + k) = frD T H (li L k)) (hm : ∀ x, x ∈ L → mkC h.2 x = f) (k0 : 0 ≤ k ∧ k < L.length) (l160 : L.length ≤ 160) (hq : Q (some (.inl (li L k / 2))) h) :
    qM l D (d + 2, 0, 0) m_We_edgeOf [.inr (.inr 166), .inl f, .inl k] h Q := sorry
set_option maxRecDepth 100000 in
theorem sp_Gd_areJoined {l : Launch} {D : qD} {d N m : Nat} {a b : Int} {T H : Int → Int} {rot : Int → List Int} {h : qh} {Q : qQ} (hF : WF h.2) (eT : ∀ e, blw m e → h.2 167 e = T e ∧ h.2 168 e = H e) (m0 : m ≤ 80) (N0 : N ≤ 24) (wb : WB T H m N rot) (hrow : rowC h.2 N rot) (ab : blw N a) (q1 : jq T H (blw m) a b → Q (some (.inl 1)) h) (q0 : ¬ jq T H (blw m) a b → Q (some (.inl 0)) h) :
    qM l D (d + 2, 0, 0) m_Gd_areJoined [.inr (.inr 166), .inl a, .inl b] h Q := sorry
set_option maxRecDepth 100000 in
theorem sp_Gd_fits {l : Launch} {D : qD} {d N m : Nat} {a b : Int} {T H : Int → Int} {rot : Int → List Int} {h : qh} {Q : qQ} (hF : WF h.2) (eT : ∀ e, blw m e → h.2 167 e = T e ∧ h.2 168 e = H e) (m0 : m ≤ 80) (N0 : N ≤ 24) (wb : WB T H m N rot) (hrow : rowC h.2 N rot) (ab : blw N a) (q1 : a ≠ b ∧ ¬ jq T H (blw m) a b → Q (some (.inl 1)) h) (q0 : ¬ (a ≠ b ∧ ¬ jq T H (blw m) a b) → Q (some (.inl 0)) h) :
    qM l D (d + 3, 0, 0) m_Gd_fits [.inr (.inr 166), .inl a, .inl b] h Q := sorry
end
section
/-! ===== the grid: an edge comes into a face ===== -/
set_option maxRecDepth 100000 in
theorem sp_Gd_put {l : Launch} {D : qD} {d N m f : Nat} {k : Int} {T H : Int → Int} {rot : Int → List Int} {L : List Int} {h : qh} {Q : qQ} (hF : WF h.2) (em : h.2 166 1 = m) (eT : ∀ e, blw m e → h.2 167 e = T e ∧ h.2 168 e = H e) (m0 : m < 80) (N0 : N ≤ 24) (f60 : f < 60) (wb : WB T H m N rot) (wb' : ∀ i, (rot i).length ≤ 30) (hrow : rowC h.2 N rot) (hL : ∀ x, x ∈ L → 0 ≤ x ∧ x < 2 * (m : Int)) (nx : ∀ a b, sx L a b → NX T H rot a b) (l3 : 3 ≤ L.length) (l160 : L.length ≤ 160) (hsz : h.2 172 f = L.length) (hR : ∀ k : Int, 0 ≤ k → k < L.length → h.2 171 (160 * f + k) = frD T H (li L k)) (hm : ∀ x, x ∈ L → mkC h.2 x = f) (k0 : 0 ≤ k ∧ k < L.length) (kf : fitW T H m L k) (kn : ∀ j, 0 ≤ j → j < k → ¬ fitW T H m L j)
    (hq : ∀ v, KS 166 [1] [167, 168, 169, 170] h.2 v → v 166 1 = m + 1 → (∀ e, blw m e → v 167 e = T e ∧ v 168 e = H e) → v 167 m = frD T H (li L k) → v 168 m = toD T H (li L ((k + 1) % L.length)) → rowC v N (fun i => if i = frD T H (li L k) then insA (li L k / 2) m (rot i) else if i = toD T H (li L ((k + 1) % L.length)) then insB (li L ((k + 1) % L.length) / 2) m (rot i) else rot i) → Q none (h.1, v)) :
    qM l D (d + 4, 0, 0) m_Gd_put [.inr (.inr 238), .inr (.inr 166), .inl f] h Q := sorry
end
section
/-! ===== the grid: all faces are filled ===== -/
/-- edges that have come, one behind the other -/
def FLn (m0 : Nat) (t0 h0 : Int → Int) (r0 : Int → List Int) : Nat → Nat → (Int → Int) → (Int → Int) → (Int → List Int) → Prop
  | 0, m, t, h, rot => m = m0 ∧ t = t0 ∧ h = h0 ∧ rot = r0
  | j + 1, m', t', h', rot' => ∃ m t h rot, FLn m0 t0 h0 r0 j m t h rot ∧ FLs m t h rot m' t' h' rot'
theorem FLn_ok {m0 N : Nat} {t0 h0 : Int → Int} {r0 : Int → List Int} (G : GI t0 h0 m0 N r0) : ∀ {j m : Nat} {t h : Int → Int} {rot : Int → List Int}, FLn m0 t0 h0 r0 j m t h rot → GI t h m N rot := sorry
theorem FLn_un {m0 N : Nat} {t0 h0 : Int → Int} {r0 : Int → List Int} (G : GI t0 h0 m0 N r0) : ∀ {j : Nat} {m m' : Nat} {t h t' h' : Int → Int} {rot rot' : Int → List Int}, FLn m0 t0 h0 r0 j m t h rot → FLn m0 t0 h0 r0 j m' t' h' rot' → m = m' ∧ t = t' ∧ h = h' ∧ rot = rot' := sorry
theorem FLn_pre {m0 : Nat} {t0 h0 : Int → Int} {r0 : Int → List Int} {k : Nat} : ∀ {j m : Nat} {t h : Int → Int} {rot : Int → List Int}, k < j → FLn m0 t0 h0 r0 j m t h rot → ∃ m1 t1 h1 r1 m2 t2 h2 r2, FLn m0 t0 h0 r0 k m1 t1 h1 r1 ∧ FLs m1 t1 h1 r1 m2 t2 h2 r2 := sorry
/-- both sides end at the same web -/
theorem FLn_end {m0 N : Nat} {t0 h0 : Int → Int} {r0 : Int → List Int} (G : GI t0 h0 m0 N r0) {j j' m m' : Nat} {t h t' h' : Int → Int} {rot rot' : Int → List Int} (q : FLn m0 t0 h0 r0 j m t h rot) (q' : FLn m0 t0 h0 r0 j' m' t' h' rot') (e : ∀ n W, FS t h m rot n W → ∀ f, f < n → (W f).length < 4) (e' : ∀ n W, FS t' h' m' rot' n W → ∀ f, f < n → (W f).length < 4) : m = m' ∧ t = t' ∧ h = h' ∧ rot = rot' := sorry
theorem GI_3 {t h : Int → Int} {m N : Nat} {rot : Int → List Int} (G : GI t h m N rot) {n : Nat} {W : Nat → List Int} (F : FSp t h m rot n W) : 3 * n ≤ 2 * m := sorry
set_option maxRecDepth 100000 in
theorem sp_Gd_fill {l : Launch} {D : qD} {d N m0 : Nat} {t0 h0 : Int → Int} {r0 : Int → List Int} {h : qh} {Q : qQ} (hF : WF h.2) (em : h.2 166 1 = m0) (eT : ∀ e, blw m0 e → h.2 167 e = t0 e ∧ h.2 168 e = h0 e) (N0 : N ≤ 24) (m80 : m0 ≤ 80) (G : GI t0 h0 m0 N r0) (hrow : rowC h.2 N r0)
    (hq : ∀ v j m t h' rot n W, KS 166 [1, 2] [167, 168, 169, 170, 171, 172, 173, 174] h.2 v → FLn m0 t0 h0 r0 j m t h' rot → v 166 1 = (m : Nat) → (∀ e, blw m e → v 167 e = t e ∧ v 168 e = h' e) → rowC v N rot → FS t h' m rot n W → (∀ f, f < n → (W f).length = 3) → v 166 2 = (n : Nat) → (∀ f : Nat, f < n → v 172 f = (W f).length ∧ ∀ k : Int, 0 ≤ k → k < (W f).length → v 171 (160 * f + k) = frD t h' (li (W f) k)) → (∀ (f : Nat) x, f < n → x ∈ W f → mkC v x = f) → Q none (h.1, v)) :
    qM l D (d + 5, 0, 0) m_Gd_fill [.inr (.inr 238), .inr (.inr 166)] h Q := sorry
end
section
/-! ===== the twin: edges come into the orders ===== -/
set_option maxRecDepth 100000 in
theorem sp_Mo_putAt {l : Launch} {D : qD} {d : Nat} {i e : Int} {L1 L2 : List Int} {h : qh} {Q : qQ} (a36 : h.2 280 36 = 298) (a37 : h.2 280 37 = 299) (i0 : 0 ≤ i ∧ i < 25) (ln : L1.length + L2.length ≤ 70) (hlen : h.2 298 i = (L1 ++ L2).length) (hrow : ∀ k : Int, 0 ≤ k → k < (L1 ++ L2).length → h.2 299 (80 * i + k) = li (L1 ++ L2) k)
    (hq : ∀ v, KS 280 [] [298, 299] h.2 v → v 298 i = (L1 ++ e :: L2).length → (∀ k : Int, 0 ≤ k → k < (L1 ++ e :: L2).length → v 299 (80 * i + k) = li (L1 ++ e :: L2) k) → (∀ j, j ≠ i → v 298 j = h.2 298 j) → (∀ j, j < 80 * i ∨ 80 * i + 80 ≤ j → v 299 j = h.2 299 j) → Q none (h.1, v)) :
    qM l D (d + 1, 0, 0) m_Mo_putAt [.inr (.inr 280), .inl i, .inl e, .inl L1.length] h Q := sorry
set_option maxRecDepth 100000 in
theorem sp_Mo_putAhead {l : Launch} {D : qD} {d : Nat} {i e x : Int} {L1 L2 : List Int} {h : qh} {Q : qQ} (a36 : h.2 280 36 = 298) (a37 : h.2 280 37 = 299) (i0 : 0 ≤ i ∧ i < 25) (ln : L1.length + L2.length ≤ 60) (nx : x ∉ L1) (hlen : h.2 298 i = (L1 ++ x :: L2).length) (hrow : ∀ k : Int, 0 ≤ k → k < (L1 ++ x :: L2).length → h.2 299 (80 * i + k) = li (L1 ++ x :: L2) k)
    (hq : ∀ v, KS 280 [] [298, 299] h.2 v → v 298 i = (L1 ++ e :: x :: L2).length → (∀ k : Int, 0 ≤ k → k < (L1 ++ e :: x :: L2).length → v 299 (80 * i + k) = li (L1 ++ e :: x :: L2) k) → (∀ j, j ≠ i → v 298 j = h.2 298 j) → (∀ j, j < 80 * i ∨ 80 * i + 80 ≤ j → v 299 j = h.2 299 j) → Q none (h.1, v)) :
    qM l D (d + 2, 0, 0) m_Mo_putAhead [.inr (.inr 280), .inl i, .inl e, .inl x] h Q := sorry
set_option maxRecDepth 100000 in
theorem sp_Mo_putBehind {l : Launch} {D : qD} {d : Nat} {i e x : Int} {L1 L2 : List Int} {h : qh} {Q : qQ} (a36 : h.2 280 36 = 298) (a37 : h.2 280 37 = 299) (i0 : 0 ≤ i ∧ i < 25) (ln : L1.length + L2.length ≤ 60) (nx : x ∉ L1) (hlen : h.2 298 i = (L1 ++ x :: L2).length) (hrow : ∀ k : Int, 0 ≤ k → k < (L1 ++ x :: L2).length → h.2 299 (80 * i + k) = li (L1 ++ x :: L2) k)
    (hq : ∀ v, KS 280 [] [298, 299] h.2 v → v 298 i = (L1 ++ x :: e :: L2).length → (∀ k : Int, 0 ≤ k → k < (L1 ++ x :: e :: L2).length → v 299 (80 * i + k) = li (L1 ++ x :: e :: L2) k) → (∀ j, j ≠ i → v 298 j = h.2 298 j) → (∀ j, j < 80 * i ∨ 80 * i + 80 ≤ j → v 299 j = h.2 299 j) → Q none (h.1, v)) :
    qM l D (d + 2, 0, 0) m_Mo_putBehind [.inr (.inr 280), .inl i, .inl e, .inl x] h Q := sorry
end
section
/-! ===== the twin: one edge comes ===== -/
set_option maxRecDepth 100000 in
theorem sp_Mo_cut {l : Launch} {D : qD} {d N m : Nat} {t h' : Int → Int} {rot : Int → List Int} {h : qh} {Q : qQ} (hT : TW h.2) (em : h.2 280 32 = m) (eT : ∀ e, blw m e → (h.2 295 e = t e ∧ h.2 296 e = h' e) ∧ h.2 297 e = 1) (N0 : N ≤ 24) (m0 : m ≤ 80) (G : GI t h' m N rot) (hrow : rowT h.2 N rot)
    (q1 : ∀ v m' t' h2 rot', KS 280 [32, 53] [295, 296, 297, 298, 299, 311, 313, 314] h.2 v → FLs m t h' rot m' t' h2 rot' → v 280 32 = (m' : Nat) → (∀ e, blw m' e → (v 295 e = t' e ∧ v 296 e = h2 e) ∧ v 297 e = 1) → rowT v N rot' → Q (some (.inl 1)) (h.1, v))
    (q0 : ∀ v n W, KS 280 [32, 53] [295, 296, 297, 298, 299, 311, 313, 314] h.2 v → FS t h' m rot n W → (∀ f, f < n → (W f).length < 4) → v 280 32 = (m : Nat) → (∀ e, blw m e → (v 295 e = t e ∧ v 296 e = h' e) ∧ v 297 e = 1) → rowT v N rot → Q (some (.inl 0)) (h.1, v)) :
    qM l D (d + 4, 0, 0) m_Mo_cut [.inr (.inr 280)] h Q := sorry
end
section
/-! ===== the order: nodes go one by one ===== -/
theorem FS_TR {t h : Int → Int} {m N : Nat} {rot : Int → List Int} (w : WB t h m N rot) {n : Nat} {W : Nat → List Int} (F : FS t h m rot n W) (h3 : ∀ f, f < n → (W f).length = 3) : TR t h (blw m) rot := sorry
theorem OI_cyc {t h : Int → Int} {A : Int → Prop} {rot : Int → List Int} {lft : Int → Prop} {c c' : List Int} (q : cyc c c') (O : OI t h A rot lft c) : OI t h A rot lft c' := sorry
/-- a node of the row without chords -/
def ncd (t h : Int → Int) (m : Nat) (c : List Int) (j : Int) : Prop := ∀ f, blw m f → inc t h f (li c j) → oth t h f (li c j) ∈ c → oth t h f (li c j) = li c (j - 1) ∨ oth t h f (li c j) = li c (j + 1)
/-- the greatest such node goes; who it leaves open comes for it -/
def PLs (t h : Int → Int) (m : Nat) (rot : Int → List Int) (lft : Int → Prop) (c : List Int) (x : Int) (lft' : Int → Prop) (c' : List Int) : Prop :=
  ∃ j : Int, (0 < j ∧ j + 1 < c.length) ∧ x = li c j ∧ ncd t h m c j ∧ (∀ j' : Int, 0 < j' → j' + 1 < c.length → ncd t h m c j' → li c j' ≤ x) ∧ lft' = (fun y => lft y ∧ y ≠ x) ∧
    ∃ eR eL G R, cyc (rot x) (eR :: G ++ eL :: R) ∧ jn1 t h eR x (li c (j + 1)) ∧ jn1 t h eL x (li c (j - 1)) ∧ (∀ g, g ∈ G → ¬ lft (oth t h g x)) ∧ (∀ r, r ∈ R → lft (oth t h r x)) ∧ c' = c.take j.toNat ++ R.map (fun r => oth t h r x) ++ c.drop (j.toNat + 1)
theorem PLs_un {t h : Int → Int} {m N : Nat} {rot : Int → List Int} (w : WB t h m N rot) {lft : Int → Prop} {c : List Int} (hc : c.Nodup) {x1 x2 : Int} {l1 l2 : Int → Prop} {c1 c2 : List Int} (q1 : PLs t h m rot lft c x1 l1 c1) (q2 : PLs t h m rot lft c x2 l2 c2) : x1 = x2 ∧ l1 = l2 ∧ c1 = c2 := sorry
theorem pq_at {c : List Int} {j : Int} (h0 : 0 < j) (h1 : j + 1 < c.length) : ∃ M, cyc c (li c (j - 1) :: li c j :: li c (j + 1) :: M) ∧ ∃ M1 M2, c = M1 ++ li c (j - 1) :: li c j :: li c (j + 1) :: M2 ∧ M = M2 ++ M1 ∧ (M1.length : Int) = j - 1 := sorry
/-- a step can be made, and keeps the outer ring -/
theorem PLs_ex {t h : Int → Int} {m N : Nat} {rot : Int → List Int} {lft : Int → Prop} {c : List Int} (w : WB t h m N rot) (wj : WJ t h m (blw m) rot) (O : OI t h (blw m) rot lft c) (l3 : 3 ≤ c.length) : ∃ x lft' c', PLs t h m rot lft c x lft' c' := sorry
theorem PLs_ok {t h : Int → Int} {m N : Nat} {rot : Int → List Int} {lft : Int → Prop} {c : List Int} (w : WB t h m N rot) (T : TR t h (blw m) rot) (O : OI t h (blw m) rot lft c) {x : Int} {lft' : Int → Prop} {c' : List Int} (q : PLs t h m rot lft c x lft' c') (h3 : 3 ≤ c'.length) : OI t h (blw m) rot lft' c' := sorry
end
section
/-! ===== the grid: a node goes ===== -/
set_option maxRecDepth 100000 in
theorem sp_Gd_bits {l : Launch} {D : qD} {d N m : Nat} {x : Int} {T H : Int → Int} {rot : Int → List Int} {h : qh} {Q : qQ} (hF : WF h.2) (eT : ∀ e, blw m e → h.2 167 e = T e ∧ h.2 168 e = H e) (m0 : m ≤ 80) (N0 : N ≤ 24) (wb : WB T H m N rot) (hrow : rowC h.2 N rot) (xb : blw N x) (hq : ∀ z, i32 z → (∀ y : Int, 0 ≤ y → y < 32 → (bt z y ↔ ∃ e, e ∈ rot x ∧ oth T H e x = y)) → Q (some (.inl z)) h) :
    qM l D (d + 2, 0, 0) m_Gd_bits [.inr (.inr 166), .inl x] h Q := sorry
/-- who stands round a node, from the one on the left on -/
theorem ring_at {t h : Int → Int} {m N : Nat} {rot : Int → List Int} (w : WB t h m N rot) {x eR eL : Int} {G R : List Int} (cx : cyc (rot x) (eR :: G ++ eL :: R)) : ∃ r : Int, (0 ≤ r ∧ r < (rot x).length) ∧ li (rot x) r = eL ∧ ((rot x).length : Int) = R.length + G.length + 2 ∧ (∀ k : Int, 0 ≤ k → k < R.length → li (rot x) (Int.tmod (r + 1 + k) (rot x).length) = li R k) ∧ li (rot x) (Int.tmod (r + 1 + R.length) (rot x).length) = eR := sorry
theorem inner_eq {T H : Int → Int} {m N : Nat} {rot : Int → List Int} (wb : WB T H m N rot) {x rr lf eR eL z w : Int} {G R : List Int} (cx : cyc (rot x) (eR :: G ++ eL :: R)) (oR : oth T H eR x = rr) (obL : blw N (oth T H eL x)) (obR : blw N rr) (hG : ∀ g, g ∈ G → ¬ bt lf (oth T H g x)) (hR : ∀ r, r ∈ R → bt lf (oth T H r x)) (hz : i32 z) (hb : ∀ y : Int, 0 ≤ y → y < 32 → (bt z y ↔ ∃ q : Int, (0 ≤ q ∧ q < R.length) ∧ oth T H (li R q) x = y)) (_hw : i32 w) (hwb : ∀ y : Int, 0 ≤ y → y < 32 → (bt w y ↔ ∃ e, e ∈ rot x ∧ oth T H e x = y)) (N0 : N ≤ 24) : z = z_iand (z_iand (z_iand w lf) (z_ixor (z_ishl 1 (oth T H eL x)) (-1))) (z_ixor (z_ishl 1 rr) (-1)) := sorry
set_option maxRecDepth 100000 in
theorem sp_Gd_isInner {l : Launch} {D : qD} {d N m : Nat} {x rr at0 lf : Int} {eR eL : Int} {G R : List Int} {T H : Int → Int} {rot : Int → List Int} {h : qh} {Q : qQ} (hF : WF h.2) (eT : ∀ e, blw m e → h.2 167 e = T e ∧ h.2 168 e = H e) (m0 : m ≤ 80) (N0 : N ≤ 24) (wb : WB T H m N rot) (hrow : rowC h.2 N rot) (xb : blw N x) (cx : cyc (rot x) (eR :: G ++ eL :: R)) (oR : oth T H eR x = rr) (at1 : 0 ≤ at0 ∧ at0 < (rot x).length) (at2 : li (rot x) at0 = eL) (hG : ∀ g, g ∈ G → ¬ bt lf (oth T H g x)) (hR : ∀ r, r ∈ R → bt lf (oth T H r x)) (hq : Q (some (.inl 1)) h) :
    qM l D (d + 4, 0, 0) m_Gd_isInner [.inr (.inr 238), .inr (.inr 166), .inl x, .inl at0, .inl 1, .inl rr, .inl lf] h Q := sorry
end
section
/-! ===== the grid: a node goes, others come into the row ===== -/
theorem li_dr {l : List Int} {n : Nat} {j : Int} (j0 : 0 ≤ j) : li (l.drop n) j = li l (n + j) := sorry
theorem li_mp {f : Int → Int} {l : List Int} {j : Int} (j0 : 0 ≤ j) (j1 : j < l.length) : li (l.map f) j = f (li l j) := sorry
set_option maxRecDepth 100000 in
theorem sp_Gd_take {l : Launch} {D : qD} {d N m : Nat} {k lf x : Int} {eR eL : Int} {G R c : List Int} {T H : Int → Int} {rot : Int → List Int} {h : qh} {Q : qQ} (hF : WF h.2) (eT : ∀ e, blw m e → h.2 167 e = T e ∧ h.2 168 e = H e) (m0 : m ≤ 80) (N0 : N ≤ 24) (wb : WB T H m N rot) (hrow : rowC h.2 N rot) (b2 : h.2 238 2 = 241) (b3 : h.2 238 3 = 242) (b7 : h.2 238 7 = c.length) (hc : ∀ j : Int, 0 ≤ j → j < c.length → h.2 241 j = li c j) (c24 : c.length ≤ 24) (k0 : 0 < k ∧ k + 1 < c.length) (ex : x = li c k) (xb : blw N x) (cx : cyc (rot x) (eR :: G ++ eL :: R)) (oR : oth T H eR x = li c (k + 1)) (oL : oth T H eL x = li c (k - 1)) (hG : ∀ g, g ∈ G → ¬ bt lf (oth T H g x)) (hR : ∀ r, r ∈ R → bt lf (oth T H r x)) (n24 : (c.take k.toNat ++ R.map (fun r => oth T H r x) ++ c.drop (k.toNat + 1)).length ≤ 24)
    (hq : ∀ v, KS 238 [7] [241, 242] h.2 v → v 238 7 = (c.take k.toNat ++ R.map (fun r => oth T H r x) ++ c.drop (k.toNat + 1)).length → (∀ j : Int, 0 ≤ j → j < (c.take k.toNat ++ R.map (fun r => oth T H r x) ++ c.drop (k.toNat + 1)).length → v 241 j = li (c.take k.toNat ++ R.map (fun r => oth T H r x) ++ c.drop (k.toNat + 1)) j) → Q none (h.1, v)) :
    qM l D (d + 5, 0, 0) m_Gd_take [.inr (.inr 238), .inr (.inr 166), .inl k, .inl lf] h Q := sorry
end
section
/-! ===== while three are left the outer ring has three ===== -/
theorem OI_out {t h : Int → Int} {m N : Nat} {rot : Int → List Int} {lft : Int → Prop} {p x q : Int} (w : WB t h m N rot) (T : TR t h (blw m) rot) (cn : ∀ a b : Int, blw N a → blw N b → rchs (aj t h (blw m)) a b) (O : OI t h (blw m) rot lft [p, x, q]) (hb : ∀ y, lft y → blw N y) {eR eL : Int} {G : List Int} (cx : cyc (rot x) (eR :: G ++ eL :: [])) (jR : jn1 t h eR x q) (jL : jn1 t h eL x p) (hG : ∀ g, g ∈ G → ¬ lft (oth t h g x)) : ∀ y, lft y → y = p ∨ y = x ∨ y = q := sorry
/-- nodes that have gone, one behind the other -/
def PLn (t h : Int → Int) (m : Nat) (rot : Int → List Int) (l0 : Int → Prop) (c0 : List Int) : Nat → List Int → (Int → Prop) → List Int → Prop
  | 0, O, lft, c => O = [] ∧ lft = l0 ∧ c = c0
  | k + 1, O', lft', c' => ∃ O lft c x, PLn t h m rot l0 c0 k O lft c ∧ PLs t h m rot lft c x lft' c' ∧ O' = O ++ [x]
/-- what is kept while nodes go -/
theorem PLn_ok {t h : Int → Int} {m N : Nat} {rot : Int → List Int} {l0 : Int → Prop} {c0 : List Int} (G : GI t h m N rot) (T : TR t h (blw m) rot) (O0 : OI t h (blw m) rot l0 c0) (h3 : 3 ≤ c0.length) (hb : ∀ y, l0 y ↔ blw N y) : ∀ {k : Nat} {O : List Int} {lft : Int → Prop} {c : List Int}, k + 3 ≤ N → PLn t h m rot l0 c0 k O lft c → OI t h (blw m) rot lft c ∧ 3 ≤ c.length ∧ cnt lft N = N - k ∧ (∀ y, lft y → blw N y) ∧ O.length = k := sorry
end
section
/-! ===== the grid: the order ===== -/
theorem others_z {t h : Int → Int} {m N : Nat} {rot : Int → List Int} (w : WB t h m N rot) (N0 : N ≤ 24) {c : List Int} {j z on : Int} (hz : ∀ y : Int, 0 ≤ y → y < 32 → (bt z y ↔ ∃ e, e ∈ rot (li c j) ∧ oth t h e (li c j) = y)) (ho : ∀ y : Int, 0 ≤ y → y < 32 → (bt on y ↔ y ∈ c)) (hb : ∀ y, y ∈ c → blw N y) (j0 : 0 < j ∧ j + 1 < c.length) : z_iand (z_iand (z_iand z on) (z_ixor (z_ishl 1 (li c (j - 1))) (-1))) (z_ixor (z_ishl 1 (li c (j + 1))) (-1)) = 0 ↔ ncd t h m c j := sorry
set_option maxRecDepth 100000 in
theorem Gd_peel_main {l : Launch} {D : qD} {d N m : Nat} {u vv : Int} {t h' : Int → Int} {rot : Int → List Int} {l0 : Int → Prop} {c0 : List Int} {h : qh} {Q : qQ} (hF : WF h.2) (eT : ∀ e, blw m e → h.2 167 e = t e ∧ h.2 168 e = h' e) (m0 : m ≤ 80) (N0 : N ≤ 24) (G : GI t h' m N rot) (TT : TR t h' (blw m) rot) (hrow : rowC h.2 N rot) (a1' : h.2 238 1 = 240) (b2 : h.2 238 2 = 241) (b3 : h.2 238 3 = 242) (O0 : OI t h' (blw m) rot l0 c0) (h3 : 3 ≤ c0.length) (hl0 : ∀ y, l0 y ↔ blw N y)
    (hq : ∀ v O lft c, KS 238 [7] [240, 241, 242] h.2 v → PLn t h' m rot l0 c0 (N - 2) O lft c → (∀ j : Nat, j < N - 2 → v 240 ((N : Int) - j) = li O j) → v 240 1 = h.2 240 1 → v 240 2 = h.2 240 2 → Q none (h.1, v)) :
    ∀ k : Nat, k + 2 ≤ N → ∀ v O lft c z4 y6 y7 y8 y9, KS 238 [7] [240, 241, 242] h.2 v → PLn t h' m rot l0 c0 k O lft c → v 238 7 = c.length → (∀ j : Int, 0 ≤ j → j < c.length → v 241 j = li c j) → (∀ y : Int, 0 ≤ y → y < 32 → (bt z4 y ↔ lft y)) → (∀ j : Nat, j < k → v 240 ((N : Int) - j) = li O j) → v 240 1 = h.2 240 1 → v 240 2 = h.2 240 2 → qR l D (d + 6, 0, 0) m_Gd_peel 80 (fun r h' => Q r ((h'.1.1, h.1.2.1, h.1.2.2), h'.2)) [some (.inr (.inr 238)), some (.inr (.inr 166)), some (.inl (u)), some (.inl (vv)), some (.inl (z4)), some (.inl ((N : Int) - k)), y6, y7, y8, y9] [] ((h.1.1, 0, 0), v) := sorry
end
section
/-! ===== the grid: the order, from the first face on ===== -/
theorem OI_0 {t h : Int → Int} {m N n : Nat} {rot : Int → List Int} {W : Nat → List Int} (w : WB t h m N rot) (F : FS t h m rot n W) (m1 : 1 ≤ m) (h3 : ∀ f, f < n → (W f).length = 3) : 0 < n ∧ li (W 0) 0 = 0 ∧ frD t h (li (W 0) 1) = h 0 ∧ OI t h (blw m) rot (blw N) [t 0, frD t h (li (W 0) 2), h 0] := sorry
set_option maxRecDepth 100000 in
theorem sp_Gd_peel {l : Launch} {D : qD} {d N m n : Nat} {t h' : Int → Int} {rot : Int → List Int} {W : Nat → List Int} {h : qh} {Q : qQ} (hF : WF h.2) (eN : h.2 166 0 = N) (eT : ∀ e, blw m e → h.2 167 e = t e ∧ h.2 168 e = h' e) (m0 : m ≤ 80) (N0 : N ≤ 24) (G : GI t h' m N rot) (F : FS t h' m rot n W) (f3 : ∀ f, f < n → (W f).length = 3) (hrow : rowC h.2 N rot) (hW : ∀ f : Nat, f < n → h.2 172 f = (W f).length ∧ ∀ k : Int, 0 ≤ k → k < (W f).length → h.2 171 (160 * f + k) = frD t h' (li (W f) k)) (a1' : h.2 238 1 = 240) (b2 : h.2 238 2 = 241) (b3 : h.2 238 3 = 242)
    (hq : ∀ v O lft c, KS 238 [7] [240, 241, 242] h.2 v → PLn t h' m rot (blw N) [t 0, frD t h' (li (W 0) 2), h' 0] (N - 2) O lft c → (∀ j : Nat, j < N - 2 → v 240 ((N : Int) - j) = li O j) → v 240 1 = t 0 → v 240 2 = h' 0 → Q none (h.1, v)) :
    qM l D (d + 6, 0, 0) m_Gd_peel [.inr (.inr 238), .inr (.inr 166)] h Q := sorry
end
section
/-! ===== the grid's places, from the inner nodes to the outer ones ===== -/
def mv1 (X : Int → Int) (s b : Int) : Int → Int := fun i => if z_iand (z_ishr s i) 1 = 1 then X i + b else X i
def mvk (U : Int → Int) (c : List Int) (a b : Int) (X : Int → Int) : Nat → Int → Int
  | 0 => X
  | k + 1 => mv1 (mvk U c a b X k) (U (li c (a + 1 + k))) (if a + 1 + (k : Int) < b then 1 else 2)
def unk (U : Int → Int) (c : List Int) (a x : Int) : Nat → Int
  | 0 => U x
  | k + 1 => z_ior (unk U c a x k) (U (li c (a + 1 + k)))
def shM (U : Int → Int) (c : List Int) (a b : Int) (X : Int → Int) : Int → Int := mvk U c a b X ((c.length : Int) - (a + 1)).toNat
def shX (c : List Int) (x a b : Int) (X Y U : Int → Int) : Int → Int := fun i => if i = x then Int.tdiv (shM U c a b X (li c a) + shM U c a b X (li c b) + Y (li c b) - Y (li c a)) 2 else shM U c a b X i
def shY (c : List Int) (x a b : Int) (X Y U : Int → Int) : Int → Int := fun i => if i = x then Int.tdiv (shM U c a b X (li c b) - shM U c a b X (li c a) + Y (li c b) + Y (li c a)) 2 else Y i
def shU (c : List Int) (x a b : Int) (U : Int → Int) : Int → Int := fun i => if i = x then unk U c a x (b - a - 1).toNat else U i
def shC (c : List Int) (x a b : Int) : List Int := c.take (a + 1).toNat ++ x :: c.drop b.toNat
/-- the neighbours on the row are those from a to b -/
def STP (P : Int → Prop) (c : List Int) (a b : Int) : Prop := (0 ≤ a ∧ a < b ∧ b < c.length) ∧ P (li c a) ∧ P (li c b) ∧ ∀ q : Int, 0 ≤ q → q < c.length → P (li c q) → a ≤ q ∧ q ≤ b
theorem STP_un {P : Int → Prop} {c : List Int} {a b a' b' : Int} (h : STP P c a b) (h' : STP P c a' b') : a = a' ∧ b = b' := sorry
def SHn (adj : Int → Int → Prop) (o : Int → Int) : Nat → List Int → (Int → Int) → (Int → Int) → (Int → Int) → Prop
  | 0, c, X, Y, U => c = [o 1, o 3, o 2] ∧ X = (fun i => if i = o 3 then 1 else if i = o 2 then 2 else 0) ∧ Y = (fun i => if i = o 3 then 1 else 0) ∧ U = (fun i => z_ishl 1 i)
  | k + 1, c', X', Y', U' => ∃ c X Y U a b, SHn adj o k c X Y U ∧ STP (adj (o ((k : Int) + 4))) c a b ∧ c' = shC c (o ((k : Int) + 4)) a b ∧ X' = shX c (o ((k : Int) + 4)) a b X Y U ∧ Y' = shY c (o ((k : Int) + 4)) a b X Y U ∧ U' = shU c (o ((k : Int) + 4)) a b U
theorem SHn_un {adj : Int → Int → Prop} {o : Int → Int} : ∀ {k : Nat} {c c' : List Int} {X Y U X' Y' U' : Int → Int}, SHn adj o k c X Y U → SHn adj o k c' X' Y' U' → c = c' ∧ X = X' ∧ Y = Y' ∧ U = U' := sorry
theorem SHn_cg {adj adj' : Int → Int → Prop} {o o' : Int → Int} (ha : ∀ x y, adj x y ↔ adj' x y) : ∀ {k : Nat} {c : List Int} {X Y U : Int → Int}, (∀ q : Int, 1 ≤ q → q ≤ (k : Int) + 3 → o q = o' q) → SHn adj o k c X Y U → SHn adj' o' k c X Y U := sorry
/-- who has a place -/
def plcd (o : Int → Int) (n : Int) (i : Int) : Prop := ∃ q : Int, (1 ≤ q ∧ q ≤ n) ∧ o q = i
def Bd : Nat → Int
  | 0 => 2
  | k + 1 => 2 * Bd k + 96
theorem Bd_mono {j k : Nat} (h : j ≤ k) : Bd j ≤ Bd k ∧ 2 ≤ Bd j := sorry
theorem Bd_le {k : Nat} (h : k ≤ 21) : 2 ≤ Bd k ∧ Bd k ≤ 205520800 := sorry
theorem mvk_b {U : Int → Int} {c : List Int} {a b : Int} {X : Int → Int} {i B : Int} (h : -B ≤ X i ∧ X i ≤ B) : ∀ k : Nat, -B - 2 * k ≤ mvk U c a b X k i ∧ mvk U c a b X k i ≤ B + 2 * k := sorry
theorem td2 (z B : Int) (h : -B ≤ z ∧ z ≤ B) (b : 0 ≤ B) : -B ≤ 2 * Int.tdiv z 2 ∧ 2 * Int.tdiv z 2 ≤ B := sorry
theorem mem_shC {c : List Int} {x a b y : Int} (h : y ∈ shC c x a b) : y ∈ c ∨ y = x := sorry
theorem unk_b {U : Int → Int} {c : List Int} {a x : Int} {i : Int} : ∀ k : Nat, bt (unk U c a x k) i → bt (U x) i ∨ ∃ q : Nat, q < k ∧ bt (U (li c (a + 1 + q))) i := sorry
/-- what is kept -/
theorem SHn_ok {adj : Int → Int → Prop} {o : Int → Int} {M : Nat} (ho : ∀ q : Int, 1 ≤ q → q ≤ (M : Int) + 3 → 0 ≤ o q ∧ o q < 24) (hl : ∀ k c X Y U, k ≤ M → SHn adj o k c X Y U → c.length ≤ 24) : ∀ {k : Nat} {c : List Int} {X Y U : Int → Int}, k ≤ M → SHn adj o k c X Y U → (∀ y, y ∈ c → plcd o ((k : Int) + 3) y) ∧ (∀ y i : Int, 0 ≤ y → y < 32 → 0 ≤ i → i < 32 → bt (U y) i → plcd o ((k : Int) + 3) i ∨ i = y) ∧ ∀ i, plcd o ((k : Int) + 3) i → (-Bd k ≤ X i ∧ X i ≤ Bd k) ∧ (-Bd k ≤ Y i ∧ Y i ≤ Bd k) := sorry
/-- the rows of the peeling, one behind the other -/
theorem PLn_seq {t h : Int → Int} {m : Nat} {rot : Int → List Int} {l0 : Int → Prop} {c0 : List Int} : ∀ {n : Nat} {O : List Int} {lft : Int → Prop} {c : List Int}, PLn t h m rot l0 c0 n O lft c → ∃ (cs : Nat → List Int) (ls : Nat → Int → Prop), cs n = c ∧ ls n = lft ∧ O.length = n ∧ (∀ k, k ≤ n → PLn t h m rot l0 c0 k (O.take k) (ls k) (cs k)) ∧ ∀ k : Nat, k < n → PLs t h m rot (ls k) (cs k) (li O k) (ls (k + 1)) (cs (k + 1)) := sorry
/-- a node that went comes back -/
theorem PLs_STP {t h : Int → Int} {m N : Nat} {rot : Int → List Int} (w : WB t h m N rot) {lft lft' : Int → Prop} {c c' : List Int} {x : Int} (hc : c.Nodup) (q : PLs t h m rot lft c x lft' c') : ∃ a b, STP (fun y => ∃ f, blw m f ∧ jn1 t h f x y) c' a b ∧ c = shC c' x a b ∧ li c' 0 = li c 0 ∧ li c' ((c'.length : Int) - 1) = li c ((c.length : Int) - 1) := sorry
/-- the peeling gives the rows of the way back -/
theorem SHn_peel {t h : Int → Int} {m N : Nat} {rot : Int → List Int} {u v x0 : Int} {O : List Int} {lft : Int → Prop} {c : List Int} {o : Int → Int} (G : GI t h m N rot) (T : TR t h (blw m) rot) (O0 : OI t h (blw m) rot (blw N) [u, x0, v]) (pl : PLn t h m rot (blw N) [u, x0, v] (N - 2) O lft c) (o1 : o 1 = u) (o2 : o 2 = v) (oO : ∀ j : Nat, j < N - 2 → o ((N : Int) - j) = li O j) :
    (∀ q : Int, 1 ≤ q → q ≤ N → blw N (o q)) ∧ (∀ k c X Y U, k + 3 ≤ N → SHn (fun x y => ∃ f, blw m f ∧ jn1 t h f x y) o k c X Y U → c.length ≤ N ∧ (∀ y, y ∈ c → blw N y)) ∧ ∀ k c X Y U, k + 3 < N → SHn (fun x y => ∃ f, blw m f ∧ jn1 t h f x y) o k c X Y U → o ((k : Int) + 4) ∉ c ∧ ∃ a b, STP (fun y => ∃ f, blw m f ∧ jn1 t h f (o ((k : Int) + 4)) y) c a b := sorry
theorem PLn_all {t h : Int → Int} {m : Nat} {rot : Int → List Int} {l0 : Int → Prop} {c0 : List Int} : ∀ {n : Nat} {O : List Int} {lft : Int → Prop} {c : List Int}, PLn t h m rot l0 c0 n O lft c → ∀ y, l0 y → lft y ∨ y ∈ O := sorry
/-- at the end all have a place -/
theorem SHn_all {t h : Int → Int} {m N : Nat} {rot : Int → List Int} {u v x0 : Int} {O : List Int} {lft : Int → Prop} {c : List Int} {o : Int → Int} (G : GI t h m N rot) (T : TR t h (blw m) rot) (O0 : OI t h (blw m) rot (blw N) [u, x0, v]) (pl : PLn t h m rot (blw N) [u, x0, v] (N - 2) O lft c) (o1 : o 1 = u) (o2 : o 2 = v) (oO : ∀ j : Nat, j < N - 2 → o ((N : Int) - j) = li O j) : ∀ i, blw N i → plcd o N i := sorry
/-- places of the row with one more -/
theorem shC_li {c : List Int} {x a b : Int} (h : 0 ≤ a ∧ a < b ∧ b < c.length) : ((shC c x a b).length : Int) = c.length - b + a + 2 ∧ (∀ q : Int, 0 ≤ q → q ≤ a → li (shC c x a b) q = li c q) ∧ li (shC c x a b) (a + 1) = x ∧ ∀ q : Int, a + 2 ≤ q → q < c.length - b + a + 2 → li (shC c x a b) q = li c (q - a - 2 + b) := sorry
end
section
/-! ===== the grid: places by the order ===== -/
set_option maxRecDepth 100000 in
theorem qR.rg {l : Launch} {D : qD} {d : qd} {M : qm} {pc : Nat} {Q : qQ} {ls : List (Option qv)} {st : List qv} {h : qh} (k : (∀ (a : Nat) (i : Nat), a < h.1.1 → qok h.1.1 (qty (q_tp a i) (h.2 a i))) → (∀ (a : Nat) (i : Nat), a < h.1.1 → q_fit (q_shp a).1 (h.2 a i)) → (∀ v, some v ∈ ls → qok h.1.1 v) → qR l D d M pc Q ls st h) : qR l D d M pc Q ls st h := sorry
set_option maxRecDepth 100000 in
theorem sp_Gd_move {l : Launch} {D : qD} {d : Nat} {s b : Int} {h : qh} {Q : qQ} (b4 : h.2 238 4 = 243) (hr : ∀ i : Int, 0 ≤ i → i < 24 → z_iand (z_ishr s i) 1 = 1 → r32 (h.2 243 i + b)) (hq : ∀ v, KS 238 [] [243] h.2 v → (∀ i : Int, 0 ≤ i → i < 24 → v 243 i = mv1 (h.2 243) s b i) → Q none (h.1, v)) :
    qM l D (d + 1, 0, 0) m_Gd_move [.inr (.inr 238), .inl s, .inl b] h Q := sorry
set_option maxRecDepth 100000 in
theorem sp_Gd_shift {l : Launch} {D : qD} {d N m : Nat} {t h' : Int → Int} {rot : Int → List Int} {h : qh} {Q : qQ} (hF : WF h.2) (eN : h.2 166 0 = N) (eT : ∀ e, blw m e → h.2 167 e = t e ∧ h.2 168 e = h' e) (m0 : m ≤ 80) (N0 : N ≤ 24) (N3 : 3 ≤ N) (wb : WB t h' m N rot) (hrow : rowC h.2 N rot) (b1 : h.2 238 1 = 240) (b2 : h.2 238 2 = 241) (b4 : h.2 238 4 = 243) (b5 : h.2 238 5 = 244) (b6 : h.2 238 6 = 245)
    (ho : ∀ q : Int, 1 ≤ q → q ≤ N → blw N (h.2 240 q)) (hl : ∀ k c X Y U, k + 3 ≤ N → SHn (fun x y => ∃ f, blw m f ∧ jn1 t h' f x y) (h.2 240) k c X Y U → c.length ≤ N ∧ (∀ y, y ∈ c → blw N y)) (hex : ∀ k c X Y U, k + 3 < N → SHn (fun x y => ∃ f, blw m f ∧ jn1 t h' f x y) (h.2 240) k c X Y U → h.2 240 ((k : Int) + 4) ∉ c ∧ ∃ a b, STP (fun y => ∃ f, blw m f ∧ jn1 t h' f (h.2 240 ((k : Int) + 4)) y) c a b) (hall : ∀ i, blw N i → plcd (h.2 240) N i)
    (hq : ∀ v c X Y U, KS 238 [7] [241, 243, 244, 245] h.2 v → SHn (fun x y => ∃ f, blw m f ∧ jn1 t h' f x y) (h.2 240) (N - 3) c X Y U → (∀ i, blw N i → v 243 i = X i ∧ v 244 i = Y i) → (∀ i, blw N i → -205520800 ≤ Y i ∧ Y i ≤ 205520800) → Q none (h.1, v)) :
    qM l D (d + 3, 0, 0) m_Gd_shift [.inr (.inr 238), .inr (.inr 166)] h Q := sorry
end
section
/-! ===== the grid: the drawing ===== -/
theorem PLn_un {t h : Int → Int} {m N : Nat} {rot : Int → List Int} {c0 : List Int} (G : GI t h m N rot) (T : TR t h (blw m) rot) (O0 : OI t h (blw m) rot (blw N) c0) (h3 : 3 ≤ c0.length) : ∀ {k : Nat} {O O' : List Int} {lft lft' : Int → Prop} {c c' : List Int}, k + 2 ≤ N → PLn t h m rot (blw N) c0 k O lft c → PLn t h m rot (blw N) c0 k O' lft' c' → O = O' ∧ lft = lft' ∧ c = c' := sorry
/-- the greatest height -/
def mxs (Y : Int → Int) : Nat → Int
  | 0 => 0
  | k + 1 => if mxs Y k < Y k then Y k else mxs Y k
theorem mxs_b {Y : Int → Int} {B : Int} (b0 : 0 ≤ B) : ∀ {k : Nat}, (∀ i, blw k i → -B ≤ Y i ∧ Y i ≤ B) → 0 ≤ mxs Y k ∧ mxs Y k ≤ B := sorry
/-- what is drawn on the grid -/
def GRID (t0 h0 : Int → Int) (m0 N : Nat) (r0 : Int → List Int) (PX PY : Int → Int) : Prop :=
  ∃ (j m n : Nat) (t h : Int → Int) (rot : Int → List Int) (W : Nat → List Int) (O : List Int) (lft : Int → Prop) (c cc : List Int) (o X Y U : Int → Int), FLn m0 t0 h0 r0 j m t h rot ∧ FS t h m rot n W ∧ (∀ f, f < n → (W f).length = 3) ∧ PLn t h m rot (blw N) [t 0, frD t h (li (W 0) 2), h 0] (N - 2) O lft c ∧ o 1 = t 0 ∧ o 2 = h 0 ∧ (∀ j : Nat, j < N - 2 → o ((N : Int) - j) = li O j) ∧ SHn (fun x y => ∃ f, blw m f ∧ jn1 t h f x y) o (N - 3) cc X Y U ∧ ∀ i, blw N i → PX i = X i ∧ PY i = mxs Y N - Y i
theorem GRID_un {t0 h0 : Int → Int} {m0 N : Nat} {r0 : Int → List Int} (G : GI t0 h0 m0 N r0) {PX PY PX' PY' : Int → Int} (q : GRID t0 h0 m0 N r0 PX PY) (q' : GRID t0 h0 m0 N r0 PX' PY') : ∀ i, blw N i → PX i = PX' i ∧ PY i = PY' i := sorry
set_option maxRecDepth 100000 in
theorem sp_Dr_clear {l : Launch} {D : qD} {d : Nat} {h : qh} {Q : qQ} (s7 : h.2 198 7 = 201) (hq : ∀ v, KS 198 [] [201] h.2 v → (∀ e : Int, 0 ≤ e → e < 48 → v 201 e = 0) → Q none (h.1, v)) :
    qM l D (d + 1, 0, 0) m_Dr_clear [.inr (.inr 198)] h Q := sorry
set_option maxRecDepth 100000 in
theorem Gd_draw_end {l : Launch} {D : qD} {d N : Nat} {X Y : Int → Int} {h : qh} {Q : qQ} {v : Int → Int → Int} (eN : v 166 0 = N) (N0 : N ≤ 24) (b4 : v 238 4 = 243) (b5 : v 238 5 = 244) (s5 : v 198 5 = 199) (s6 : v 198 6 = 200) (s7 : v 198 7 = 201) (hX : ∀ i, blw N i → v 243 i = X i ∧ v 244 i = Y i) (hY : ∀ i, blw N i → -205520800 ≤ Y i ∧ Y i ≤ 205520800)
    (hq : ∀ w, KS 198 [] [199, 200, 201] v w → (∀ i, blw N i → w 199 i = X i ∧ w 200 i = mxs Y N - Y i) → (∀ e : Int, 0 ≤ e → e < 48 → w 201 e = 0) → Q none (h.1, w)) : ∀ y3 y4, (s_ic (0) (s_istore 3 (s_ic (0) (s_istore 4 (qR l D (d + 7, 0, 0) m_Gd_draw 20 (fun r h' => Q r ((h'.1.1, h.1.2.1, h.1.2.2), h'.2))))))) [some (.inr (.inr 238)), some (.inr (.inr 166)), some (.inr (.inr 198)), y3, y4] [] ((h.1.1, 0, 0), v) := sorry
end
