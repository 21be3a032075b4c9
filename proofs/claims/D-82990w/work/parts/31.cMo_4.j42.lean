section
/-! printed by gen/gcode.py: the code of DrawingHouseModel, block by block -/
theorem lf_Mo_330 : q_gF "DrawingHouseModel" 330 18 148 2 := sorry
theorem lf_Mo_333 : q_gF "DrawingHouseModel" 333 18 149 2 := sorry
theorem lm_Mo_1076 : q_gV "DrawingHouseModel" 1076 18 2 m_Mo_stepTo := sorry
theorem lf_Mo_339 : q_gF "DrawingHouseModel" 339 18 152 2 := sorry
theorem lf_Mo_1079 : q_gF "DrawingHouseModel" 1079 18 150 0 := sorry
theorem lf_Mo_336 : q_gF "DrawingHouseModel" 336 18 151 2 := sorry
theorem lm_Mo_1082 : q_gV "DrawingHouseModel" 1082 18 1 m_Mo_finds := sorry
theorem lp_Mo_1079 : q_pF "DrawingHouseModel" 1079 18 150 0 (.int) false := sorry
theorem lm_Mo_1085 : q_gV "DrawingHouseModel" 1085 18 2 m_Mo_ex := sorry
theorem lm_Mo_1088 : q_gV "DrawingHouseModel" 1088 18 2 m_Mo_ey := sorry
theorem lm_Mo_1133 : q_gV "DrawingHouseModel" 1133 18 2 m_Mo_ofEdge := sorry
theorem lm_Mo_1130 : q_gV "DrawingHouseModel" 1130 18 0 m_Mo_leastTriangle := sorry
theorem lm_Mo_1126 : q_gV "DrawingHouseModel" 1126 18 0 m_Mo_areaOf := sorry
theorem lm_Mo_1123 : q_gV "DrawingHouseModel" 1123 18 2 m_Mo_touch := sorry
theorem lm_Mo_1119 : q_gV "DrawingHouseModel" 1119 18 4 m_Mo_meets := sorry
theorem lm_Mo_1115 : q_gS "DrawingHouseModel" 1115 8 m_Mo_isLonger := sorry
theorem lm_Mo_1107 : q_gS "DrawingHouseModel" 1107 6 m_Mo_isOn := sorry
theorem lm_Mo_1111 : q_gV "DrawingHouseModel" 1111 18 4 m_Mo_isShared := sorry
theorem lm_Mo_1091 : q_gS "DrawingHouseModel" 1091 6 m_Mo_turnOf := sorry
theorem lm_Mo_1099 : q_gS "DrawingHouseModel" 1099 1 m_Mo_signOf := sorry
theorem lm_Mo_1103 : q_gV "DrawingHouseModel" 1103 18 10 m_Mo_crossAtShared := sorry
theorem lm_Mo_1095 : q_gS "DrawingHouseModel" 1095 2 m_Math_min_1 := sorry
theorem lm_Mo_1097 : q_gS "DrawingHouseModel" 1097 2 m_Math_max_1 := sorry
theorem lm_Mo_1137 : q_gS "DrawingHouseModel" 1137 1 m_Math_abs_1 := sorry
theorem lm_Mo_1157 : q_gV "DrawingHouseModel" 1157 18 0 m_Mo_bounds := sorry
theorem lf_Mo_1145 : q_gF "DrawingHouseModel" 1145 18 154 0 := sorry
theorem lf_Mo_1142 : q_gF "DrawingHouseModel" 1142 18 153 0 := sorry
theorem lf_Mo_1151 : q_gF "DrawingHouseModel" 1151 18 156 0 := sorry
theorem lf_Mo_1148 : q_gF "DrawingHouseModel" 1148 18 155 0 := sorry
theorem lm_Mo_1154 : q_gV "DrawingHouseModel" 1154 18 2 m_Mo_bound := sorry
theorem lp_Mo_1142 : q_pF "DrawingHouseModel" 1142 18 153 0 (.int) false := sorry
theorem lp_Mo_1145 : q_pF "DrawingHouseModel" 1145 18 154 0 (.int) false := sorry
theorem lp_Mo_1148 : q_pF "DrawingHouseModel" 1148 18 155 0 (.int) false := sorry
theorem lp_Mo_1151 : q_pF "DrawingHouseModel" 1151 18 156 0 (.int) false := sorry
theorem lf_Mo_1160 : q_gF "DrawingHouseModel" 1160 18 157 0 := sorry
theorem lf_Mo_348 : q_gF "DrawingHouseModel" 348 18 162 2 := sorry
theorem lf_Mo_351 : q_gF "DrawingHouseModel" 351 18 163 2 := sorry
theorem lp_Mo_1160 : q_pF "DrawingHouseModel" 1160 18 157 0 (.int) false := sorry
theorem lf_Mo_1175 : q_gF "DrawingHouseModel" 1175 18 159 0 := sorry
theorem lp_Mo_1175 : q_pF "DrawingHouseModel" 1175 18 159 0 (.int) false := sorry
theorem lp_Mo_1169 : q_pF "DrawingHouseModel" 1169 18 158 0 (.int) false := sorry
theorem lm_Mo_1172 : q_gV "DrawingHouseModel" 1172 18 1 m_Mo_styleSign := sorry
theorem lm_Mo_1235 : q_gV "DrawingHouseModel" 1235 18 0 m_Mo_product := sorry
theorem lm_Mo_1238 : q_gV "DrawingHouseModel" 1238 18 0 m_Mo_styleValue := sorry
theorem lm_Mo_1251 : q_gV "DrawingHouseModel" 1251 18 1 m_Mo_ofEdgeWord := sorry
theorem lf_Mo_1195 : q_gF "DrawingHouseModel" 1195 18 164 0 := sorry
theorem lm_Mo_1247 : q_gV "DrawingHouseModel" 1247 18 1 m_Mo_ofNode := sorry
theorem lf_Mo_1181 : q_gF "DrawingHouseModel" 1181 18 165 0 := sorry
theorem lm_Mo_1244 : q_gV "DrawingHouseModel" 1244 18 0 m_Mo_edgeWord := sorry
theorem lm_Mo_1241 : q_gV "DrawingHouseModel" 1241 18 0 m_Mo_nodeWord := sorry
theorem lm_Mo_1232 : q_gV "DrawingHouseModel" 1232 18 0 m_Mo_styleOpen := sorry
theorem lm_Mo_1212 : q_gV "DrawingHouseModel" 1212 18 0 m_Mo_sum := sorry
theorem lm_Mo_1203 : q_gV "DrawingHouseModel" 1203 18 1 m_Mo_styleNeed := sorry
theorem lf_Mo_354 : q_gF "DrawingHouseModel" 354 18 166 2 := sorry
theorem lf_Mo_357 : q_gF "DrawingHouseModel" 357 18 167 2 := sorry
theorem lf_Mo_360 : q_gF "DrawingHouseModel" 360 18 168 2 := sorry
theorem lp_Mo_1326 : q_pF "DrawingHouseModel" 1326 18 169 0 (.int) false := sorry
theorem lm_Mo_1323 : q_gV "DrawingHouseModel" 1323 18 0 m_Mo_writeDrawing := sorry
theorem lm_Mo_1309 : q_gV "DrawingHouseModel" 1309 18 1 m_Mo_writeGroup := sorry
theorem lm_Mo_1320 : q_gV "DrawingHouseModel" 1320 18 0 m_Mo_writeEdges := sorry
theorem lm_Mo_1285 : q_gV "DrawingHouseModel" 1285 18 2 m_Mo_writeName := sorry
theorem lm_Mo_1280 : q_gV "DrawingHouseModel" 1280 18 1 m_Mo_write_1 := sorry
theorem lm_Mo_1298 : q_gV "DrawingHouseModel" 1298 18 1 m_Mo_writeNumber := sorry
theorem lm_Mo_1293 : q_gV "DrawingHouseModel" 1293 18 1 m_Mo_writeNode := sorry
theorem lm_Mo_1338 : q_gV "DrawingHouseModel" 1338 18 1 m_Mo_dotY := sorry
theorem lm_Mo_1335 : q_gV "DrawingHouseModel" 1335 18 1 m_Mo_dotX := sorry
theorem lm_Mo_1341 : q_gV "DrawingHouseModel" 1341 18 5 m_Mo_dotLine := sorry
theorem lp_Mo_1329 : q_pF "DrawingHouseModel" 1329 18 173 0 (.int) false := sorry
theorem lp_Mo_1332 : q_pF "DrawingHouseModel" 1332 18 174 0 (.int) false := sorry
def w_Mo_backFrom_131 (l : Launch) (D : qD) (d0 : Nat) (B : Nat × Nat) (Q : qQ) : qK := (s_vret Q)
theorem Mo_backFrom_131 {l : Launch} {D : qD} {d0 : Nat} {B : Nat × Nat} {Q : qQ} : qI (w_Mo_backFrom_131 l D d0 B Q) (qR l D (d0 + 1, B) m_Mo_backFrom 131 Q) := sorry
def w_Mo_backFrom_121 (l : Launch) (D : qD) (d0 : Nat) (B : Nat × Nat) (Q : qQ) : qK := (s_iadd (s_Mo_reached d0 (s_iinc 8 (1) (qR l D (d0 + 1, B) m_Mo_backFrom 94 Q))))
theorem Mo_backFrom_121 {l : Launch} {D : qD} {d0 : Nat} {B : Nat × Nat} {Q : qQ} : qI (w_Mo_backFrom_121 l D d0 B Q) (qR l D (d0 + 1, B) m_Mo_backFrom 121 Q) := sorry
def w_Mo_backFrom_120 (l : Launch) (D : qD) (d0 : Nat) (B : Nat × Nat) (Q : qQ) : qK := (s_ic (3) (w_Mo_backFrom_121 l D d0 B Q))
theorem Mo_backFrom_120 {l : Launch} {D : qD} {d0 : Nat} {B : Nat × Nat} {Q : qQ} : qI (w_Mo_backFrom_120 l D d0 B Q) (qR l D (d0 + 1, B) m_Mo_backFrom 120 Q) := sorry
def w_Mo_backFrom_94 (l : Launch) (D : qD) (d0 : Nat) (B : Nat × Nat) (Q : qQ) : qK := (s_iload 8 (s_ic (4) (s_icmp_ge (w_Mo_backFrom_131 l D d0 B Q) (s_aload 0 (s_ic (4) (s_iload 7 (s_imul (s_iload 8 (s_iadd (s_iload 2 (s_iload 8 (s_iload 4 (s_icmp_ne (w_Mo_backFrom_120 l D d0 B Q) (s_ic (1) (w_Mo_backFrom_121 l D d0 B Q)))))))))))))))
theorem Mo_backFrom_94 {l : Launch} {D : qD} {d0 : Nat} {B : Nat × Nat} {Q : qQ} : qI (w_Mo_backFrom_94 l D d0 B Q) (qR l D (d0 + 1, B) m_Mo_backFrom 94 Q) := sorry
def w_Mo_backFrom_91 (l : Launch) (D : qD) (d0 : Nat) (B : Nat × Nat) (Q : qQ) : qK := (s_ic (0) (s_istore 8 (qR l D (d0 + 1, B) m_Mo_backFrom 94 Q)))
theorem Mo_backFrom_91 {l : Launch} {D : qD} {d0 : Nat} {B : Nat × Nat} {Q : qQ} : qI (w_Mo_backFrom_91 l D d0 B Q) (qR l D (d0 + 1, B) m_Mo_backFrom 91 Q) := sorry
def w_Mo_backFrom_68 (l : Launch) (D : qD) (d0 : Nat) (B : Nat × Nat) (Q : qQ) : qK := (s_iload 6 (s_aload 0 (s_getI 18 146 (s_imul (s_iload 5 (s_iadd (s_istore 7 (s_aload 0 (s_getR 18 143 (s_iload 7 (s_bald (s_if_eq (w_Mo_backFrom_91 l D d0 B Q) (s_vret Q)))))))))))))
theorem Mo_backFrom_68 {l : Launch} {D : qD} {d0 : Nat} {B : Nat × Nat} {Q : qQ} : qI (w_Mo_backFrom_68 l D d0 B Q) (qR l D (d0 + 1, B) m_Mo_backFrom 68 Q) := sorry
def w_Mo_backFrom_67 (l : Launch) (D : qD) (d0 : Nat) (B : Nat × Nat) (Q : qQ) : qK := (s_vret Q)
theorem Mo_backFrom_67 {l : Launch} {D : qD} {d0 : Nat} {B : Nat × Nat} {Q : qQ} : qI (w_Mo_backFrom_67 l D d0 B Q) (qR l D (d0 + 1, B) m_Mo_backFrom 67 Q) := sorry
def w_Mo_backFrom_0 (l : Launch) (D : qD) (d0 : Nat) (B : Nat × Nat) (Q : qQ) : qK := (s_iload 1 (s_ic (4) (s_idiv (s_istore 3 (s_iload 1 (s_ic (4) (s_irem (s_istore 4 (s_iload 3 (s_aload 0 (s_getI 18 146 (s_irem (s_iload 4 (s_Mo_dx d0 (s_isub (s_istore 5 (s_iload 3 (s_aload 0 (s_getI 18 146 (s_idiv (s_iload 4 (s_Mo_dy d0 (s_isub (s_istore 6 (s_iload 5 (s_ic (0) (s_aload 0 (s_getI 18 146 (s_ic (1) (s_isub (s_Mo_in d0 (s_if_eq (w_Mo_backFrom_67 l D d0 B Q) (s_iload 6 (s_ic (0) (s_aload 0 (s_getI 18 147 (s_ic (1) (s_isub (s_Mo_in d0 (s_if_ne (w_Mo_backFrom_68 l D d0 B Q) (w_Mo_backFrom_67 l D d0 B Q)))))))))))))))))))))))))))))))))))))))))
theorem Mo_backFrom_0 {l : Launch} {D : qD} {d0 : Nat} {B : Nat × Nat} {Q : qQ} : qI (w_Mo_backFrom_0 l D d0 B Q) (qR l D (d0 + 1, B) m_Mo_backFrom 0 Q) := sorry
def w_Mo_bendsBecome_363 (l : Launch) (D : qD) (d0 : Nat) (B : Nat × Nat) (Q : qQ) : qK := (s_ic (0) (s_iret Q))
theorem Mo_bendsBecome_363 {l : Launch} {D : qD} {d0 : Nat} {B : Nat × Nat} {Q : qQ} : qI (w_Mo_bendsBecome_363 l D d0 B Q) (qR l D (d0 + 1, B) m_Mo_bendsBecome 363 Q) := sorry
def w_Mo_bendsBecome_310 (l : Launch) (D : qD) (d0 : Nat) (B : Nat × Nat) (Q : qQ) : qK := (s_iload 9 (s_iload 5 (s_icmp_ge (w_Mo_bendsBecome_363 l D d0 B Q) (s_aload 0 (s_getR 18 65 (s_ic (24) (s_iload 8 (s_imul (s_iload 9 (s_iadd (s_aload 0 (s_getR 18 148 (s_iload 9 (s_iald (s_iast (s_aload 0 (s_getR 18 66 (s_ic (24) (s_iload 8 (s_imul (s_iload 9 (s_iadd (s_aload 0 (s_getR 18 149 (s_iload 9 (s_iald (s_iast (s_iinc 9 (1) (qR l D (d0 + 1, B) m_Mo_bendsBecome 310 Q)))))))))))))))))))))))))))))
theorem Mo_bendsBecome_310 {l : Launch} {D : qD} {d0 : Nat} {B : Nat × Nat} {Q : qQ} : qI (w_Mo_bendsBecome_310 l D d0 B Q) (qR l D (d0 + 1, B) m_Mo_bendsBecome 310 Q) := sorry
def w_Mo_bendsBecome_287 (l : Launch) (D : qD) (d0 : Nat) (B : Nat × Nat) (Q : qQ) : qK := (s_ic (48) (s_aload 0 (s_getI 18 139 (s_imul (s_iload 1 (s_iadd (s_istore 8 (s_aload 0 (s_getR 18 64 (s_iload 8 (s_iload 5 (s_iast (s_ic (0) (s_istore 9 (qR l D (d0 + 1, B) m_Mo_bendsBecome 310 Q)))))))))))))))
theorem Mo_bendsBecome_287 {l : Launch} {D : qD} {d0 : Nat} {B : Nat × Nat} {Q : qQ} : qI (w_Mo_bendsBecome_287 l D d0 B Q) (qR l D (d0 + 1, B) m_Mo_bendsBecome 287 Q) := sorry
def w_Mo_bendsBecome_277 (l : Launch) (D : qD) (d0 : Nat) (B : Nat × Nat) (Q : qQ) : qK := (s_iload 5 (s_ic (24) (s_icmp_le (w_Mo_bendsBecome_287 l D d0 B Q) (s_ic (-3) (s_iret Q)))))
theorem Mo_bendsBecome_277 {l : Launch} {D : qD} {d0 : Nat} {B : Nat × Nat} {Q : qQ} : qI (w_Mo_bendsBecome_277 l D d0 B Q) (qR l D (d0 + 1, B) m_Mo_bendsBecome 277 Q) := sorry
def w_Mo_bendsBecome_256 (l : Launch) (D : qD) (d0 : Nat) (B : Nat × Nat) (Q : qQ) : qK := (s_iload 10 (s_istore 7 (s_iload 11 (s_istore 9 (s_aload 0 (s_iload 6 (s_iload 7 (s_Mo_stepTo d0 (s_istore 6 (qR l D (d0 + 1, B) m_Mo_bendsBecome 112 Q))))))))))
theorem Mo_bendsBecome_256 {l : Launch} {D : qD} {d0 : Nat} {B : Nat × Nat} {Q : qQ} : qI (w_Mo_bendsBecome_256 l D d0 B Q) (qR l D (d0 + 1, B) m_Mo_bendsBecome 256 Q) := sorry
def w_Mo_bendsBecome_253 (l : Launch) (D : qD) (d0 : Nat) (B : Nat × Nat) (Q : qQ) : qK := (s_iinc 5 (1) (w_Mo_bendsBecome_256 l D d0 B Q))
theorem Mo_bendsBecome_253 {l : Launch} {D : qD} {d0 : Nat} {B : Nat × Nat} {Q : qQ} : qI (w_Mo_bendsBecome_253 l D d0 B Q) (qR l D (d0 + 1, B) m_Mo_bendsBecome 253 Q) := sorry
def w_Mo_bendsBecome_201 (l : Launch) (D : qD) (d0 : Nat) (B : Nat × Nat) (Q : qQ) : qK := (s_iload 10 (s_iload 7 (s_icmp_eq (w_Mo_bendsBecome_256 l D d0 B Q) (s_iload 5 (s_ic (25) (s_icmp_ge (w_Mo_bendsBecome_253 l D d0 B Q) (s_aload 0 (s_getR 18 148 (s_iload 5 (s_aload 0 (s_getI 18 144 (s_iload 6 (s_aload 0 (s_getI 18 146 (s_irem (s_iadd (s_iast (s_aload 0 (s_getR 18 149 (s_iload 5 (s_aload 0 (s_getI 18 145 (s_iload 6 (s_aload 0 (s_getI 18 146 (s_idiv (s_iadd (s_iast (w_Mo_bendsBecome_253 l D d0 B Q)))))))))))))))))))))))))))))
theorem Mo_bendsBecome_201 {l : Launch} {D : qD} {d0 : Nat} {B : Nat × Nat} {Q : qQ} : qI (w_Mo_bendsBecome_201 l D d0 B Q) (qR l D (d0 + 1, B) m_Mo_bendsBecome 201 Q) := sorry
def w_Mo_bendsBecome_195 (l : Launch) (D : qD) (d0 : Nat) (B : Nat × Nat) (Q : qQ) : qK := (s_iinc 12 (-1) (qR l D (d0 + 1, B) m_Mo_bendsBecome 127 Q))
theorem Mo_bendsBecome_195 {l : Launch} {D : qD} {d0 : Nat} {B : Nat × Nat} {Q : qQ} : qI (w_Mo_bendsBecome_195 l D d0 B Q) (qR l D (d0 + 1, B) m_Mo_bendsBecome 195 Q) := sorry
def w_Mo_bendsBecome_184 (l : Launch) (D : qD) (d0 : Nat) (B : Nat × Nat) (Q : qQ) : qK := (s_iload 12 (s_istore 10 (s_iload 9 (s_iload 14 (s_isub (s_istore 11 (w_Mo_bendsBecome_195 l D d0 B Q)))))))
theorem Mo_bendsBecome_184 {l : Launch} {D : qD} {d0 : Nat} {B : Nat × Nat} {Q : qQ} : qI (w_Mo_bendsBecome_184 l D d0 B Q) (qR l D (d0 + 1, B) m_Mo_bendsBecome 184 Q) := sorry
def w_Mo_bendsBecome_154 (l : Launch) (D : qD) (d0 : Nat) (B : Nat × Nat) (Q : qQ) : qK := (s_istore 14 (s_iload 13 (s_if_lt (w_Mo_bendsBecome_195 l D d0 B Q) (s_aload 0 (s_getR 18 140 (s_ic (4) (s_iload 13 (s_imul (s_iload 12 (s_iadd (s_iald (s_iload 9 (s_iload 14 (s_isub (s_icmp_eq (w_Mo_bendsBecome_184 l D d0 B Q) (w_Mo_bendsBecome_195 l D d0 B Q))))))))))))))))
theorem Mo_bendsBecome_154 {l : Launch} {D : qD} {d0 : Nat} {B : Nat × Nat} {Q : qQ} : qI (w_Mo_bendsBecome_154 l D d0 B Q) (qR l D (d0 + 1, B) m_Mo_bendsBecome 154 Q) := sorry
def w_Mo_bendsBecome_153 (l : Launch) (D : qD) (d0 : Nat) (B : Nat × Nat) (Q : qQ) : qK := (s_ic (3) (w_Mo_bendsBecome_154 l D d0 B Q))
theorem Mo_bendsBecome_153 {l : Launch} {D : qD} {d0 : Nat} {B : Nat × Nat} {Q : qQ} : qI (w_Mo_bendsBecome_153 l D d0 B Q) (qR l D (d0 + 1, B) m_Mo_bendsBecome 153 Q) := sorry
def w_Mo_bendsBecome_127 (l : Launch) (D : qD) (d0 : Nat) (B : Nat × Nat) (Q : qQ) : qK := (s_iload 12 (s_if_lt (w_Mo_bendsBecome_201 l D d0 B Q) (s_aload 0 (s_iload 6 (s_iload 12 (s_Mo_stepTo d0 (s_istore 13 (s_iload 12 (s_iload 7 (s_icmp_ne (w_Mo_bendsBecome_153 l D d0 B Q) (s_ic (1) (w_Mo_bendsBecome_154 l D d0 B Q))))))))))))
theorem Mo_bendsBecome_127 {l : Launch} {D : qD} {d0 : Nat} {B : Nat × Nat} {Q : qQ} : qI (w_Mo_bendsBecome_127 l D d0 B Q) (qR l D (d0 + 1, B) m_Mo_bendsBecome 127 Q) := sorry
def w_Mo_bendsBecome_112 (l : Launch) (D : qD) (d0 : Nat) (B : Nat × Nat) (Q : qQ) : qK := (s_iload 6 (s_iload 3 (s_icmp_eq (w_Mo_bendsBecome_277 l D d0 B Q) (s_ic (-1) (s_istore 10 (s_ic (0) (s_istore 11 (s_ic (3) (s_istore 12 (qR l D (d0 + 1, B) m_Mo_bendsBecome 127 Q))))))))))
theorem Mo_bendsBecome_112 {l : Launch} {D : qD} {d0 : Nat} {B : Nat × Nat} {Q : qQ} : qI (w_Mo_bendsBecome_112 l D d0 B Q) (qR l D (d0 + 1, B) m_Mo_bendsBecome 112 Q) := sorry
def w_Mo_bendsBecome_96 (l : Launch) (D : qD) (d0 : Nat) (B : Nat × Nat) (Q : qQ) : qK := (s_aload 0 (s_iload 6 (s_iload 7 (s_Mo_stepTo d0 (s_istore 6 (s_iload 8 (s_ic (1) (s_isub (s_istore 9 (qR l D (d0 + 1, B) m_Mo_bendsBecome 112 Q))))))))))
theorem Mo_bendsBecome_96 {l : Launch} {D : qD} {d0 : Nat} {B : Nat × Nat} {Q : qQ} : qI (w_Mo_bendsBecome_96 l D d0 B Q) (qR l D (d0 + 1, B) m_Mo_bendsBecome 96 Q) := sorry
def w_Mo_bendsBecome_88 (l : Launch) (D : qD) (d0 : Nat) (B : Nat × Nat) (Q : qQ) : qK := (s_iload 7 (s_if_ge (w_Mo_bendsBecome_96 l D d0 B Q) (s_ic (-4) (s_iret Q))))
theorem Mo_bendsBecome_88 {l : Launch} {D : qD} {d0 : Nat} {B : Nat × Nat} {Q : qQ} : qI (w_Mo_bendsBecome_88 l D d0 B Q) (qR l D (d0 + 1, B) m_Mo_bendsBecome 88 Q) := sorry
def w_Mo_bendsBecome_82 (l : Launch) (D : qD) (d0 : Nat) (B : Nat × Nat) (Q : qQ) : qK := (s_iinc 9 (1) (qR l D (d0 + 1, B) m_Mo_bendsBecome 22 Q))
theorem Mo_bendsBecome_82 {l : Launch} {D : qD} {d0 : Nat} {B : Nat × Nat} {Q : qQ} : qI (w_Mo_bendsBecome_82 l D d0 B Q) (qR l D (d0 + 1, B) m_Mo_bendsBecome 82 Q) := sorry
def w_Mo_bendsBecome_22 (l : Launch) (D : qD) (d0 : Nat) (B : Nat × Nat) (Q : qQ) : qK := (s_iload 9 (s_ic (4) (s_icmp_ge (w_Mo_bendsBecome_88 l D d0 B Q) (s_aload 0 (s_iload 6 (s_iload 9 (s_Mo_stepTo d0 (s_istore 10 (s_iload 10 (s_if_lt (w_Mo_bendsBecome_82 l D d0 B Q) (s_aload 0 (s_getR 18 140 (s_ic (4) (s_iload 10 (s_imul (s_iload 9 (s_iadd (s_iald (s_ic (1) (s_iadd (s_iload 8 (s_icmp_ge (w_Mo_bendsBecome_82 l D d0 B Q) (s_aload 0 (s_getR 18 140 (s_ic (4) (s_iload 10 (s_imul (s_iload 9 (s_iadd (s_iald (s_ic (1) (s_iadd (s_istore 8 (s_iload 9 (s_istore 7 (w_Mo_bendsBecome_82 l D d0 B Q))))))))))))))))))))))))))))))))))))
theorem Mo_bendsBecome_22 {l : Launch} {D : qD} {d0 : Nat} {B : Nat × Nat} {Q : qQ} : qI (w_Mo_bendsBecome_22 l D d0 B Q) (qR l D (d0 + 1, B) m_Mo_bendsBecome 22 Q) := sorry
def w_Mo_bendsBecome_0 (l : Launch) (D : qD) (d0 : Nat) (B : Nat × Nat) (Q : qQ) : qK := (s_ic (0) (s_istore 5 (s_iload 2 (s_istore 6 (s_ic (-1) (s_istore 7 (s_iload 4 (s_if_le (w_Mo_bendsBecome_277 l D d0 B Q) (s_ic (1000000) (s_istore 8 (s_ic (0) (s_istore 9 (qR l D (d0 + 1, B) m_Mo_bendsBecome 22 Q)))))))))))))
theorem Mo_bendsBecome_0 {l : Launch} {D : qD} {d0 : Nat} {B : Nat × Nat} {Q : qQ} : qI (w_Mo_bendsBecome_0 l D d0 B Q) (qR l D (d0 + 1, B) m_Mo_bendsBecome 0 Q) := sorry
def w_Mo_label_132 (l : Launch) (D : qD) (d0 : Nat) (B : Nat × Nat) (Q : qQ) : qK := (s_iret Q)
theorem Mo_label_132 {l : Launch} {D : qD} {d0 : Nat} {B : Nat × Nat} {Q : qQ} : qI (w_Mo_label_132 l D d0 B Q) (qR l D (d0 + 1, B) m_Mo_label 132 Q) := sorry
def w_Mo_label_123 (l : Launch) (D : qD) (d0 : Nat) (B : Nat × Nat) (Q : qQ) : qK := (s_aload 0 (s_getR 18 152 (s_aload 0 (s_getI 18 150 (s_iald (w_Mo_label_132 l D d0 B Q))))))
theorem Mo_label_123 {l : Launch} {D : qD} {d0 : Nat} {B : Nat × Nat} {Q : qQ} : qI (w_Mo_label_123 l D d0 B Q) (qR l D (d0 + 1, B) m_Mo_label 123 Q) := sorry
def w_Mo_label_107 (l : Launch) (D : qD) (d0 : Nat) (B : Nat × Nat) (Q : qQ) : qK := (s_iload 3 (s_if_ne (w_Mo_label_123 l D d0 B Q) (s_aload 0 (s_getR 18 151 (s_aload 0 (s_getI 18 150 (s_iald (w_Mo_label_132 l D d0 B Q))))))))
theorem Mo_label_107 {l : Launch} {D : qD} {d0 : Nat} {B : Nat × Nat} {Q : qQ} : qI (w_Mo_label_107 l D d0 B Q) (qR l D (d0 + 1, B) m_Mo_label 107 Q) := sorry
def w_Mo_label_93 (l : Launch) (D : qD) (d0 : Nat) (B : Nat × Nat) (Q : qQ) : qK := (s_aload 0 (s_iload 2 (s_invV l D (d0, 0, 0) 18 m_Mo_finds 1 (s_if_ne (w_Mo_label_107 l D d0 B Q) (s_ic (-2147483648) (w_Mo_label_132 l D d0 B Q))))))
theorem Mo_label_93 {l : Launch} {D : qD} {d0 : Nat} {B : Nat × Nat} {Q : qQ} : qI (w_Mo_label_93 l D d0 B Q) (qR l D (d0 + 1, B) m_Mo_label 93 Q) := sorry
def w_Mo_label_87 (l : Launch) (D : qD) (d0 : Nat) (B : Nat × Nat) (Q : qQ) : qK := (s_iinc 4 (1) (qR l D (d0 + 1, B) m_Mo_label 52 Q))
theorem Mo_label_87 {l : Launch} {D : qD} {d0 : Nat} {B : Nat × Nat} {Q : qQ} : qI (w_Mo_label_87 l D d0 B Q) (qR l D (d0 + 1, B) m_Mo_label 87 Q) := sorry
def w_Mo_label_52 (l : Launch) (D : qD) (d0 : Nat) (B : Nat × Nat) (Q : qQ) : qK := (s_iload 4 (s_iload 2 (s_icmp_ge (w_Mo_label_93 l D d0 B Q) (s_aload 0 (s_iload 4 (s_Mo_weight d0 (s_ic (1) (s_icmp_le (w_Mo_label_87 l D d0 B Q) (s_aload 0 (s_iload 4 (s_invV l D (d0, 0, 0) 18 m_Mo_finds 1 (s_if_eq (w_Mo_label_87 l D d0 B Q) (s_aload 0 (s_dup (s_getI 18 150 (s_ic (1) (s_iadd (s_putI 18 150 (w_Mo_label_87 l D d0 B Q)))))))))))))))))))
theorem Mo_label_52 {l : Launch} {D : qD} {d0 : Nat} {B : Nat × Nat} {Q : qQ} : qI (w_Mo_label_52 l D d0 B Q) (qR l D (d0 + 1, B) m_Mo_label 52 Q) := sorry
def w_Mo_label_44 (l : Launch) (D : qD) (d0 : Nat) (B : Nat × Nat) (Q : qQ) : qK := (s_aload 0 (s_ic (0) (s_putI 18 150 (s_ic (0) (s_istore 4 (qR l D (d0 + 1, B) m_Mo_label 52 Q))))))
theorem Mo_label_44 {l : Launch} {D : qD} {d0 : Nat} {B : Nat × Nat} {Q : qQ} : qI (w_Mo_label_44 l D d0 B Q) (qR l D (d0 + 1, B) m_Mo_label 44 Q) := sorry
def w_Mo_label_40 (l : Launch) (D : qD) (d0 : Nat) (B : Nat × Nat) (Q : qQ) : qK := (s_ic (-2147483648) (s_iret Q))
theorem Mo_label_40 {l : Launch} {D : qD} {d0 : Nat} {B : Nat × Nat} {Q : qQ} : qI (w_Mo_label_40 l D d0 B Q) (qR l D (d0 + 1, B) m_Mo_label 40 Q) := sorry
def w_Mo_label_0 (l : Launch) (D : qD) (d0 : Nat) (B : Nat × Nat) (Q : qQ) : qK := (s_aload 0 (s_iload 1 (s_invV l D (d0, 0, 0) 18 m_Mo_isDrawn 1 (s_if_eq (w_Mo_label_40 l D d0 B Q) (s_iload 2 (s_ic (0) (s_aload 0 (s_Mo_edges d0 (s_ic (1) (s_isub (s_Mo_in d0 (s_if_eq (w_Mo_label_40 l D d0 B Q) (s_iload 3 (s_ic (0) (s_ic (1) (s_Mo_in d0 (s_if_eq (w_Mo_label_40 l D d0 B Q) (s_aload 0 (s_iload 2 (s_Mo_weight d0 (s_ic (1) (s_icmp_ne (w_Mo_label_44 l D d0 B Q) (w_Mo_label_40 l D d0 B Q)))))))))))))))))))))))
theorem Mo_label_0 {l : Launch} {D : qD} {d0 : Nat} {B : Nat × Nat} {Q : qQ} : qI (w_Mo_label_0 l D d0 B Q) (qR l D (d0 + 1, B) m_Mo_label 0 Q) := sorry
def w_Mo_finds_189 (l : Launch) (D : qD) (d0 : Nat) (B : Nat × Nat) (Q : qQ) : qK := (s_ic (0) (s_zret Q))
theorem Mo_finds_189 {l : Launch} {D : qD} {d0 : Nat} {B : Nat × Nat} {Q : qQ} : qI (w_Mo_finds_189 l D d0 B Q) (qR l D (d0 + 1, B) m_Mo_finds 189 Q) := sorry
def w_Mo_finds_183 (l : Launch) (D : qD) (d0 : Nat) (B : Nat × Nat) (Q : qQ) : qK := (s_iinc 2 (1) (qR l D (d0 + 1, B) m_Mo_finds 2 Q))
theorem Mo_finds_183 {l : Launch} {D : qD} {d0 : Nat} {B : Nat × Nat} {Q : qQ} : qI (w_Mo_finds_183 l D d0 B Q) (qR l D (d0 + 1, B) m_Mo_finds 183 Q) := sorry
def w_Mo_finds_160 (l : Launch) (D : qD) (d0 : Nat) (B : Nat × Nat) (Q : qQ) : qK := (s_aload 0 (s_getR 18 151 (s_aload 0 (s_getI 18 150 (s_iload 3 (s_iast (s_aload 0 (s_getR 18 152 (s_aload 0 (s_getI 18 150 (s_iload 4 (s_iast (s_ic (1) (s_zret Q))))))))))))))
theorem Mo_finds_160 {l : Launch} {D : qD} {d0 : Nat} {B : Nat × Nat} {Q : qQ} : qI (w_Mo_finds_160 l D d0 B Q) (qR l D (d0 + 1, B) m_Mo_finds 160 Q) := sorry
def w_Mo_finds_152 (l : Launch) (D : qD) (d0 : Nat) (B : Nat × Nat) (Q : qQ) : qK := (s_iload 5 (s_if_ne (w_Mo_finds_160 l D d0 B Q) (w_Mo_finds_183 l D d0 B Q)))
theorem Mo_finds_152 {l : Launch} {D : qD} {d0 : Nat} {B : Nat × Nat} {Q : qQ} : qI (w_Mo_finds_152 l D d0 B Q) (qR l D (d0 + 1, B) m_Mo_finds 152 Q) := sorry
def w_Mo_finds_144 (l : Launch) (D : qD) (d0 : Nat) (B : Nat × Nat) (Q : qQ) : qK := (s_istore 5 (s_iinc 6 (1) (qR l D (d0 + 1, B) m_Mo_finds 102 Q)))
theorem Mo_finds_144 {l : Launch} {D : qD} {d0 : Nat} {B : Nat × Nat} {Q : qQ} : qI (w_Mo_finds_144 l D d0 B Q) (qR l D (d0 + 1, B) m_Mo_finds 144 Q) := sorry
def w_Mo_finds_143 (l : Launch) (D : qD) (d0 : Nat) (B : Nat × Nat) (Q : qQ) : qK := (s_ic (0) (w_Mo_finds_144 l D d0 B Q))
theorem Mo_finds_143 {l : Launch} {D : qD} {d0 : Nat} {B : Nat × Nat} {Q : qQ} : qI (w_Mo_finds_143 l D d0 B Q) (qR l D (d0 + 1, B) m_Mo_finds 143 Q) := sorry
def w_Mo_finds_139 (l : Launch) (D : qD) (d0 : Nat) (B : Nat × Nat) (Q : qQ) : qK := (s_ic (1) (w_Mo_finds_144 l D d0 B Q))
theorem Mo_finds_139 {l : Launch} {D : qD} {d0 : Nat} {B : Nat × Nat} {Q : qQ} : qI (w_Mo_finds_139 l D d0 B Q) (qR l D (d0 + 1, B) m_Mo_finds 139 Q) := sorry
def w_Mo_finds_102 (l : Launch) (D : qD) (d0 : Nat) (B : Nat × Nat) (Q : qQ) : qK := (s_iload 6 (s_aload 0 (s_getI 18 150 (s_icmp_ge (w_Mo_finds_152 l D d0 B Q) (s_iload 5 (s_if_eq (w_Mo_finds_143 l D d0 B Q) (s_aload 0 (s_getR 18 151 (s_iload 6 (s_iald (s_iload 3 (s_icmp_ne (w_Mo_finds_139 l D d0 B Q) (s_aload 0 (s_getR 18 152 (s_iload 6 (s_iald (s_iload 4 (s_icmp_eq (w_Mo_finds_143 l D d0 B Q) (w_Mo_finds_139 l D d0 B Q)))))))))))))))))))
theorem Mo_finds_102 {l : Launch} {D : qD} {d0 : Nat} {B : Nat × Nat} {Q : qQ} : qI (w_Mo_finds_102 l D d0 B Q) (qR l D (d0 + 1, B) m_Mo_finds 102 Q) := sorry
def w_Mo_finds_99 (l : Launch) (D : qD) (d0 : Nat) (B : Nat × Nat) (Q : qQ) : qK := (s_ic (0) (s_istore 6 (qR l D (d0 + 1, B) m_Mo_finds 102 Q)))
theorem Mo_finds_99 {l : Launch} {D : qD} {d0 : Nat} {B : Nat × Nat} {Q : qQ} : qI (w_Mo_finds_99 l D d0 B Q) (qR l D (d0 + 1, B) m_Mo_finds 99 Q) := sorry
def w_Mo_finds_91 (l : Launch) (D : qD) (d0 : Nat) (B : Nat × Nat) (Q : qQ) : qK := (s_istore 5 (s_iinc 6 (1) (qR l D (d0 + 1, B) m_Mo_finds 60 Q)))
theorem Mo_finds_91 {l : Launch} {D : qD} {d0 : Nat} {B : Nat × Nat} {Q : qQ} : qI (w_Mo_finds_91 l D d0 B Q) (qR l D (d0 + 1, B) m_Mo_finds 91 Q) := sorry
def w_Mo_finds_90 (l : Launch) (D : qD) (d0 : Nat) (B : Nat × Nat) (Q : qQ) : qK := (s_ic (0) (w_Mo_finds_91 l D d0 B Q))
theorem Mo_finds_90 {l : Launch} {D : qD} {d0 : Nat} {B : Nat × Nat} {Q : qQ} : qI (w_Mo_finds_90 l D d0 B Q) (qR l D (d0 + 1, B) m_Mo_finds 90 Q) := sorry
def w_Mo_finds_60 (l : Launch) (D : qD) (d0 : Nat) (B : Nat × Nat) (Q : qQ) : qK := (s_iload 6 (s_aload 0 (s_Mo_nodes d0 (s_icmp_ge (w_Mo_finds_99 l D d0 B Q) (s_iload 5 (s_if_eq (w_Mo_finds_90 l D d0 B Q) (s_aload 0 (s_iload 6 (s_iload 3 (s_iload 4 (s_Mo_isInBox d0 (s_if_ne (w_Mo_finds_90 l D d0 B Q) (s_ic (1) (w_Mo_finds_91 l D d0 B Q))))))))))))))
theorem Mo_finds_60 {l : Launch} {D : qD} {d0 : Nat} {B : Nat × Nat} {Q : qQ} : qI (w_Mo_finds_60 l D d0 B Q) (qR l D (d0 + 1, B) m_Mo_finds 60 Q) := sorry
def w_Mo_finds_2 (l : Launch) (D : qD) (d0 : Nat) (B : Nat × Nat) (Q : qQ) : qK := (s_iload 2 (s_ic (1) (s_iadd (s_aload 0 (s_iload 1 (s_Mo_pointsOf d0 (s_icmp_ge (w_Mo_finds_189 l D d0 B Q) (s_aload 0 (s_iload 1 (s_iload 2 (s_Mo_ex d0 (s_aload 0 (s_iload 1 (s_iload 2 (s_ic (1) (s_iadd (s_Mo_ex d0 (s_iadd (s_ic (2) (s_invS l D (d0, 0, 0) m_Math_floorDiv_0 2 (s_istore 3 (s_aload 0 (s_iload 1 (s_iload 2 (s_Mo_ey d0 (s_aload 0 (s_iload 1 (s_iload 2 (s_ic (1) (s_iadd (s_Mo_ey d0 (s_iadd (s_ic (2) (s_invS l D (d0, 0, 0) m_Math_floorDiv_0 2 (s_istore 4 (s_ic (1) (s_istore 5 (s_ic (0) (s_istore 6 (qR l D (d0 + 1, B) m_Mo_finds 60 Q))))))))))))))))))))))))))))))))))))))))
theorem Mo_finds_2 {l : Launch} {D : qD} {d0 : Nat} {B : Nat × Nat} {Q : qQ} : qI (w_Mo_finds_2 l D d0 B Q) (qR l D (d0 + 1, B) m_Mo_finds 2 Q) := sorry
def w_Mo_finds_0 (l : Launch) (D : qD) (d0 : Nat) (B : Nat × Nat) (Q : qQ) : qK := (s_ic (0) (s_istore 2 (qR l D (d0 + 1, B) m_Mo_finds 2 Q)))
theorem Mo_finds_0 {l : Launch} {D : qD} {d0 : Nat} {B : Nat × Nat} {Q : qQ} : qI (w_Mo_finds_0 l D d0 B Q) (qR l D (d0 + 1, B) m_Mo_finds 0 Q) := sorry
def w_Mo_judge_292 (l : Launch) (D : qD) (d0 : Nat) (B : Nat × Nat) (Q : qQ) : qK := (s_lload 3 (s_lret Q))
theorem Mo_judge_292 {l : Launch} {D : qD} {d0 : Nat} {B : Nat × Nat} {Q : qQ} : qI (w_Mo_judge_292 l D d0 B Q) (qR l D (d0 + 1, B) m_Mo_judge 292 Q) := sorry
def w_Mo_judge_267 (l : Launch) (D : qD) (d0 : Nat) (B : Nat × Nat) (Q : qQ) : qK := (s_iload 5 (s_aload 0 (s_Mo_edges d0 (s_icmp_ge (w_Mo_judge_292 l D d0 B Q) (s_lload 3 (s_aload 0 (s_iload 5 (s_iload 2 (s_invV l D (d0, 0, 0) 18 m_Mo_ofEdge 2 (s_ladd (s_lstore 3 (s_iinc 5 (1) (qR l D (d0 + 1, B) m_Mo_judge 267 Q)))))))))))))
theorem Mo_judge_267 {l : Launch} {D : qD} {d0 : Nat} {B : Nat × Nat} {Q : qQ} : qI (w_Mo_judge_267 l D d0 B Q) (qR l D (d0 + 1, B) m_Mo_judge 267 Q) := sorry
def w_Mo_judge_264 (l : Launch) (D : qD) (d0 : Nat) (B : Nat × Nat) (Q : qQ) : qK := (s_ic (0) (s_istore 5 (qR l D (d0 + 1, B) m_Mo_judge 267 Q)))
theorem Mo_judge_264 {l : Launch} {D : qD} {d0 : Nat} {B : Nat × Nat} {Q : qQ} : qI (w_Mo_judge_264 l D d0 B Q) (qR l D (d0 + 1, B) m_Mo_judge 264 Q) := sorry
def w_Mo_judge_253 (l : Launch) (D : qD) (d0 : Nat) (B : Nat × Nat) (Q : qQ) : qK := (s_iload 2 (s_ic (9) (s_icmp_ne (w_Mo_judge_264 l D d0 B Q) (s_aload 0 (s_invV l D (d0, 0, 0) 18 m_Mo_leastTriangle 0 (s_lret Q))))))
theorem Mo_judge_253 {l : Launch} {D : qD} {d0 : Nat} {B : Nat × Nat} {Q : qQ} : qI (w_Mo_judge_253 l D d0 B Q) (qR l D (d0 + 1, B) m_Mo_judge 253 Q) := sorry
def w_Mo_judge_242 (l : Launch) (D : qD) (d0 : Nat) (B : Nat × Nat) (Q : qQ) : qK := (s_iload 2 (s_ic (7) (s_icmp_ne (w_Mo_judge_253 l D d0 B Q) (s_aload 0 (s_invV l D (d0, 0, 0) 18 m_Mo_areaOf 0 (s_lret Q))))))
theorem Mo_judge_242 {l : Launch} {D : qD} {d0 : Nat} {B : Nat × Nat} {Q : qQ} : qI (w_Mo_judge_242 l D d0 B Q) (qR l D (d0 + 1, B) m_Mo_judge 242 Q) := sorry
def w_Mo_judge_240 (l : Launch) (D : qD) (d0 : Nat) (B : Nat × Nat) (Q : qQ) : qK := (s_lload 3 (s_lret Q))
theorem Mo_judge_240 {l : Launch} {D : qD} {d0 : Nat} {B : Nat × Nat} {Q : qQ} : qI (w_Mo_judge_240 l D d0 B Q) (qR l D (d0 + 1, B) m_Mo_judge 240 Q) := sorry
def w_Mo_judge_234 (l : Launch) (D : qD) (d0 : Nat) (B : Nat × Nat) (Q : qQ) : qK := (s_iinc 5 (1) (qR l D (d0 + 1, B) m_Mo_judge 145 Q))
theorem Mo_judge_234 {l : Launch} {D : qD} {d0 : Nat} {B : Nat × Nat} {Q : qQ} : qI (w_Mo_judge_234 l D d0 B Q) (qR l D (d0 + 1, B) m_Mo_judge 234 Q) := sorry
def w_Mo_judge_226 (l : Launch) (D : qD) (d0 : Nat) (B : Nat × Nat) (Q : qQ) : qK := (s_ladd (s_lstore 3 (s_iinc 6 (1) (qR l D (d0 + 1, B) m_Mo_judge 157 Q))))
theorem Mo_judge_226 {l : Launch} {D : qD} {d0 : Nat} {B : Nat × Nat} {Q : qQ} : qI (w_Mo_judge_226 l D d0 B Q) (qR l D (d0 + 1, B) m_Mo_judge 226 Q) := sorry
def w_Mo_judge_225 (l : Launch) (D : qD) (d0 : Nat) (B : Nat × Nat) (Q : qQ) : qK := (s_lc 0 (w_Mo_judge_226 l D d0 B Q))
theorem Mo_judge_225 {l : Launch} {D : qD} {d0 : Nat} {B : Nat × Nat} {Q : qQ} : qI (w_Mo_judge_225 l D d0 B Q) (qR l D (d0 + 1, B) m_Mo_judge 225 Q) := sorry
def w_Mo_judge_210 (l : Launch) (D : qD) (d0 : Nat) (B : Nat × Nat) (Q : qQ) : qK := (s_aload 0 (s_iload 5 (s_iload 6 (s_invV l D (d0, 0, 0) 18 m_Mo_touch 2 (s_if_eq (w_Mo_judge_225 l D d0 B Q) (s_lc 1 (w_Mo_judge_226 l D d0 B Q)))))))
theorem Mo_judge_210 {l : Launch} {D : qD} {d0 : Nat} {B : Nat × Nat} {Q : qQ} : qI (w_Mo_judge_210 l D d0 B Q) (qR l D (d0 + 1, B) m_Mo_judge 210 Q) := sorry
def w_Mo_judge_206 (l : Launch) (D : qD) (d0 : Nat) (B : Nat × Nat) (Q : qQ) : qK := (s_i2l (w_Mo_judge_226 l D d0 B Q))
theorem Mo_judge_206 {l : Launch} {D : qD} {d0 : Nat} {B : Nat × Nat} {Q : qQ} : qI (w_Mo_judge_206 l D d0 B Q) (qR l D (d0 + 1, B) m_Mo_judge 206 Q) := sorry
def w_Mo_judge_205 (l : Launch) (D : qD) (d0 : Nat) (B : Nat × Nat) (Q : qQ) : qK := (s_ic (0) (w_Mo_judge_206 l D d0 B Q))
theorem Mo_judge_205 {l : Launch} {D : qD} {d0 : Nat} {B : Nat × Nat} {Q : qQ} : qI (w_Mo_judge_205 l D d0 B Q) (qR l D (d0 + 1, B) m_Mo_judge 205 Q) := sorry
def w_Mo_judge_157 (l : Launch) (D : qD) (d0 : Nat) (B : Nat × Nat) (Q : qQ) : qK := (s_iload 6 (s_iload 5 (s_icmp_ge (w_Mo_judge_234 l D d0 B Q) (s_lload 3 (s_iload 2 (s_ic (6) (s_icmp_ne (w_Mo_judge_210 l D d0 B Q) (s_aload 0 (s_iload 5 (s_Mo_px d0 (s_aload 0 (s_iload 6 (s_Mo_px d0 (s_icmp_ne (w_Mo_judge_205 l D d0 B Q) (s_aload 0 (s_iload 5 (s_Mo_py d0 (s_aload 0 (s_iload 6 (s_Mo_py d0 (s_icmp_ne (w_Mo_judge_205 l D d0 B Q) (s_ic (1) (w_Mo_judge_206 l D d0 B Q)))))))))))))))))))))))
theorem Mo_judge_157 {l : Launch} {D : qD} {d0 : Nat} {B : Nat × Nat} {Q : qQ} : qI (w_Mo_judge_157 l D d0 B Q) (qR l D (d0 + 1, B) m_Mo_judge 157 Q) := sorry
def w_Mo_judge_145 (l : Launch) (D : qD) (d0 : Nat) (B : Nat × Nat) (Q : qQ) : qK := (s_iload 5 (s_aload 0 (s_Mo_nodes d0 (s_icmp_ge (w_Mo_judge_240 l D d0 B Q) (s_ic (0) (s_istore 6 (qR l D (d0 + 1, B) m_Mo_judge 157 Q)))))))
theorem Mo_judge_145 {l : Launch} {D : qD} {d0 : Nat} {B : Nat × Nat} {Q : qQ} : qI (w_Mo_judge_145 l D d0 B Q) (qR l D (d0 + 1, B) m_Mo_judge 145 Q) := sorry
def w_Mo_judge_142 (l : Launch) (D : qD) (d0 : Nat) (B : Nat × Nat) (Q : qQ) : qK := (s_ic (0) (s_istore 5 (qR l D (d0 + 1, B) m_Mo_judge 145 Q)))
theorem Mo_judge_142 {l : Launch} {D : qD} {d0 : Nat} {B : Nat × Nat} {Q : qQ} : qI (w_Mo_judge_142 l D d0 B Q) (qR l D (d0 + 1, B) m_Mo_judge 142 Q) := sorry
def w_Mo_judge_131 (l : Launch) (D : qD) (d0 : Nat) (B : Nat × Nat) (Q : qQ) : qK := (s_iload 2 (s_ic (1) (s_icmp_eq (w_Mo_judge_142 l D d0 B Q) (s_iload 2 (s_ic (6) (s_icmp_ne (w_Mo_judge_242 l D d0 B Q) (w_Mo_judge_142 l D d0 B Q)))))))
theorem Mo_judge_131 {l : Launch} {D : qD} {d0 : Nat} {B : Nat × Nat} {Q : qQ} : qI (w_Mo_judge_131 l D d0 B Q) (qR l D (d0 + 1, B) m_Mo_judge 131 Q) := sorry
def w_Mo_judge_129 (l : Launch) (D : qD) (d0 : Nat) (B : Nat × Nat) (Q : qQ) : qK := (s_lload 3 (s_lret Q))
theorem Mo_judge_129 {l : Launch} {D : qD} {d0 : Nat} {B : Nat × Nat} {Q : qQ} : qI (w_Mo_judge_129 l D d0 B Q) (qR l D (d0 + 1, B) m_Mo_judge 129 Q) := sorry
def w_Mo_judge_123 (l : Launch) (D : qD) (d0 : Nat) (B : Nat × Nat) (Q : qQ) : qK := (s_iinc 5 (1) (qR l D (d0 + 1, B) m_Mo_judge 31 Q))
theorem Mo_judge_123 {l : Launch} {D : qD} {d0 : Nat} {B : Nat × Nat} {Q : qQ} : qI (w_Mo_judge_123 l D d0 B Q) (qR l D (d0 + 1, B) m_Mo_judge 123 Q) := sorry
def w_Mo_judge_117 (l : Launch) (D : qD) (d0 : Nat) (B : Nat × Nat) (Q : qQ) : qK := (s_iinc 6 (1) (qR l D (d0 + 1, B) m_Mo_judge 43 Q))
theorem Mo_judge_117 {l : Launch} {D : qD} {d0 : Nat} {B : Nat × Nat} {Q : qQ} : qI (w_Mo_judge_117 l D d0 B Q) (qR l D (d0 + 1, B) m_Mo_judge 117 Q) := sorry
def w_Mo_judge_111 (l : Launch) (D : qD) (d0 : Nat) (B : Nat × Nat) (Q : qQ) : qK := (s_iinc 7 (1) (qR l D (d0 + 1, B) m_Mo_judge 53 Q))
theorem Mo_judge_111 {l : Launch} {D : qD} {d0 : Nat} {B : Nat × Nat} {Q : qQ} : qI (w_Mo_judge_111 l D d0 B Q) (qR l D (d0 + 1, B) m_Mo_judge 111 Q) := sorry
def w_Mo_judge_103 (l : Launch) (D : qD) (d0 : Nat) (B : Nat × Nat) (Q : qQ) : qK := (s_ladd (s_lstore 3 (s_iinc 8 (1) (qR l D (d0 + 1, B) m_Mo_judge 69 Q))))
theorem Mo_judge_103 {l : Launch} {D : qD} {d0 : Nat} {B : Nat × Nat} {Q : qQ} : qI (w_Mo_judge_103 l D d0 B Q) (qR l D (d0 + 1, B) m_Mo_judge 103 Q) := sorry
def w_Mo_judge_102 (l : Launch) (D : qD) (d0 : Nat) (B : Nat × Nat) (Q : qQ) : qK := (s_lc 0 (w_Mo_judge_103 l D d0 B Q))
theorem Mo_judge_102 {l : Launch} {D : qD} {d0 : Nat} {B : Nat × Nat} {Q : qQ} : qI (w_Mo_judge_102 l D d0 B Q) (qR l D (d0 + 1, B) m_Mo_judge 102 Q) := sorry
def w_Mo_judge_69 (l : Launch) (D : qD) (d0 : Nat) (B : Nat × Nat) (Q : qQ) : qK := (s_iload 8 (s_ic (1) (s_iadd (s_aload 0 (s_iload 6 (s_Mo_pointsOf d0 (s_icmp_ge (w_Mo_judge_111 l D d0 B Q) (s_lload 3 (s_aload 0 (s_iload 5 (s_iload 7 (s_iload 6 (s_iload 8 (s_invV l D (d0, 0, 0) 18 m_Mo_meets 4 (s_if_eq (w_Mo_judge_102 l D d0 B Q) (s_lc 1 (w_Mo_judge_103 l D d0 B Q)))))))))))))))))
theorem Mo_judge_69 {l : Launch} {D : qD} {d0 : Nat} {B : Nat × Nat} {Q : qQ} : qI (w_Mo_judge_69 l D d0 B Q) (qR l D (d0 + 1, B) m_Mo_judge 69 Q) := sorry
def w_Mo_judge_53 (l : Launch) (D : qD) (d0 : Nat) (B : Nat × Nat) (Q : qQ) : qK := (s_iload 7 (s_ic (1) (s_iadd (s_aload 0 (s_iload 5 (s_Mo_pointsOf d0 (s_icmp_ge (w_Mo_judge_117 l D d0 B Q) (s_ic (0) (s_istore 8 (qR l D (d0 + 1, B) m_Mo_judge 69 Q))))))))))
theorem Mo_judge_53 {l : Launch} {D : qD} {d0 : Nat} {B : Nat × Nat} {Q : qQ} : qI (w_Mo_judge_53 l D d0 B Q) (qR l D (d0 + 1, B) m_Mo_judge 53 Q) := sorry
def w_Mo_judge_43 (l : Launch) (D : qD) (d0 : Nat) (B : Nat × Nat) (Q : qQ) : qK := (s_iload 6 (s_iload 5 (s_icmp_ge (w_Mo_judge_123 l D d0 B Q) (s_ic (0) (s_istore 7 (qR l D (d0 + 1, B) m_Mo_judge 53 Q))))))
theorem Mo_judge_43 {l : Launch} {D : qD} {d0 : Nat} {B : Nat × Nat} {Q : qQ} : qI (w_Mo_judge_43 l D d0 B Q) (qR l D (d0 + 1, B) m_Mo_judge 43 Q) := sorry
def w_Mo_judge_31 (l : Launch) (D : qD) (d0 : Nat) (B : Nat × Nat) (Q : qQ) : qK := (s_iload 5 (s_aload 0 (s_Mo_edges d0 (s_icmp_ge (w_Mo_judge_129 l D d0 B Q) (s_ic (0) (s_istore 6 (qR l D (d0 + 1, B) m_Mo_judge 43 Q)))))))
theorem Mo_judge_31 {l : Launch} {D : qD} {d0 : Nat} {B : Nat × Nat} {Q : qQ} : qI (w_Mo_judge_31 l D d0 B Q) (qR l D (d0 + 1, B) m_Mo_judge 31 Q) := sorry
def w_Mo_judge_22 (l : Launch) (D : qD) (d0 : Nat) (B : Nat × Nat) (Q : qQ) : qK := (s_lc 0 (s_lstore 3 (s_iload 2 (s_if_ne (w_Mo_judge_131 l D d0 B Q) (s_ic (0) (s_istore 5 (qR l D (d0 + 1, B) m_Mo_judge 31 Q)))))))
theorem Mo_judge_22 {l : Launch} {D : qD} {d0 : Nat} {B : Nat × Nat} {Q : qQ} : qI (w_Mo_judge_22 l D d0 B Q) (qR l D (d0 + 1, B) m_Mo_judge 22 Q) := sorry
def w_Mo_judge_18 (l : Launch) (D : qD) (d0 : Nat) (B : Nat × Nat) (Q : qQ) : qK := (s_lc (-1) (s_lret Q))
theorem Mo_judge_18 {l : Launch} {D : qD} {d0 : Nat} {B : Nat × Nat} {Q : qQ} : qI (w_Mo_judge_18 l D d0 B Q) (qR l D (d0 + 1, B) m_Mo_judge 18 Q) := sorry
def w_Mo_judge_0 (l : Launch) (D : qD) (d0 : Nat) (B : Nat × Nat) (Q : qQ) : qK := (s_aload 0 (s_iload 1 (s_invV l D (d0, 0, 0) 18 m_Mo_isDrawn 1 (s_if_eq (w_Mo_judge_18 l D d0 B Q) (s_iload 2 (s_ic (0) (s_ic (9) (s_Mo_in d0 (s_if_ne (w_Mo_judge_22 l D d0 B Q) (w_Mo_judge_18 l D d0 B Q))))))))))
theorem Mo_judge_0 {l : Launch} {D : qD} {d0 : Nat} {B : Nat × Nat} {Q : qQ} : qI (w_Mo_judge_0 l D d0 B Q) (qR l D (d0 + 1, B) m_Mo_judge 0 Q) := sorry
def w_Mo_meets_385 (l : Launch) (D : qD) (d0 : Nat) (B : Nat × Nat) (Q : qQ) : qK := (s_lload 5 (s_lload 7 (s_lload 9 (s_lload 11 (s_lload 13 (s_lload 15 (s_lload 17 (s_lload 19 (s_invS l D (d0, 0, 0) m_Mo_isLonger 8 (s_zret Q))))))))))
theorem Mo_meets_385 {l : Launch} {D : qD} {d0 : Nat} {B : Nat × Nat} {Q : qQ} : qI (w_Mo_meets_385 l D d0 B Q) (qR l D (d0 + 1, B) m_Mo_meets 385 Q) := sorry
def w_Mo_meets_383 (l : Launch) (D : qD) (d0 : Nat) (B : Nat × Nat) (Q : qQ) : qK := (s_ic (1) (s_zret Q))
theorem Mo_meets_383 {l : Launch} {D : qD} {d0 : Nat} {B : Nat × Nat} {Q : qQ} : qI (w_Mo_meets_383 l D d0 B Q) (qR l D (d0 + 1, B) m_Mo_meets 383 Q) := sorry
def w_Mo_meets_361 (l : Launch) (D : qD) (d0 : Nat) (B : Nat × Nat) (Q : qQ) : qK := (s_istore 28 (s_iload 25 (s_if_ne (w_Mo_meets_383 l D d0 B Q) (s_iload 26 (s_if_ne (w_Mo_meets_383 l D d0 B Q) (s_iload 27 (s_if_ne (w_Mo_meets_383 l D d0 B Q) (s_iload 28 (s_if_eq (w_Mo_meets_385 l D d0 B Q) (w_Mo_meets_383 l D d0 B Q))))))))))
theorem Mo_meets_361 {l : Launch} {D : qD} {d0 : Nat} {B : Nat × Nat} {Q : qQ} : qI (w_Mo_meets_361 l D d0 B Q) (qR l D (d0 + 1, B) m_Mo_meets 361 Q) := sorry
def w_Mo_meets_360 (l : Launch) (D : qD) (d0 : Nat) (B : Nat × Nat) (Q : qQ) : qK := (s_ic (0) (w_Mo_meets_361 l D d0 B Q))
theorem Mo_meets_360 {l : Launch} {D : qD} {d0 : Nat} {B : Nat × Nat} {Q : qQ} : qI (w_Mo_meets_360 l D d0 B Q) (qR l D (d0 + 1, B) m_Mo_meets 360 Q) := sorry
def w_Mo_meets_323 (l : Launch) (D : qD) (d0 : Nat) (B : Nat × Nat) (Q : qQ) : qK := (s_istore 27 (s_lload 17 (s_lload 19 (s_lload 5 (s_lload 7 (s_lload 9 (s_lload 11 (s_invS l D (d0, 0, 0) m_Mo_isOn 6 (s_if_eq (w_Mo_meets_360 l D d0 B Q) (s_aload 0 (s_iload 1 (s_iload 3 (s_lload 17 (s_lload 19 (s_invV l D (d0, 0, 0) 18 m_Mo_isShared 4 (s_if_ne (w_Mo_meets_360 l D d0 B Q) (s_ic (1) (w_Mo_meets_361 l D d0 B Q))))))))))))))))))
theorem Mo_meets_323 {l : Launch} {D : qD} {d0 : Nat} {B : Nat × Nat} {Q : qQ} : qI (w_Mo_meets_323 l D d0 B Q) (qR l D (d0 + 1, B) m_Mo_meets 323 Q) := sorry
def w_Mo_meets_322 (l : Launch) (D : qD) (d0 : Nat) (B : Nat × Nat) (Q : qQ) : qK := (s_ic (0) (w_Mo_meets_323 l D d0 B Q))
theorem Mo_meets_322 {l : Launch} {D : qD} {d0 : Nat} {B : Nat × Nat} {Q : qQ} : qI (w_Mo_meets_322 l D d0 B Q) (qR l D (d0 + 1, B) m_Mo_meets 322 Q) := sorry
def w_Mo_meets_285 (l : Launch) (D : qD) (d0 : Nat) (B : Nat × Nat) (Q : qQ) : qK := (s_istore 26 (s_lload 13 (s_lload 15 (s_lload 5 (s_lload 7 (s_lload 9 (s_lload 11 (s_invS l D (d0, 0, 0) m_Mo_isOn 6 (s_if_eq (w_Mo_meets_322 l D d0 B Q) (s_aload 0 (s_iload 1 (s_iload 3 (s_lload 13 (s_lload 15 (s_invV l D (d0, 0, 0) 18 m_Mo_isShared 4 (s_if_ne (w_Mo_meets_322 l D d0 B Q) (s_ic (1) (w_Mo_meets_323 l D d0 B Q))))))))))))))))))
theorem Mo_meets_285 {l : Launch} {D : qD} {d0 : Nat} {B : Nat × Nat} {Q : qQ} : qI (w_Mo_meets_285 l D d0 B Q) (qR l D (d0 + 1, B) m_Mo_meets 285 Q) := sorry
def w_Mo_meets_284 (l : Launch) (D : qD) (d0 : Nat) (B : Nat × Nat) (Q : qQ) : qK := (s_ic (0) (w_Mo_meets_285 l D d0 B Q))
theorem Mo_meets_284 {l : Launch} {D : qD} {d0 : Nat} {B : Nat × Nat} {Q : qQ} : qI (w_Mo_meets_284 l D d0 B Q) (qR l D (d0 + 1, B) m_Mo_meets 284 Q) := sorry
def w_Mo_meets_247 (l : Launch) (D : qD) (d0 : Nat) (B : Nat × Nat) (Q : qQ) : qK := (s_istore 25 (s_lload 9 (s_lload 11 (s_lload 13 (s_lload 15 (s_lload 17 (s_lload 19 (s_invS l D (d0, 0, 0) m_Mo_isOn 6 (s_if_eq (w_Mo_meets_284 l D d0 B Q) (s_aload 0 (s_iload 1 (s_iload 3 (s_lload 9 (s_lload 11 (s_invV l D (d0, 0, 0) 18 m_Mo_isShared 4 (s_if_ne (w_Mo_meets_284 l D d0 B Q) (s_ic (1) (w_Mo_meets_285 l D d0 B Q))))))))))))))))))
theorem Mo_meets_247 {l : Launch} {D : qD} {d0 : Nat} {B : Nat × Nat} {Q : qQ} : qI (w_Mo_meets_247 l D d0 B Q) (qR l D (d0 + 1, B) m_Mo_meets 247 Q) := sorry
def w_Mo_meets_246 (l : Launch) (D : qD) (d0 : Nat) (B : Nat × Nat) (Q : qQ) : qK := (s_ic (0) (w_Mo_meets_247 l D d0 B Q))
theorem Mo_meets_246 {l : Launch} {D : qD} {d0 : Nat} {B : Nat × Nat} {Q : qQ} : qI (w_Mo_meets_246 l D d0 B Q) (qR l D (d0 + 1, B) m_Mo_meets 246 Q) := sorry
def w_Mo_meets_211 (l : Launch) (D : qD) (d0 : Nat) (B : Nat × Nat) (Q : qQ) : qK := (s_lload 5 (s_lload 7 (s_lload 13 (s_lload 15 (s_lload 17 (s_lload 19 (s_invS l D (d0, 0, 0) m_Mo_isOn 6 (s_if_eq (w_Mo_meets_246 l D d0 B Q) (s_aload 0 (s_iload 1 (s_iload 3 (s_lload 5 (s_lload 7 (s_invV l D (d0, 0, 0) 18 m_Mo_isShared 4 (s_if_ne (w_Mo_meets_246 l D d0 B Q) (s_ic (1) (w_Mo_meets_247 l D d0 B Q)))))))))))))))))
theorem Mo_meets_211 {l : Launch} {D : qD} {d0 : Nat} {B : Nat × Nat} {Q : qQ} : qI (w_Mo_meets_211 l D d0 B Q) (qR l D (d0 + 1, B) m_Mo_meets 211 Q) := sorry
def w_Mo_meets_210 (l : Launch) (D : qD) (d0 : Nat) (B : Nat × Nat) (Q : qQ) : qK := (s_zret Q)
theorem Mo_meets_210 {l : Launch} {D : qD} {d0 : Nat} {B : Nat × Nat} {Q : qQ} : qI (w_Mo_meets_210 l D d0 B Q) (qR l D (d0 + 1, B) m_Mo_meets 210 Q) := sorry
def w_Mo_meets_209 (l : Launch) (D : qD) (d0 : Nat) (B : Nat × Nat) (Q : qQ) : qK := (s_ic (0) (w_Mo_meets_210 l D d0 B Q))
theorem Mo_meets_209 {l : Launch} {D : qD} {d0 : Nat} {B : Nat × Nat} {Q : qQ} : qI (w_Mo_meets_209 l D d0 B Q) (qR l D (d0 + 1, B) m_Mo_meets 209 Q) := sorry
def w_Mo_meets_0 (l : Launch) (D : qD) (d0 : Nat) (B : Nat × Nat) (Q : qQ) : qK := (s_aload 0 (s_iload 1 (s_iload 2 (s_Mo_ex d0 (s_i2l (s_lstore 5 (s_aload 0 (s_iload 1 (s_iload 2 (s_Mo_ey d0 (s_i2l (s_lstore 7 (s_aload 0 (s_iload 1 (s_iload 2 (s_ic (1) (s_iadd (s_Mo_ex d0 (s_i2l (s_lstore 9 (s_aload 0 (s_iload 1 (s_iload 2 (s_ic (1) (s_iadd (s_Mo_ey d0 (s_i2l (s_lstore 11 (s_aload 0 (s_iload 3 (s_iload 4 (s_Mo_ex d0 (s_i2l (s_lstore 13 (s_aload 0 (s_iload 3 (s_iload 4 (s_Mo_ey d0 (s_i2l (s_lstore 15 (s_aload 0 (s_iload 3 (s_iload 4 (s_ic (1) (s_iadd (s_Mo_ex d0 (s_i2l (s_lstore 17 (s_aload 0 (s_iload 3 (s_iload 4 (s_ic (1) (s_iadd (s_Mo_ey d0 (s_i2l (s_lstore 19 (s_lload 5 (s_lload 7 (s_lload 9 (s_lload 11 (s_lload 13 (s_lload 15 (s_Mo_turnOf d0 (s_Mo_signOf d0 (s_istore 21 (s_lload 5 (s_lload 7 (s_lload 9 (s_lload 11 (s_lload 17 (s_lload 19 (s_Mo_turnOf d0 (s_Mo_signOf d0 (s_istore 22 (s_lload 13 (s_lload 15 (s_lload 17 (s_lload 19 (s_lload 5 (s_lload 7 (s_Mo_turnOf d0 (s_Mo_signOf d0 (s_istore 23 (s_lload 13 (s_lload 15 (s_lload 17 (s_lload 19 (s_lload 9 (s_lload 11 (s_Mo_turnOf d0 (s_Mo_signOf d0 (s_istore 24 (s_iload 21 (s_iload 22 (s_imul (s_if_ge (w_Mo_meets_211 l D d0 B Q) (s_iload 23 (s_iload 24 (s_imul (s_if_ge (w_Mo_meets_211 l D d0 B Q) (s_aload 0 (s_iload 1 (s_iload 3 (s_lload 5 (s_lload 7 (s_lload 9 (s_lload 11 (s_lload 13 (s_lload 15 (s_lload 17 (s_lload 19 (s_invV l D (d0, 0, 0) 18 m_Mo_crossAtShared 10 (s_if_ne (w_Mo_meets_209 l D d0 B Q) (s_ic (1) (w_Mo_meets_210 l D d0 B Q)))))))))))))))))))))))))))))))))))))))))))))))))))))))))))))))))))))))))))))))))))))))))))))))))))))))))))))))))))
theorem Mo_meets_0 {l : Launch} {D : qD} {d0 : Nat} {B : Nat × Nat} {Q : qQ} : qI (w_Mo_meets_0 l D d0 B Q) (qR l D (d0 + 1, B) m_Mo_meets 0 Q) := sorry
def w_Mo_crossAtShared_95 (l : Launch) (D : qD) (d0 : Nat) (B : Nat × Nat) (Q : qQ) : qK := (s_ic (0) (s_zret Q))
theorem Mo_crossAtShared_95 {l : Launch} {D : qD} {d0 : Nat} {B : Nat × Nat} {Q : qQ} : qI (w_Mo_crossAtShared_95 l D d0 B Q) (qR l D (d0 + 1, B) m_Mo_crossAtShared 95 Q) := sorry
def w_Mo_crossAtShared_89 (l : Launch) (D : qD) (d0 : Nat) (B : Nat × Nat) (Q : qQ) : qK := (s_iinc 19 (1) (qR l D (d0 + 1, B) m_Mo_crossAtShared 3 Q))
theorem Mo_crossAtShared_89 {l : Launch} {D : qD} {d0 : Nat} {B : Nat × Nat} {Q : qQ} : qI (w_Mo_crossAtShared_89 l D d0 B Q) (qR l D (d0 + 1, B) m_Mo_crossAtShared 89 Q) := sorry
def w_Mo_crossAtShared_3 (l : Launch) (D : qD) (d0 : Nat) (B : Nat × Nat) (Q : qQ) : qK := (s_iload 19 (s_aload 0 (s_Mo_nodes d0 (s_icmp_ge (w_Mo_crossAtShared_95 l D d0 B Q) (s_aload 0 (s_iload 1 (s_iload 19 (s_Mo_has d0 (s_if_eq (w_Mo_crossAtShared_89 l D d0 B Q) (s_aload 0 (s_iload 2 (s_iload 19 (s_Mo_has d0 (s_if_eq (w_Mo_crossAtShared_89 l D d0 B Q) (s_aload 0 (s_iload 19 (s_Mo_px d0 (s_i2l (s_aload 0 (s_iload 19 (s_Mo_py d0 (s_i2l (s_lload 3 (s_lload 5 (s_lload 7 (s_lload 9 (s_invS l D (d0, 0, 0) m_Mo_isOn 6 (s_if_eq (w_Mo_crossAtShared_89 l D d0 B Q) (s_aload 0 (s_iload 19 (s_Mo_px d0 (s_i2l (s_aload 0 (s_iload 19 (s_Mo_py d0 (s_i2l (s_lload 11 (s_lload 13 (s_lload 15 (s_lload 17 (s_invS l D (d0, 0, 0) m_Mo_isOn 6 (s_if_eq (w_Mo_crossAtShared_89 l D d0 B Q) (s_ic (1) (s_zret Q))))))))))))))))))))))))))))))))))))))))))))
theorem Mo_crossAtShared_3 {l : Launch} {D : qD} {d0 : Nat} {B : Nat × Nat} {Q : qQ} : qI (w_Mo_crossAtShared_3 l D d0 B Q) (qR l D (d0 + 1, B) m_Mo_crossAtShared 3 Q) := sorry
def w_Mo_crossAtShared_0 (l : Launch) (D : qD) (d0 : Nat) (B : Nat × Nat) (Q : qQ) : qK := (s_ic (0) (s_istore 19 (qR l D (d0 + 1, B) m_Mo_crossAtShared 3 Q)))
theorem Mo_crossAtShared_0 {l : Launch} {D : qD} {d0 : Nat} {B : Nat × Nat} {Q : qQ} : qI (w_Mo_crossAtShared_0 l D d0 B Q) (qR l D (d0 + 1, B) m_Mo_crossAtShared 0 Q) := sorry
def w_Mo_isOn_71 (l : Launch) (D : qD) (d0 : Nat) (B : Nat × Nat) (Q : qQ) : qK := (s_zret Q)
theorem Mo_isOn_71 {l : Launch} {D : qD} {d0 : Nat} {B : Nat × Nat} {Q : qQ} : qI (w_Mo_isOn_71 l D d0 B Q) (qR l D (d0 + 1, B) m_Mo_isOn 71 Q) := sorry
def w_Mo_isOn_70 (l : Launch) (D : qD) (d0 : Nat) (B : Nat × Nat) (Q : qQ) : qK := (s_ic (0) (w_Mo_isOn_71 l D d0 B Q))
theorem Mo_isOn_70 {l : Launch} {D : qD} {d0 : Nat} {B : Nat × Nat} {Q : qQ} : qI (w_Mo_isOn_70 l D d0 B Q) (qR l D (d0 + 1, B) m_Mo_isOn 70 Q) := sorry
def w_Mo_isOn_0 (l : Launch) (D : qD) (d0 : Nat) (B : Nat × Nat) (Q : qQ) : qK := (s_lload 4 (s_lload 6 (s_lload 8 (s_lload 10 (s_lload 0 (s_lload 2 (s_Mo_turnOf d0 (s_lc 0 (s_lcmp (s_if_ne (w_Mo_isOn_70 l D d0 B Q) (s_lload 0 (s_lload 4 (s_lload 8 (s_Math_min_1 d0 (s_lcmp (s_if_lt (w_Mo_isOn_70 l D d0 B Q) (s_lload 0 (s_lload 4 (s_lload 8 (s_Math_max_1 d0 (s_lcmp (s_if_gt (w_Mo_isOn_70 l D d0 B Q) (s_lload 2 (s_lload 6 (s_lload 10 (s_Math_min_1 d0 (s_lcmp (s_if_lt (w_Mo_isOn_70 l D d0 B Q) (s_lload 2 (s_lload 6 (s_lload 10 (s_Math_max_1 d0 (s_lcmp (s_if_gt (w_Mo_isOn_70 l D d0 B Q) (s_ic (1) (w_Mo_isOn_71 l D d0 B Q))))))))))))))))))))))))))))))))))))
theorem Mo_isOn_0 {l : Launch} {D : qD} {d0 : Nat} {B : Nat × Nat} {Q : qQ} : qI (w_Mo_isOn_0 l D d0 B Q) (qR l D (d0 + 1, B) m_Mo_isOn 0 Q) := sorry
def w_Mo_isShared_65 (l : Launch) (D : qD) (d0 : Nat) (B : Nat × Nat) (Q : qQ) : qK := (s_ic (0) (s_zret Q))
theorem Mo_isShared_65 {l : Launch} {D : qD} {d0 : Nat} {B : Nat × Nat} {Q : qQ} : qI (w_Mo_isShared_65 l D d0 B Q) (qR l D (d0 + 1, B) m_Mo_isShared 65 Q) := sorry
def w_Mo_isShared_59 (l : Launch) (D : qD) (d0 : Nat) (B : Nat × Nat) (Q : qQ) : qK := (s_iinc 7 (1) (qR l D (d0 + 1, B) m_Mo_isShared 3 Q))
theorem Mo_isShared_59 {l : Launch} {D : qD} {d0 : Nat} {B : Nat × Nat} {Q : qQ} : qI (w_Mo_isShared_59 l D d0 B Q) (qR l D (d0 + 1, B) m_Mo_isShared 59 Q) := sorry
def w_Mo_isShared_3 (l : Launch) (D : qD) (d0 : Nat) (B : Nat × Nat) (Q : qQ) : qK := (s_iload 7 (s_aload 0 (s_Mo_nodes d0 (s_icmp_ge (w_Mo_isShared_65 l D d0 B Q) (s_aload 0 (s_iload 1 (s_iload 7 (s_Mo_has d0 (s_if_eq (w_Mo_isShared_59 l D d0 B Q) (s_aload 0 (s_iload 2 (s_iload 7 (s_Mo_has d0 (s_if_eq (w_Mo_isShared_59 l D d0 B Q) (s_aload 0 (s_iload 7 (s_Mo_px d0 (s_i2l (s_lload 3 (s_lcmp (s_if_ne (w_Mo_isShared_59 l D d0 B Q) (s_aload 0 (s_iload 7 (s_Mo_py d0 (s_i2l (s_lload 5 (s_lcmp (s_if_ne (w_Mo_isShared_59 l D d0 B Q) (s_ic (1) (s_zret Q))))))))))))))))))))))))))))))
theorem Mo_isShared_3 {l : Launch} {D : qD} {d0 : Nat} {B : Nat × Nat} {Q : qQ} : qI (w_Mo_isShared_3 l D d0 B Q) (qR l D (d0 + 1, B) m_Mo_isShared 3 Q) := sorry
def w_Mo_isShared_0 (l : Launch) (D : qD) (d0 : Nat) (B : Nat × Nat) (Q : qQ) : qK := (s_ic (0) (s_istore 7 (qR l D (d0 + 1, B) m_Mo_isShared 3 Q)))
theorem Mo_isShared_0 {l : Launch} {D : qD} {d0 : Nat} {B : Nat × Nat} {Q : qQ} : qI (w_Mo_isShared_0 l D d0 B Q) (qR l D (d0 + 1, B) m_Mo_isShared 0 Q) := sorry
def w_Mo_isLonger_179 (l : Launch) (D : qD) (d0 : Nat) (B : Nat × Nat) (Q : qQ) : qK := (s_zret Q)
theorem Mo_isLonger_179 {l : Launch} {D : qD} {d0 : Nat} {B : Nat × Nat} {Q : qQ} : qI (w_Mo_isLonger_179 l D d0 B Q) (qR l D (d0 + 1, B) m_Mo_isLonger 179 Q) := sorry
def w_Mo_isLonger_178 (l : Launch) (D : qD) (d0 : Nat) (B : Nat × Nat) (Q : qQ) : qK := (s_ic (0) (w_Mo_isLonger_179 l D d0 B Q))
theorem Mo_isLonger_178 {l : Launch} {D : qD} {d0 : Nat} {B : Nat × Nat} {Q : qQ} : qI (w_Mo_isLonger_178 l D d0 B Q) (qR l D (d0 + 1, B) m_Mo_isLonger 178 Q) := sorry
def w_Mo_isLonger_174 (l : Launch) (D : qD) (d0 : Nat) (B : Nat × Nat) (Q : qQ) : qK := (s_ic (1) (w_Mo_isLonger_179 l D d0 B Q))
theorem Mo_isLonger_174 {l : Launch} {D : qD} {d0 : Nat} {B : Nat × Nat} {Q : qQ} : qI (w_Mo_isLonger_174 l D d0 B Q) (qR l D (d0 + 1, B) m_Mo_isLonger 174 Q) := sorry
def w_Mo_isLonger_76 (l : Launch) (D : qD) (d0 : Nat) (B : Nat × Nat) (Q : qQ) : qK := (s_lload 0 (s_lload 4 (s_Math_max_1 d0 (s_lload 8 (s_lload 12 (s_Math_max_1 d0 (s_Math_min_1 d0 (s_lload 0 (s_lload 4 (s_Math_min_1 d0 (s_lload 8 (s_lload 12 (s_Math_min_1 d0 (s_Math_max_1 d0 (s_lsub (s_lstore 16 (s_lload 2 (s_lload 6 (s_Math_max_1 d0 (s_lload 10 (s_lload 14 (s_Math_max_1 d0 (s_Math_min_1 d0 (s_lload 2 (s_lload 6 (s_Math_min_1 d0 (s_lload 10 (s_lload 14 (s_Math_min_1 d0 (s_Math_max_1 d0 (s_lsub (s_lstore 18 (s_lload 16 (s_lc 0 (s_lcmp (s_if_lt (w_Mo_isLonger_178 l D d0 B Q) (s_lload 18 (s_lc 0 (s_lcmp (s_if_lt (w_Mo_isLonger_178 l D d0 B Q) (s_lload 16 (s_lc 0 (s_lcmp (s_if_gt (w_Mo_isLonger_174 l D d0 B Q) (s_lload 18 (s_lc 0 (s_lcmp (s_if_le (w_Mo_isLonger_178 l D d0 B Q) (w_Mo_isLonger_174 l D d0 B Q)))))))))))))))))))))))))))))))))))))))))))))))))
theorem Mo_isLonger_76 {l : Launch} {D : qD} {d0 : Nat} {B : Nat × Nat} {Q : qQ} : qI (w_Mo_isLonger_76 l D d0 B Q) (qR l D (d0 + 1, B) m_Mo_isLonger 76 Q) := sorry
def w_Mo_isLonger_74 (l : Launch) (D : qD) (d0 : Nat) (B : Nat × Nat) (Q : qQ) : qK := (s_ic (0) (s_zret Q))
theorem Mo_isLonger_74 {l : Launch} {D : qD} {d0 : Nat} {B : Nat × Nat} {Q : qQ} : qI (w_Mo_isLonger_74 l D d0 B Q) (qR l D (d0 + 1, B) m_Mo_isLonger 74 Q) := sorry
def w_Mo_isLonger_0 (l : Launch) (D : qD) (d0 : Nat) (B : Nat × Nat) (Q : qQ) : qK := (s_lload 0 (s_lload 2 (s_lload 4 (s_lload 6 (s_lload 8 (s_lload 10 (s_Mo_turnOf d0 (s_lc 0 (s_lcmp (s_if_ne (w_Mo_isLonger_74 l D d0 B Q) (s_lload 0 (s_lload 2 (s_lload 4 (s_lload 6 (s_lload 12 (s_lload 14 (s_Mo_turnOf d0 (s_lc 0 (s_lcmp (s_if_ne (w_Mo_isLonger_74 l D d0 B Q) (s_lload 8 (s_lload 10 (s_lload 12 (s_lload 14 (s_lload 0 (s_lload 2 (s_Mo_turnOf d0 (s_lc 0 (s_lcmp (s_if_ne (w_Mo_isLonger_74 l D d0 B Q) (s_lload 8 (s_lload 10 (s_lload 12 (s_lload 14 (s_lload 4 (s_lload 6 (s_Mo_turnOf d0 (s_lc 0 (s_lcmp (s_if_eq (w_Mo_isLonger_76 l D d0 B Q) (w_Mo_isLonger_74 l D d0 B Q)))))))))))))))))))))))))))))))))))))))))
theorem Mo_isLonger_0 {l : Launch} {D : qD} {d0 : Nat} {B : Nat × Nat} {Q : qQ} : qI (w_Mo_isLonger_0 l D d0 B Q) (qR l D (d0 + 1, B) m_Mo_isLonger 0 Q) := sorry
def w_Mo_touch_68 (l : Launch) (D : qD) (d0 : Nat) (B : Nat × Nat) (Q : qQ) : qK := (s_zret Q)
theorem Mo_touch_68 {l : Launch} {D : qD} {d0 : Nat} {B : Nat × Nat} {Q : qQ} : qI (w_Mo_touch_68 l D d0 B Q) (qR l D (d0 + 1, B) m_Mo_touch 68 Q) := sorry
def w_Mo_touch_67 (l : Launch) (D : qD) (d0 : Nat) (B : Nat × Nat) (Q : qQ) : qK := (s_ic (0) (w_Mo_touch_68 l D d0 B Q))
theorem Mo_touch_67 {l : Launch} {D : qD} {d0 : Nat} {B : Nat × Nat} {Q : qQ} : qI (w_Mo_touch_67 l D d0 B Q) (qR l D (d0 + 1, B) m_Mo_touch 67 Q) := sorry
def w_Mo_touch_0 (l : Launch) (D : qD) (d0 : Nat) (B : Nat × Nat) (Q : qQ) : qK := (s_aload 0 (s_iload 1 (s_Mo_px d0 (s_i2l (s_aload 0 (s_iload 2 (s_Mo_px d0 (s_i2l (s_lsub (s_Math_abs_1 d0 (s_lstore 3 (s_aload 0 (s_iload 1 (s_Mo_py d0 (s_i2l (s_aload 0 (s_iload 2 (s_Mo_py d0 (s_i2l (s_lsub (s_Math_abs_1 d0 (s_lstore 5 (s_lload 3 (s_aload 0 (s_iload 1 (s_Mo_longOf d0 (s_aload 0 (s_iload 2 (s_Mo_longOf d0 (s_iadd (s_ic (2) (s_iadd (s_i2l (s_lcmp (s_if_gt (w_Mo_touch_67 l D d0 B Q) (s_lload 5 (s_lc (2) (s_lcmp (s_if_gt (w_Mo_touch_67 l D d0 B Q) (s_ic (1) (w_Mo_touch_68 l D d0 B Q)))))))))))))))))))))))))))))))))))))))))
theorem Mo_touch_0 {l : Launch} {D : qD} {d0 : Nat} {B : Nat × Nat} {Q : qQ} : qI (w_Mo_touch_0 l D d0 B Q) (qR l D (d0 + 1, B) m_Mo_touch 0 Q) := sorry
def w_Mo_areaOf_0 (l : Launch) (D : qD) (d0 : Nat) (B : Nat × Nat) (Q : qQ) : qK := (s_aload 0 (s_invV l D (d0, 0, 0) 18 m_Mo_bounds 0 (s_aload 0 (s_getI 18 154 (s_i2l (s_aload 0 (s_getI 18 153 (s_i2l (s_lsub (s_lc 1 (s_ladd (s_aload 0 (s_getI 18 156 (s_i2l (s_aload 0 (s_getI 18 155 (s_i2l (s_lsub (s_lc 1 (s_ladd (s_lmul (s_lret Q))))))))))))))))))))))
theorem Mo_areaOf_0 {l : Launch} {D : qD} {d0 : Nat} {B : Nat × Nat} {Q : qQ} : qI (w_Mo_areaOf_0 l D d0 B Q) (qR l D (d0 + 1, B) m_Mo_areaOf 0 Q) := sorry
def w_Mo_bounds_115 (l : Launch) (D : qD) (d0 : Nat) (B : Nat × Nat) (Q : qQ) : qK := (s_vret Q)
theorem Mo_bounds_115 {l : Launch} {D : qD} {d0 : Nat} {B : Nat × Nat} {Q : qQ} : qI (w_Mo_bounds_115 l D d0 B Q) (qR l D (d0 + 1, B) m_Mo_bounds 115 Q) := sorry
def w_Mo_bounds_109 (l : Launch) (D : qD) (d0 : Nat) (B : Nat × Nat) (Q : qQ) : qK := (s_iinc 1 (1) (qR l D (d0 + 1, B) m_Mo_bounds 68 Q))
theorem Mo_bounds_109 {l : Launch} {D : qD} {d0 : Nat} {B : Nat × Nat} {Q : qQ} : qI (w_Mo_bounds_109 l D d0 B Q) (qR l D (d0 + 1, B) m_Mo_bounds 109 Q) := sorry
def w_Mo_bounds_78 (l : Launch) (D : qD) (d0 : Nat) (B : Nat × Nat) (Q : qQ) : qK := (s_iload 2 (s_aload 0 (s_iload 1 (s_Mo_pointsOf d0 (s_icmp_ge (w_Mo_bounds_109 l D d0 B Q) (s_aload 0 (s_aload 0 (s_iload 1 (s_iload 2 (s_Mo_ex d0 (s_aload 0 (s_iload 1 (s_iload 2 (s_Mo_ey d0 (s_invV l D (d0, 0, 0) 18 m_Mo_bound 2 (s_iinc 2 (1) (qR l D (d0 + 1, B) m_Mo_bounds 78 Q)))))))))))))))))
theorem Mo_bounds_78 {l : Launch} {D : qD} {d0 : Nat} {B : Nat × Nat} {Q : qQ} : qI (w_Mo_bounds_78 l D d0 B Q) (qR l D (d0 + 1, B) m_Mo_bounds 78 Q) := sorry
def w_Mo_bounds_68 (l : Launch) (D : qD) (d0 : Nat) (B : Nat × Nat) (Q : qQ) : qK := (s_iload 1 (s_aload 0 (s_Mo_edges d0 (s_icmp_ge (w_Mo_bounds_115 l D d0 B Q) (s_ic (0) (s_istore 2 (qR l D (d0 + 1, B) m_Mo_bounds 78 Q)))))))
theorem Mo_bounds_68 {l : Launch} {D : qD} {d0 : Nat} {B : Nat × Nat} {Q : qQ} : qI (w_Mo_bounds_68 l D d0 B Q) (qR l D (d0 + 1, B) m_Mo_bounds 68 Q) := sorry
def w_Mo_bounds_66 (l : Launch) (D : qD) (d0 : Nat) (B : Nat × Nat) (Q : qQ) : qK := (s_ic (0) (s_istore 1 (qR l D (d0 + 1, B) m_Mo_bounds 68 Q)))
theorem Mo_bounds_66 {l : Launch} {D : qD} {d0 : Nat} {B : Nat × Nat} {Q : qQ} : qI (w_Mo_bounds_66 l D d0 B Q) (qR l D (d0 + 1, B) m_Mo_bounds 66 Q) := sorry
def w_Mo_bounds_38 (l : Launch) (D : qD) (d0 : Nat) (B : Nat × Nat) (Q : qQ) : qK := (s_iload 1 (s_aload 0 (s_Mo_nodes d0 (s_icmp_ge (w_Mo_bounds_66 l D d0 B Q) (s_aload 0 (s_aload 0 (s_iload 1 (s_Mo_px d0 (s_aload 0 (s_iload 1 (s_Mo_py d0 (s_invV l D (d0, 0, 0) 18 m_Mo_bound 2 (s_iinc 1 (1) (qR l D (d0 + 1, B) m_Mo_bounds 38 Q))))))))))))))
theorem Mo_bounds_38 {l : Launch} {D : qD} {d0 : Nat} {B : Nat × Nat} {Q : qQ} : qI (w_Mo_bounds_38 l D d0 B Q) (qR l D (d0 + 1, B) m_Mo_bounds 38 Q) := sorry
def w_Mo_bounds_0 (l : Launch) (D : qD) (d0 : Nat) (B : Nat × Nat) (Q : qQ) : qK := (s_aload 0 (s_aload 0 (s_ic (0) (s_Mo_px d0 (s_putI 18 153 (s_aload 0 (s_aload 0 (s_ic (0) (s_Mo_px d0 (s_putI 18 154 (s_aload 0 (s_aload 0 (s_ic (0) (s_Mo_py d0 (s_putI 18 155 (s_aload 0 (s_aload 0 (s_ic (0) (s_Mo_py d0 (s_putI 18 156 (s_ic (0) (s_istore 1 (qR l D (d0 + 1, B) m_Mo_bounds 38 Q)))))))))))))))))))))))
theorem Mo_bounds_0 {l : Launch} {D : qD} {d0 : Nat} {B : Nat × Nat} {Q : qQ} : qI (w_Mo_bounds_0 l D d0 B Q) (qR l D (d0 + 1, B) m_Mo_bounds 0 Q) := sorry
def w_Mo_bound_0 (l : Launch) (D : qD) (d0 : Nat) (B : Nat × Nat) (Q : qQ) : qK := (s_aload 0 (s_aload 0 (s_getI 18 153 (s_iload 1 (s_Mo_min d0 (s_putI 18 153 (s_aload 0 (s_aload 0 (s_getI 18 154 (s_iload 1 (s_Mo_max d0 (s_putI 18 154 (s_aload 0 (s_aload 0 (s_getI 18 155 (s_iload 2 (s_Mo_min d0 (s_putI 18 155 (s_aload 0 (s_aload 0 (s_getI 18 156 (s_iload 2 (s_Mo_max d0 (s_putI 18 156 (s_vret Q)))))))))))))))))))))))))
theorem Mo_bound_0 {l : Launch} {D : qD} {d0 : Nat} {B : Nat × Nat} {Q : qQ} : qI (w_Mo_bound_0 l D d0 B Q) (qR l D (d0 + 1, B) m_Mo_bound 0 Q) := sorry
def w_Mo_leastTriangle_149 (l : Launch) (D : qD) (d0 : Nat) (B : Nat × Nat) (Q : qQ) : qK := (s_lload 1 (s_lret Q))
theorem Mo_leastTriangle_149 {l : Launch} {D : qD} {d0 : Nat} {B : Nat × Nat} {Q : qQ} : qI (w_Mo_leastTriangle_149 l D d0 B Q) (qR l D (d0 + 1, B) m_Mo_leastTriangle 149 Q) := sorry
def w_Mo_leastTriangle_143 (l : Launch) (D : qD) (d0 : Nat) (B : Nat × Nat) (Q : qQ) : qK := (s_iinc 3 (1) (qR l D (d0 + 1, B) m_Mo_leastTriangle 6 Q))
theorem Mo_leastTriangle_143 {l : Launch} {D : qD} {d0 : Nat} {B : Nat × Nat} {Q : qQ} : qI (w_Mo_leastTriangle_143 l D d0 B Q) (qR l D (d0 + 1, B) m_Mo_leastTriangle 143 Q) := sorry
def w_Mo_leastTriangle_137 (l : Launch) (D : qD) (d0 : Nat) (B : Nat × Nat) (Q : qQ) : qK := (s_iinc 4 (1) (qR l D (d0 + 1, B) m_Mo_leastTriangle 17 Q))
theorem Mo_leastTriangle_137 {l : Launch} {D : qD} {d0 : Nat} {B : Nat × Nat} {Q : qQ} : qI (w_Mo_leastTriangle_137 l D d0 B Q) (qR l D (d0 + 1, B) m_Mo_leastTriangle 137 Q) := sorry
def w_Mo_leastTriangle_131 (l : Launch) (D : qD) (d0 : Nat) (B : Nat × Nat) (Q : qQ) : qK := (s_iinc 5 (1) (qR l D (d0 + 1, B) m_Mo_leastTriangle 26 Q))
theorem Mo_leastTriangle_131 {l : Launch} {D : qD} {d0 : Nat} {B : Nat × Nat} {Q : qQ} : qI (w_Mo_leastTriangle_131 l D d0 B Q) (qR l D (d0 + 1, B) m_Mo_leastTriangle 131 Q) := sorry
def w_Mo_leastTriangle_128 (l : Launch) (D : qD) (d0 : Nat) (B : Nat × Nat) (Q : qQ) : qK := (s_lload 6 (s_lstore 1 (w_Mo_leastTriangle_131 l D d0 B Q)))
theorem Mo_leastTriangle_128 {l : Launch} {D : qD} {d0 : Nat} {B : Nat × Nat} {Q : qQ} : qI (w_Mo_leastTriangle_128 l D d0 B Q) (qR l D (d0 + 1, B) m_Mo_leastTriangle 128 Q) := sorry
def w_Mo_leastTriangle_67 (l : Launch) (D : qD) (d0 : Nat) (B : Nat × Nat) (Q : qQ) : qK := (s_aload 0 (s_iload 3 (s_Mo_px d0 (s_i2l (s_aload 0 (s_iload 3 (s_Mo_py d0 (s_i2l (s_aload 0 (s_iload 4 (s_Mo_px d0 (s_i2l (s_aload 0 (s_iload 4 (s_Mo_py d0 (s_i2l (s_aload 0 (s_iload 5 (s_Mo_px d0 (s_i2l (s_aload 0 (s_iload 5 (s_Mo_py d0 (s_i2l (s_Mo_turnOf d0 (s_Math_abs_1 d0 (s_lstore 6 (s_lload 1 (s_lc 0 (s_lcmp (s_if_lt (w_Mo_leastTriangle_128 l D d0 B Q) (s_lload 6 (s_lload 1 (s_lcmp (s_if_ge (w_Mo_leastTriangle_131 l D d0 B Q) (w_Mo_leastTriangle_128 l D d0 B Q))))))))))))))))))))))))))))))))))))
theorem Mo_leastTriangle_67 {l : Launch} {D : qD} {d0 : Nat} {B : Nat × Nat} {Q : qQ} : qI (w_Mo_leastTriangle_67 l D d0 B Q) (qR l D (d0 + 1, B) m_Mo_leastTriangle 67 Q) := sorry
def w_Mo_leastTriangle_26 (l : Launch) (D : qD) (d0 : Nat) (B : Nat × Nat) (Q : qQ) : qK := (s_iload 5 (s_iload 4 (s_icmp_ge (w_Mo_leastTriangle_137 l D d0 B Q) (s_aload 0 (s_iload 3 (s_iload 4 (s_invV l D (d0, 0, 0) 18 m_Mo_between 2 (s_if_lt (w_Mo_leastTriangle_131 l D d0 B Q) (s_aload 0 (s_iload 3 (s_iload 5 (s_invV l D (d0, 0, 0) 18 m_Mo_between 2 (s_if_lt (w_Mo_leastTriangle_131 l D d0 B Q) (s_aload 0 (s_iload 4 (s_iload 5 (s_invV l D (d0, 0, 0) 18 m_Mo_between 2 (s_if_ge (w_Mo_leastTriangle_67 l D d0 B Q) (w_Mo_leastTriangle_131 l D d0 B Q)))))))))))))))))))
theorem Mo_leastTriangle_26 {l : Launch} {D : qD} {d0 : Nat} {B : Nat × Nat} {Q : qQ} : qI (w_Mo_leastTriangle_26 l D d0 B Q) (qR l D (d0 + 1, B) m_Mo_leastTriangle 26 Q) := sorry
def w_Mo_leastTriangle_17 (l : Launch) (D : qD) (d0 : Nat) (B : Nat × Nat) (Q : qQ) : qK := (s_iload 4 (s_iload 3 (s_icmp_ge (w_Mo_leastTriangle_143 l D d0 B Q) (s_ic (0) (s_istore 5 (qR l D (d0 + 1, B) m_Mo_leastTriangle 26 Q))))))
theorem Mo_leastTriangle_17 {l : Launch} {D : qD} {d0 : Nat} {B : Nat × Nat} {Q : qQ} : qI (w_Mo_leastTriangle_17 l D d0 B Q) (qR l D (d0 + 1, B) m_Mo_leastTriangle 17 Q) := sorry
def w_Mo_leastTriangle_6 (l : Launch) (D : qD) (d0 : Nat) (B : Nat × Nat) (Q : qQ) : qK := (s_iload 3 (s_aload 0 (s_Mo_nodes d0 (s_icmp_ge (w_Mo_leastTriangle_149 l D d0 B Q) (s_ic (0) (s_istore 4 (qR l D (d0 + 1, B) m_Mo_leastTriangle 17 Q)))))))
theorem Mo_leastTriangle_6 {l : Launch} {D : qD} {d0 : Nat} {B : Nat × Nat} {Q : qQ} : qI (w_Mo_leastTriangle_6 l D d0 B Q) (qR l D (d0 + 1, B) m_Mo_leastTriangle 6 Q) := sorry
def w_Mo_leastTriangle_0 (l : Launch) (D : qD) (d0 : Nat) (B : Nat × Nat) (Q : qQ) : qK := (s_lc (-1) (s_lstore 1 (s_ic (0) (s_istore 3 (qR l D (d0 + 1, B) m_Mo_leastTriangle 6 Q)))))
theorem Mo_leastTriangle_0 {l : Launch} {D : qD} {d0 : Nat} {B : Nat × Nat} {Q : qQ} : qI (w_Mo_leastTriangle_0 l D d0 B Q) (qR l D (d0 + 1, B) m_Mo_leastTriangle 0 Q) := sorry
def w_Mo_ofEdge_288 (l : Launch) (D : qD) (d0 : Nat) (B : Nat × Nat) (Q : qQ) : qK := (s_lload 3 (s_lret Q))
theorem Mo_ofEdge_288 {l : Launch} {D : qD} {d0 : Nat} {B : Nat × Nat} {Q : qQ} : qI (w_Mo_ofEdge_288 l D d0 B Q) (qR l D (d0 + 1, B) m_Mo_ofEdge 288 Q) := sorry
def w_Mo_ofEdge_282 (l : Launch) (D : qD) (d0 : Nat) (B : Nat × Nat) (Q : qQ) : qK := (s_iinc 6 (1) (qR l D (d0 + 1, B) m_Mo_ofEdge 160 Q))
theorem Mo_ofEdge_282 {l : Launch} {D : qD} {d0 : Nat} {B : Nat × Nat} {Q : qQ} : qI (w_Mo_ofEdge_282 l D d0 B Q) (qR l D (d0 + 1, B) m_Mo_ofEdge 282 Q) := sorry
def w_Mo_ofEdge_268 (l : Launch) (D : qD) (d0 : Nat) (B : Nat × Nat) (Q : qQ) : qK := (s_iload 2 (s_ic (8) (s_icmp_ne (w_Mo_ofEdge_282 l D d0 B Q) (s_lload 3 (s_lload 7 (s_lload 9 (s_ladd (s_ladd (s_lstore 3 (w_Mo_ofEdge_282 l D d0 B Q))))))))))
theorem Mo_ofEdge_268 {l : Launch} {D : qD} {d0 : Nat} {B : Nat × Nat} {Q : qQ} : qI (w_Mo_ofEdge_268 l D d0 B Q) (qR l D (d0 + 1, B) m_Mo_ofEdge 268 Q) := sorry
def w_Mo_ofEdge_266 (l : Launch) (D : qD) (d0 : Nat) (B : Nat × Nat) (Q : qQ) : qK := (s_ladd (s_lstore 3 (w_Mo_ofEdge_268 l D d0 B Q)))
theorem Mo_ofEdge_266 {l : Launch} {D : qD} {d0 : Nat} {B : Nat × Nat} {Q : qQ} : qI (w_Mo_ofEdge_266 l D d0 B Q) (qR l D (d0 + 1, B) m_Mo_ofEdge 266 Q) := sorry
def w_Mo_ofEdge_265 (l : Launch) (D : qD) (d0 : Nat) (B : Nat × Nat) (Q : qQ) : qK := (s_lc 0 (w_Mo_ofEdge_266 l D d0 B Q))
theorem Mo_ofEdge_265 {l : Launch} {D : qD} {d0 : Nat} {B : Nat × Nat} {Q : qQ} : qI (w_Mo_ofEdge_265 l D d0 B Q) (qR l D (d0 + 1, B) m_Mo_ofEdge 265 Q) := sorry
def w_Mo_ofEdge_241 (l : Launch) (D : qD) (d0 : Nat) (B : Nat × Nat) (Q : qQ) : qK := (s_iload 2 (s_ic (5) (s_icmp_ne (w_Mo_ofEdge_268 l D d0 B Q) (s_lload 3 (s_lload 7 (s_lc 0 (s_lcmp (s_if_eq (w_Mo_ofEdge_265 l D d0 B Q) (s_lload 9 (s_lc 0 (s_lcmp (s_if_eq (w_Mo_ofEdge_265 l D d0 B Q) (s_lc 1 (w_Mo_ofEdge_266 l D d0 B Q))))))))))))))
theorem Mo_ofEdge_241 {l : Launch} {D : qD} {d0 : Nat} {B : Nat × Nat} {Q : qQ} : qI (w_Mo_ofEdge_241 l D d0 B Q) (qR l D (d0 + 1, B) m_Mo_ofEdge 241 Q) := sorry
def w_Mo_ofEdge_160 (l : Launch) (D : qD) (d0 : Nat) (B : Nat × Nat) (Q : qQ) : qK := (s_iload 6 (s_iload 5 (s_icmp_ge (w_Mo_ofEdge_288 l D d0 B Q) (s_aload 0 (s_iload 1 (s_iload 6 (s_Mo_ex d0 (s_i2l (s_aload 0 (s_iload 1 (s_iload 6 (s_ic (1) (s_iadd (s_Mo_ex d0 (s_i2l (s_lsub (s_Math_abs_1 d0 (s_lstore 7 (s_aload 0 (s_iload 1 (s_iload 6 (s_Mo_ey d0 (s_i2l (s_aload 0 (s_iload 1 (s_iload 6 (s_ic (1) (s_iadd (s_Mo_ey d0 (s_i2l (s_lsub (s_Math_abs_1 d0 (s_lstore 9 (s_iload 2 (s_ic (3) (s_icmp_ne (w_Mo_ofEdge_241 l D d0 B Q) (s_aload 0 (s_iload 1 (s_iload 6 (s_ic (1) (s_iadd (s_Mo_ey d0 (s_aload 0 (s_iload 1 (s_iload 6 (s_Mo_ey d0 (s_icmp_gt (w_Mo_ofEdge_241 l D d0 B Q) (s_lc 1 (s_lret Q)))))))))))))))))))))))))))))))))))))))))))))))))
theorem Mo_ofEdge_160 {l : Launch} {D : qD} {d0 : Nat} {B : Nat × Nat} {Q : qQ} : qI (w_Mo_ofEdge_160 l D d0 B Q) (qR l D (d0 + 1, B) m_Mo_ofEdge 160 Q) := sorry
def w_Mo_ofEdge_157 (l : Launch) (D : qD) (d0 : Nat) (B : Nat × Nat) (Q : qQ) : qK := (s_ic (0) (s_istore 6 (qR l D (d0 + 1, B) m_Mo_ofEdge 160 Q)))
theorem Mo_ofEdge_157 {l : Launch} {D : qD} {d0 : Nat} {B : Nat × Nat} {Q : qQ} : qI (w_Mo_ofEdge_157 l D d0 B Q) (qR l D (d0 + 1, B) m_Mo_ofEdge 157 Q) := sorry
def w_Mo_ofEdge_155 (l : Launch) (D : qD) (d0 : Nat) (B : Nat × Nat) (Q : qQ) : qK := (s_lload 3 (s_lret Q))
theorem Mo_ofEdge_155 {l : Launch} {D : qD} {d0 : Nat} {B : Nat × Nat} {Q : qQ} : qI (w_Mo_ofEdge_155 l D d0 B Q) (qR l D (d0 + 1, B) m_Mo_ofEdge 155 Q) := sorry
def w_Mo_ofEdge_147 (l : Launch) (D : qD) (d0 : Nat) (B : Nat × Nat) (Q : qQ) : qK := (s_ladd (s_lstore 3 (s_iinc 6 (1) (qR l D (d0 + 1, B) m_Mo_ofEdge 30 Q))))
theorem Mo_ofEdge_147 {l : Launch} {D : qD} {d0 : Nat} {B : Nat × Nat} {Q : qQ} : qI (w_Mo_ofEdge_147 l D d0 B Q) (qR l D (d0 + 1, B) m_Mo_ofEdge 147 Q) := sorry
def w_Mo_ofEdge_146 (l : Launch) (D : qD) (d0 : Nat) (B : Nat × Nat) (Q : qQ) : qK := (s_lc 0 (w_Mo_ofEdge_147 l D d0 B Q))
theorem Mo_ofEdge_146 {l : Launch} {D : qD} {d0 : Nat} {B : Nat × Nat} {Q : qQ} : qI (w_Mo_ofEdge_146 l D d0 B Q) (qR l D (d0 + 1, B) m_Mo_ofEdge 146 Q) := sorry
def w_Mo_ofEdge_136 (l : Launch) (D : qD) (d0 : Nat) (B : Nat × Nat) (Q : qQ) : qK := (s_lload 3 (s_iload 7 (s_if_eq (w_Mo_ofEdge_146 l D d0 B Q) (s_lc 1 (w_Mo_ofEdge_147 l D d0 B Q)))))
theorem Mo_ofEdge_136 {l : Launch} {D : qD} {d0 : Nat} {B : Nat × Nat} {Q : qQ} : qI (w_Mo_ofEdge_136 l D d0 B Q) (qR l D (d0 + 1, B) m_Mo_ofEdge 136 Q) := sorry
def w_Mo_ofEdge_128 (l : Launch) (D : qD) (d0 : Nat) (B : Nat × Nat) (Q : qQ) : qK := (s_istore 7 (s_iinc 8 (1) (qR l D (d0 + 1, B) m_Mo_ofEdge 45 Q)))
theorem Mo_ofEdge_128 {l : Launch} {D : qD} {d0 : Nat} {B : Nat × Nat} {Q : qQ} : qI (w_Mo_ofEdge_128 l D d0 B Q) (qR l D (d0 + 1, B) m_Mo_ofEdge 128 Q) := sorry
def w_Mo_ofEdge_127 (l : Launch) (D : qD) (d0 : Nat) (B : Nat × Nat) (Q : qQ) : qK := (s_ic (0) (w_Mo_ofEdge_128 l D d0 B Q))
theorem Mo_ofEdge_127 {l : Launch} {D : qD} {d0 : Nat} {B : Nat × Nat} {Q : qQ} : qI (w_Mo_ofEdge_127 l D d0 B Q) (qR l D (d0 + 1, B) m_Mo_ofEdge 127 Q) := sorry
def w_Mo_ofEdge_123 (l : Launch) (D : qD) (d0 : Nat) (B : Nat × Nat) (Q : qQ) : qK := (s_ic (1) (w_Mo_ofEdge_128 l D d0 B Q))
theorem Mo_ofEdge_123 {l : Launch} {D : qD} {d0 : Nat} {B : Nat × Nat} {Q : qQ} : qI (w_Mo_ofEdge_123 l D d0 B Q) (qR l D (d0 + 1, B) m_Mo_ofEdge 123 Q) := sorry
def w_Mo_ofEdge_45 (l : Launch) (D : qD) (d0 : Nat) (B : Nat × Nat) (Q : qQ) : qK := (s_iload 8 (s_iload 5 (s_icmp_ge (w_Mo_ofEdge_136 l D d0 B Q) (s_aload 0 (s_iload 1 (s_iload 6 (s_Mo_has d0 (s_if_ne (w_Mo_ofEdge_136 l D d0 B Q) (s_iload 7 (s_if_ne (w_Mo_ofEdge_123 l D d0 B Q) (s_aload 0 (s_iload 6 (s_Mo_px d0 (s_i2l (s_aload 0 (s_iload 6 (s_Mo_py d0 (s_i2l (s_aload 0 (s_iload 1 (s_iload 8 (s_Mo_ex d0 (s_i2l (s_aload 0 (s_iload 1 (s_iload 8 (s_Mo_ey d0 (s_i2l (s_aload 0 (s_iload 1 (s_iload 8 (s_ic (1) (s_iadd (s_Mo_ex d0 (s_i2l (s_aload 0 (s_iload 1 (s_iload 8 (s_ic (1) (s_iadd (s_Mo_ey d0 (s_i2l (s_invS l D (d0, 0, 0) m_Mo_isOn 6 (s_if_eq (w_Mo_ofEdge_127 l D d0 B Q) (w_Mo_ofEdge_123 l D d0 B Q)))))))))))))))))))))))))))))))))))))))))))))
theorem Mo_ofEdge_45 {l : Launch} {D : qD} {d0 : Nat} {B : Nat × Nat} {Q : qQ} : qI (w_Mo_ofEdge_45 l D d0 B Q) (qR l D (d0 + 1, B) m_Mo_ofEdge 45 Q) := sorry
def w_Mo_ofEdge_30 (l : Launch) (D : qD) (d0 : Nat) (B : Nat × Nat) (Q : qQ) : qK := (s_iload 6 (s_aload 0 (s_Mo_nodes d0 (s_icmp_ge (w_Mo_ofEdge_155 l D d0 B Q) (s_ic (0) (s_istore 7 (s_ic (0) (s_istore 8 (qR l D (d0 + 1, B) m_Mo_ofEdge 45 Q)))))))))
theorem Mo_ofEdge_30 {l : Launch} {D : qD} {d0 : Nat} {B : Nat × Nat} {Q : qQ} : qI (w_Mo_ofEdge_30 l D d0 B Q) (qR l D (d0 + 1, B) m_Mo_ofEdge 30 Q) := sorry
def w_Mo_ofEdge_22 (l : Launch) (D : qD) (d0 : Nat) (B : Nat × Nat) (Q : qQ) : qK := (s_iload 2 (s_ic (2) (s_icmp_ne (w_Mo_ofEdge_157 l D d0 B Q) (s_ic (0) (s_istore 6 (qR l D (d0 + 1, B) m_Mo_ofEdge 30 Q))))))
theorem Mo_ofEdge_22 {l : Launch} {D : qD} {d0 : Nat} {B : Nat × Nat} {Q : qQ} : qI (w_Mo_ofEdge_22 l D d0 B Q) (qR l D (d0 + 1, B) m_Mo_ofEdge 22 Q) := sorry
def w_Mo_ofEdge_0 (l : Launch) (D : qD) (d0 : Nat) (B : Nat × Nat) (Q : qQ) : qK := (s_lc 0 (s_lstore 3 (s_aload 0 (s_iload 1 (s_Mo_pointsOf d0 (s_ic (1) (s_isub (s_istore 5 (s_iload 2 (s_ic (4) (s_icmp_ne (w_Mo_ofEdge_22 l D d0 B Q) (s_iload 5 (s_ic (1) (s_isub (s_i2l (s_lret Q))))))))))))))))
theorem Mo_ofEdge_0 {l : Launch} {D : qD} {d0 : Nat} {B : Nat × Nat} {Q : qQ} : qI (w_Mo_ofEdge_0 l D d0 B Q) (qR l D (d0 + 1, B) m_Mo_ofEdge 0 Q) := sorry
def w_Mo_styleTokens_439 (l : Launch) (D : qD) (d0 : Nat) (B : Nat × Nat) (Q : qQ) : qK := (s_vret Q)
theorem Mo_styleTokens_439 {l : Launch} {D : qD} {d0 : Nat} {B : Nat × Nat} {Q : qQ} : qI (w_Mo_styleTokens_439 l D d0 B Q) (qR l D (d0 + 1, B) m_Mo_styleTokens 439 Q) := sorry
def w_Mo_styleTokens_435 (l : Launch) (D : qD) (d0 : Nat) (B : Nat × Nat) (Q : qQ) : qK := (s_istore 2 (qR l D (d0 + 1, B) m_Mo_styleTokens 17 Q))
theorem Mo_styleTokens_435 {l : Launch} {D : qD} {d0 : Nat} {B : Nat × Nat} {Q : qQ} : qI (w_Mo_styleTokens_435 l D d0 B Q) (qR l D (d0 + 1, B) m_Mo_styleTokens 435 Q) := sorry
def w_Mo_styleTokens_434 (l : Launch) (D : qD) (d0 : Nat) (B : Nat × Nat) (Q : qQ) : qK := (s_ic (0) (w_Mo_styleTokens_435 l D d0 B Q))
theorem Mo_styleTokens_434 {l : Launch} {D : qD} {d0 : Nat} {B : Nat × Nat} {Q : qQ} : qI (w_Mo_styleTokens_434 l D d0 B Q) (qR l D (d0 + 1, B) m_Mo_styleTokens 434 Q) := sorry
def w_Mo_styleTokens_363 (l : Launch) (D : qD) (d0 : Nat) (B : Nat × Nat) (Q : qQ) : qK := (s_aload 0 (s_getR 18 160 (s_aload 0 (s_getI 18 157 (s_iload 5 (s_iast (s_aload 0 (s_getR 18 161 (s_aload 0 (s_getI 18 157 (s_lload 6 (s_last (s_aload 0 (s_getR 18 162 (s_aload 0 (s_getI 18 157 (s_iload 4 (s_iast (s_aload 0 (s_getR 18 163 (s_aload 0 (s_getI 18 157 (s_aload 0 (s_getI 18 11 (s_iast (s_aload 0 (s_dup (s_getI 18 157 (s_ic (1) (s_iadd (s_putI 18 157 (s_iload 5 (s_if_eq (w_Mo_styleTokens_434 l D d0 B Q) (s_iload 5 (s_ic (4) (s_icmp_eq (w_Mo_styleTokens_434 l D d0 B Q) (s_ic (1) (w_Mo_styleTokens_435 l D d0 B Q))))))))))))))))))))))))))))))))))))))
theorem Mo_styleTokens_363 {l : Launch} {D : qD} {d0 : Nat} {B : Nat × Nat} {Q : qQ} : qI (w_Mo_styleTokens_363 l D d0 B Q) (qR l D (d0 + 1, B) m_Mo_styleTokens 363 Q) := sorry
def w_Mo_styleTokens_351 (l : Launch) (D : qD) (d0 : Nat) (B : Nat × Nat) (Q : qQ) : qK := (s_istore 5 (s_aload 0 (s_dup (s_getI 18 11 (s_ic (1) (s_iadd (s_putI 18 11 (w_Mo_styleTokens_363 l D d0 B Q))))))))
theorem Mo_styleTokens_351 {l : Launch} {D : qD} {d0 : Nat} {B : Nat × Nat} {Q : qQ} : qI (w_Mo_styleTokens_351 l D d0 B Q) (qR l D (d0 + 1, B) m_Mo_styleTokens 351 Q) := sorry
def w_Mo_styleTokens_350 (l : Launch) (D : qD) (d0 : Nat) (B : Nat × Nat) (Q : qQ) : qK := (s_ic (4) (w_Mo_styleTokens_351 l D d0 B Q))
theorem Mo_styleTokens_350 {l : Launch} {D : qD} {d0 : Nat} {B : Nat × Nat} {Q : qQ} : qI (w_Mo_styleTokens_350 l D d0 B Q) (qR l D (d0 + 1, B) m_Mo_styleTokens 350 Q) := sorry
def w_Mo_styleTokens_339 (l : Launch) (D : qD) (d0 : Nat) (B : Nat × Nat) (Q : qQ) : qK := (s_istore 8 (s_iload 8 (s_if_eq (w_Mo_styleTokens_350 l D d0 B Q) (s_ic (3) (w_Mo_styleTokens_351 l D d0 B Q)))))
theorem Mo_styleTokens_339 {l : Launch} {D : qD} {d0 : Nat} {B : Nat × Nat} {Q : qQ} : qI (w_Mo_styleTokens_339 l D d0 B Q) (qR l D (d0 + 1, B) m_Mo_styleTokens 339 Q) := sorry
def w_Mo_styleTokens_338 (l : Launch) (D : qD) (d0 : Nat) (B : Nat × Nat) (Q : qQ) : qK := (s_ic (0) (w_Mo_styleTokens_339 l D d0 B Q))
theorem Mo_styleTokens_338 {l : Launch} {D : qD} {d0 : Nat} {B : Nat × Nat} {Q : qQ} : qI (w_Mo_styleTokens_338 l D d0 B Q) (qR l D (d0 + 1, B) m_Mo_styleTokens 338 Q) := sorry
def w_Mo_styleTokens_334 (l : Launch) (D : qD) (d0 : Nat) (B : Nat × Nat) (Q : qQ) : qK := (s_ic (1) (w_Mo_styleTokens_339 l D d0 B Q))
theorem Mo_styleTokens_334 {l : Launch} {D : qD} {d0 : Nat} {B : Nat × Nat} {Q : qQ} : qI (w_Mo_styleTokens_334 l D d0 B Q) (qR l D (d0 + 1, B) m_Mo_styleTokens 334 Q) := sorry
def w_Mo_styleTokens_250 (l : Launch) (D : qD) (d0 : Nat) (B : Nat × Nat) (Q : qQ) : qK := (s_iload 3 (s_ic (123) (s_icmp_eq (w_Mo_styleTokens_334 l D d0 B Q) (s_iload 3 (s_ic (125) (s_icmp_eq (w_Mo_styleTokens_334 l D d0 B Q) (s_iload 3 (s_ic (40) (s_icmp_eq (w_Mo_styleTokens_334 l D d0 B Q) (s_iload 3 (s_ic (41) (s_icmp_eq (w_Mo_styleTokens_334 l D d0 B Q) (s_iload 3 (s_ic (43) (s_icmp_eq (w_Mo_styleTokens_334 l D d0 B Q) (s_iload 3 (s_ic (45) (s_icmp_eq (w_Mo_styleTokens_334 l D d0 B Q) (s_iload 3 (s_ic (42) (s_icmp_eq (w_Mo_styleTokens_334 l D d0 B Q) (s_iload 3 (s_ic (47) (s_icmp_eq (w_Mo_styleTokens_334 l D d0 B Q) (s_iload 3 (s_ic (60) (s_icmp_eq (w_Mo_styleTokens_334 l D d0 B Q) (s_iload 3 (s_ic (61) (s_icmp_eq (w_Mo_styleTokens_334 l D d0 B Q) (s_iload 3 (s_ic (62) (s_icmp_eq (w_Mo_styleTokens_334 l D d0 B Q) (s_iload 3 (s_ic (58) (s_icmp_eq (w_Mo_styleTokens_334 l D d0 B Q) (s_iload 3 (s_ic (44) (s_icmp_eq (w_Mo_styleTokens_334 l D d0 B Q) (s_iload 3 (s_ic (59) (s_icmp_ne (w_Mo_styleTokens_338 l D d0 B Q) (w_Mo_styleTokens_334 l D d0 B Q)))))))))))))))))))))))))))))))))))))))))))
theorem Mo_styleTokens_250 {l : Launch} {D : qD} {d0 : Nat} {B : Nat × Nat} {Q : qQ} : qI (w_Mo_styleTokens_250 l D d0 B Q) (qR l D (d0 + 1, B) m_Mo_styleTokens 250 Q) := sorry
def w_Mo_styleTokens_245 (l : Launch) (D : qD) (d0 : Nat) (B : Nat × Nat) (Q : qQ) : qK := (s_istore 5 (w_Mo_styleTokens_363 l D d0 B Q))
theorem Mo_styleTokens_245 {l : Launch} {D : qD} {d0 : Nat} {B : Nat × Nat} {Q : qQ} : qI (w_Mo_styleTokens_245 l D d0 B Q) (qR l D (d0 + 1, B) m_Mo_styleTokens 245 Q) := sorry
def w_Mo_styleTokens_244 (l : Launch) (D : qD) (d0 : Nat) (B : Nat × Nat) (Q : qQ) : qK := (s_ic (4) (w_Mo_styleTokens_245 l D d0 B Q))
theorem Mo_styleTokens_244 {l : Launch} {D : qD} {d0 : Nat} {B : Nat × Nat} {Q : qQ} : qI (w_Mo_styleTokens_244 l D d0 B Q) (qR l D (d0 + 1, B) m_Mo_styleTokens 244 Q) := sorry
def w_Mo_styleTokens_229 (l : Launch) (D : qD) (d0 : Nat) (B : Nat × Nat) (Q : qQ) : qK := (s_aload 0 (s_getI 18 11 (s_iload 4 (s_isub (s_ic (4) (s_icmp_gt (w_Mo_styleTokens_244 l D d0 B Q) (s_ic (2) (w_Mo_styleTokens_245 l D d0 B Q))))))))
theorem Mo_styleTokens_229 {l : Launch} {D : qD} {d0 : Nat} {B : Nat × Nat} {Q : qQ} : qI (w_Mo_styleTokens_229 l D d0 B Q) (qR l D (d0 + 1, B) m_Mo_styleTokens 229 Q) := sorry
def w_Mo_styleTokens_214 (l : Launch) (D : qD) (d0 : Nat) (B : Nat × Nat) (Q : qQ) : qK := (s_lstore 6 (s_aload 0 (s_dup (s_getI 18 11 (s_ic (1) (s_iadd (s_putI 18 11 (qR l D (d0 + 1, B) m_Mo_styleTokens 166 Q))))))))
theorem Mo_styleTokens_214 {l : Launch} {D : qD} {d0 : Nat} {B : Nat × Nat} {Q : qQ} : qI (w_Mo_styleTokens_214 l D d0 B Q) (qR l D (d0 + 1, B) m_Mo_styleTokens 214 Q) := sorry
def w_Mo_styleTokens_194 (l : Launch) (D : qD) (d0 : Nat) (B : Nat × Nat) (Q : qQ) : qK := (s_lc (10) (s_lload 6 (s_lmul (s_aload 0 (s_aload 0 (s_getI 18 11 (s_Mo_byteAt d0 (s_i2l (s_ladd (s_lc (48) (s_lsub (w_Mo_styleTokens_214 l D d0 B Q))))))))))))
theorem Mo_styleTokens_194 {l : Launch} {D : qD} {d0 : Nat} {B : Nat × Nat} {Q : qQ} : qI (w_Mo_styleTokens_194 l D d0 B Q) (qR l D (d0 + 1, B) m_Mo_styleTokens 194 Q) := sorry
def w_Mo_styleTokens_166 (l : Launch) (D : qD) (d0 : Nat) (B : Nat × Nat) (Q : qQ) : qK := (s_aload 0 (s_aload 0 (s_getI 18 11 (s_Mo_byteAt d0 (s_Mo_isDigit d0 (s_if_eq (w_Mo_styleTokens_229 l D d0 B Q) (s_lload 6 (s_lc (99999) (s_lcmp (s_if_le (w_Mo_styleTokens_194 l D d0 B Q) (s_lload 6 (w_Mo_styleTokens_214 l D d0 B Q))))))))))))
theorem Mo_styleTokens_166 {l : Launch} {D : qD} {d0 : Nat} {B : Nat × Nat} {Q : qQ} : qI (w_Mo_styleTokens_166 l D d0 B Q) (qR l D (d0 + 1, B) m_Mo_styleTokens 166 Q) := sorry
def w_Mo_styleTokens_156 (l : Launch) (D : qD) (d0 : Nat) (B : Nat × Nat) (Q : qQ) : qK := (s_iload 3 (s_Mo_isDigit d0 (s_if_eq (w_Mo_styleTokens_250 l D d0 B Q) (s_lc 0 (s_lstore 6 (qR l D (d0 + 1, B) m_Mo_styleTokens 166 Q))))))
theorem Mo_styleTokens_156 {l : Launch} {D : qD} {d0 : Nat} {B : Nat × Nat} {Q : qQ} : qI (w_Mo_styleTokens_156 l D d0 B Q) (qR l D (d0 + 1, B) m_Mo_styleTokens 156 Q) := sorry
def w_Mo_styleTokens_151 (l : Launch) (D : qD) (d0 : Nat) (B : Nat × Nat) (Q : qQ) : qK := (s_istore 5 (w_Mo_styleTokens_363 l D d0 B Q))
theorem Mo_styleTokens_151 {l : Launch} {D : qD} {d0 : Nat} {B : Nat × Nat} {Q : qQ} : qI (w_Mo_styleTokens_151 l D d0 B Q) (qR l D (d0 + 1, B) m_Mo_styleTokens 151 Q) := sorry
def w_Mo_styleTokens_150 (l : Launch) (D : qD) (d0 : Nat) (B : Nat × Nat) (Q : qQ) : qK := (s_ic (4) (w_Mo_styleTokens_151 l D d0 B Q))
theorem Mo_styleTokens_150 {l : Launch} {D : qD} {d0 : Nat} {B : Nat × Nat} {Q : qQ} : qI (w_Mo_styleTokens_150 l D d0 B Q) (qR l D (d0 + 1, B) m_Mo_styleTokens 150 Q) := sorry
def w_Mo_styleTokens_134 (l : Launch) (D : qD) (d0 : Nat) (B : Nat × Nat) (Q : qQ) : qK := (s_aload 0 (s_getI 18 11 (s_iload 4 (s_isub (s_ic (8) (s_icmp_gt (w_Mo_styleTokens_150 l D d0 B Q) (s_ic (1) (w_Mo_styleTokens_151 l D d0 B Q))))))))
theorem Mo_styleTokens_134 {l : Launch} {D : qD} {d0 : Nat} {B : Nat × Nat} {Q : qQ} : qI (w_Mo_styleTokens_134 l D d0 B Q) (qR l D (d0 + 1, B) m_Mo_styleTokens 134 Q) := sorry
def w_Mo_styleTokens_103 (l : Launch) (D : qD) (d0 : Nat) (B : Nat × Nat) (Q : qQ) : qK := (s_aload 0 (s_aload 0 (s_getI 18 11 (s_Mo_byteAt d0 (s_ic (97) (s_ic (122) (s_Mo_in d0 (s_if_eq (w_Mo_styleTokens_134 l D d0 B Q) (s_aload 0 (s_dup (s_getI 18 11 (s_ic (1) (s_iadd (s_putI 18 11 (qR l D (d0 + 1, B) m_Mo_styleTokens 103 Q)))))))))))))))
theorem Mo_styleTokens_103 {l : Launch} {D : qD} {d0 : Nat} {B : Nat × Nat} {Q : qQ} : qI (w_Mo_styleTokens_103 l D d0 B Q) (qR l D (d0 + 1, B) m_Mo_styleTokens 103 Q) := sorry
def w_Mo_styleTokens_92 (l : Launch) (D : qD) (d0 : Nat) (B : Nat × Nat) (Q : qQ) : qK := (s_iload 3 (s_ic (97) (s_ic (122) (s_Mo_in d0 (s_if_eq (w_Mo_styleTokens_156 l D d0 B Q) (qR l D (d0 + 1, B) m_Mo_styleTokens 103 Q))))))
theorem Mo_styleTokens_92 {l : Launch} {D : qD} {d0 : Nat} {B : Nat × Nat} {Q : qQ} : qI (w_Mo_styleTokens_92 l D d0 B Q) (qR l D (d0 + 1, B) m_Mo_styleTokens 92 Q) := sorry
def w_Mo_styleTokens_60 (l : Launch) (D : qD) (d0 : Nat) (B : Nat × Nat) (Q : qQ) : qK := (s_aload 0 (s_aload 0 (s_getI 18 11 (s_Mo_byteAt d0 (s_istore 3 (s_aload 0 (s_getI 18 11 (s_istore 4 (s_ic (4) (s_istore 5 (s_iload 3 (s_i2l (s_lstore 6 (s_iload 3 (s_if_ge (w_Mo_styleTokens_92 l D d0 B Q) (s_ic (0) (s_istore 5 (w_Mo_styleTokens_363 l D d0 B Q))))))))))))))))))
theorem Mo_styleTokens_60 {l : Launch} {D : qD} {d0 : Nat} {B : Nat × Nat} {Q : qQ} : qI (w_Mo_styleTokens_60 l D d0 B Q) (qR l D (d0 + 1, B) m_Mo_styleTokens 60 Q) := sorry
def w_Mo_styleTokens_47 (l : Launch) (D : qD) (d0 : Nat) (B : Nat × Nat) (Q : qQ) : qK := (s_aload 0 (s_dup (s_getI 18 11 (s_ic (1) (s_iadd (s_putI 18 11 (qR l D (d0 + 1, B) m_Mo_styleTokens 21 Q)))))))
theorem Mo_styleTokens_47 {l : Launch} {D : qD} {d0 : Nat} {B : Nat × Nat} {Q : qQ} : qI (w_Mo_styleTokens_47 l D d0 B Q) (qR l D (d0 + 1, B) m_Mo_styleTokens 47 Q) := sorry
def w_Mo_styleTokens_21 (l : Launch) (D : qD) (d0 : Nat) (B : Nat × Nat) (Q : qQ) : qK := (s_aload 0 (s_aload 0 (s_getI 18 11 (s_Mo_byteAt d0 (s_ic (32) (s_icmp_eq (w_Mo_styleTokens_47 l D d0 B Q) (s_aload 0 (s_aload 0 (s_getI 18 11 (s_Mo_byteAt d0 (s_ic (10) (s_icmp_ne (w_Mo_styleTokens_60 l D d0 B Q) (w_Mo_styleTokens_47 l D d0 B Q)))))))))))))
theorem Mo_styleTokens_21 {l : Launch} {D : qD} {d0 : Nat} {B : Nat × Nat} {Q : qQ} : qI (w_Mo_styleTokens_21 l D d0 B Q) (qR l D (d0 + 1, B) m_Mo_styleTokens 21 Q) := sorry
def w_Mo_styleTokens_17 (l : Launch) (D : qD) (d0 : Nat) (B : Nat × Nat) (Q : qQ) : qK := (s_iload 2 (s_if_eq (w_Mo_styleTokens_439 l D d0 B Q) (qR l D (d0 + 1, B) m_Mo_styleTokens 21 Q)))
theorem Mo_styleTokens_17 {l : Launch} {D : qD} {d0 : Nat} {B : Nat × Nat} {Q : qQ} : qI (w_Mo_styleTokens_17 l D d0 B Q) (qR l D (d0 + 1, B) m_Mo_styleTokens 17 Q) := sorry
def w_Mo_styleTokens_0 (l : Launch) (D : qD) (d0 : Nat) (B : Nat × Nat) (Q : qQ) : qK := (s_aload 0 (s_ic (0) (s_putI 18 157 (s_aload 0 (s_iload 1 (s_putI 18 10 (s_aload 0 (s_ic (0) (s_putI 18 11 (s_ic (1) (s_istore 2 (qR l D (d0 + 1, B) m_Mo_styleTokens 17 Q))))))))))))
theorem Mo_styleTokens_0 {l : Launch} {D : qD} {d0 : Nat} {B : Nat × Nat} {Q : qQ} : qI (w_Mo_styleTokens_0 l D d0 B Q) (qR l D (d0 + 1, B) m_Mo_styleTokens 0 Q) := sorry
def w_Mo_styleOpen_23 (l : Launch) (D : qD) (d0 : Nat) (B : Nat × Nat) (Q : qQ) : qK := (s_aload 0 (s_dup (s_getI 18 159 (s_ic (1) (s_iadd (s_putI 18 159 (s_aload 0 (s_dup (s_getI 18 158 (s_ic (1) (s_iadd (s_putI 18 158 (s_vret Q)))))))))))))
theorem Mo_styleOpen_23 {l : Launch} {D : qD} {d0 : Nat} {B : Nat × Nat} {Q : qQ} : qI (w_Mo_styleOpen_23 l D d0 B Q) (qR l D (d0 + 1, B) m_Mo_styleOpen 23 Q) := sorry
def w_Mo_styleOpen_0 (l : Launch) (D : qD) (d0 : Nat) (B : Nat × Nat) (Q : qQ) : qK := (s_aload 0 (s_getI 18 159 (s_ic (12) (s_icmp_ne (w_Mo_styleOpen_23 l D d0 B Q) (s_aload 0 (s_ic (2) (s_aload 0 (s_getR 18 162 (s_aload 0 (s_getI 18 158 (s_iald (s_Mo_wrong d0 (w_Mo_styleOpen_23 l D d0 B Q)))))))))))))
theorem Mo_styleOpen_0 {l : Launch} {D : qD} {d0 : Nat} {B : Nat × Nat} {Q : qQ} : qI (w_Mo_styleOpen_0 l D d0 B Q) (qR l D (d0 + 1, B) m_Mo_styleOpen 0 Q) := sorry
def w_Mo_styleNeed_43 (l : Launch) (D : qD) (d0 : Nat) (B : Nat × Nat) (Q : qQ) : qK := (s_vret Q)
theorem Mo_styleNeed_43 {l : Launch} {D : qD} {d0 : Nat} {B : Nat × Nat} {Q : qQ} : qI (w_Mo_styleNeed_43 l D d0 B Q) (qR l D (d0 + 1, B) m_Mo_styleNeed 43 Q) := sorry
def w_Mo_styleNeed_29 (l : Launch) (D : qD) (d0 : Nat) (B : Nat × Nat) (Q : qQ) : qK := (s_aload 0 (s_ic (1) (s_aload 0 (s_getR 18 162 (s_aload 0 (s_getI 18 158 (s_iald (s_Mo_wrong d0 (w_Mo_styleNeed_43 l D d0 B Q)))))))))
theorem Mo_styleNeed_29 {l : Launch} {D : qD} {d0 : Nat} {B : Nat × Nat} {Q : qQ} : qI (w_Mo_styleNeed_29 l D d0 B Q) (qR l D (d0 + 1, B) m_Mo_styleNeed 29 Q) := sorry
def w_Mo_styleNeed_8 (l : Launch) (D : qD) (d0 : Nat) (B : Nat × Nat) (Q : qQ) : qK := (s_aload 0 (s_iload 1 (s_Mo_styleSign d0 (s_if_eq (w_Mo_styleNeed_29 l D d0 B Q) (s_aload 0 (s_dup (s_getI 18 158 (s_ic (1) (s_iadd (s_putI 18 158 (w_Mo_styleNeed_43 l D d0 B Q)))))))))))
theorem Mo_styleNeed_8 {l : Launch} {D : qD} {d0 : Nat} {B : Nat × Nat} {Q : qQ} : qI (w_Mo_styleNeed_8 l D d0 B Q) (qR l D (d0 + 1, B) m_Mo_styleNeed 8 Q) := sorry
def w_Mo_styleNeed_0 (l : Launch) (D : qD) (d0 : Nat) (B : Nat × Nat) (Q : qQ) : qK := (s_aload 0 (s_getI 18 8 (s_if_le (w_Mo_styleNeed_8 l D d0 B Q) (s_vret Q))))
theorem Mo_styleNeed_0 {l : Launch} {D : qD} {d0 : Nat} {B : Nat × Nat} {Q : qQ} : qI (w_Mo_styleNeed_0 l D d0 B Q) (qR l D (d0 + 1, B) m_Mo_styleNeed 0 Q) := sorry
def w_Mo_sum_65 (l : Launch) (D : qD) (d0 : Nat) (B : Nat × Nat) (Q : qQ) : qK := (s_lload 1 (s_lret Q))
theorem Mo_sum_65 {l : Launch} {D : qD} {d0 : Nat} {B : Nat × Nat} {Q : qQ} : qI (w_Mo_sum_65 l D d0 B Q) (qR l D (d0 + 1, B) m_Mo_sum 65 Q) := sorry
def w_Mo_sum_61 (l : Launch) (D : qD) (d0 : Nat) (B : Nat × Nat) (Q : qQ) : qK := (s_lstore 1 (qR l D (d0 + 1, B) m_Mo_sum 5 Q))
theorem Mo_sum_61 {l : Launch} {D : qD} {d0 : Nat} {B : Nat × Nat} {Q : qQ} : qI (w_Mo_sum_61 l D d0 B Q) (qR l D (d0 + 1, B) m_Mo_sum 61 Q) := sorry
def w_Mo_sum_57 (l : Launch) (D : qD) (d0 : Nat) (B : Nat × Nat) (Q : qQ) : qK := (s_lload 1 (s_lload 4 (s_lsub (w_Mo_sum_61 l D d0 B Q))))
theorem Mo_sum_57 {l : Launch} {D : qD} {d0 : Nat} {B : Nat × Nat} {Q : qQ} : qI (w_Mo_sum_57 l D d0 B Q) (qR l D (d0 + 1, B) m_Mo_sum 57 Q) := sorry
def w_Mo_sum_23 (l : Launch) (D : qD) (d0 : Nat) (B : Nat × Nat) (Q : qQ) : qK := (s_aload 0 (s_ic (43) (s_Mo_styleSign d0 (s_istore 3 (s_aload 0 (s_dup (s_getI 18 158 (s_ic (1) (s_iadd (s_putI 18 158 (s_aload 0 (s_invV l D (d0, 0, 0) 18 m_Mo_product 0 (s_lstore 4 (s_iload 3 (s_if_eq (w_Mo_sum_57 l D d0 B Q) (s_lload 1 (s_lload 4 (s_ladd (w_Mo_sum_61 l D d0 B Q)))))))))))))))))))
theorem Mo_sum_23 {l : Launch} {D : qD} {d0 : Nat} {B : Nat × Nat} {Q : qQ} : qI (w_Mo_sum_23 l D d0 B Q) (qR l D (d0 + 1, B) m_Mo_sum 23 Q) := sorry
def w_Mo_sum_5 (l : Launch) (D : qD) (d0 : Nat) (B : Nat × Nat) (Q : qQ) : qK := (s_aload 0 (s_ic (43) (s_Mo_styleSign d0 (s_if_ne (w_Mo_sum_23 l D d0 B Q) (s_aload 0 (s_ic (45) (s_Mo_styleSign d0 (s_if_eq (w_Mo_sum_65 l D d0 B Q) (w_Mo_sum_23 l D d0 B Q)))))))))
theorem Mo_sum_5 {l : Launch} {D : qD} {d0 : Nat} {B : Nat × Nat} {Q : qQ} : qI (w_Mo_sum_5 l D d0 B Q) (qR l D (d0 + 1, B) m_Mo_sum 5 Q) := sorry
def w_Mo_sum_0 (l : Launch) (D : qD) (d0 : Nat) (B : Nat × Nat) (Q : qQ) : qK := (s_aload 0 (s_invV l D (d0, 0, 0) 18 m_Mo_product 0 (s_lstore 1 (qR l D (d0 + 1, B) m_Mo_sum 5 Q))))
theorem Mo_sum_0 {l : Launch} {D : qD} {d0 : Nat} {B : Nat × Nat} {Q : qQ} : qI (w_Mo_sum_0 l D d0 B Q) (qR l D (d0 + 1, B) m_Mo_sum 0 Q) := sorry
def w_Mo_product_78 (l : Launch) (D : qD) (d0 : Nat) (B : Nat × Nat) (Q : qQ) : qK := (s_lload 1 (s_lret Q))
theorem Mo_product_78 {l : Launch} {D : qD} {d0 : Nat} {B : Nat × Nat} {Q : qQ} : qI (w_Mo_product_78 l D d0 B Q) (qR l D (d0 + 1, B) m_Mo_product 78 Q) := sorry
def w_Mo_product_74 (l : Launch) (D : qD) (d0 : Nat) (B : Nat × Nat) (Q : qQ) : qK := (s_lstore 1 (qR l D (d0 + 1, B) m_Mo_product 5 Q))
theorem Mo_product_74 {l : Launch} {D : qD} {d0 : Nat} {B : Nat × Nat} {Q : qQ} : qI (w_Mo_product_74 l D d0 B Q) (qR l D (d0 + 1, B) m_Mo_product 74 Q) := sorry
def w_Mo_product_68 (l : Launch) (D : qD) (d0 : Nat) (B : Nat × Nat) (Q : qQ) : qK := (s_lload 1 (s_lload 4 (s_invS l D (d0, 0, 0) m_Math_floorDiv_1 2 (w_Mo_product_74 l D d0 B Q))))
theorem Mo_product_68 {l : Launch} {D : qD} {d0 : Nat} {B : Nat × Nat} {Q : qQ} : qI (w_Mo_product_68 l D d0 B Q) (qR l D (d0 + 1, B) m_Mo_product 68 Q) := sorry
def w_Mo_product_57 (l : Launch) (D : qD) (d0 : Nat) (B : Nat × Nat) (Q : qQ) : qK := (s_lload 4 (s_lc 0 (s_lcmp (s_if_ne (w_Mo_product_68 l D d0 B Q) (s_lc 0 (w_Mo_product_74 l D d0 B Q))))))
theorem Mo_product_57 {l : Launch} {D : qD} {d0 : Nat} {B : Nat × Nat} {Q : qQ} : qI (w_Mo_product_57 l D d0 B Q) (qR l D (d0 + 1, B) m_Mo_product 57 Q) := sorry
def w_Mo_product_23 (l : Launch) (D : qD) (d0 : Nat) (B : Nat × Nat) (Q : qQ) : qK := (s_aload 0 (s_ic (42) (s_Mo_styleSign d0 (s_istore 3 (s_aload 0 (s_dup (s_getI 18 158 (s_ic (1) (s_iadd (s_putI 18 158 (s_aload 0 (s_invV l D (d0, 0, 0) 18 m_Mo_styleValue 0 (s_lstore 4 (s_iload 3 (s_if_eq (w_Mo_product_57 l D d0 B Q) (s_lload 1 (s_lload 4 (s_lmul (w_Mo_product_74 l D d0 B Q)))))))))))))))))))
theorem Mo_product_23 {l : Launch} {D : qD} {d0 : Nat} {B : Nat × Nat} {Q : qQ} : qI (w_Mo_product_23 l D d0 B Q) (qR l D (d0 + 1, B) m_Mo_product 23 Q) := sorry
def w_Mo_product_5 (l : Launch) (D : qD) (d0 : Nat) (B : Nat × Nat) (Q : qQ) : qK := (s_aload 0 (s_ic (42) (s_Mo_styleSign d0 (s_if_ne (w_Mo_product_23 l D d0 B Q) (s_aload 0 (s_ic (47) (s_Mo_styleSign d0 (s_if_eq (w_Mo_product_78 l D d0 B Q) (w_Mo_product_23 l D d0 B Q)))))))))
theorem Mo_product_5 {l : Launch} {D : qD} {d0 : Nat} {B : Nat × Nat} {Q : qQ} : qI (w_Mo_product_5 l D d0 B Q) (qR l D (d0 + 1, B) m_Mo_product 5 Q) := sorry
def w_Mo_product_0 (l : Launch) (D : qD) (d0 : Nat) (B : Nat × Nat) (Q : qQ) : qK := (s_aload 0 (s_invV l D (d0, 0, 0) 18 m_Mo_styleValue 0 (s_lstore 1 (qR l D (d0 + 1, B) m_Mo_product 5 Q))))
theorem Mo_product_0 {l : Launch} {D : qD} {d0 : Nat} {B : Nat × Nat} {Q : qQ} : qI (w_Mo_product_0 l D d0 B Q) (qR l D (d0 + 1, B) m_Mo_product 0 Q) := sorry
def w_Mo_styleValue_177 (l : Launch) (D : qD) (d0 : Nat) (B : Nat × Nat) (Q : qQ) : qK := (s_lret Q)
theorem Mo_styleValue_177 {l : Launch} {D : qD} {d0 : Nat} {B : Nat × Nat} {Q : qQ} : qI (w_Mo_styleValue_177 l D d0 B Q) (qR l D (d0 + 1, B) m_Mo_styleValue 177 Q) := sorry
def w_Mo_styleValue_172 (l : Launch) (D : qD) (d0 : Nat) (B : Nat × Nat) (Q : qQ) : qK := (s_aload 0 (s_iload 1 (s_invV l D (d0, 0, 0) 18 m_Mo_ofEdgeWord 1 (w_Mo_styleValue_177 l D d0 B Q))))
theorem Mo_styleValue_172 {l : Launch} {D : qD} {d0 : Nat} {B : Nat × Nat} {Q : qQ} : qI (w_Mo_styleValue_172 l D d0 B Q) (qR l D (d0 + 1, B) m_Mo_styleValue 172 Q) := sorry
def w_Mo_styleValue_157 (l : Launch) (D : qD) (d0 : Nat) (B : Nat × Nat) (Q : qQ) : qK := (s_aload 0 (s_getI 18 164 (s_if_ne (w_Mo_styleValue_172 l D d0 B Q) (s_aload 0 (s_iload 1 (s_invV l D (d0, 0, 0) 18 m_Mo_ofNode 1 (w_Mo_styleValue_177 l D d0 B Q)))))))
theorem Mo_styleValue_157 {l : Launch} {D : qD} {d0 : Nat} {B : Nat × Nat} {Q : qQ} : qI (w_Mo_styleValue_157 l D d0 B Q) (qR l D (d0 + 1, B) m_Mo_styleValue 157 Q) := sorry
def w_Mo_styleValue_136 (l : Launch) (D : qD) (d0 : Nat) (B : Nat × Nat) (Q : qQ) : qK := (s_aload 0 (s_dup (s_getI 18 158 (s_ic (1) (s_iadd (s_putI 18 158 (s_aload 0 (s_getI 18 165 (s_if_ge (w_Mo_styleValue_157 l D d0 B Q) (s_lc 0 (w_Mo_styleValue_177 l D d0 B Q)))))))))))
theorem Mo_styleValue_136 {l : Launch} {D : qD} {d0 : Nat} {B : Nat × Nat} {Q : qQ} : qI (w_Mo_styleValue_136 l D d0 B Q) (qR l D (d0 + 1, B) m_Mo_styleValue 136 Q) := sorry
def w_Mo_styleValue_115 (l : Launch) (D : qD) (d0 : Nat) (B : Nat × Nat) (Q : qQ) : qK := (s_istore 1 (s_iload 1 (s_if_ge (w_Mo_styleValue_136 l D d0 B Q) (s_aload 0 (s_ic (1) (s_aload 0 (s_getR 18 162 (s_aload 0 (s_getI 18 158 (s_iald (s_Mo_wrong d0 (s_lc 0 (s_lret Q)))))))))))))
theorem Mo_styleValue_115 {l : Launch} {D : qD} {d0 : Nat} {B : Nat × Nat} {Q : qQ} : qI (w_Mo_styleValue_115 l D d0 B Q) (qR l D (d0 + 1, B) m_Mo_styleValue 115 Q) := sorry
def w_Mo_styleValue_111 (l : Launch) (D : qD) (d0 : Nat) (B : Nat × Nat) (Q : qQ) : qK := (s_aload 0 (s_invV l D (d0, 0, 0) 18 m_Mo_edgeWord 0 (w_Mo_styleValue_115 l D d0 B Q)))
theorem Mo_styleValue_111 {l : Launch} {D : qD} {d0 : Nat} {B : Nat × Nat} {Q : qQ} : qI (w_Mo_styleValue_111 l D d0 B Q) (qR l D (d0 + 1, B) m_Mo_styleValue 111 Q) := sorry
def w_Mo_styleValue_97 (l : Launch) (D : qD) (d0 : Nat) (B : Nat × Nat) (Q : qQ) : qK := (s_aload 0 (s_getI 18 164 (s_if_ne (w_Mo_styleValue_111 l D d0 B Q) (s_aload 0 (s_invV l D (d0, 0, 0) 18 m_Mo_nodeWord 0 (w_Mo_styleValue_115 l D d0 B Q))))))
theorem Mo_styleValue_97 {l : Launch} {D : qD} {d0 : Nat} {B : Nat × Nat} {Q : qQ} : qI (w_Mo_styleValue_97 l D d0 B Q) (qR l D (d0 + 1, B) m_Mo_styleValue 97 Q) := sorry
def w_Mo_styleValue_80 (l : Launch) (D : qD) (d0 : Nat) (B : Nat × Nat) (Q : qQ) : qK := (s_aload 0 (s_getR 18 160 (s_aload 0 (s_getI 18 158 (s_iald (s_ic (1) (s_icmp_eq (w_Mo_styleValue_97 l D d0 B Q) (s_ic (-1) (w_Mo_styleValue_115 l D d0 B Q)))))))))
theorem Mo_styleValue_80 {l : Launch} {D : qD} {d0 : Nat} {B : Nat × Nat} {Q : qQ} : qI (w_Mo_styleValue_80 l D d0 B Q) (qR l D (d0 + 1, B) m_Mo_styleValue 80 Q) := sorry
def w_Mo_styleValue_44 (l : Launch) (D : qD) (d0 : Nat) (B : Nat × Nat) (Q : qQ) : qK := (s_aload 0 (s_ic (40) (s_Mo_styleSign d0 (s_if_eq (w_Mo_styleValue_80 l D d0 B Q) (s_aload 0 (s_invV l D (d0, 0, 0) 18 m_Mo_styleOpen 0 (s_aload 0 (s_invV l D (d0, 0, 0) 18 m_Mo_sum 0 (s_lstore 1 (s_aload 0 (s_ic (41) (s_invV l D (d0, 0, 0) 18 m_Mo_styleNeed 1 (s_aload 0 (s_dup (s_getI 18 159 (s_ic (1) (s_isub (s_putI 18 159 (s_lload 1 (s_lret Q))))))))))))))))))))
theorem Mo_styleValue_44 {l : Launch} {D : qD} {d0 : Nat} {B : Nat × Nat} {Q : qQ} : qI (w_Mo_styleValue_44 l D d0 B Q) (qR l D (d0 + 1, B) m_Mo_styleValue 44 Q) := sorry
def w_Mo_styleValue_9 (l : Launch) (D : qD) (d0 : Nat) (B : Nat × Nat) (Q : qQ) : qK := (s_aload 0 (s_getR 18 160 (s_aload 0 (s_getI 18 158 (s_iald (s_ic (2) (s_icmp_ne (w_Mo_styleValue_44 l D d0 B Q) (s_aload 0 (s_dup (s_getI 18 158 (s_ic (1) (s_iadd (s_putI 18 158 (s_aload 0 (s_getR 18 161 (s_aload 0 (s_getI 18 158 (s_ic (1) (s_isub (s_lald (s_lret Q)))))))))))))))))))))
theorem Mo_styleValue_9 {l : Launch} {D : qD} {d0 : Nat} {B : Nat × Nat} {Q : qQ} : qI (w_Mo_styleValue_9 l D d0 B Q) (qR l D (d0 + 1, B) m_Mo_styleValue 9 Q) := sorry
def w_Mo_styleValue_0 (l : Launch) (D : qD) (d0 : Nat) (B : Nat × Nat) (Q : qQ) : qK := (s_aload 0 (s_getI 18 8 (s_if_le (w_Mo_styleValue_9 l D d0 B Q) (s_lc 0 (s_lret Q)))))
theorem Mo_styleValue_0 {l : Launch} {D : qD} {d0 : Nat} {B : Nat × Nat} {Q : qQ} : qI (w_Mo_styleValue_0 l D d0 B Q) (qR l D (d0 + 1, B) m_Mo_styleValue 0 Q) := sorry
def w_Mo_ofNode_238 (l : Launch) (D : qD) (d0 : Nat) (B : Nat × Nat) (Q : qQ) : qK := (s_lret Q)
theorem Mo_ofNode_238 {l : Launch} {D : qD} {d0 : Nat} {B : Nat × Nat} {Q : qQ} : qI (w_Mo_ofNode_238 l D d0 B Q) (qR l D (d0 + 1, B) m_Mo_ofNode 238 Q) := sorry
def w_Mo_ofNode_232 (l : Launch) (D : qD) (d0 : Nat) (B : Nat × Nat) (Q : qQ) : qK := (s_aload 0 (s_iload 2 (s_Mo_py d0 (s_i2l (w_Mo_ofNode_238 l D d0 B Q)))))
theorem Mo_ofNode_232 {l : Launch} {D : qD} {d0 : Nat} {B : Nat × Nat} {Q : qQ} : qI (w_Mo_ofNode_232 l D d0 B Q) (qR l D (d0 + 1, B) m_Mo_ofNode 232 Q) := sorry
def w_Mo_ofNode_216 (l : Launch) (D : qD) (d0 : Nat) (B : Nat × Nat) (Q : qQ) : qK := (s_aload 0 (s_getR 18 61 (s_aload 0 (s_getI 18 139 (s_iald (s_if_ge (w_Mo_ofNode_232 l D d0 B Q) (s_lc 0 (w_Mo_ofNode_238 l D d0 B Q))))))))
theorem Mo_ofNode_216 {l : Launch} {D : qD} {d0 : Nat} {B : Nat × Nat} {Q : qQ} : qI (w_Mo_ofNode_216 l D d0 B Q) (qR l D (d0 + 1, B) m_Mo_ofNode 216 Q) := sorry
def w_Mo_ofNode_215 (l : Launch) (D : qD) (d0 : Nat) (B : Nat × Nat) (Q : qQ) : qK := (s_lret Q)
theorem Mo_ofNode_215 {l : Launch} {D : qD} {d0 : Nat} {B : Nat × Nat} {Q : qQ} : qI (w_Mo_ofNode_215 l D d0 B Q) (qR l D (d0 + 1, B) m_Mo_ofNode 215 Q) := sorry
def w_Mo_ofNode_209 (l : Launch) (D : qD) (d0 : Nat) (B : Nat × Nat) (Q : qQ) : qK := (s_aload 0 (s_iload 2 (s_Mo_px d0 (s_i2l (w_Mo_ofNode_215 l D d0 B Q)))))
theorem Mo_ofNode_209 {l : Launch} {D : qD} {d0 : Nat} {B : Nat × Nat} {Q : qQ} : qI (w_Mo_ofNode_209 l D d0 B Q) (qR l D (d0 + 1, B) m_Mo_ofNode 209 Q) := sorry
def w_Mo_ofNode_193 (l : Launch) (D : qD) (d0 : Nat) (B : Nat × Nat) (Q : qQ) : qK := (s_aload 0 (s_getR 18 61 (s_aload 0 (s_getI 18 139 (s_iald (s_if_ge (w_Mo_ofNode_209 l D d0 B Q) (s_lc 0 (w_Mo_ofNode_215 l D d0 B Q))))))))
theorem Mo_ofNode_193 {l : Launch} {D : qD} {d0 : Nat} {B : Nat × Nat} {Q : qQ} : qI (w_Mo_ofNode_193 l D d0 B Q) (qR l D (d0 + 1, B) m_Mo_ofNode 193 Q) := sorry
def w_Mo_ofNode_192 (l : Launch) (D : qD) (d0 : Nat) (B : Nat × Nat) (Q : qQ) : qK := (s_lret Q)
theorem Mo_ofNode_192 {l : Launch} {D : qD} {d0 : Nat} {B : Nat × Nat} {Q : qQ} : qI (w_Mo_ofNode_192 l D d0 B Q) (qR l D (d0 + 1, B) m_Mo_ofNode 192 Q) := sorry
def w_Mo_ofNode_191 (l : Launch) (D : qD) (d0 : Nat) (B : Nat × Nat) (Q : qQ) : qK := (s_lc 0 (w_Mo_ofNode_192 l D d0 B Q))
theorem Mo_ofNode_191 {l : Launch} {D : qD} {d0 : Nat} {B : Nat × Nat} {Q : qQ} : qI (w_Mo_ofNode_191 l D d0 B Q) (qR l D (d0 + 1, B) m_Mo_ofNode 191 Q) := sorry
def w_Mo_ofNode_177 (l : Launch) (D : qD) (d0 : Nat) (B : Nat × Nat) (Q : qQ) : qK := (s_aload 0 (s_getR 18 166 (s_iload 2 (s_iald (s_ic (1) (s_icmp_le (w_Mo_ofNode_191 l D d0 B Q) (s_lc 1 (w_Mo_ofNode_192 l D d0 B Q))))))))
theorem Mo_ofNode_177 {l : Launch} {D : qD} {d0 : Nat} {B : Nat × Nat} {Q : qQ} : qI (w_Mo_ofNode_177 l D d0 B Q) (qR l D (d0 + 1, B) m_Mo_ofNode 177 Q) := sorry
def w_Mo_ofNode_169 (l : Launch) (D : qD) (d0 : Nat) (B : Nat × Nat) (Q : qQ) : qK := (s_aload 0 (s_getR 18 167 (s_iload 2 (s_iald (s_i2l (s_lret Q))))))
theorem Mo_ofNode_169 {l : Launch} {D : qD} {d0 : Nat} {B : Nat × Nat} {Q : qQ} : qI (w_Mo_ofNode_169 l D d0 B Q) (qR l D (d0 + 1, B) m_Mo_ofNode 169 Q) := sorry
def w_Mo_ofNode_168 (l : Launch) (D : qD) (d0 : Nat) (B : Nat × Nat) (Q : qQ) : qK := (s_lret Q)
theorem Mo_ofNode_168 {l : Launch} {D : qD} {d0 : Nat} {B : Nat × Nat} {Q : qQ} : qI (w_Mo_ofNode_168 l D d0 B Q) (qR l D (d0 + 1, B) m_Mo_ofNode 168 Q) := sorry
def w_Mo_ofNode_165 (l : Launch) (D : qD) (d0 : Nat) (B : Nat × Nat) (Q : qQ) : qK := (s_lc (-1) (w_Mo_ofNode_168 l D d0 B Q))
theorem Mo_ofNode_165 {l : Launch} {D : qD} {d0 : Nat} {B : Nat × Nat} {Q : qQ} : qI (w_Mo_ofNode_165 l D d0 B Q) (qR l D (d0 + 1, B) m_Mo_ofNode 165 Q) := sorry
def w_Mo_ofNode_143 (l : Launch) (D : qD) (d0 : Nat) (B : Nat × Nat) (Q : qQ) : qK := (s_aload 0 (s_getR 18 19 (s_iload 2 (s_iald (s_ic (1000000) (s_icmp_ge (w_Mo_ofNode_165 l D d0 B Q) (s_aload 0 (s_getR 18 19 (s_iload 2 (s_iald (s_i2l (w_Mo_ofNode_168 l D d0 B Q))))))))))))
theorem Mo_ofNode_143 {l : Launch} {D : qD} {d0 : Nat} {B : Nat × Nat} {Q : qQ} : qI (w_Mo_ofNode_143 l D d0 B Q) (qR l D (d0 + 1, B) m_Mo_ofNode 143 Q) := sorry
def w_Mo_ofNode_136 (l : Launch) (D : qD) (d0 : Nat) (B : Nat × Nat) (Q : qQ) : qK := (s_aload 0 (s_iload 2 (s_Mo_groupOf d0 (s_i2l (s_lret Q)))))
theorem Mo_ofNode_136 {l : Launch} {D : qD} {d0 : Nat} {B : Nat × Nat} {Q : qQ} : qI (w_Mo_ofNode_136 l D d0 B Q) (qR l D (d0 + 1, B) m_Mo_ofNode 136 Q) := sorry
def w_Mo_ofNode_129 (l : Launch) (D : qD) (d0 : Nat) (B : Nat × Nat) (Q : qQ) : qK := (s_aload 0 (s_iload 2 (s_Mo_size d0 (s_i2l (s_lret Q)))))
theorem Mo_ofNode_129 {l : Launch} {D : qD} {d0 : Nat} {B : Nat × Nat} {Q : qQ} : qI (w_Mo_ofNode_129 l D d0 B Q) (qR l D (d0 + 1, B) m_Mo_ofNode 129 Q) := sorry
def w_Mo_ofNode_125 (l : Launch) (D : qD) (d0 : Nat) (B : Nat × Nat) (Q : qQ) : qK := (s_iload 4 (s_i2l (s_lret Q)))
theorem Mo_ofNode_125 {l : Launch} {D : qD} {d0 : Nat} {B : Nat × Nat} {Q : qQ} : qI (w_Mo_ofNode_125 l D d0 B Q) (qR l D (d0 + 1, B) m_Mo_ofNode 125 Q) := sorry
def w_Mo_ofNode_122 (l : Launch) (D : qD) (d0 : Nat) (B : Nat × Nat) (Q : qQ) : qK := (s_iload 3 (s_i2l (s_lret Q)))
theorem Mo_ofNode_122 {l : Launch} {D : qD} {d0 : Nat} {B : Nat × Nat} {Q : qQ} : qI (w_Mo_ofNode_122 l D d0 B Q) (qR l D (d0 + 1, B) m_Mo_ofNode 122 Q) := sorry
def w_Mo_ofNode_116 (l : Launch) (D : qD) (d0 : Nat) (B : Nat × Nat) (Q : qQ) : qK := (s_iload 3 (s_iload 4 (s_iadd (s_i2l (s_lret Q)))))
theorem Mo_ofNode_116 {l : Launch} {D : qD} {d0 : Nat} {B : Nat × Nat} {Q : qQ} : qI (w_Mo_ofNode_116 l D d0 B Q) (qR l D (d0 + 1, B) m_Mo_ofNode 116 Q) := sorry
def w_Mo_ofNode_66 (l : Launch) (D : qD) (d0 : Nat) (B : Nat × Nat) (Q : qQ) : qK := (s_iload 1 (s_tbl (0) (8) (List.map (fun t => qR l D (d0 + 1, B) m_Mo_ofNode t Q) [116, 122, 125, 129, 136, 143, 169, 177, 193]) (qR l D (d0 + 1, B) m_Mo_ofNode 216 Q)))
theorem Mo_ofNode_66 {l : Launch} {D : qD} {d0 : Nat} {B : Nat × Nat} {Q : qQ} : qI (w_Mo_ofNode_66 l D d0 B Q) (qR l D (d0 + 1, B) m_Mo_ofNode 66 Q) := sorry
def w_Mo_ofNode_57 (l : Launch) (D : qD) (d0 : Nat) (B : Nat × Nat) (Q : qQ) : qK := (s_iadd (s_istore 4 (s_iinc 5 (1) (qR l D (d0 + 1, B) m_Mo_ofNode 13 Q))))
theorem Mo_ofNode_57 {l : Launch} {D : qD} {d0 : Nat} {B : Nat × Nat} {Q : qQ} : qI (w_Mo_ofNode_57 l D d0 B Q) (qR l D (d0 + 1, B) m_Mo_ofNode 57 Q) := sorry
def w_Mo_ofNode_56 (l : Launch) (D : qD) (d0 : Nat) (B : Nat × Nat) (Q : qQ) : qK := (s_ic (0) (w_Mo_ofNode_57 l D d0 B Q))
theorem Mo_ofNode_56 {l : Launch} {D : qD} {d0 : Nat} {B : Nat × Nat} {Q : qQ} : qI (w_Mo_ofNode_56 l D d0 B Q) (qR l D (d0 + 1, B) m_Mo_ofNode 56 Q) := sorry
def w_Mo_ofNode_38 (l : Launch) (D : qD) (d0 : Nat) (B : Nat × Nat) (Q : qQ) : qK := (s_iadd (s_istore 3 (s_iload 4 (s_aload 0 (s_iload 5 (s_Mo_tail d0 (s_iload 2 (s_icmp_ne (w_Mo_ofNode_56 l D d0 B Q) (s_ic (1) (w_Mo_ofNode_57 l D d0 B Q))))))))))
theorem Mo_ofNode_38 {l : Launch} {D : qD} {d0 : Nat} {B : Nat × Nat} {Q : qQ} : qI (w_Mo_ofNode_38 l D d0 B Q) (qR l D (d0 + 1, B) m_Mo_ofNode 38 Q) := sorry
def w_Mo_ofNode_37 (l : Launch) (D : qD) (d0 : Nat) (B : Nat × Nat) (Q : qQ) : qK := (s_ic (0) (w_Mo_ofNode_38 l D d0 B Q))
theorem Mo_ofNode_37 {l : Launch} {D : qD} {d0 : Nat} {B : Nat × Nat} {Q : qQ} : qI (w_Mo_ofNode_37 l D d0 B Q) (qR l D (d0 + 1, B) m_Mo_ofNode 37 Q) := sorry
def w_Mo_ofNode_13 (l : Launch) (D : qD) (d0 : Nat) (B : Nat × Nat) (Q : qQ) : qK := (s_iload 5 (s_aload 0 (s_Mo_edges d0 (s_icmp_ge (w_Mo_ofNode_66 l D d0 B Q) (s_iload 3 (s_aload 0 (s_iload 5 (s_Mo_head d0 (s_iload 2 (s_icmp_ne (w_Mo_ofNode_37 l D d0 B Q) (s_ic (1) (w_Mo_ofNode_38 l D d0 B Q))))))))))))
theorem Mo_ofNode_13 {l : Launch} {D : qD} {d0 : Nat} {B : Nat × Nat} {Q : qQ} : qI (w_Mo_ofNode_13 l D d0 B Q) (qR l D (d0 + 1, B) m_Mo_ofNode 13 Q) := sorry
def w_Mo_ofNode_0 (l : Launch) (D : qD) (d0 : Nat) (B : Nat × Nat) (Q : qQ) : qK := (s_aload 0 (s_getI 18 165 (s_istore 2 (s_ic (0) (s_istore 3 (s_ic (0) (s_istore 4 (s_ic (0) (s_istore 5 (qR l D (d0 + 1, B) m_Mo_ofNode 13 Q))))))))))
theorem Mo_ofNode_0 {l : Launch} {D : qD} {d0 : Nat} {B : Nat × Nat} {Q : qQ} : qI (w_Mo_ofNode_0 l D d0 B Q) (qR l D (d0 + 1, B) m_Mo_ofNode 0 Q) := sorry
def w_Mo_ofEdgeWord_172 (l : Launch) (D : qD) (d0 : Nat) (B : Nat × Nat) (Q : qQ) : qK := (s_aload 0 (s_iload 2 (s_Mo_one d0 (s_i2l (s_lret Q)))))
theorem Mo_ofEdgeWord_172 {l : Launch} {D : qD} {d0 : Nat} {B : Nat × Nat} {Q : qQ} : qI (w_Mo_ofEdgeWord_172 l D d0 B Q) (qR l D (d0 + 1, B) m_Mo_ofEdgeWord 172 Q) := sorry
def w_Mo_ofEdgeWord_171 (l : Launch) (D : qD) (d0 : Nat) (B : Nat × Nat) (Q : qQ) : qK := (s_lret Q)
theorem Mo_ofEdgeWord_171 {l : Launch} {D : qD} {d0 : Nat} {B : Nat × Nat} {Q : qQ} : qI (w_Mo_ofEdgeWord_171 l D d0 B Q) (qR l D (d0 + 1, B) m_Mo_ofEdgeWord 171 Q) := sorry
def w_Mo_ofEdgeWord_122 (l : Launch) (D : qD) (d0 : Nat) (B : Nat × Nat) (Q : qQ) : qK := (s_aload 0 (s_aload 0 (s_iload 2 (s_Mo_tail d0 (s_Mo_px d0 (s_i2l (s_aload 0 (s_aload 0 (s_iload 2 (s_Mo_head d0 (s_Mo_px d0 (s_i2l (s_lsub (s_Math_abs_1 d0 (s_aload 0 (s_aload 0 (s_iload 2 (s_Mo_tail d0 (s_Mo_py d0 (s_i2l (s_aload 0 (s_aload 0 (s_iload 2 (s_Mo_head d0 (s_Mo_py d0 (s_i2l (s_lsub (s_Math_abs_1 d0 (s_ladd (w_Mo_ofEdgeWord_171 l D d0 B Q))))))))))))))))))))))))))))))
theorem Mo_ofEdgeWord_122 {l : Launch} {D : qD} {d0 : Nat} {B : Nat × Nat} {Q : qQ} : qI (w_Mo_ofEdgeWord_122 l D d0 B Q) (qR l D (d0 + 1, B) m_Mo_ofEdgeWord 122 Q) := sorry
def w_Mo_ofEdgeWord_106 (l : Launch) (D : qD) (d0 : Nat) (B : Nat × Nat) (Q : qQ) : qK := (s_aload 0 (s_getR 18 61 (s_aload 0 (s_getI 18 139 (s_iald (s_if_ge (w_Mo_ofEdgeWord_122 l D d0 B Q) (s_lc 0 (w_Mo_ofEdgeWord_171 l D d0 B Q))))))))
theorem Mo_ofEdgeWord_106 {l : Launch} {D : qD} {d0 : Nat} {B : Nat × Nat} {Q : qQ} : qI (w_Mo_ofEdgeWord_106 l D d0 B Q) (qR l D (d0 + 1, B) m_Mo_ofEdgeWord 106 Q) := sorry
def w_Mo_ofEdgeWord_98 (l : Launch) (D : qD) (d0 : Nat) (B : Nat × Nat) (Q : qQ) : qK := (s_aload 0 (s_getR 18 17 (s_iload 2 (s_iald (s_i2l (s_lret Q))))))
theorem Mo_ofEdgeWord_98 {l : Launch} {D : qD} {d0 : Nat} {B : Nat × Nat} {Q : qQ} : qI (w_Mo_ofEdgeWord_98 l D d0 B Q) (qR l D (d0 + 1, B) m_Mo_ofEdgeWord 98 Q) := sorry
def w_Mo_ofEdgeWord_91 (l : Launch) (D : qD) (d0 : Nat) (B : Nat × Nat) (Q : qQ) : qK := (s_aload 0 (s_iload 2 (s_Mo_head d0 (s_i2l (s_lret Q)))))
theorem Mo_ofEdgeWord_91 {l : Launch} {D : qD} {d0 : Nat} {B : Nat × Nat} {Q : qQ} : qI (w_Mo_ofEdgeWord_91 l D d0 B Q) (qR l D (d0 + 1, B) m_Mo_ofEdgeWord 91 Q) := sorry
def w_Mo_ofEdgeWord_84 (l : Launch) (D : qD) (d0 : Nat) (B : Nat × Nat) (Q : qQ) : qK := (s_aload 0 (s_iload 2 (s_Mo_tail d0 (s_i2l (s_lret Q)))))
theorem Mo_ofEdgeWord_84 {l : Launch} {D : qD} {d0 : Nat} {B : Nat × Nat} {Q : qQ} : qI (w_Mo_ofEdgeWord_84 l D d0 B Q) (qR l D (d0 + 1, B) m_Mo_ofEdgeWord 84 Q) := sorry
def w_Mo_ofEdgeWord_83 (l : Launch) (D : qD) (d0 : Nat) (B : Nat × Nat) (Q : qQ) : qK := (s_lret Q)
theorem Mo_ofEdgeWord_83 {l : Launch} {D : qD} {d0 : Nat} {B : Nat × Nat} {Q : qQ} : qI (w_Mo_ofEdgeWord_83 l D d0 B Q) (qR l D (d0 + 1, B) m_Mo_ofEdgeWord 83 Q) := sorry
def w_Mo_ofEdgeWord_82 (l : Launch) (D : qD) (d0 : Nat) (B : Nat × Nat) (Q : qQ) : qK := (s_lc 0 (w_Mo_ofEdgeWord_83 l D d0 B Q))
theorem Mo_ofEdgeWord_82 {l : Launch} {D : qD} {d0 : Nat} {B : Nat × Nat} {Q : qQ} : qI (w_Mo_ofEdgeWord_82 l D d0 B Q) (qR l D (d0 + 1, B) m_Mo_ofEdgeWord 82 Q) := sorry
def w_Mo_ofEdgeWord_70 (l : Launch) (D : qD) (d0 : Nat) (B : Nat × Nat) (Q : qQ) : qK := (s_aload 0 (s_iload 2 (s_invV l D (d0, 0, 0) 18 m_Mo_isBridge 1 (s_if_eq (w_Mo_ofEdgeWord_82 l D d0 B Q) (s_lc 1 (w_Mo_ofEdgeWord_83 l D d0 B Q))))))
theorem Mo_ofEdgeWord_70 {l : Launch} {D : qD} {d0 : Nat} {B : Nat × Nat} {Q : qQ} : qI (w_Mo_ofEdgeWord_70 l D d0 B Q) (qR l D (d0 + 1, B) m_Mo_ofEdgeWord 70 Q) := sorry
def w_Mo_ofEdgeWord_69 (l : Launch) (D : qD) (d0 : Nat) (B : Nat × Nat) (Q : qQ) : qK := (s_lret Q)
theorem Mo_ofEdgeWord_69 {l : Launch} {D : qD} {d0 : Nat} {B : Nat × Nat} {Q : qQ} : qI (w_Mo_ofEdgeWord_69 l D d0 B Q) (qR l D (d0 + 1, B) m_Mo_ofEdgeWord 69 Q) := sorry
def w_Mo_ofEdgeWord_68 (l : Launch) (D : qD) (d0 : Nat) (B : Nat × Nat) (Q : qQ) : qK := (s_lc 0 (w_Mo_ofEdgeWord_69 l D d0 B Q))
theorem Mo_ofEdgeWord_68 {l : Launch} {D : qD} {d0 : Nat} {B : Nat × Nat} {Q : qQ} : qI (w_Mo_ofEdgeWord_68 l D d0 B Q) (qR l D (d0 + 1, B) m_Mo_ofEdgeWord 68 Q) := sorry
def w_Mo_ofEdgeWord_55 (l : Launch) (D : qD) (d0 : Nat) (B : Nat × Nat) (Q : qQ) : qK := (s_aload 0 (s_getR 18 168 (s_iload 2 (s_bald (s_if_eq (w_Mo_ofEdgeWord_68 l D d0 B Q) (s_lc 1 (w_Mo_ofEdgeWord_69 l D d0 B Q)))))))
theorem Mo_ofEdgeWord_55 {l : Launch} {D : qD} {d0 : Nat} {B : Nat × Nat} {Q : qQ} : qI (w_Mo_ofEdgeWord_55 l D d0 B Q) (qR l D (d0 + 1, B) m_Mo_ofEdgeWord 55 Q) := sorry
def w_Mo_ofEdgeWord_48 (l : Launch) (D : qD) (d0 : Nat) (B : Nat × Nat) (Q : qQ) : qK := (s_aload 0 (s_iload 2 (s_Mo_weight d0 (s_i2l (s_lret Q)))))
theorem Mo_ofEdgeWord_48 {l : Launch} {D : qD} {d0 : Nat} {B : Nat × Nat} {Q : qQ} : qI (w_Mo_ofEdgeWord_48 l D d0 B Q) (qR l D (d0 + 1, B) m_Mo_ofEdgeWord 48 Q) := sorry
def w_Mo_ofEdgeWord_0 (l : Launch) (D : qD) (d0 : Nat) (B : Nat × Nat) (Q : qQ) : qK := (s_aload 0 (s_getI 18 165 (s_istore 2 (s_iload 1 (s_tbl (0) (6) (List.map (fun t => qR l D (d0 + 1, B) m_Mo_ofEdgeWord t Q) [48, 55, 70, 84, 91, 98, 106]) (qR l D (d0 + 1, B) m_Mo_ofEdgeWord 172 Q))))))
theorem Mo_ofEdgeWord_0 {l : Launch} {D : qD} {d0 : Nat} {B : Nat × Nat} {Q : qQ} : qI (w_Mo_ofEdgeWord_0 l D d0 B Q) (qR l D (d0 + 1, B) m_Mo_ofEdgeWord 0 Q) := sorry
def w_Mo_comma_11 (l : Launch) (D : qD) (d0 : Nat) (B : Nat × Nat) (Q : qQ) : qK := (s_aload 0 (s_dup (s_getI 18 158 (s_ic (1) (s_iadd (s_putI 18 158 (s_ic (1) (s_zret Q))))))))
theorem Mo_comma_11 {l : Launch} {D : qD} {d0 : Nat} {B : Nat × Nat} {Q : qQ} : qI (w_Mo_comma_11 l D d0 B Q) (qR l D (d0 + 1, B) m_Mo_comma 11 Q) := sorry
def w_Mo_comma_0 (l : Launch) (D : qD) (d0 : Nat) (B : Nat × Nat) (Q : qQ) : qK := (s_aload 0 (s_ic (44) (s_Mo_styleSign d0 (s_if_ne (w_Mo_comma_11 l D d0 B Q) (s_ic (0) (s_zret Q))))))
theorem Mo_comma_0 {l : Launch} {D : qD} {d0 : Nat} {B : Nat × Nat} {Q : qQ} : qI (w_Mo_comma_0 l D d0 B Q) (qR l D (d0 + 1, B) m_Mo_comma 0 Q) := sorry
def w_Mo_prepare_91 (l : Launch) (D : qD) (d0 : Nat) (B : Nat × Nat) (Q : qQ) : qK := (s_vret Q)
theorem Mo_prepare_91 {l : Launch} {D : qD} {d0 : Nat} {B : Nat × Nat} {Q : qQ} : qI (w_Mo_prepare_91 l D d0 B Q) (qR l D (d0 + 1, B) m_Mo_prepare 91 Q) := sorry
def w_Mo_prepare_79 (l : Launch) (D : qD) (d0 : Nat) (B : Nat × Nat) (Q : qQ) : qK := (s_aload 0 (s_Mo_nodes d0 (s_if_le (w_Mo_prepare_91 l D d0 B Q) (s_aload 0 (s_ic (0) (s_invV l D (d0, 0, 0) 18 m_Mo_farFrom 1 (w_Mo_prepare_91 l D d0 B Q)))))))
theorem Mo_prepare_79 {l : Launch} {D : qD} {d0 : Nat} {B : Nat × Nat} {Q : qQ} : qI (w_Mo_prepare_79 l D d0 B Q) (qR l D (d0 + 1, B) m_Mo_prepare 79 Q) := sorry
def w_Mo_prepare_43 (l : Launch) (D : qD) (d0 : Nat) (B : Nat × Nat) (Q : qQ) : qK := (s_iload 2 (s_aload 0 (s_Mo_nodes d0 (s_icmp_ge (w_Mo_prepare_79 l D d0 B Q) (s_aload 0 (s_getR 18 166 (s_iload 2 (s_aload 0 (s_iload 2 (s_invV l D (d0, 0, 0) 18 m_Mo_blocksOf 1 (s_iast (s_aload 0 (s_getR 18 167 (s_iload 2 (s_aload 0 (s_iload 2 (s_invV l D (d0, 0, 0) 18 m_Mo_core 1 (s_iast (s_iinc 2 (1) (qR l D (d0 + 1, B) m_Mo_prepare 43 Q))))))))))))))))))))
theorem Mo_prepare_43 {l : Launch} {D : qD} {d0 : Nat} {B : Nat × Nat} {Q : qQ} : qI (w_Mo_prepare_43 l D d0 B Q) (qR l D (d0 + 1, B) m_Mo_prepare 43 Q) := sorry
def w_Mo_prepare_32 (l : Launch) (D : qD) (d0 : Nat) (B : Nat × Nat) (Q : qQ) : qK := (s_aload 0 (s_invV l D (d0, 0, 0) 18 m_Mo_plane 0 (s_aload 0 (s_invV l D (d0, 0, 0) 18 m_Mo_blocks 0 (s_istore 1 (s_ic (0) (s_istore 2 (qR l D (d0 + 1, B) m_Mo_prepare 43 Q))))))))
theorem Mo_prepare_32 {l : Launch} {D : qD} {d0 : Nat} {B : Nat × Nat} {Q : qQ} : qI (w_Mo_prepare_32 l D d0 B Q) (qR l D (d0 + 1, B) m_Mo_prepare 32 Q) := sorry
def w_Mo_prepare_6 (l : Launch) (D : qD) (d0 : Nat) (B : Nat × Nat) (Q : qQ) : qK := (s_iload 1 (s_aload 0 (s_Mo_edges d0 (s_icmp_ge (w_Mo_prepare_32 l D d0 B Q) (s_aload 0 (s_getR 18 168 (s_iload 1 (s_aload 0 (s_getR 18 95 (s_iload 1 (s_bald (s_bast (s_iinc 1 (1) (qR l D (d0 + 1, B) m_Mo_prepare 6 Q))))))))))))))
theorem Mo_prepare_6 {l : Launch} {D : qD} {d0 : Nat} {B : Nat × Nat} {Q : qQ} : qI (w_Mo_prepare_6 l D d0 B Q) (qR l D (d0 + 1, B) m_Mo_prepare 6 Q) := sorry
def w_Mo_prepare_0 (l : Launch) (D : qD) (d0 : Nat) (B : Nat × Nat) (Q : qQ) : qK := (s_aload 0 (s_invV l D (d0, 0, 0) 18 m_Mo_turnEdges 0 (s_ic (0) (s_istore 1 (qR l D (d0 + 1, B) m_Mo_prepare 6 Q)))))
theorem Mo_prepare_0 {l : Launch} {D : qD} {d0 : Nat} {B : Nat × Nat} {Q : qQ} : qI (w_Mo_prepare_0 l D d0 B Q) (qR l D (d0 + 1, B) m_Mo_prepare 0 Q) := sorry
def w_Mo_shade_84 (l : Launch) (D : qD) (d0 : Nat) (B : Nat × Nat) (Q : qQ) : qK := (s_iret Q)
theorem Mo_shade_84 {l : Launch} {D : qD} {d0 : Nat} {B : Nat × Nat} {Q : qQ} : qI (w_Mo_shade_84 l D d0 B Q) (qR l D (d0 + 1, B) m_Mo_shade 84 Q) := sorry
def w_Mo_shade_83 (l : Launch) (D : qD) (d0 : Nat) (B : Nat × Nat) (Q : qQ) : qK := (s_ic (-1) (w_Mo_shade_84 l D d0 B Q))
theorem Mo_shade_83 {l : Launch} {D : qD} {d0 : Nat} {B : Nat × Nat} {Q : qQ} : qI (w_Mo_shade_83 l D d0 B Q) (qR l D (d0 + 1, B) m_Mo_shade 83 Q) := sorry
def w_Mo_shade_50 (l : Launch) (D : qD) (d0 : Nat) (B : Nat × Nat) (Q : qQ) : qK := (s_ic (1) (s_isub (s_Mo_in d0 (s_if_eq (w_Mo_shade_83 l D d0 B Q) (s_aload 0 (s_getR 18 73 (s_ic (216) (s_iload 1 (s_imul (s_ic (72) (s_iload 2 (s_imul (s_iadd (s_ic (3) (s_iload 3 (s_imul (s_iadd (s_iload 4 (s_iadd (s_iald (w_Mo_shade_84 l D d0 B Q)))))))))))))))))))))
theorem Mo_shade_50 {l : Launch} {D : qD} {d0 : Nat} {B : Nat × Nat} {Q : qQ} : qI (w_Mo_shade_50 l D d0 B Q) (qR l D (d0 + 1, B) m_Mo_shade 50 Q) := sorry
def w_Mo_shade_46 (l : Launch) (D : qD) (d0 : Nat) (B : Nat × Nat) (Q : qQ) : qK := (s_aload 0 (s_Mo_edges d0 (w_Mo_shade_50 l D d0 B Q)))
theorem Mo_shade_46 {l : Launch} {D : qD} {d0 : Nat} {B : Nat × Nat} {Q : qQ} : qI (w_Mo_shade_46 l D d0 B Q) (qR l D (d0 + 1, B) m_Mo_shade 46 Q) := sorry
def w_Mo_shade_28 (l : Launch) (D : qD) (d0 : Nat) (B : Nat × Nat) (Q : qQ) : qK := (s_aload 0 (s_iload 1 (s_Mo_take d0 (s_iload 3 (s_ic (0) (s_iload 2 (s_if_ne (w_Mo_shade_46 l D d0 B Q) (s_aload 0 (s_Mo_nodes d0 (w_Mo_shade_50 l D d0 B Q))))))))))
theorem Mo_shade_28 {l : Launch} {D : qD} {d0 : Nat} {B : Nat × Nat} {Q : qQ} : qI (w_Mo_shade_28 l D d0 B Q) (qR l D (d0 + 1, B) m_Mo_shade 28 Q) := sorry
def w_Mo_shade_26 (l : Launch) (D : qD) (d0 : Nat) (B : Nat × Nat) (Q : qQ) : qK := (s_ic (-1) (s_iret Q))
theorem Mo_shade_26 {l : Launch} {D : qD} {d0 : Nat} {B : Nat × Nat} {Q : qQ} : qI (w_Mo_shade_26 l D d0 B Q) (qR l D (d0 + 1, B) m_Mo_shade 26 Q) := sorry
def w_Mo_shade_0 (l : Launch) (D : qD) (d0 : Nat) (B : Nat × Nat) (Q : qQ) : qK := (s_iload 1 (s_Mo_isPlace d0 (s_if_eq (w_Mo_shade_26 l D d0 B Q) (s_iload 2 (s_ic (0) (s_ic (1) (s_Mo_in d0 (s_if_eq (w_Mo_shade_26 l D d0 B Q) (s_iload 4 (s_ic (0) (s_ic (2) (s_Mo_in d0 (s_if_ne (w_Mo_shade_28 l D d0 B Q) (w_Mo_shade_26 l D d0 B Q))))))))))))))
theorem Mo_shade_0 {l : Launch} {D : qD} {d0 : Nat} {B : Nat × Nat} {Q : qQ} : qI (w_Mo_shade_0 l D d0 B Q) (qR l D (d0 + 1, B) m_Mo_shade 0 Q) := sorry
def w_Mo_text_109 (l : Launch) (D : qD) (d0 : Nat) (B : Nat × Nat) (Q : qQ) : qK := (s_aload 0 (s_getI 18 170 (s_iret Q)))
theorem Mo_text_109 {l : Launch} {D : qD} {d0 : Nat} {B : Nat × Nat} {Q : qQ} : qI (w_Mo_text_109 l D d0 B Q) (qR l D (d0 + 1, B) m_Mo_text 109 Q) := sorry
def w_Mo_text_83 (l : Launch) (D : qD) (d0 : Nat) (B : Nat × Nat) (Q : qQ) : qK := (s_iload 3 (s_aload 0 (s_getI 18 170 (s_icmp_ge (w_Mo_text_109 l D d0 B Q) (s_aload 0 (s_getR 18 171 (s_iload 3 (s_aload 0 (s_getR 18 172 (s_iload 3 (s_bald (s_bast (s_iinc 3 (1) (qR l D (d0 + 1, B) m_Mo_text 83 Q))))))))))))))
theorem Mo_text_83 {l : Launch} {D : qD} {d0 : Nat} {B : Nat × Nat} {Q : qQ} : qI (w_Mo_text_83 l D d0 B Q) (qR l D (d0 + 1, B) m_Mo_text 83 Q) := sorry
def w_Mo_text_73 (l : Launch) (D : qD) (d0 : Nat) (B : Nat × Nat) (Q : qQ) : qK := (s_aload 0 (s_aload 0 (s_getI 18 170 (s_putI 18 169 (s_ic (0) (s_istore 3 (qR l D (d0 + 1, B) m_Mo_text 83 Q)))))))
theorem Mo_text_73 {l : Launch} {D : qD} {d0 : Nat} {B : Nat × Nat} {Q : qQ} : qI (w_Mo_text_73 l D d0 B Q) (qR l D (d0 + 1, B) m_Mo_text 73 Q) := sorry
def w_Mo_text_61 (l : Launch) (D : qD) (d0 : Nat) (B : Nat × Nat) (Q : qQ) : qK := (s_aload 0 (s_getI 18 170 (s_ic (4000) (s_icmp_le (w_Mo_text_73 l D d0 B Q) (s_ic (-1) (s_iret Q))))))
theorem Mo_text_61 {l : Launch} {D : qD} {d0 : Nat} {B : Nat × Nat} {Q : qQ} : qI (w_Mo_text_61 l D d0 B Q) (qR l D (d0 + 1, B) m_Mo_text 61 Q) := sorry
def w_Mo_text_57 (l : Launch) (D : qD) (d0 : Nat) (B : Nat × Nat) (Q : qQ) : qK := (s_aload 0 (s_invV l D (d0, 0, 0) 18 m_Mo_writeDrawing 0 (w_Mo_text_61 l D d0 B Q)))
theorem Mo_text_57 {l : Launch} {D : qD} {d0 : Nat} {B : Nat × Nat} {Q : qQ} : qI (w_Mo_text_57 l D d0 B Q) (qR l D (d0 + 1, B) m_Mo_text 57 Q) := sorry
def w_Mo_text_31 (l : Launch) (D : qD) (d0 : Nat) (B : Nat × Nat) (Q : qQ) : qK := (s_aload 0 (s_iload 1 (s_Mo_take d0 (s_aload 0 (s_ic (0) (s_putI 18 170 (s_iload 2 (s_if_ne (w_Mo_text_57 l D d0 B Q) (s_aload 0 (s_ic (0) (s_invV l D (d0, 0, 0) 18 m_Mo_writeGroup 1 (s_aload 0 (s_invV l D (d0, 0, 0) 18 m_Mo_writeEdges 0 (w_Mo_text_61 l D d0 B Q))))))))))))))
theorem Mo_text_31 {l : Launch} {D : qD} {d0 : Nat} {B : Nat × Nat} {Q : qQ} : qI (w_Mo_text_31 l D d0 B Q) (qR l D (d0 + 1, B) m_Mo_text 31 Q) := sorry
def w_Mo_text_29 (l : Launch) (D : qD) (d0 : Nat) (B : Nat × Nat) (Q : qQ) : qK := (s_ic (-1) (s_iret Q))
theorem Mo_text_29 {l : Launch} {D : qD} {d0 : Nat} {B : Nat × Nat} {Q : qQ} : qI (w_Mo_text_29 l D d0 B Q) (qR l D (d0 + 1, B) m_Mo_text 29 Q) := sorry
def w_Mo_text_0 (l : Launch) (D : qD) (d0 : Nat) (B : Nat × Nat) (Q : qQ) : qK := (s_iload 1 (s_Mo_isPlace d0 (s_if_eq (w_Mo_text_29 l D d0 B Q) (s_iload 2 (s_ic (0) (s_ic (1) (s_Mo_in d0 (s_if_eq (w_Mo_text_29 l D d0 B Q) (s_iload 2 (s_ic (1) (s_icmp_ne (w_Mo_text_31 l D d0 B Q) (s_aload 0 (s_iload 1 (s_invV l D (d0, 0, 0) 18 m_Mo_isDrawn 1 (s_if_ne (w_Mo_text_31 l D d0 B Q) (w_Mo_text_29 l D d0 B Q))))))))))))))))
theorem Mo_text_0 {l : Launch} {D : qD} {d0 : Nat} {B : Nat × Nat} {Q : qQ} : qI (w_Mo_text_0 l D d0 B Q) (qR l D (d0 + 1, B) m_Mo_text 0 Q) := sorry
def w_Mo_writeNode_0 (l : Launch) (D : qD) (d0 : Nat) (B : Nat × Nat) (Q : qQ) : qK := (s_aload 0 (s_aload 0 (s_getI 18 5 (s_ic (3) (s_iadd (s_ic (8) (s_iload 1 (s_imul (s_iadd (s_aload 0 (s_iload 1 (s_Mo_longOf d0 (s_invV l D (d0, 0, 0) 18 m_Mo_writeName 2 (s_vret Q))))))))))))))
theorem Mo_writeNode_0 {l : Launch} {D : qD} {d0 : Nat} {B : Nat × Nat} {Q : qQ} : qI (w_Mo_writeNode_0 l D d0 B Q) (qR l D (d0 + 1, B) m_Mo_writeNode 0 Q) := sorry
def w_Mo_writeName_25 (l : Launch) (D : qD) (d0 : Nat) (B : Nat × Nat) (Q : qQ) : qK := (s_vret Q)
theorem Mo_writeName_25 {l : Launch} {D : qD} {d0 : Nat} {B : Nat × Nat} {Q : qQ} : qI (w_Mo_writeName_25 l D d0 B Q) (qR l D (d0 + 1, B) m_Mo_writeName 25 Q) := sorry
def w_Mo_writeName_2 (l : Launch) (D : qD) (d0 : Nat) (B : Nat × Nat) (Q : qQ) : qK := (s_iload 3 (s_iload 2 (s_icmp_ge (w_Mo_writeName_25 l D d0 B Q) (s_aload 0 (s_aload 0 (s_getR 18 2 (s_iload 1 (s_iload 3 (s_iadd (s_iald (s_Mo_write_1 d0 (s_iinc 3 (1) (qR l D (d0 + 1, B) m_Mo_writeName 2 Q)))))))))))))
theorem Mo_writeName_2 {l : Launch} {D : qD} {d0 : Nat} {B : Nat × Nat} {Q : qQ} : qI (w_Mo_writeName_2 l D d0 B Q) (qR l D (d0 + 1, B) m_Mo_writeName 2 Q) := sorry
def w_Mo_writeName_0 (l : Launch) (D : qD) (d0 : Nat) (B : Nat × Nat) (Q : qQ) : qK := (s_ic (0) (s_istore 3 (qR l D (d0 + 1, B) m_Mo_writeName 2 Q)))
theorem Mo_writeName_0 {l : Launch} {D : qD} {d0 : Nat} {B : Nat × Nat} {Q : qQ} : qI (w_Mo_writeName_0 l D d0 B Q) (qR l D (d0 + 1, B) m_Mo_writeName 0 Q) := sorry
def w_Mo_writeNumber_83 (l : Launch) (D : qD) (d0 : Nat) (B : Nat × Nat) (Q : qQ) : qK := (s_vret Q)
theorem Mo_writeNumber_83 {l : Launch} {D : qD} {d0 : Nat} {B : Nat × Nat} {Q : qQ} : qI (w_Mo_writeNumber_83 l D d0 B Q) (qR l D (d0 + 1, B) m_Mo_writeNumber 83 Q) := sorry
def w_Mo_writeNumber_48 (l : Launch) (D : qD) (d0 : Nat) (B : Nat × Nat) (Q : qQ) : qK := (s_lload 4 (s_lc 0 (s_lcmp (s_if_le (w_Mo_writeNumber_83 l D d0 B Q) (s_aload 0 (s_lc (48) (s_lload 2 (s_lload 4 (s_ldiv (s_lc (10) (s_lrem (s_ladd (s_l2i (s_Mo_write_1 d0 (s_lload 4 (s_lc (10) (s_ldiv (s_lstore 4 (qR l D (d0 + 1, B) m_Mo_writeNumber 48 Q)))))))))))))))))))
theorem Mo_writeNumber_48 {l : Launch} {D : qD} {d0 : Nat} {B : Nat × Nat} {Q : qQ} : qI (w_Mo_writeNumber_48 l D d0 B Q) (qR l D (d0 + 1, B) m_Mo_writeNumber 48 Q) := sorry
def w_Mo_writeNumber_26 (l : Launch) (D : qD) (d0 : Nat) (B : Nat × Nat) (Q : qQ) : qK := (s_lload 2 (s_lload 4 (s_ldiv (s_lc (9) (s_lcmp (s_if_le (qR l D (d0 + 1, B) m_Mo_writeNumber 48 Q) (s_lload 4 (s_lc (10) (s_lmul (s_lstore 4 (qR l D (d0 + 1, B) m_Mo_writeNumber 26 Q)))))))))))
theorem Mo_writeNumber_26 {l : Launch} {D : qD} {d0 : Nat} {B : Nat × Nat} {Q : qQ} : qI (w_Mo_writeNumber_26 l D d0 B Q) (qR l D (d0 + 1, B) m_Mo_writeNumber 26 Q) := sorry
def w_Mo_writeNumber_23 (l : Launch) (D : qD) (d0 : Nat) (B : Nat × Nat) (Q : qQ) : qK := (s_lc 1 (s_lstore 4 (qR l D (d0 + 1, B) m_Mo_writeNumber 26 Q)))
theorem Mo_writeNumber_23 {l : Launch} {D : qD} {d0 : Nat} {B : Nat × Nat} {Q : qQ} : qI (w_Mo_writeNumber_23 l D d0 B Q) (qR l D (d0 + 1, B) m_Mo_writeNumber 23 Q) := sorry
def w_Mo_writeNumber_12 (l : Launch) (D : qD) (d0 : Nat) (B : Nat × Nat) (Q : qQ) : qK := (s_lstore 2 (s_iload 1 (s_if_ge (w_Mo_writeNumber_23 l D d0 B Q) (s_aload 0 (s_ic (45) (s_Mo_write_1 d0 (w_Mo_writeNumber_23 l D d0 B Q)))))))
theorem Mo_writeNumber_12 {l : Launch} {D : qD} {d0 : Nat} {B : Nat × Nat} {Q : qQ} : qI (w_Mo_writeNumber_12 l D d0 B Q) (qR l D (d0 + 1, B) m_Mo_writeNumber 12 Q) := sorry
def w_Mo_writeNumber_10 (l : Launch) (D : qD) (d0 : Nat) (B : Nat × Nat) (Q : qQ) : qK := (s_iload 1 (s_i2l (w_Mo_writeNumber_12 l D d0 B Q)))
theorem Mo_writeNumber_10 {l : Launch} {D : qD} {d0 : Nat} {B : Nat × Nat} {Q : qQ} : qI (w_Mo_writeNumber_10 l D d0 B Q) (qR l D (d0 + 1, B) m_Mo_writeNumber 10 Q) := sorry
def w_Mo_writeNumber_0 (l : Launch) (D : qD) (d0 : Nat) (B : Nat × Nat) (Q : qQ) : qK := (s_iload 1 (s_if_ge (w_Mo_writeNumber_10 l D d0 B Q) (s_iload 1 (s_i2l (s_lneg (w_Mo_writeNumber_12 l D d0 B Q))))))
theorem Mo_writeNumber_0 {l : Launch} {D : qD} {d0 : Nat} {B : Nat × Nat} {Q : qQ} : qI (w_Mo_writeNumber_0 l D d0 B Q) (qR l D (d0 + 1, B) m_Mo_writeNumber 0 Q) := sorry
def w_Mo_writeDrawing_154 (l : Launch) (D : qD) (d0 : Nat) (B : Nat × Nat) (Q : qQ) : qK := (s_vret Q)
theorem Mo_writeDrawing_154 {l : Launch} {D : qD} {d0 : Nat} {B : Nat × Nat} {Q : qQ} : qI (w_Mo_writeDrawing_154 l D d0 B Q) (qR l D (d0 + 1, B) m_Mo_writeDrawing 154 Q) := sorry
def w_Mo_writeDrawing_142 (l : Launch) (D : qD) (d0 : Nat) (B : Nat × Nat) (Q : qQ) : qK := (s_aload 0 (s_ic (10) (s_Mo_write_1 d0 (s_iinc 1 (1) (qR l D (d0 + 1, B) m_Mo_writeDrawing 59 Q)))))
theorem Mo_writeDrawing_142 {l : Launch} {D : qD} {d0 : Nat} {B : Nat × Nat} {Q : qQ} : qI (w_Mo_writeDrawing_142 l D d0 B Q) (qR l D (d0 + 1, B) m_Mo_writeDrawing 142 Q) := sorry
def w_Mo_writeDrawing_93 (l : Launch) (D : qD) (d0 : Nat) (B : Nat × Nat) (Q : qQ) : qK := (s_iload 2 (s_ic (1) (s_iadd (s_aload 0 (s_iload 1 (s_Mo_pointsOf d0 (s_icmp_ge (w_Mo_writeDrawing_142 l D d0 B Q) (s_aload 0 (s_ic (32) (s_Mo_write_1 d0 (s_aload 0 (s_aload 0 (s_iload 1 (s_iload 2 (s_Mo_ex d0 (s_invV l D (d0, 0, 0) 18 m_Mo_writeNumber 1 (s_aload 0 (s_ic (32) (s_Mo_write_1 d0 (s_aload 0 (s_aload 0 (s_iload 1 (s_iload 2 (s_Mo_ey d0 (s_invV l D (d0, 0, 0) 18 m_Mo_writeNumber 1 (s_iinc 2 (1) (qR l D (d0 + 1, B) m_Mo_writeDrawing 93 Q)))))))))))))))))))))))))))
theorem Mo_writeDrawing_93 {l : Launch} {D : qD} {d0 : Nat} {B : Nat × Nat} {Q : qQ} : qI (w_Mo_writeDrawing_93 l D d0 B Q) (qR l D (d0 + 1, B) m_Mo_writeDrawing 93 Q) := sorry
def w_Mo_writeDrawing_59 (l : Launch) (D : qD) (d0 : Nat) (B : Nat × Nat) (Q : qQ) : qK := (s_iload 1 (s_aload 0 (s_Mo_edges d0 (s_icmp_ge (w_Mo_writeDrawing_154 l D d0 B Q) (s_aload 0 (s_aload 0 (s_iload 1 (s_Mo_tail d0 (s_invV l D (d0, 0, 0) 18 m_Mo_writeNumber 1 (s_aload 0 (s_ic (32) (s_Mo_write_1 d0 (s_aload 0 (s_aload 0 (s_iload 1 (s_Mo_head d0 (s_invV l D (d0, 0, 0) 18 m_Mo_writeNumber 1 (s_ic (1) (s_istore 2 (qR l D (d0 + 1, B) m_Mo_writeDrawing 93 Q))))))))))))))))))))
theorem Mo_writeDrawing_59 {l : Launch} {D : qD} {d0 : Nat} {B : Nat × Nat} {Q : qQ} : qI (w_Mo_writeDrawing_59 l D d0 B Q) (qR l D (d0 + 1, B) m_Mo_writeDrawing 59 Q) := sorry
def w_Mo_writeDrawing_57 (l : Launch) (D : qD) (d0 : Nat) (B : Nat × Nat) (Q : qQ) : qK := (s_ic (0) (s_istore 1 (qR l D (d0 + 1, B) m_Mo_writeDrawing 59 Q)))
theorem Mo_writeDrawing_57 {l : Launch} {D : qD} {d0 : Nat} {B : Nat × Nat} {Q : qQ} : qI (w_Mo_writeDrawing_57 l D d0 B Q) (qR l D (d0 + 1, B) m_Mo_writeDrawing 57 Q) := sorry
def w_Mo_writeDrawing_2 (l : Launch) (D : qD) (d0 : Nat) (B : Nat × Nat) (Q : qQ) : qK := (s_iload 1 (s_aload 0 (s_Mo_nodes d0 (s_icmp_ge (w_Mo_writeDrawing_57 l D d0 B Q) (s_aload 0 (s_iload 1 (s_invV l D (d0, 0, 0) 18 m_Mo_writeNode 1 (s_aload 0 (s_ic (32) (s_Mo_write_1 d0 (s_aload 0 (s_aload 0 (s_iload 1 (s_Mo_px d0 (s_invV l D (d0, 0, 0) 18 m_Mo_writeNumber 1 (s_aload 0 (s_ic (32) (s_Mo_write_1 d0 (s_aload 0 (s_aload 0 (s_iload 1 (s_Mo_py d0 (s_invV l D (d0, 0, 0) 18 m_Mo_writeNumber 1 (s_aload 0 (s_ic (10) (s_Mo_write_1 d0 (s_iinc 1 (1) (qR l D (d0 + 1, B) m_Mo_writeDrawing 2 Q))))))))))))))))))))))))))))
theorem Mo_writeDrawing_2 {l : Launch} {D : qD} {d0 : Nat} {B : Nat × Nat} {Q : qQ} : qI (w_Mo_writeDrawing_2 l D d0 B Q) (qR l D (d0 + 1, B) m_Mo_writeDrawing 2 Q) := sorry
def w_Mo_writeDrawing_0 (l : Launch) (D : qD) (d0 : Nat) (B : Nat × Nat) (Q : qQ) : qK := (s_ic (0) (s_istore 1 (qR l D (d0 + 1, B) m_Mo_writeDrawing 2 Q)))
theorem Mo_writeDrawing_0 {l : Launch} {D : qD} {d0 : Nat} {B : Nat × Nat} {Q : qQ} : qI (w_Mo_writeDrawing_0 l D d0 B Q) (qR l D (d0 + 1, B) m_Mo_writeDrawing 0 Q) := sorry
def w_Mo_dots_293 (l : Launch) (D : qD) (d0 : Nat) (B : Nat × Nat) (Q : qQ) : qK := (s_iload 4 (s_iret Q))
theorem Mo_dots_293 {l : Launch} {D : qD} {d0 : Nat} {B : Nat × Nat} {Q : qQ} : qI (w_Mo_dots_293 l D d0 B Q) (qR l D (d0 + 1, B) m_Mo_dots 293 Q) := sorry
def w_Mo_dots_284 (l : Launch) (D : qD) (d0 : Nat) (B : Nat × Nat) (Q : qQ) : qK := (s_iadd (s_istore 4 (s_iinc 5 (1) (qR l D (d0 + 1, B) m_Mo_dots 259 Q))))
theorem Mo_dots_284 {l : Launch} {D : qD} {d0 : Nat} {B : Nat × Nat} {Q : qQ} : qI (w_Mo_dots_284 l D d0 B Q) (qR l D (d0 + 1, B) m_Mo_dots 284 Q) := sorry
def w_Mo_dots_283 (l : Launch) (D : qD) (d0 : Nat) (B : Nat × Nat) (Q : qQ) : qK := (s_ic (0) (w_Mo_dots_284 l D d0 B Q))
theorem Mo_dots_283 {l : Launch} {D : qD} {d0 : Nat} {B : Nat × Nat} {Q : qQ} : qI (w_Mo_dots_283 l D d0 B Q) (qR l D (d0 + 1, B) m_Mo_dots 283 Q) := sorry
def w_Mo_dots_259 (l : Launch) (D : qD) (d0 : Nat) (B : Nat × Nat) (Q : qQ) : qK := (s_iload 5 (s_ic (4096) (s_icmp_ge (w_Mo_dots_293 l D d0 B Q) (s_iload 4 (s_aload 0 (s_getR 18 175 (s_iload 5 (s_iald (s_if_eq (w_Mo_dots_283 l D d0 B Q) (s_ic (1) (w_Mo_dots_284 l D d0 B Q)))))))))))
theorem Mo_dots_259 {l : Launch} {D : qD} {d0 : Nat} {B : Nat × Nat} {Q : qQ} : qI (w_Mo_dots_259 l D d0 B Q) (qR l D (d0 + 1, B) m_Mo_dots 259 Q) := sorry
def w_Mo_dots_253 (l : Launch) (D : qD) (d0 : Nat) (B : Nat × Nat) (Q : qQ) : qK := (s_ic (0) (s_istore 4 (s_ic (0) (s_istore 5 (qR l D (d0 + 1, B) m_Mo_dots 259 Q)))))
theorem Mo_dots_253 {l : Launch} {D : qD} {d0 : Nat} {B : Nat × Nat} {Q : qQ} : qI (w_Mo_dots_253 l D d0 B Q) (qR l D (d0 + 1, B) m_Mo_dots 253 Q) := sorry
def w_Mo_dots_188 (l : Launch) (D : qD) (d0 : Nat) (B : Nat × Nat) (Q : qQ) : qK := (s_iload 4 (s_aload 0 (s_Mo_nodes d0 (s_icmp_ge (w_Mo_dots_253 l D d0 B Q) (s_aload 0 (s_getR 18 175 (s_ic (64) (s_aload 0 (s_aload 0 (s_iload 4 (s_Mo_py d0 (s_invV l D (d0, 0, 0) 18 m_Mo_dotY 1 (s_imul (s_aload 0 (s_aload 0 (s_iload 4 (s_Mo_px d0 (s_invV l D (d0, 0, 0) 18 m_Mo_dotX 1 (s_iadd (s_ic (128) (s_aload 0 (s_getR 18 73 (s_ic (216) (s_iload 1 (s_imul (s_ic (3) (s_iload 4 (s_imul (s_iadd (s_iald (s_ic (2) (s_idiv (s_iadd (s_iast (s_iinc 4 (1) (qR l D (d0 + 1, B) m_Mo_dots 188 Q))))))))))))))))))))))))))))))))))))
theorem Mo_dots_188 {l : Launch} {D : qD} {d0 : Nat} {B : Nat × Nat} {Q : qQ} : qI (w_Mo_dots_188 l D d0 B Q) (qR l D (d0 + 1, B) m_Mo_dots 188 Q) := sorry
def w_Mo_dots_185 (l : Launch) (D : qD) (d0 : Nat) (B : Nat × Nat) (Q : qQ) : qK := (s_ic (0) (s_istore 4 (qR l D (d0 + 1, B) m_Mo_dots 188 Q)))
theorem Mo_dots_185 {l : Launch} {D : qD} {d0 : Nat} {B : Nat × Nat} {Q : qQ} : qI (w_Mo_dots_185 l D d0 B Q) (qR l D (d0 + 1, B) m_Mo_dots 185 Q) := sorry
def w_Mo_dots_179 (l : Launch) (D : qD) (d0 : Nat) (B : Nat × Nat) (Q : qQ) : qK := (s_iinc 4 (1) (qR l D (d0 + 1, B) m_Mo_dots 72 Q))
theorem Mo_dots_179 {l : Launch} {D : qD} {d0 : Nat} {B : Nat × Nat} {Q : qQ} : qI (w_Mo_dots_179 l D d0 B Q) (qR l D (d0 + 1, B) m_Mo_dots 179 Q) := sorry
def w_Mo_dots_84 (l : Launch) (D : qD) (d0 : Nat) (B : Nat × Nat) (Q : qQ) : qK := (s_iload 5 (s_ic (1) (s_iadd (s_aload 0 (s_iload 4 (s_Mo_pointsOf d0 (s_icmp_ge (w_Mo_dots_179 l D d0 B Q) (s_aload 0 (s_aload 0 (s_aload 0 (s_iload 4 (s_iload 5 (s_Mo_ex d0 (s_invV l D (d0, 0, 0) 18 m_Mo_dotX 1 (s_aload 0 (s_aload 0 (s_iload 4 (s_iload 5 (s_Mo_ey d0 (s_invV l D (d0, 0, 0) 18 m_Mo_dotY 1 (s_aload 0 (s_aload 0 (s_iload 4 (s_iload 5 (s_ic (1) (s_iadd (s_Mo_ex d0 (s_invV l D (d0, 0, 0) 18 m_Mo_dotX 1 (s_aload 0 (s_aload 0 (s_iload 4 (s_iload 5 (s_ic (1) (s_iadd (s_Mo_ey d0 (s_invV l D (d0, 0, 0) 18 m_Mo_dotY 1 (s_ic (1) (s_aload 0 (s_getR 18 73 (s_ic (216) (s_iload 1 (s_imul (s_ic (72) (s_iadd (s_ic (3) (s_iload 4 (s_imul (s_iadd (s_iald (s_iadd (s_invV l D (d0, 0, 0) 18 m_Mo_dotLine 5 (s_iinc 5 (1) (qR l D (d0 + 1, B) m_Mo_dots 84 Q)))))))))))))))))))))))))))))))))))))))))))))))))))))
theorem Mo_dots_84 {l : Launch} {D : qD} {d0 : Nat} {B : Nat × Nat} {Q : qQ} : qI (w_Mo_dots_84 l D d0 B Q) (qR l D (d0 + 1, B) m_Mo_dots 84 Q) := sorry
def w_Mo_dots_72 (l : Launch) (D : qD) (d0 : Nat) (B : Nat × Nat) (Q : qQ) : qK := (s_iload 4 (s_aload 0 (s_Mo_edges d0 (s_icmp_ge (w_Mo_dots_185 l D d0 B Q) (s_ic (0) (s_istore 5 (qR l D (d0 + 1, B) m_Mo_dots 84 Q)))))))
theorem Mo_dots_72 {l : Launch} {D : qD} {d0 : Nat} {B : Nat × Nat} {Q : qQ} : qI (w_Mo_dots_72 l D d0 B Q) (qR l D (d0 + 1, B) m_Mo_dots 72 Q) := sorry
def w_Mo_dots_69 (l : Launch) (D : qD) (d0 : Nat) (B : Nat × Nat) (Q : qQ) : qK := (s_ic (0) (s_istore 4 (qR l D (d0 + 1, B) m_Mo_dots 72 Q)))
theorem Mo_dots_69 {l : Launch} {D : qD} {d0 : Nat} {B : Nat × Nat} {Q : qQ} : qI (w_Mo_dots_69 l D d0 B Q) (qR l D (d0 + 1, B) m_Mo_dots 69 Q) := sorry
def w_Mo_dots_47 (l : Launch) (D : qD) (d0 : Nat) (B : Nat × Nat) (Q : qQ) : qK := (s_iload 4 (s_ic (4096) (s_icmp_ge (w_Mo_dots_69 l D d0 B Q) (s_aload 0 (s_getR 18 175 (s_iload 4 (s_ic (0) (s_iast (s_iinc 4 (1) (qR l D (d0 + 1, B) m_Mo_dots 47 Q))))))))))
theorem Mo_dots_47 {l : Launch} {D : qD} {d0 : Nat} {B : Nat × Nat} {Q : qQ} : qI (w_Mo_dots_47 l D d0 B Q) (qR l D (d0 + 1, B) m_Mo_dots 47 Q) := sorry
def w_Mo_dots_30 (l : Launch) (D : qD) (d0 : Nat) (B : Nat × Nat) (Q : qQ) : qK := (s_aload 0 (s_iload 2 (s_putI 18 173 (s_aload 0 (s_iload 3 (s_putI 18 174 (s_aload 0 (s_invV l D (d0, 0, 0) 18 m_Mo_bounds 0 (s_ic (0) (s_istore 4 (qR l D (d0 + 1, B) m_Mo_dots 47 Q)))))))))))
theorem Mo_dots_30 {l : Launch} {D : qD} {d0 : Nat} {B : Nat × Nat} {Q : qQ} : qI (w_Mo_dots_30 l D d0 B Q) (qR l D (d0 + 1, B) m_Mo_dots 30 Q) := sorry
def w_Mo_dots_28 (l : Launch) (D : qD) (d0 : Nat) (B : Nat × Nat) (Q : qQ) : qK := (s_ic (-1) (s_iret Q))
theorem Mo_dots_28 {l : Launch} {D : qD} {d0 : Nat} {B : Nat × Nat} {Q : qQ} : qI (w_Mo_dots_28 l D d0 B Q) (qR l D (d0 + 1, B) m_Mo_dots 28 Q) := sorry
def w_Mo_dots_0 (l : Launch) (D : qD) (d0 : Nat) (B : Nat × Nat) (Q : qQ) : qK := (s_aload 0 (s_iload 1 (s_invV l D (d0, 0, 0) 18 m_Mo_isDrawn 1 (s_if_eq (w_Mo_dots_28 l D d0 B Q) (s_iload 2 (s_ic (1) (s_ic (64) (s_Mo_in d0 (s_if_eq (w_Mo_dots_28 l D d0 B Q) (s_iload 3 (s_ic (1) (s_ic (64) (s_Mo_in d0 (s_if_ne (w_Mo_dots_30 l D d0 B Q) (w_Mo_dots_28 l D d0 B Q)))))))))))))))
theorem Mo_dots_0 {l : Launch} {D : qD} {d0 : Nat} {B : Nat × Nat} {Q : qQ} : qI (w_Mo_dots_0 l D d0 B Q) (qR l D (d0 + 1, B) m_Mo_dots 0 Q) := sorry
def w_Mo_dotX_0 (l : Launch) (D : qD) (d0 : Nat) (B : Nat × Nat) (Q : qQ) : qK := (s_iload 1 (s_i2l (s_aload 0 (s_getI 18 153 (s_i2l (s_lsub (s_aload 0 (s_getI 18 173 (s_ic (1) (s_isub (s_i2l (s_lmul (s_lc 1 (s_aload 0 (s_getI 18 154 (s_i2l (s_aload 0 (s_getI 18 153 (s_i2l (s_lsub (s_Math_max_1 d0 (s_ldiv (s_l2i (s_iret Q))))))))))))))))))))))))
theorem Mo_dotX_0 {l : Launch} {D : qD} {d0 : Nat} {B : Nat × Nat} {Q : qQ} : qI (w_Mo_dotX_0 l D d0 B Q) (qR l D (d0 + 1, B) m_Mo_dotX 0 Q) := sorry
def w_Mo_dotY_0 (l : Launch) (D : qD) (d0 : Nat) (B : Nat × Nat) (Q : qQ) : qK := (s_iload 1 (s_i2l (s_aload 0 (s_getI 18 155 (s_i2l (s_lsub (s_aload 0 (s_getI 18 174 (s_ic (1) (s_isub (s_i2l (s_lmul (s_lc 1 (s_aload 0 (s_getI 18 156 (s_i2l (s_aload 0 (s_getI 18 155 (s_i2l (s_lsub (s_Math_max_1 d0 (s_ldiv (s_l2i (s_iret Q))))))))))))))))))))))))
theorem Mo_dotY_0 {l : Launch} {D : qD} {d0 : Nat} {B : Nat × Nat} {Q : qQ} : qI (w_Mo_dotY_0 l D d0 B Q) (qR l D (d0 + 1, B) m_Mo_dotY 0 Q) := sorry
def w_Mo_dotLine_119 (l : Launch) (D : qD) (d0 : Nat) (B : Nat × Nat) (Q : qQ) : qK := (s_vret Q)
theorem Mo_dotLine_119 {l : Launch} {D : qD} {d0 : Nat} {B : Nat × Nat} {Q : qQ} : qI (w_Mo_dotLine_119 l D d0 B Q) (qR l D (d0 + 1, B) m_Mo_dotLine 119 Q) := sorry
def w_Mo_dotLine_96 (l : Launch) (D : qD) (d0 : Nat) (B : Nat × Nat) (Q : qQ) : qK := (s_istore 9 (s_aload 0 (s_getR 18 175 (s_ic (64) (s_iload 9 (s_imul (s_iload 8 (s_iadd (s_iload 5 (s_iast (s_iinc 7 (1) (qR l D (d0 + 1, B) m_Mo_dotLine 28 Q))))))))))))
theorem Mo_dotLine_96 {l : Launch} {D : qD} {d0 : Nat} {B : Nat × Nat} {Q : qQ} : qI (w_Mo_dotLine_96 l D d0 B Q) (qR l D (d0 + 1, B) m_Mo_dotLine 96 Q) := sorry
def w_Mo_dotLine_75 (l : Launch) (D : qD) (d0 : Nat) (B : Nat × Nat) (Q : qQ) : qK := (s_iload 2 (s_ic (2) (s_iload 7 (s_imul (s_iload 4 (s_iload 2 (s_isub (s_imul (s_iload 6 (s_iadd (s_ic (2) (s_iload 6 (s_imul (s_invS l D (d0, 0, 0) m_Math_floorDiv_0 2 (s_iadd (w_Mo_dotLine_96 l D d0 B Q))))))))))))))))
theorem Mo_dotLine_75 {l : Launch} {D : qD} {d0 : Nat} {B : Nat × Nat} {Q : qQ} : qI (w_Mo_dotLine_75 l D d0 B Q) (qR l D (d0 + 1, B) m_Mo_dotLine 75 Q) := sorry
def w_Mo_dotLine_64 (l : Launch) (D : qD) (d0 : Nat) (B : Nat × Nat) (Q : qQ) : qK := (s_istore 8 (s_iload 6 (s_if_ne (w_Mo_dotLine_75 l D d0 B Q) (s_iload 2 (w_Mo_dotLine_96 l D d0 B Q)))))
theorem Mo_dotLine_64 {l : Launch} {D : qD} {d0 : Nat} {B : Nat × Nat} {Q : qQ} : qI (w_Mo_dotLine_64 l D d0 B Q) (qR l D (d0 + 1, B) m_Mo_dotLine 64 Q) := sorry
def w_Mo_dotLine_44 (l : Launch) (D : qD) (d0 : Nat) (B : Nat × Nat) (Q : qQ) : qK := (s_iload 1 (s_ic (2) (s_iload 7 (s_imul (s_iload 3 (s_iload 1 (s_isub (s_imul (s_iload 6 (s_iadd (s_ic (2) (s_iload 6 (s_imul (s_invS l D (d0, 0, 0) m_Math_floorDiv_0 2 (s_iadd (w_Mo_dotLine_64 l D d0 B Q))))))))))))))))
theorem Mo_dotLine_44 {l : Launch} {D : qD} {d0 : Nat} {B : Nat × Nat} {Q : qQ} : qI (w_Mo_dotLine_44 l D d0 B Q) (qR l D (d0 + 1, B) m_Mo_dotLine 44 Q) := sorry
def w_Mo_dotLine_28 (l : Launch) (D : qD) (d0 : Nat) (B : Nat × Nat) (Q : qQ) : qK := (s_iload 7 (s_iload 6 (s_icmp_gt (w_Mo_dotLine_119 l D d0 B Q) (s_iload 6 (s_if_ne (w_Mo_dotLine_44 l D d0 B Q) (s_iload 1 (w_Mo_dotLine_64 l D d0 B Q)))))))
theorem Mo_dotLine_28 {l : Launch} {D : qD} {d0 : Nat} {B : Nat × Nat} {Q : qQ} : qI (w_Mo_dotLine_28 l D d0 B Q) (qR l D (d0 + 1, B) m_Mo_dotLine 28 Q) := sorry
def w_Mo_dotLine_0 (l : Launch) (D : qD) (d0 : Nat) (B : Nat × Nat) (Q : qQ) : qK := (s_iload 3 (s_iload 1 (s_isub (s_iload 1 (s_iload 3 (s_isub (s_Mo_max d0 (s_iload 4 (s_iload 2 (s_isub (s_iload 2 (s_iload 4 (s_isub (s_Mo_max d0 (s_Mo_max d0 (s_istore 6 (s_ic (0) (s_istore 7 (qR l D (d0 + 1, B) m_Mo_dotLine 28 Q)))))))))))))))))))
theorem Mo_dotLine_0 {l : Launch} {D : qD} {d0 : Nat} {B : Nat × Nat} {Q : qQ} : qI (w_Mo_dotLine_0 l D d0 B Q) (qR l D (d0 + 1, B) m_Mo_dotLine 0 Q) := sorry
end
section
/-! printed by gen/world.py: what the final fields hold -/
abbrev TW0 (f : Int → Int) : Prop := f 1 = 281 ∧ f 2 = 282 ∧ f 3 = 283 ∧ f 4 = 284 ∧ f 6 = 285 ∧ f 16 = 286 ∧ f 17 = 287 ∧ f 18 = 288 ∧ f 19 = 289 ∧ f 20 = 290 ∧ f 21 = 291 ∧ f 22 = 292 ∧ f 23 = 293 ∧ f 24 = 294 ∧ f 33 = 295 ∧ f 34 = 296 ∧ f 35 = 297 ∧ f 36 = 298 ∧ f 37 = 299 ∧ f 38 = 300 ∧ f 40 = 301 ∧ f 41 = 302 ∧ f 42 = 303 ∧ f 43 = 304 ∧ f 44 = 305 ∧ f 46 = 306 ∧ f 48 = 307 ∧ f 50 = 308 ∧ f 51 = 309 ∧ f 52 = 310 ∧ f 54 = 311 ∧ f 55 = 312 ∧ f 56 = 313 ∧ f 57 = 314 ∧ f 60 = 315 ∧ f 61 = 316 ∧ f 62 = 317 ∧ f 63 = 318 ∧ f 64 = 319 ∧ f 65 = 320 ∧ f 66 = 321 ∧ f 67 = 322 ∧ f 68 = 323 ∧ f 69 = 324 ∧ f 70 = 325 ∧ f 71 = 326 ∧ f 72 = 327 ∧ f 73 = 328 ∧ f 74 = 329 ∧ f 75 = 330 ∧ f 76 = 331 ∧ f 77 = 332 ∧ f 78 = 333 ∧ f 82 = 334 ∧ f 83 = 335 ∧ f 84 = 336 ∧ f 85 = 337 ∧ f 86 = 338 ∧ f 87 = 339 ∧ f 88 = 340 ∧ f 89 = 341 ∧ f 90 = 342 ∧ f 91 = 343 ∧ f 92 = 344 ∧ f 93 = 345 ∧ f 95 = 346 ∧ f 96 = 347 ∧ f 97 = 348 ∧ f 98 = 349 ∧ f 102 = 350 ∧ f 103 = 351 ∧ f 104 = 352 ∧ f 105 = 353 ∧ f 106 = 354 ∧ f 108 = 355 ∧ f 109 = 356 ∧ f 110 = 357 ∧ f 111 = 358 ∧ f 112 = 359 ∧ f 113 = 360 ∧ f 114 = 361 ∧ f 115 = 362 ∧ f 116 = 363 ∧ f 117 = 364 ∧ f 118 = 365 ∧ f 119 = 366 ∧ f 120 = 367 ∧ f 122 = 368 ∧ f 123 = 369 ∧ f 124 = 370 ∧ f 126 = 371 ∧ f 127 = 372 ∧ f 128 = 373 ∧ f 129 = 374 ∧ f 130 = 375 ∧ f 131 = 376 ∧ f 135 = 377 ∧ f 136 = 378 ∧ f 137 = 379 ∧ f 138 = 380 ∧ f 140 = 381 ∧ f 141 = 382 ∧ f 142 = 383 ∧ f 143 = 384 ∧ f 148 = 385 ∧ f 149 = 386 ∧ f 151 = 387 ∧ f 152 = 388 ∧ f 160 = 389 ∧ f 161 = 390 ∧ f 162 = 391 ∧ f 163 = 392 ∧ f 166 = 393 ∧ f 167 = 394 ∧ f 168 = 395 ∧ f 171 = 396 ∧ f 172 = 397 ∧ f 175 = 398
/-- the twin's fields hold its arrays -/
abbrev TW (v : Int → Int → Int) : Prop := TW0 (v 280)
theorem TW.of {v v' : Int → Int → Int} (h : TW v) (e : v' 280 = v 280) : TW v' := sorry
theorem TW.up {v : Int → Int → Int} {a k z : Int} (h : TW v) (ha : a ≠ 280) : TW (up2 v a k z) := sorry
def twr : List Int := [1, 2, 3, 4, 6, 16, 17, 18, 19, 20, 21, 22, 23, 24, 33, 34, 35, 36, 37, 38, 40, 41, 42, 43, 44, 46, 48, 50, 51, 52, 54, 55, 56, 57, 60, 61, 62, 63, 64, 65, 66, 67, 68, 69, 70, 71, 72, 73, 74, 75, 76, 77, 78, 82, 83, 84, 85, 86, 87, 88, 89, 90, 91, 92, 93, 95, 96, 97, 98, 102, 103, 104, 105, 106, 108, 109, 110, 111, 112, 113, 114, 115, 116, 117, 118, 119, 120, 122, 123, 124, 126, 127, 128, 129, 130, 131, 135, 136, 137, 138, 140, 141, 142, 143, 148, 149, 151, 152, 160, 161, 162, 163, 166, 167, 168, 171, 172, 175]
theorem TW.fld {v : Int → Int → Int} {k z : Int} (h : TW v) (hk : twr.all (fun j => decide (j ≠ k)) = true) : TW (up2 v 280 k z) := sorry
end
section
/-! ===== DrawingHouse$Graph: the methods with loops ===== -/
/-- the edge e of the graph at g joins a and b -/
def jn (v : Int → Int → Int) (g e a b : Int) : Prop := (v (g + 6) e = a ∧ v (g + 7) e = b) ∨ (v (g + 6) e = b ∧ v (g + 7) e = a)
set_option maxRecDepth 100000 in
theorem sp_Gr_between {l : Launch} {D : qD} {d : Nat} {g a b : Int} {h : qh} {Q : qQ} (hg : isG g) (hA : GA h.2 g) (hE : 0 ≤ h.2 g 1 ∧ h.2 g 1 ≤ 48)
    (h1 : ∀ e, 0 ≤ e → e < h.2 g 1 → jn h.2 g e a b → (∀ j, 0 ≤ j → j < e → ¬ jn h.2 g j a b) → Q (some (.inl e)) h) (h0 : (∀ j, 0 ≤ j → j < h.2 g 1 → ¬ jn h.2 g j a b) → Q (some (.inl (-1))) h) : qM l D (d + 1, 0, 0) m_Gr_between [.inr (.inr g), .inl a, .inl b] h Q := sorry
/-- node i of the graph at g has the name of so many bytes in the row w from there on -/
def nmd (v : Int → Int → Int) (g i w p n : Int) : Prop := v (g + 3) i = n ∧ ∀ k, 0 ≤ k → k < n → v (g + 1) (8 * i + k) = v w (p + k)
set_option maxRecDepth 100000 in
theorem sp_Gr_find {l : Launch} {D : qD} {d : Nat} {g w p n L : Int} {h : qh} {Q : qQ} (hg : isG g) (hA : GA h.2 g) (hN : 0 ≤ h.2 g 0 ∧ h.2 g 0 ≤ 24) (hw : 0 ≤ w ∧ q_shp w = (101, L)) (hp : 0 ≤ p ∧ 0 ≤ n ∧ n ≤ 8 ∧ p + n ≤ L) (hL : L ≤ 4000)
    (h1 : ∀ i, 0 ≤ i → i < h.2 g 0 → nmd h.2 g i w p n → (∀ j, 0 ≤ j → j < i → ¬ nmd h.2 g j w p n) → Q (some (.inl i)) h) (h0 : (∀ j, 0 ≤ j → j < h.2 g 0 → ¬ nmd h.2 g j w p n) → Q (some (.inl (-1))) h) : qM l D (d + 1, 0, 0) m_Gr_find [.inr (.inr g), .inr (.inr w), .inl p, .inl n] h Q := sorry
/-- how many groups lie around one -/
def dpt (A : Int → Int) : Nat → Int → Int
  | 0, _ => 0
  | n + 1, k => if k ≤ 0 then 0 else 1 + dpt A n (A k)
set_option maxRecDepth 100000 in
theorem sp_Gr_deep {l : Launch} {D : qD} {d : Nat} {g i : Int} {h : qh} {Q : qQ} (hg : isG g) (hA : GA h.2 g) (hi : i < 8) (hr : ∀ k, 0 < k → k < 8 → h.2 (g + 10) k < k)
    (hq : Q (some (.inl (dpt (h.2 (g + 10)) 8 i))) h) : qM l D (d + 1, 0, 0) m_Gr_deep [.inr (.inr g), .inl i] h Q := sorry
/-- whether group k is i or lies in it -/
def inG (A : Int → Int) : Nat → Int → Int → Int
  | 0, k, i => if k = i then 1 else 0
  | n + 1, k, i => if k = i then 1 else if k ≤ 0 then 0 else inG A n (A k) i
theorem inG_01 (A : Int → Int) (i : Int) : ∀ (n : Nat) (k : Int), inG A n k i = 0 ∨ inG A n k i = 1 := sorry
set_option maxRecDepth 100000 in
theorem sp_Gr_isIn {l : Launch} {D : qD} {d : Nat} {g k0 i : Int} {h : qh} {Q : qQ} (hg : isG g) (hA : GA h.2 g) (hk : k0 < 8) (hr : ∀ k, 0 < k → k < 8 → h.2 (g + 10) k < k)
    (hq : Q (some (.inl (inG (h.2 (g + 10)) 8 k0 i))) h) : qM l D (d + 1, 0, 0) m_Gr_isIn [.inr (.inr g), .inl k0, .inl i] h Q := sorry
/-- the sum of f 0 .. f (n - 1) -/
def smz (f : Int → Int) : Nat → Int
  | 0 => 0
  | n + 1 => smz f n + f n
theorem smz_bd {f : Int → Int} {b : Int} (hb : 0 ≤ b) (hf : ∀ k : Nat, 0 ≤ f k ∧ f k ≤ b) : ∀ n : Nat, 0 ≤ smz f n ∧ smz f n ≤ n * b := sorry
end
section
/-! ===== DrawingHouseModel: the row at hand ===== -/
/-- the row at hand lies in the rows; its counts -/
def RV (v : Int → Int → Int) : Prop := 0 ≤ v 280 5 ∧ v 280 5 ≤ 66297
/-- place k of the row at hand -/
abbrev rw0 (v : Int → Int → Int) (k : Int) : Int := v 282 (v 280 5 + k)
def jnT (v : Int → Int → Int) (e a b : Int) : Prop := (v 282 (v 280 5 + 267 + e) = a ∨ v 282 (v 280 5 + 315 + e) = a) ∧ (v 282 (v 280 5 + 267 + e) = b ∨ v 282 (v 280 5 + 315 + e) = b) ∧ a ≠ b
theorem f_has {v : Int → Int → Int} {e a : Int} : (f_Mo_has e a v = 0 ↔ ¬ (v 282 (v 280 5 + 267 + e) = a ∨ v 282 (v 280 5 + 315 + e) = a)) := sorry
set_option maxRecDepth 100000 in
theorem sp_Mo_between {l : Launch} {D : qD} {d : Nat} {a b : Int} {h : qh} {Q : qQ} (hT : TW h.2) (hR : RV h.2) (hE : 0 ≤ h.2 282 (h.2 280 5 + 1) ∧ h.2 282 (h.2 280 5 + 1) ≤ 48)
    (h1 : ∀ e, 0 ≤ e → e < h.2 282 (h.2 280 5 + 1) → jnT h.2 e a b → (∀ j, 0 ≤ j → j < e → ¬ jnT h.2 j a b) → Q (some (.inl e)) h) (h0 : (∀ j, 0 ≤ j → j < h.2 282 (h.2 280 5 + 1) → ¬ jnT h.2 j a b) → Q (some (.inl (-1))) h) : qM l D (d + 3, 0, 0) m_Mo_between [.inr (.inr 280), .inl a, .inl b] h Q := sorry
end
section
/-! ===== an edge goes: both sides ===== -/
/-- the graph at g while edge e goes: places e .. k - 1 of the edges' rows hold what stood behind them -/
def dE (v : Int → Int → Int) (g e k : Int) : Int → Int → Int := fun c j => if (c = g + 6 ∨ c = g + 7 ∨ c = g + 8 ∨ c = g + 9) ∧ e ≤ j ∧ j < k then v c (j + 1) else if c = g ∧ j = 1 then v g 1 - 1 else v c j
theorem dE_0 {v : Int → Int → Int} {g e : Int} : dE v g e e = up2 v g 1 (v g 1 - 1) := sorry
theorem dE_g {v : Int → Int → Int} {g e k j : Int} (hj : j ≠ 1) : dE v g e k g j = v g j := sorry
theorem dE_n {v : Int → Int → Int} {g e k : Int} : dE v g e k g 1 = v g 1 - 1 := sorry
theorem dE_at {v : Int → Int → Int} {g e k j c : Int} (hc : c = g + 6 ∨ c = g + 7 ∨ c = g + 8 ∨ c = g + 9) (hj : k ≤ j) : dE v g e k c j = v c j := sorry
theorem dE_s {v w : Int → Int → Int} {g e k : Int} (hw : w = dE v g e k) (hk : e ≤ k) : up2 (up2 (up2 (up2 w (g + 6) k (w (g + 6) (k + 1))) (g + 7) k (w (g + 7) (k + 1))) (g + 8) k (w (g + 8) (k + 1))) (g + 9) k (w (g + 9) (k + 1)) = dE v g e (k + 1) := sorry
set_option maxRecDepth 100000 in
theorem sp_Gr_dropEdge {l : Launch} {D : qD} {d : Nat} {g e : Int} {h : qh} {Q : qQ} (hg : isG g) (hA : GA h.2 g) (he : 0 ≤ e ∧ e < h.2 g 1 ∧ h.2 g 1 ≤ 48) (hb : ∀ j, 0 ≤ j → j < h.2 g 1 → h.2 (g + 9) j = 0 ∨ h.2 (g + 9) j = 1)
    (hq : Q none (h.1, dE h.2 g e (h.2 g 1 - 1))) : qM l D (d + 1, 0, 0) m_Gr_dropEdge [.inr (.inr g), .inl e] h Q := sorry
/-- the row at hand while edge e goes -/
def tE (v : Int → Int → Int) (e k : Int) : Int → Int → Int := fun c j => if c = 282 ∧ ((v 280 5 + 267 + e ≤ j ∧ j < v 280 5 + 267 + k) ∨ (v 280 5 + 315 + e ≤ j ∧ j < v 280 5 + 315 + k) ∨ (v 280 5 + 363 + e ≤ j ∧ j < v 280 5 + 363 + k) ∨ (v 280 5 + 411 + e ≤ j ∧ j < v 280 5 + 411 + k)) then v c (j + 1) else v c j
theorem tE_0 {v : Int → Int → Int} {e : Int} : tE v e e = v := sorry
theorem tE_a {v : Int → Int → Int} {e k c : Int} (hc : c ≠ 282) : tE v e k c = v c := sorry
theorem tE_lo {v : Int → Int → Int} {e k j : Int} (he : 0 ≤ e) (hj : j < v 280 5 + 267) : tE v e k 282 j = v 282 j := sorry
theorem tE_at {v : Int → Int → Int} {e k b : Int} (he : 0 ≤ e) (hk : e ≤ k ∧ k < 47) (hb : b = 267 ∨ b = 315 ∨ b = 363 ∨ b = 411) : tE v e k 282 (v 280 5 + b + k + 1) = v 282 (v 280 5 + b + k + 1) := sorry
theorem tE_s {v w : Int → Int → Int} {e k : Int} (hw : w = tE v e k) (he : 0 ≤ e) (hk : e ≤ k ∧ k < 47) : up2 (up2 (up2 (up2 w 282 (v 280 5 + 267 + k) (v 282 (v 280 5 + 267 + k + 1))) 282 (v 280 5 + 315 + k) (v 282 (v 280 5 + 315 + k + 1))) 282 (v 280 5 + 363 + k) (v 282 (v 280 5 + 363 + k + 1))) 282 (v 280 5 + 411 + k) (v 282 (v 280 5 + 411 + k + 1)) = tE v e (k + 1) := sorry
set_option maxRecDepth 100000 in
theorem sp_Mo_dropEdge {l : Launch} {D : qD} {d : Nat} {e : Int} {h : qh} {Q : qQ} (hT : TW h.2) (hR : RV h.2) (he : 0 ≤ e ∧ e < h.2 282 (h.2 280 5 + 1) ∧ h.2 282 (h.2 280 5 + 1) ≤ 48)
    (hq : Q none (h.1, up2 (tE h.2 e (h.2 282 (h.2 280 5 + 1) - 1)) 282 (h.2 280 5 + 1) (h.2 282 (h.2 280 5 + 1) - 1))) : qM l D (d + 2, 0, 0) m_Mo_dropEdge [.inr (.inr 280), .inl e] h Q := sorry
end
section
/-! ===== DrawingHouse$Graph: the rest ===== -/
theorem cp2_ap (v : Int → Int → Int) (a0 a sp dp n b j : Int) : cp2 v a0 a sp dp n b j = if b = a ∧ dp ≤ j ∧ j < dp + n then v a0 (sp + (j - dp)) else v b j := sorry
/-- the heap after a node came -/
def aN (v : Int → Int → Int) (g w p n q : Int) : Int → Int → Int := up2 (up2 (up2 (up2 (cp2 v w (g + 1) p (8 * v g 0) n) (g + 3) (v g 0) n) (g + 4) (v g 0) 1) (g + 5) (v g 0) q) g 0 (v g 0 + 1)
set_option maxRecDepth 100000 in
theorem sp_Gr_addNode {l : Launch} {D : qD} {d : Nat} {g w p n q L : Int} {h : qh} {Q : qQ} (hg : isG g) (hA : GA h.2 g) (hN : 0 ≤ h.2 g 0 ∧ h.2 g 0 < 24) (hw : 0 ≤ w ∧ q_shp w = (101, L)) (hp : 0 ≤ p ∧ 0 ≤ n ∧ n ≤ 8 ∧ p + n ≤ L)
    (hq : Q (some (.inl (h.2 g 0))) (h.1, aN h.2 g w p n q)) : qM l D (d + 2, 0, 0) m_Gr_addNode [.inr (.inr g), .inr (.inr w), .inl p, .inl n, .inl q] h Q := sorry
set_option maxRecDepth 100000 in
theorem sp_Gr_sum {l : Launch} {D : qD} {d : Nat} {g i : Int} {h : qh} {Q : qQ} (hg : isG g) (hA : GA h.2 g) (hN : 0 ≤ h.2 g 0 ∧ h.2 g 0 ≤ 24) (hs : ∀ k, 0 ≤ k → k < h.2 g 0 → 0 ≤ h.2 (g + 4) k ∧ h.2 (g + 4) k ≤ 99 ∧ h.2 (g + 5) k < 8) (hr : ∀ k, 0 < k → k < 8 → h.2 (g + 10) k < k)
    (hq : Q (some (.inl (smz (fun k => if inG (h.2 (g + 10)) 8 (h.2 (g + 5) k) i = 0 then 0 else h.2 (g + 4) k) (h.2 g 0).toNat))) h) : qM l D (d + 2, 0, 0) m_Gr_sum [.inr (.inr g), .inl i] h Q := sorry
/-- the neighbours of i by the first n edges, as bits -/
def nbs (v : Int → Int → Int) (g i : Int) : Nat → Int
  | 0 => 0
  | n + 1 => if v (g + 6) n = i ∨ v (g + 7) n = i then z_ior (nbs v g i n) (z_ishl 1 (f_Gr_other g n i v)) else nbs v g i n
set_option maxRecDepth 100000 in
theorem sp_Gr_neighbours {l : Launch} {D : qD} {d : Nat} {g i : Int} {h : qh} {Q : qQ} (hg : isG g) (hA : GA h.2 g) (hE : 0 ≤ h.2 g 1 ∧ h.2 g 1 ≤ 48)
    (hq : Q (some (.inl (nbs h.2 g i (h.2 g 1).toNat))) h) : qM l D (d + 2, 0, 0) m_Gr_neighbours [.inr (.inr g), .inl i] h Q := sorry
end
section
/-! printed by gen/copy.py: a graph is copied -/
def cpN (v : Int → Int → Int) (g o : Int) : Int → Int → Int := (cp2 (cp2 (cp2 (cp2 (cp2 (cp2 (cp2 (cp2 (cp2 (cp2 (cp2 (up2 (up2 (up2 v g 0 (v o 0)) g 1 (v o 1)) g 2 (v o 2)) (o + 1) (g + 1) 0 0 192) (o + 2) (g + 2) 0 0 64) (o + 3) (g + 3) 0 0 24) (o + 4) (g + 4) 0 0 24) (o + 5) (g + 5) 0 0 24) (o + 6) (g + 6) 0 0 48) (o + 7) (g + 7) 0 0 48) (o + 8) (g + 8) 0 0 48) (o + 9) (g + 9) 0 0 48) (o + 10) (g + 10) 0 0 8) (o + 11) (g + 11) 0 0 8)
theorem cpN_fr {v : Int → Int → Int} {g o c : Int} (hc : c < g ∨ g + 11 < c) : cpN v g o c = v c := sorry
theorem cpN_f {v : Int → Int → Int} {g o j : Int} (ho : o ≠ g) (hj : 0 ≤ j ∧ j ≤ 2) : cpN v g o g j = v o j := sorry
theorem cpN_g {v : Int → Int → Int} {g o j : Int} (hj : 3 ≤ j) : cpN v g o g j = v g j := sorry
theorem cpN_1 {v : Int → Int → Int} {g o j : Int} (ap : o + 11 < g ∨ g + 11 < o) (hj : 0 ≤ j ∧ j < 192) : cpN v g o (g + 1) j = v (o + 1) j := sorry
theorem cpN_2 {v : Int → Int → Int} {g o j : Int} (ap : o + 11 < g ∨ g + 11 < o) (hj : 0 ≤ j ∧ j < 64) : cpN v g o (g + 2) j = v (o + 2) j := sorry
theorem cpN_3 {v : Int → Int → Int} {g o j : Int} (ap : o + 11 < g ∨ g + 11 < o) (hj : 0 ≤ j ∧ j < 24) : cpN v g o (g + 3) j = v (o + 3) j := sorry
theorem cpN_4 {v : Int → Int → Int} {g o j : Int} (ap : o + 11 < g ∨ g + 11 < o) (hj : 0 ≤ j ∧ j < 24) : cpN v g o (g + 4) j = v (o + 4) j := sorry
theorem cpN_5 {v : Int → Int → Int} {g o j : Int} (ap : o + 11 < g ∨ g + 11 < o) (hj : 0 ≤ j ∧ j < 24) : cpN v g o (g + 5) j = v (o + 5) j := sorry
theorem cpN_6 {v : Int → Int → Int} {g o j : Int} (ap : o + 11 < g ∨ g + 11 < o) (hj : 0 ≤ j ∧ j < 48) : cpN v g o (g + 6) j = v (o + 6) j := sorry
theorem cpN_7 {v : Int → Int → Int} {g o j : Int} (ap : o + 11 < g ∨ g + 11 < o) (hj : 0 ≤ j ∧ j < 48) : cpN v g o (g + 7) j = v (o + 7) j := sorry
theorem cpN_8 {v : Int → Int → Int} {g o j : Int} (ap : o + 11 < g ∨ g + 11 < o) (hj : 0 ≤ j ∧ j < 48) : cpN v g o (g + 8) j = v (o + 8) j := sorry
theorem cpN_9 {v : Int → Int → Int} {g o j : Int} (ap : o + 11 < g ∨ g + 11 < o) (hj : 0 ≤ j ∧ j < 48) : cpN v g o (g + 9) j = v (o + 9) j := sorry
theorem cpN_10 {v : Int → Int → Int} {g o j : Int} (ap : o + 11 < g ∨ g + 11 < o) (hj : 0 ≤ j ∧ j < 8) : cpN v g o (g + 10) j = v (o + 10) j := sorry
theorem cpN_11 {v : Int → Int → Int} {g o j : Int} (ap : o + 11 < g ∨ g + 11 < o) (hj : 0 ≤ j ∧ j < 8) : cpN v g o (g + 11) j = v (o + 11) j := sorry
end
section
/-! ===== DrawingHouseModel: counts over edges ===== -/
theorem f_has1 {v : Int → Int → Int} {e a : Int} : f_Mo_has e a v = if v 282 (v 280 5 + 267 + e) = a ∨ v 282 (v 280 5 + 315 + e) = a then 1 else 0 := sorry
set_option maxRecDepth 100000 in
theorem sp_Mo_neighbours {l : Launch} {D : qD} {d : Nat} {i : Int} {h : qh} {Q : qQ} (hT : TW h.2) (hR : RV h.2) (hE : 0 ≤ h.2 282 (h.2 280 5 + 1) ∧ h.2 282 (h.2 280 5 + 1) ≤ 48)
    (hq : Q (some (.inl (smz (fun e => f_Mo_has e i h.2) (h.2 282 (h.2 280 5 + 1)).toNat))) h) : qM l D (d + 3, 0, 0) m_Mo_neighbours [.inr (.inr 280), .inl i] h Q := sorry
set_option maxRecDepth 100000 in
theorem sp_Mo_degree {l : Launch} {D : qD} {d : Nat} {r a : Int} {h : qh} {Q : qQ} (hT : TW h.2) (hR : 0 ≤ r ∧ r ≤ 66297) (hE : 0 ≤ h.2 282 (r + 1) ∧ h.2 282 (r + 1) ≤ 48)
    (hq : Q (some (.inl (smz (fun e => if h.2 282 (r + 267 + e) = a ∨ h.2 282 (r + 315 + e) = a then 1 else 0) (h.2 282 (r + 1)).toNat))) h) : qM l D (d + 1, 0, 0) m_Mo_degree [.inr (.inr 280), .inl r, .inl a] h Q := sorry
/-- the way of the edge between a and b in the row r, by the first n edges from the end of them on -/
def ewy (v : Int → Int → Int) (r a b : Int) : Nat → Int → Int
  | 0, _ => 0
  | n + 1, e => if v 282 (r + 267 + e) = a ∧ v 282 (r + 315 + e) = b then (if v 282 (r + 411 + e) = 0 then 1 else 2) else if v 282 (r + 267 + e) = b ∧ v 282 (r + 315 + e) = a then (if v 282 (r + 411 + e) = 0 then 1 else 3) else ewy v r a b n (e + 1)
set_option maxRecDepth 100000 in
theorem sp_Mo_edgeWay {l : Launch} {D : qD} {d : Nat} {r a b : Int} {h : qh} {Q : qQ} (hT : TW h.2) (hR : 0 ≤ r ∧ r ≤ 66297) (hE : 0 ≤ h.2 282 (r + 1) ∧ h.2 282 (r + 1) ≤ 48)
    (hq : Q (some (.inl (ewy h.2 r a b (h.2 282 (r + 1)).toNat 0))) h) : qM l D (d + 1, 0, 0) m_Mo_edgeWay [.inr (.inr 280), .inl r, .inl a, .inl b] h Q := sorry
end
section
/-! ===== DrawingHouseModel: rows are cleared, copied, moved ===== -/
/-- n places of the cell a from p on hold z -/
def fl2 (v : Int → Int → Int) (a p n z : Int) : Int → Int → Int := fun c j => if c = a ∧ p ≤ j ∧ j < p + n then z else v c j
theorem fl2_0 {v : Int → Int → Int} {a p z : Int} : fl2 v a p 0 z = v := sorry
theorem fl2_s {v : Int → Int → Int} {a p n z : Int} (hn : 0 ≤ n) : up2 (fl2 v a p n z) a (p + n) z = fl2 v a p (n + 1) z := sorry
theorem fl2_a {v : Int → Int → Int} {a p n z c : Int} (hc : c ≠ a) : fl2 v a p n z c = v c := sorry
/-- n places of the cell a from q on hold what stood from p on -/
def mv2 (v : Int → Int → Int) (a p q n : Int) : Int → Int → Int := fun c j => if c = a ∧ q ≤ j ∧ j < q + n then v a (j - q + p) else v c j
theorem mv2_0 {v : Int → Int → Int} {a p q : Int} : mv2 v a p q 0 = v := sorry
theorem mv2_a {v : Int → Int → Int} {a p q n c : Int} (hc : c ≠ a) : mv2 v a p q n c = v c := sorry
theorem mv2_r {v : Int → Int → Int} {a p q n : Int} (hn : 0 ≤ n) (h : p + n < q ∨ q ≤ p) : mv2 v a p q n a (p + n) = v a (p + n) := sorry
theorem mv2_s {v : Int → Int → Int} {a p q n : Int} (hn : 0 ≤ n) : up2 (mv2 v a p q n) a (q + n) (v a (p + n)) = mv2 v a p q (n + 1) := sorry
set_option maxRecDepth 100000 in
theorem sp_Mo_clear {l : Launch} {D : qD} {d : Nat} {r : Int} {h : qh} {Q : qQ} (hT : TW h.2) (hR : 0 ≤ r ∧ r ≤ 66297)
    (hq : Q none (h.1, up2 (up2 (fl2 h.2 282 r 539 0) 282 (r + 2) 1) 282 (r + 531) (-1))) : qM l D (d + 1, 0, 0) m_Mo_clear [.inr (.inr 280), .inl r] h Q := sorry
set_option maxRecDepth 100000 in
theorem sp_Mo_changed {l : Launch} {D : qD} {d : Nat} {p : Int} {h : qh} {Q : qQ} (hT : TW h.2) (hp : 0 ≤ p ∧ p < 4)
    (hq : Q none (h.1, fl2 (up2 h.2 316 p (-1)) 328 (216 * p) 216 0)) : qM l D (d + 1, 0, 0) m_Mo_changed [.inr (.inr 280), .inl p] h Q := sorry
end
section
/-! ===== DrawingHouseModel.step: a row behind the one at hand ===== -/
/-- the oldest row goes when there are as many as can be -/
def stp0 (v : Int → Int → Int) (p : Int) : Int → Int → Int := if v 283 p = 30 then up2 (mv2 v 282 (539 * (31 * p + 1)) (539 * (31 * p + 0)) 16170) 283 p 29 else v
/-- the row comes, is at hand, what was drawn goes -/
def stp1 (v : Int → Int → Int) (p : Int) : Int → Int → Int := fl2 (up2 (g_Mo_take p (up2 (up2 (mv2 v 282 (539 * (31 * p + v 283 p)) (539 * (31 * p + v 283 p) + 539) 539) 283 p (v 283 p + 1)) 284 p (v 283 p + 1))) 316 p (-1)) 328 (216 * p) 216 0
set_option maxRecDepth 100000 in
theorem sp_Mo_step {l : Launch} {D : qD} {d : Nat} {p : Int} {h : qh} {Q : qQ} (hT : TW h.2) (hp : 0 ≤ p ∧ p < 4) (hn : 0 ≤ h.2 283 p ∧ h.2 283 p ≤ 30)
    (hq : Q none (h.1, stp1 (stp0 h.2 p) p)) : qM l D (d + 3, 0, 0) m_Mo_step [.inr (.inr 280), .inl p] h Q := sorry
end
section
/-! ===== DrawingHouseModel: a value of the row becomes another; back and forth ===== -/
theorem TW_stp0 {v : Int → Int → Int} {p : Int} (h : TW v) : TW (stp0 v p) := sorry
theorem TW_stp1 {v : Int → Int → Int} {p : Int} (h : TW v) : TW (stp1 v p) := sorry
theorem f_in {a b c : Int} {v : Int → Int → Int} : f_Mo_in a b c v = 0 ↔ ¬ (b ≤ a ∧ a ≤ c) := sorry
/-- the row at hand after a step -/
theorem stp1_r {v : Int → Int → Int} {p : Int} : stp1 v p 280 5 = 539 * (31 * p + (v 283 p + 1)) := sorry
theorem stp0_n {v : Int → Int → Int} {p : Int} (hn : 0 ≤ v 283 p ∧ v 283 p ≤ 30) : 0 ≤ stp0 v p 283 p ∧ stp0 v p 283 p ≤ 29 := sorry
set_option maxRecDepth 100000 in
theorem sp_Mo_becomes {l : Launch} {D : qD} {d : Nat} {p o m a b : Int} {h : qh} {Q : qQ} (hT : TW h.2) (hp : 0 ≤ p ∧ p < 4) (hn : 0 ≤ h.2 283 p ∧ h.2 283 p ≤ 30) (hm : m = 0 ∨ 0 ≤ o ∧ 0 ≤ a ∧ o + a < 539)
    (h0 : m = 0 → Q (some (.inl (-1))) h) (h1 : m ≠ 0 → Q (some (.inl 0)) (h.1, up2 (stp1 (stp0 h.2 p) p) 282 (stp1 (stp0 h.2 p) p 280 5 + o + a) b)) : qM l D (d + 4, 0, 0) m_Mo_becomes [.inr (.inr 280), .inl p, .inl o, .inl m, .inl a, .inl b] h Q := sorry
end
section
/-! printed by gen/gcode.py: what is made anew -/
theorem on_int {l : Launch} {D : qD} {d : qd} {M : qm} {pc : Nat} {Q : qQ} {K : qK} (hd : decode M.2.1 pc = .ok (.newarray .int, 2)) (k : qI K (qR l D d M (pc + 2) Q)) : qI (s_newa 100 K) (qR l D d M pc Q) := sorry
theorem on_byte {l : Launch} {D : qD} {d : qd} {M : qm} {pc : Nat} {Q : qQ} {K : qK} (hd : decode M.2.1 pc = .ok (.newarray .byte, 2)) (k : qI K (qR l D d M (pc + 2) Q)) : qI (s_newa 101 K) (qR l D d M pc Q) := sorry
theorem on_boolean {l : Launch} {D : qD} {d : qd} {M : qm} {pc : Nat} {Q : qQ} {K : qK} (hd : decode M.2.1 pc = .ok (.newarray .boolean, 2)) (k : qI K (qR l D d M (pc + 2) Q)) : qI (s_newa 102 K) (qR l D d M pc Q) := sorry
theorem on_long {l : Launch} {D : qD} {d : qd} {M : qm} {pc : Nat} {Q : qQ} {K : qK} (hd : decode M.2.1 pc = .ok (.newarray .long, 2)) (k : qI K (qR l D d M (pc + 2) Q)) : qI (s_newa 103 K) (qR l D d M pc Q) := sorry
theorem hdv_0 : ∀ k, k < (cr 0).2.2 → (parseFieldDescriptor ((cr 0).2.1 k).2.2.1).map defaultValue = some (q_dv (q_ft 0 k)) := sorry
theorem hdv_1 : ∀ k, k < (cr 1).2.2 → (parseFieldDescriptor ((cr 1).2.1 k).2.2.1).map defaultValue = some (q_dv (q_ft 1 k)) := sorry
theorem hdv_2 : ∀ k, k < (cr 2).2.2 → (parseFieldDescriptor ((cr 2).2.1 k).2.2.1).map defaultValue = some (q_dv (q_ft 2 k)) := sorry
theorem hdv_3 : ∀ k, k < (cr 3).2.2 → (parseFieldDescriptor ((cr 3).2.1 k).2.2.1).map defaultValue = some (q_dv (q_ft 3 k)) := sorry
theorem hdv_4 : ∀ k, k < (cr 4).2.2 → (parseFieldDescriptor ((cr 4).2.1 k).2.2.1).map defaultValue = some (q_dv (q_ft 4 k)) := sorry
theorem hdv_5 : ∀ k, k < (cr 5).2.2 → (parseFieldDescriptor ((cr 5).2.1 k).2.2.1).map defaultValue = some (q_dv (q_ft 5 k)) := sorry
theorem hdv_6 : ∀ k, k < (cr 6).2.2 → (parseFieldDescriptor ((cr 6).2.1 k).2.2.1).map defaultValue = some (q_dv (q_ft 6 k)) := sorry
theorem hdv_7 : ∀ k, k < (cr 7).2.2 → (parseFieldDescriptor ((cr 7).2.1 k).2.2.1).map defaultValue = some (q_dv (q_ft 7 k)) := sorry
theorem hdv_8 : ∀ k, k < (cr 8).2.2 → (parseFieldDescriptor ((cr 8).2.1 k).2.2.1).map defaultValue = some (q_dv (q_ft 8 k)) := sorry
theorem hdv_9 : ∀ k, k < (cr 9).2.2 → (parseFieldDescriptor ((cr 9).2.1 k).2.2.1).map defaultValue = some (q_dv (q_ft 9 k)) := sorry
theorem hdv_10 : ∀ k, k < (cr 10).2.2 → (parseFieldDescriptor ((cr 10).2.1 k).2.2.1).map defaultValue = some (q_dv (q_ft 10 k)) := sorry
theorem hdv_11 : ∀ k, k < (cr 11).2.2 → (parseFieldDescriptor ((cr 11).2.1 k).2.2.1).map defaultValue = some (q_dv (q_ft 11 k)) := sorry
theorem hdv_12 : ∀ k, k < (cr 12).2.2 → (parseFieldDescriptor ((cr 12).2.1 k).2.2.1).map defaultValue = some (q_dv (q_ft 12 k)) := sorry
theorem hdv_13 : ∀ k, k < (cr 13).2.2 → (parseFieldDescriptor ((cr 13).2.1 k).2.2.1).map defaultValue = some (q_dv (q_ft 13 k)) := sorry
theorem hdv_14 : ∀ k, k < (cr 14).2.2 → (parseFieldDescriptor ((cr 14).2.1 k).2.2.1).map defaultValue = some (q_dv (q_ft 14 k)) := sorry
theorem hdv_15 : ∀ k, k < (cr 15).2.2 → (parseFieldDescriptor ((cr 15).2.1 k).2.2.1).map defaultValue = some (q_dv (q_ft 15 k)) := sorry
theorem hdv_16 : ∀ k, k < (cr 16).2.2 → (parseFieldDescriptor ((cr 16).2.1 k).2.2.1).map defaultValue = some (q_dv (q_ft 16 k)) := sorry
theorem hdv_17 : ∀ k, k < (cr 17).2.2 → (parseFieldDescriptor ((cr 17).2.1 k).2.2.1).map defaultValue = some (q_dv (q_ft 17 k)) := sorry
theorem hdv_18 : ∀ k, k < (cr 18).2.2 → (parseFieldDescriptor ((cr 18).2.1 k).2.2.1).map defaultValue = some (q_dv (q_ft 18 k)) := sorry
theorem oi_1 : Cond.instanceMethod Lib.objectInit ∈ q_G := sorry
theorem oi_2 : Cond.code Lib.objectInit ⟨#[0xb1]⟩ 1 none ∈ q_G := sorry
theorem lp_DH_9i : q_pF "DrawingHouse" 9 0 0 2 (.array (.byte)) true := sorry
theorem li_DH_15 : q_gI "DrawingHouse" 15 0 m_Pl_init := sorry
theorem lp_DH_16i : q_pF "DrawingHouse" 16 0 2 2 (.array (.object "DrawingHouse$Place")) true := sorry
theorem li_DH_22 : q_gI "DrawingHouse" 22 0 m_GR_init := sorry
theorem lf_DH_23 : q_gF "DrawingHouse" 23 0 3 2 := sorry
theorem lp_DH_23i : q_pF "DrawingHouse" 23 0 3 2 (.object "DrawingHouse$GraphReader") true := sorry
theorem li_DH_29 : q_gI "DrawingHouse" 29 0 m_Sy_init := sorry
theorem lf_DH_30 : q_gF "DrawingHouse" 30 0 4 2 := sorry
theorem lp_DH_30i : q_pF "DrawingHouse" 30 0 4 2 (.object "DrawingHouse$Style") true := sorry
theorem li_DH_36 : q_gI "DrawingHouse" 36 0 m_Sh_init := sorry
theorem lp_DH_37i : q_pF "DrawingHouse" 37 0 7 2 (.object "DrawingHouse$Shape") true := sorry
theorem lp_DH_41i : q_pF "DrawingHouse" 41 0 8 0 (.int) false := sorry
theorem li_DH_47 : q_gI "DrawingHouse" 47 0 m_Li_init := sorry
theorem lp_DH_48i : q_pF "DrawingHouse" 48 0 9 2 (.object "DrawingHouse$Likeness") true := sorry
theorem li_DH_54 : q_gI "DrawingHouse" 54 0 m_Em_init := sorry
theorem lp_DH_55i : q_pF "DrawingHouse" 55 0 10 2 (.object "DrawingHouse$Embedding") true := sorry
theorem li_DH_61 : q_gI "DrawingHouse" 61 0 m_We_init := sorry
theorem lp_DH_62i : q_pF "DrawingHouse" 62 0 11 2 (.object "DrawingHouse$Web") true := sorry
theorem lp_DH_66i : q_pF "DrawingHouse" 66 0 12 0 (.int) false := sorry
theorem li_DH_71 : q_gI "DrawingHouse" 71 0 m_Gr_init := sorry
theorem lp_DH_72i : q_pF "DrawingHouse" 72 0 14 2 (.object "DrawingHouse$Graph") true := sorry
theorem lp_DH_76i : q_pF "DrawingHouse" 76 0 15 2 (.object "DrawingHouse$Shape") true := sorry
theorem lp_DH_79i : q_pF "DrawingHouse" 79 0 16 2 (.array (.int)) true := sorry
theorem li_DH_85 : q_gI "DrawingHouse" 85 0 m_Dr_init := sorry
theorem lp_DH_86i : q_pF "DrawingHouse" 86 0 19 2 (.object "DrawingHouse$Drawing") true := sorry
theorem li_DH_92 : q_gI "DrawingHouse" 92 0 m_La_init := sorry
theorem lp_DH_93i : q_pF "DrawingHouse" 93 0 20 2 (.object "DrawingHouse$Layers") true := sorry
theorem li_DH_99 : q_gI "DrawingHouse" 99 0 m_Gd_init := sorry
theorem lp_DH_100i : q_pF "DrawingHouse" 100 0 21 2 (.object "DrawingHouse$Grid") true := sorry
theorem li_DH_106 : q_gI "DrawingHouse" 106 0 m_Ba_init := sorry
theorem lp_DH_107i : q_pF "DrawingHouse" 107 0 22 2 (.object "DrawingHouse$Bars") true := sorry
theorem li_DH_113 : q_gI "DrawingHouse" 113 0 m_Pn_init := sorry
theorem lp_DH_114i : q_pF "DrawingHouse" 114 0 23 2 (.object "DrawingHouse$Plain") true := sorry
theorem li_DH_120 : q_gI "DrawingHouse" 120 0 m_Ro_init := sorry
theorem lp_DH_121i : q_pF "DrawingHouse" 121 0 24 2 (.object "DrawingHouse$Routes") true := sorry
theorem li_DH_127 : q_gI "DrawingHouse" 127 0 m_Ju_init := sorry
theorem lp_DH_128i : q_pF "DrawingHouse" 128 0 25 2 (.object "DrawingHouse$Judge") true := sorry
theorem lf_DH_132 : q_gF "DrawingHouse" 132 0 26 2 := sorry
theorem lp_DH_132i : q_pF "DrawingHouse" 132 0 26 2 (.array (.boolean)) true := sorry
theorem lp_DH_136i : q_pF "DrawingHouse" 136 0 27 2 (.array (.byte)) true := sorry
theorem lp_DH_139i : q_pF "DrawingHouse" 139 0 30 2 (.array (.byte)) true := sorry
theorem lp_DH_142i : q_pF "DrawingHouse" 142 0 31 2 (.array (.int)) true := sorry
theorem lp_DH_145i : q_pF "DrawingHouse" 145 0 34 2 (.array (.int)) true := sorry
theorem lp_DH_148i : q_pF "DrawingHouse" 148 0 35 2 (.array (.int)) true := sorry
theorem lp_DH_151i : q_pF "DrawingHouse" 151 0 36 2 (.array (.boolean)) true := sorry
theorem lp_Pl_11i : q_pF "DrawingHouse$Place" 11 1 0 2 (.array (.object "DrawingHouse$Graph")) true := sorry
theorem li_Pl_19 : q_gI "DrawingHouse$Place" 19 0 m_Dr_init := sorry
theorem lp_Pl_20i : q_pF "DrawingHouse$Place" 20 1 3 2 (.object "DrawingHouse$Drawing") true := sorry
theorem lp_Pl_24i : q_pF "DrawingHouse$Place" 24 1 4 2 (.array (.int)) true := sorry
theorem lp_Pl_28i : q_pF "DrawingHouse$Place" 28 1 5 2 (.array (.int)) true := sorry
theorem li_Pl_31 : q_gI "DrawingHouse$Place" 31 0 m_Gr_init := sorry
theorem lm_Pl_32 : q_gV "DrawingHouse$Place" 32 3 0 m_Gr_clear := sorry
theorem lp_Dr_9i : q_pF "DrawingHouse$Drawing" 9 2 5 2 (.array (.int)) true := sorry
theorem lp_Dr_15i : q_pF "DrawingHouse$Drawing" 15 2 6 2 (.array (.int)) true := sorry
theorem lp_Dr_18i : q_pF "DrawingHouse$Drawing" 18 2 7 2 (.array (.int)) true := sorry
theorem lp_Dr_21i : q_pF "DrawingHouse$Drawing" 21 2 8 2 (.array (.int)) true := sorry
theorem lp_Dr_24i : q_pF "DrawingHouse$Drawing" 24 2 9 2 (.array (.int)) true := sorry
theorem lp_Dr_27i : q_pF "DrawingHouse$Drawing" 27 2 10 2 (.array (.int)) true := sorry
theorem lp_Dr_30i : q_pF "DrawingHouse$Drawing" 30 2 11 2 (.array (.int)) true := sorry
theorem lp_Dr_33i : q_pF "DrawingHouse$Drawing" 33 2 12 2 (.array (.int)) true := sorry
theorem lp_Dr_36i : q_pF "DrawingHouse$Drawing" 36 2 13 2 (.array (.int)) true := sorry
theorem lp_Dr_39i : q_pF "DrawingHouse$Drawing" 39 2 14 2 (.array (.boolean)) true := sorry
theorem lp_Gr_9i : q_pF "DrawingHouse$Graph" 9 3 2 0 (.int) false := sorry
theorem lp_Gr_15i : q_pF "DrawingHouse$Graph" 15 3 3 2 (.array (.byte)) true := sorry
theorem lp_Gr_19i : q_pF "DrawingHouse$Graph" 19 3 4 2 (.array (.byte)) true := sorry
theorem lp_Gr_22i : q_pF "DrawingHouse$Graph" 22 3 5 2 (.array (.int)) true := sorry
theorem lp_Gr_26i : q_pF "DrawingHouse$Graph" 26 3 6 2 (.array (.int)) true := sorry
theorem lp_Gr_29i : q_pF "DrawingHouse$Graph" 29 3 7 2 (.array (.int)) true := sorry
theorem lp_Gr_32i : q_pF "DrawingHouse$Graph" 32 3 8 2 (.array (.int)) true := sorry
theorem lp_Gr_35i : q_pF "DrawingHouse$Graph" 35 3 9 2 (.array (.int)) true := sorry
theorem lp_Gr_38i : q_pF "DrawingHouse$Graph" 38 3 10 2 (.array (.int)) true := sorry
theorem lp_Gr_41i : q_pF "DrawingHouse$Graph" 41 3 11 2 (.array (.boolean)) true := sorry
theorem lp_Gr_45i : q_pF "DrawingHouse$Graph" 45 3 12 2 (.array (.int)) true := sorry
theorem lp_Gr_48i : q_pF "DrawingHouse$Graph" 48 3 13 2 (.array (.int)) true := sorry
theorem lp_Sh_9i : q_pF "DrawingHouse$Shape" 9 7 0 2 (.array (.int)) true := sorry
theorem lp_Sh_15i : q_pF "DrawingHouse$Shape" 15 7 1 2 (.array (.int)) true := sorry
theorem lp_Sh_18i : q_pF "DrawingHouse$Shape" 18 7 2 2 (.array (.int)) true := sorry
theorem lp_Sh_21i : q_pF "DrawingHouse$Shape" 21 7 3 2 (.array (.int)) true := sorry
theorem lp_Sh_24i : q_pF "DrawingHouse$Shape" 24 7 4 2 (.array (.int)) true := sorry
theorem lp_Sh_27i : q_pF "DrawingHouse$Shape" 27 7 5 2 (.array (.int)) true := sorry
theorem lp_Sh_30i : q_pF "DrawingHouse$Shape" 30 7 9 2 (.array (.int)) true := sorry
theorem lp_Sh_33i : q_pF "DrawingHouse$Shape" 33 7 10 2 (.array (.int)) true := sorry
theorem lp_Sh_36i : q_pF "DrawingHouse$Shape" 36 7 11 2 (.array (.int)) true := sorry
theorem lp_Li_9i : q_pF "DrawingHouse$Likeness" 9 8 0 2 (.array (.int)) true := sorry
theorem lp_Li_15i : q_pF "DrawingHouse$Likeness" 15 8 1 2 (.array (.int)) true := sorry
theorem lp_Li_18i : q_pF "DrawingHouse$Likeness" 18 8 2 0 (.int) false := sorry
theorem lp_Li_22i : q_pF "DrawingHouse$Likeness" 22 8 5 2 (.array (.int)) true := sorry
theorem lp_Li_25i : q_pF "DrawingHouse$Likeness" 25 8 6 2 (.array (.int)) true := sorry
theorem lp_Li_28i : q_pF "DrawingHouse$Likeness" 28 8 7 2 (.array (.int)) true := sorry
theorem lp_Li_31i : q_pF "DrawingHouse$Likeness" 31 8 8 2 (.array (.int)) true := sorry
theorem lp_Em_9i : q_pF "DrawingHouse$Embedding" 9 9 0 2 (.array (.int)) true := sorry
theorem lp_Em_15i : q_pF "DrawingHouse$Embedding" 15 9 1 2 (.array (.int)) true := sorry
theorem lp_Em_18i : q_pF "DrawingHouse$Embedding" 18 9 4 2 (.array (.int)) true := sorry
theorem lp_Em_21i : q_pF "DrawingHouse$Embedding" 21 9 6 2 (.array (.boolean)) true := sorry
theorem lp_Em_25i : q_pF "DrawingHouse$Embedding" 25 9 9 2 (.array (.int)) true := sorry
theorem lp_Em_28i : q_pF "DrawingHouse$Embedding" 28 9 10 2 (.array (.int)) true := sorry
theorem lp_Em_31i : q_pF "DrawingHouse$Embedding" 31 9 11 2 (.array (.int)) true := sorry
theorem lp_Em_34i : q_pF "DrawingHouse$Embedding" 34 9 12 2 (.array (.int)) true := sorry
theorem lp_Em_37i : q_pF "DrawingHouse$Embedding" 37 9 13 2 (.array (.int)) true := sorry
theorem lp_Em_40i : q_pF "DrawingHouse$Embedding" 40 9 15 2 (.array (.int)) true := sorry
theorem lp_Em_43i : q_pF "DrawingHouse$Embedding" 43 9 16 2 (.array (.int)) true := sorry
theorem lp_Em_46i : q_pF "DrawingHouse$Embedding" 46 9 18 2 (.array (.int)) true := sorry
theorem lp_Em_49i : q_pF "DrawingHouse$Embedding" 49 9 19 2 (.array (.int)) true := sorry
theorem lp_We_11i : q_pF "DrawingHouse$Web" 11 10 3 2 (.array (.int)) true := sorry
theorem lp_We_15i : q_pF "DrawingHouse$Web" 15 10 4 2 (.array (.int)) true := sorry
theorem lp_We_18i : q_pF "DrawingHouse$Web" 18 10 5 2 (.array (.int)) true := sorry
theorem lp_We_21i : q_pF "DrawingHouse$Web" 21 10 6 2 (.array (.int)) true := sorry
theorem lp_We_24i : q_pF "DrawingHouse$Web" 24 10 7 2 (.array (.int)) true := sorry
theorem lp_We_27i : q_pF "DrawingHouse$Web" 27 10 8 2 (.array (.int)) true := sorry
theorem lp_We_30i : q_pF "DrawingHouse$Web" 30 10 9 2 (.array (.int)) true := sorry
theorem lp_We_33i : q_pF "DrawingHouse$Web" 33 10 10 2 (.array (.int)) true := sorry
theorem li_La_11 : q_gI "DrawingHouse$Layers" 11 0 m_Ps_init := sorry
theorem lp_La_12i : q_pF "DrawingHouse$Layers" 12 11 0 2 (.object "DrawingHouse$Places") true := sorry
theorem lp_La_18i : q_pF "DrawingHouse$Layers" 18 11 3 2 (.array (.boolean)) true := sorry
theorem lp_La_22i : q_pF "DrawingHouse$Layers" 22 11 4 2 (.array (.int)) true := sorry
theorem lp_La_26i : q_pF "DrawingHouse$Layers" 26 11 5 2 (.array (.int)) true := sorry
theorem lp_La_29i : q_pF "DrawingHouse$Layers" 29 11 6 2 (.array (.int)) true := sorry
theorem lp_La_32i : q_pF "DrawingHouse$Layers" 32 11 7 2 (.array (.int)) true := sorry
theorem lp_La_35i : q_pF "DrawingHouse$Layers" 35 11 8 2 (.array (.int)) true := sorry
theorem lp_La_38i : q_pF "DrawingHouse$Layers" 38 11 9 2 (.array (.int)) true := sorry
theorem lp_La_41i : q_pF "DrawingHouse$Layers" 41 11 10 2 (.array (.int)) true := sorry
theorem lp_La_44i : q_pF "DrawingHouse$Layers" 44 11 11 2 (.array (.int)) true := sorry
theorem lp_La_47i : q_pF "DrawingHouse$Layers" 47 11 14 2 (.array (.int)) true := sorry
theorem lp_La_50i : q_pF "DrawingHouse$Layers" 50 11 15 2 (.array (.int)) true := sorry
theorem lp_La_53i : q_pF "DrawingHouse$Layers" 53 11 16 2 (.array (.int)) true := sorry
theorem lp_La_56i : q_pF "DrawingHouse$Layers" 56 11 18 2 (.array (.int)) true := sorry
theorem lp_La_59i : q_pF "DrawingHouse$Layers" 59 11 19 2 (.array (.int)) true := sorry
theorem lp_La_62i : q_pF "DrawingHouse$Layers" 62 11 20 2 (.array (.int)) true := sorry
theorem lp_La_65i : q_pF "DrawingHouse$Layers" 65 11 21 2 (.array (.int)) true := sorry
theorem lp_La_68i : q_pF "DrawingHouse$Layers" 68 11 22 2 (.array (.int)) true := sorry
theorem lp_La_71i : q_pF "DrawingHouse$Layers" 71 11 23 2 (.array (.int)) true := sorry
theorem lp_La_74i : q_pF "DrawingHouse$Layers" 74 11 24 2 (.array (.int)) true := sorry
theorem lp_La_77i : q_pF "DrawingHouse$Layers" 77 11 25 2 (.array (.int)) true := sorry
theorem lp_La_80i : q_pF "DrawingHouse$Layers" 80 11 26 2 (.array (.int)) true := sorry
theorem lp_Ps_11i : q_pF "DrawingHouse$Places" 11 12 2 2 (.array (.int)) true := sorry
theorem lp_Ps_15i : q_pF "DrawingHouse$Places" 15 12 3 2 (.array (.int)) true := sorry
theorem lp_Ps_18i : q_pF "DrawingHouse$Places" 18 12 4 2 (.array (.int)) true := sorry
theorem lp_Ps_21i : q_pF "DrawingHouse$Places" 21 12 5 2 (.array (.int)) true := sorry
theorem lp_Ps_24i : q_pF "DrawingHouse$Places" 24 12 6 2 (.array (.int)) true := sorry
theorem lp_Ps_27i : q_pF "DrawingHouse$Places" 27 12 7 2 (.array (.int)) true := sorry
theorem lf_Gd_9 : q_gF "DrawingHouse$Grid" 9 13 0 2 := sorry
theorem lp_Gd_9i : q_pF "DrawingHouse$Grid" 9 13 0 2 (.array (.int)) true := sorry
theorem lp_Gd_15i : q_pF "DrawingHouse$Grid" 15 13 1 2 (.array (.int)) true := sorry
theorem lp_Gd_18i : q_pF "DrawingHouse$Grid" 18 13 2 2 (.array (.int)) true := sorry
theorem lp_Gd_21i : q_pF "DrawingHouse$Grid" 21 13 3 2 (.array (.int)) true := sorry
theorem lp_Gd_24i : q_pF "DrawingHouse$Grid" 24 13 4 2 (.array (.int)) true := sorry
theorem lp_Gd_27i : q_pF "DrawingHouse$Grid" 27 13 5 2 (.array (.int)) true := sorry
theorem lp_Gd_30i : q_pF "DrawingHouse$Grid" 30 13 6 2 (.array (.int)) true := sorry
theorem lp_Ba_9i : q_pF "DrawingHouse$Bars" 9 14 0 2 (.array (.int)) true := sorry
theorem lp_Ba_15i : q_pF "DrawingHouse$Bars" 15 14 1 2 (.array (.int)) true := sorry
theorem lp_Ba_18i : q_pF "DrawingHouse$Bars" 18 14 2 2 (.array (.int)) true := sorry
theorem lp_Ba_23i : q_pF "DrawingHouse$Bars" 23 14 3 2 (.array (.int)) true := sorry
theorem lp_Ba_26i : q_pF "DrawingHouse$Bars" 26 14 4 2 (.array (.int)) true := sorry
theorem lp_Ba_29i : q_pF "DrawingHouse$Bars" 29 14 5 2 (.array (.int)) true := sorry
theorem lp_Pn_9i : q_pF "DrawingHouse$Plain" 9 15 3 2 (.array (.int)) true := sorry
theorem lp_Pn_15i : q_pF "DrawingHouse$Plain" 15 15 4 2 (.array (.int)) true := sorry
theorem lp_Pn_18i : q_pF "DrawingHouse$Plain" 18 15 5 2 (.array (.int)) true := sorry
theorem lp_Pn_21i : q_pF "DrawingHouse$Plain" 21 15 6 2 (.array (.int)) true := sorry
theorem lp_Pn_24i : q_pF "DrawingHouse$Plain" 24 15 7 2 (.array (.int)) true := sorry
theorem lp_Pn_27i : q_pF "DrawingHouse$Plain" 27 15 8 2 (.array (.int)) true := sorry
theorem lp_Pn_30i : q_pF "DrawingHouse$Plain" 30 15 9 2 (.array (.int)) true := sorry
theorem lp_Pn_33i : q_pF "DrawingHouse$Plain" 33 15 10 2 (.array (.int)) true := sorry
theorem lp_Pn_36i : q_pF "DrawingHouse$Plain" 36 15 11 2 (.array (.int)) true := sorry
theorem lp_Pn_39i : q_pF "DrawingHouse$Plain" 39 15 12 2 (.array (.long)) true := sorry
theorem lp_Pn_43i : q_pF "DrawingHouse$Plain" 43 15 13 2 (.array (.long)) true := sorry
theorem lp_Pn_46i : q_pF "DrawingHouse$Plain" 46 15 14 2 (.array (.long)) true := sorry
theorem lp_Pn_49i : q_pF "DrawingHouse$Plain" 49 15 15 2 (.array (.long)) true := sorry
theorem lp_Ro_11i : q_pF "DrawingHouse$Routes" 11 16 0 2 (.array (.int)) true := sorry
theorem lp_Ro_15i : q_pF "DrawingHouse$Routes" 15 16 1 2 (.array (.boolean)) true := sorry
theorem lp_Ro_19i : q_pF "DrawingHouse$Routes" 19 16 6 2 (.array (.int)) true := sorry
theorem lp_Ro_22i : q_pF "DrawingHouse$Routes" 22 16 7 2 (.array (.int)) true := sorry
theorem lm_Pl_39 : q_gV "DrawingHouse$Place" 39 3 1 m_Gr_copy := sorry
theorem lp_Pl_35 : q_pF "DrawingHouse$Place" 35 1 1 0 (.int) false := sorry
theorem lm_Mo_380 : q_gV "DrawingHouseModel" 380 18 0 m_Mo_permutations := sorry
theorem lp_Mo_366i : q_pF "DrawingHouseModel" 366 18 172 2 (.array (.byte)) true := sorry
theorem lp_Mo_369i : q_pF "DrawingHouseModel" 369 18 175 2 (.array (.int)) true := sorry
theorem lp_Mo_336i : q_pF "DrawingHouseModel" 336 18 151 2 (.array (.int)) true := sorry
theorem lp_Mo_339i : q_pF "DrawingHouseModel" 339 18 152 2 (.array (.int)) true := sorry
theorem lp_Mo_342i : q_pF "DrawingHouseModel" 342 18 160 2 (.array (.int)) true := sorry
theorem lp_Mo_345i : q_pF "DrawingHouseModel" 345 18 161 2 (.array (.long)) true := sorry
theorem lp_Mo_348i : q_pF "DrawingHouseModel" 348 18 162 2 (.array (.int)) true := sorry
theorem lp_Mo_351i : q_pF "DrawingHouseModel" 351 18 163 2 (.array (.int)) true := sorry
theorem lp_Mo_354i : q_pF "DrawingHouseModel" 354 18 166 2 (.array (.int)) true := sorry
theorem lp_Mo_357i : q_pF "DrawingHouseModel" 357 18 167 2 (.array (.int)) true := sorry
theorem lp_Mo_360i : q_pF "DrawingHouseModel" 360 18 168 2 (.array (.boolean)) true := sorry
theorem lp_Mo_363i : q_pF "DrawingHouseModel" 363 18 171 2 (.array (.byte)) true := sorry
theorem lp_Mo_305i : q_pF "DrawingHouseModel" 305 18 135 2 (.array (.long)) true := sorry
theorem lp_Mo_308i : q_pF "DrawingHouseModel" 308 18 136 2 (.array (.long)) true := sorry
theorem lp_Mo_311i : q_pF "DrawingHouseModel" 311 18 137 2 (.array (.long)) true := sorry
theorem lp_Mo_314i : q_pF "DrawingHouseModel" 314 18 138 2 (.array (.long)) true := sorry
theorem lp_Mo_317i : q_pF "DrawingHouseModel" 317 18 140 2 (.array (.int)) true := sorry
theorem lp_Mo_321i : q_pF "DrawingHouseModel" 321 18 141 2 (.array (.int)) true := sorry
theorem lp_Mo_324i : q_pF "DrawingHouseModel" 324 18 142 2 (.array (.int)) true := sorry
theorem lp_Mo_327i : q_pF "DrawingHouseModel" 327 18 143 2 (.array (.boolean)) true := sorry
theorem lp_Mo_330i : q_pF "DrawingHouseModel" 330 18 148 2 (.array (.int)) true := sorry
theorem lp_Mo_333i : q_pF "DrawingHouseModel" 333 18 149 2 (.array (.int)) true := sorry
theorem lp_Mo_275i : q_pF "DrawingHouseModel" 275 18 120 2 (.array (.long)) true := sorry
theorem lp_Mo_278i : q_pF "DrawingHouseModel" 278 18 122 2 (.array (.int)) true := sorry
theorem lp_Mo_281i : q_pF "DrawingHouseModel" 281 18 123 2 (.array (.int)) true := sorry
theorem lp_Mo_284i : q_pF "DrawingHouseModel" 284 18 124 2 (.array (.int)) true := sorry
theorem lp_Mo_287i : q_pF "DrawingHouseModel" 287 18 126 2 (.array (.int)) true := sorry
theorem lp_Mo_290i : q_pF "DrawingHouseModel" 290 18 127 2 (.array (.int)) true := sorry
theorem lp_Mo_293i : q_pF "DrawingHouseModel" 293 18 128 2 (.array (.int)) true := sorry
theorem lp_Mo_296i : q_pF "DrawingHouseModel" 296 18 129 2 (.array (.int)) true := sorry
theorem lp_Mo_299i : q_pF "DrawingHouseModel" 299 18 130 2 (.array (.int)) true := sorry
theorem lp_Mo_302i : q_pF "DrawingHouseModel" 302 18 131 2 (.array (.int)) true := sorry
theorem lp_Mo_243i : q_pF "DrawingHouseModel" 243 18 110 2 (.array (.int)) true := sorry
theorem lp_Mo_246i : q_pF "DrawingHouseModel" 246 18 111 2 (.array (.int)) true := sorry
theorem lp_Mo_249i : q_pF "DrawingHouseModel" 249 18 112 2 (.array (.byte)) true := sorry
theorem lp_Mo_253i : q_pF "DrawingHouseModel" 253 18 113 2 (.array (.int)) true := sorry
theorem lp_Mo_256i : q_pF "DrawingHouseModel" 256 18 114 2 (.array (.int)) true := sorry
theorem lp_Mo_259i : q_pF "DrawingHouseModel" 259 18 115 2 (.array (.int)) true := sorry
theorem lp_Mo_262i : q_pF "DrawingHouseModel" 262 18 116 2 (.array (.int)) true := sorry
theorem lp_Mo_265i : q_pF "DrawingHouseModel" 265 18 117 2 (.array (.int)) true := sorry
theorem lp_Mo_268i : q_pF "DrawingHouseModel" 268 18 118 2 (.array (.int)) true := sorry
theorem lp_Mo_271i : q_pF "DrawingHouseModel" 271 18 119 2 (.array (.long)) true := sorry
theorem lp_Mo_213i : q_pF "DrawingHouseModel" 213 18 96 2 (.array (.int)) true := sorry
theorem lp_Mo_216i : q_pF "DrawingHouseModel" 216 18 97 2 (.array (.int)) true := sorry
theorem lp_Mo_219i : q_pF "DrawingHouseModel" 219 18 98 2 (.array (.int)) true := sorry
theorem lp_Mo_222i : q_pF "DrawingHouseModel" 222 18 102 2 (.array (.int)) true := sorry
theorem lp_Mo_225i : q_pF "DrawingHouseModel" 225 18 103 2 (.array (.int)) true := sorry
theorem lp_Mo_228i : q_pF "DrawingHouseModel" 228 18 104 2 (.array (.int)) true := sorry
theorem lp_Mo_231i : q_pF "DrawingHouseModel" 231 18 105 2 (.array (.int)) true := sorry
theorem lp_Mo_234i : q_pF "DrawingHouseModel" 234 18 106 2 (.array (.int)) true := sorry
theorem lp_Mo_237i : q_pF "DrawingHouseModel" 237 18 108 2 (.array (.int)) true := sorry
theorem lp_Mo_240i : q_pF "DrawingHouseModel" 240 18 109 2 (.array (.int)) true := sorry
theorem lp_Mo_183i : q_pF "DrawingHouseModel" 183 18 85 2 (.array (.int)) true := sorry
theorem lp_Mo_186i : q_pF "DrawingHouseModel" 186 18 86 2 (.array (.boolean)) true := sorry
theorem lp_Mo_189i : q_pF "DrawingHouseModel" 189 18 87 2 (.array (.int)) true := sorry
theorem lp_Mo_192i : q_pF "DrawingHouseModel" 192 18 88 2 (.array (.int)) true := sorry
theorem lp_Mo_195i : q_pF "DrawingHouseModel" 195 18 89 2 (.array (.int)) true := sorry
theorem lp_Mo_198i : q_pF "DrawingHouseModel" 198 18 90 2 (.array (.int)) true := sorry
theorem lp_Mo_201i : q_pF "DrawingHouseModel" 201 18 91 2 (.array (.int)) true := sorry
theorem lp_Mo_204i : q_pF "DrawingHouseModel" 204 18 92 2 (.array (.int)) true := sorry
theorem lp_Mo_207i : q_pF "DrawingHouseModel" 207 18 93 2 (.array (.int)) true := sorry
theorem lp_Mo_210i : q_pF "DrawingHouseModel" 210 18 95 2 (.array (.boolean)) true := sorry
theorem lp_Mo_153i : q_pF "DrawingHouseModel" 153 18 72 2 (.array (.int)) true := sorry
theorem lp_Mo_156i : q_pF "DrawingHouseModel" 156 18 73 2 (.array (.int)) true := sorry
theorem lp_Mo_159i : q_pF "DrawingHouseModel" 159 18 74 2 (.array (.int)) true := sorry
theorem lp_Mo_162i : q_pF "DrawingHouseModel" 162 18 75 2 (.array (.int)) true := sorry
theorem lp_Mo_165i : q_pF "DrawingHouseModel" 165 18 76 2 (.array (.int)) true := sorry
theorem lp_Mo_168i : q_pF "DrawingHouseModel" 168 18 77 2 (.array (.int)) true := sorry
theorem lp_Mo_171i : q_pF "DrawingHouseModel" 171 18 78 2 (.array (.int)) true := sorry
theorem lp_Mo_174i : q_pF "DrawingHouseModel" 174 18 82 2 (.array (.int)) true := sorry
theorem lp_Mo_177i : q_pF "DrawingHouseModel" 177 18 83 2 (.array (.int)) true := sorry
theorem lp_Mo_180i : q_pF "DrawingHouseModel" 180 18 84 2 (.array (.int)) true := sorry
theorem lp_Mo_123i : q_pF "DrawingHouseModel" 123 18 62 2 (.array (.int)) true := sorry
theorem lp_Mo_126i : q_pF "DrawingHouseModel" 126 18 63 2 (.array (.int)) true := sorry
theorem lp_Mo_129i : q_pF "DrawingHouseModel" 129 18 64 2 (.array (.int)) true := sorry
theorem lp_Mo_132i : q_pF "DrawingHouseModel" 132 18 65 2 (.array (.int)) true := sorry
theorem lp_Mo_135i : q_pF "DrawingHouseModel" 135 18 66 2 (.array (.int)) true := sorry
theorem lp_Mo_138i : q_pF "DrawingHouseModel" 138 18 67 2 (.array (.int)) true := sorry
theorem lp_Mo_141i : q_pF "DrawingHouseModel" 141 18 68 2 (.array (.int)) true := sorry
theorem lp_Mo_144i : q_pF "DrawingHouseModel" 144 18 69 2 (.array (.int)) true := sorry
theorem lp_Mo_147i : q_pF "DrawingHouseModel" 147 18 70 2 (.array (.int)) true := sorry
theorem lp_Mo_150i : q_pF "DrawingHouseModel" 150 18 71 2 (.array (.int)) true := sorry
theorem lp_Mo_105i : q_pF "DrawingHouseModel" 105 18 54 2 (.array (.int)) true := sorry
theorem lf_Mo_108 : q_gF "DrawingHouseModel" 108 18 55 2 := sorry
theorem lp_Mo_108i : q_pF "DrawingHouseModel" 108 18 55 2 (.array (.int)) true := sorry
theorem lp_Mo_111i : q_pF "DrawingHouseModel" 111 18 56 2 (.array (.int)) true := sorry
theorem lp_Mo_114i : q_pF "DrawingHouseModel" 114 18 57 2 (.array (.int)) true := sorry
theorem lp_Mo_117i : q_pF "DrawingHouseModel" 117 18 60 2 (.array (.int)) true := sorry
theorem lp_Mo_120i : q_pF "DrawingHouseModel" 120 18 61 2 (.array (.int)) true := sorry
theorem lp_Mo_75i : q_pF "DrawingHouseModel" 75 18 40 2 (.array (.int)) true := sorry
theorem lp_Mo_78i : q_pF "DrawingHouseModel" 78 18 41 2 (.array (.int)) true := sorry
theorem lp_Mo_81i : q_pF "DrawingHouseModel" 81 18 42 2 (.array (.boolean)) true := sorry
theorem lp_Mo_84i : q_pF "DrawingHouseModel" 84 18 43 2 (.array (.boolean)) true := sorry
theorem lp_Mo_87i : q_pF "DrawingHouseModel" 87 18 44 2 (.array (.int)) true := sorry
theorem lp_Mo_90i : q_pF "DrawingHouseModel" 90 18 46 2 (.array (.int)) true := sorry
theorem lp_Mo_93i : q_pF "DrawingHouseModel" 93 18 48 2 (.array (.int)) true := sorry
theorem lp_Mo_96i : q_pF "DrawingHouseModel" 96 18 50 2 (.array (.int)) true := sorry
theorem lp_Mo_99i : q_pF "DrawingHouseModel" 99 18 51 2 (.array (.int)) true := sorry
theorem lp_Mo_102i : q_pF "DrawingHouseModel" 102 18 52 2 (.array (.int)) true := sorry
theorem lp_Mo_44i : q_pF "DrawingHouseModel" 44 18 21 2 (.array (.boolean)) true := sorry
theorem lp_Mo_48i : q_pF "DrawingHouseModel" 48 18 22 2 (.array (.boolean)) true := sorry
theorem lp_Mo_51i : q_pF "DrawingHouseModel" 51 18 23 2 (.array (.int)) true := sorry
theorem lp_Mo_54i : q_pF "DrawingHouseModel" 54 18 24 2 (.array (.int)) true := sorry
theorem lp_Mo_57i : q_pF "DrawingHouseModel" 57 18 33 2 (.array (.int)) true := sorry
theorem lp_Mo_60i : q_pF "DrawingHouseModel" 60 18 34 2 (.array (.int)) true := sorry
theorem lp_Mo_63i : q_pF "DrawingHouseModel" 63 18 35 2 (.array (.boolean)) true := sorry
theorem lp_Mo_66i : q_pF "DrawingHouseModel" 66 18 36 2 (.array (.int)) true := sorry
theorem lp_Mo_69i : q_pF "DrawingHouseModel" 69 18 37 2 (.array (.int)) true := sorry
theorem lp_Mo_72i : q_pF "DrawingHouseModel" 72 18 38 2 (.array (.boolean)) true := sorry
theorem lp_Mo_9i : q_pF "DrawingHouseModel" 9 18 1 2 (.array (.byte)) true := sorry
theorem lp_Mo_16i : q_pF "DrawingHouseModel" 16 18 2 2 (.array (.int)) true := sorry
theorem lp_Mo_20i : q_pF "DrawingHouseModel" 20 18 3 2 (.array (.int)) true := sorry
theorem lp_Mo_23i : q_pF "DrawingHouseModel" 23 18 4 2 (.array (.int)) true := sorry
theorem lp_Mo_26i : q_pF "DrawingHouseModel" 26 18 6 2 (.array (.int)) true := sorry
theorem lp_Mo_29i : q_pF "DrawingHouseModel" 29 18 16 2 (.array (.int)) true := sorry
theorem lp_Mo_32i : q_pF "DrawingHouseModel" 32 18 17 2 (.array (.int)) true := sorry
theorem lp_Mo_35i : q_pF "DrawingHouseModel" 35 18 18 2 (.array (.int)) true := sorry
theorem lp_Mo_38i : q_pF "DrawingHouseModel" 38 18 19 2 (.array (.int)) true := sorry
theorem lp_Mo_41i : q_pF "DrawingHouseModel" 41 18 20 2 (.array (.int)) true := sorry
def w_DH_init_0 (l : Launch) (D : qD) (d0 : Nat) (B : Nat × Nat) (Q : qQ) : qK := (s_aload 0 (s_oinit (s_aload 0 (s_ic (2000) (s_newa 101 (s_putR 0 0 (s_aload 0 (s_ic (4) (s_newa 104 (s_dup (s_ic (0) (s_new 1 6 (s_dup (s_invI l D (d0, 26, 3436) m_Pl_init 0 (s_aast (s_dup (s_ic (1) (s_new 1 6 (s_dup (s_invI l D (d0, 26, 3436) m_Pl_init 0 (s_aast (s_dup (s_ic (2) (s_new 1 6 (s_dup (s_invI l D (d0, 26, 3436) m_Pl_init 0 (s_aast (s_dup (s_ic (3) (s_new 1 6 (s_dup (s_invI l D (d0, 26, 3436) m_Pl_init 0 (s_aast (s_putR 0 2 (s_aload 0 (s_new 4 10 (s_dup (s_invI l D (d0, 14, 2556) m_GR_init 0 (s_putR 0 3 (s_aload 0 (s_new 6 19 (s_dup (s_invI l D (d0, 8, 10091) m_Sy_init 0 (s_putR 0 4 (s_aload 0 (s_new 7 16 (s_dup (s_invI l D (d0, 9, 264) m_Sh_init 0 (s_putR 0 7 (s_aload 0 (s_ic (-1) (s_putI 0 8 (s_aload 0 (s_new 8 9 (s_dup (s_invI l D (d0, 6, 1248) m_Li_init 0 (s_putR 0 9 (s_aload 0 (s_new 9 20 (s_dup (s_invI l D (d0, 13, 2477) m_Em_init 0 (s_putR 0 10 (s_aload 0 (s_new 10 11 (s_dup (s_invI l D (d0, 8, 10772) m_We_init 0 (s_putR 0 11 (s_aload 0 (s_ic (-1) (s_putI 0 12 (s_aload 0 (s_new 3 14 (s_dup (s_invI l D (d0, 11, 536) m_Gr_init 0 (s_putR 0 14 (s_aload 0 (s_new 7 16 (s_dup (s_invI l D (d0, 9, 264) m_Sh_init 0 (s_putR 0 15 (s_aload 0 (s_ic (48) (s_newa 100 (s_putR 0 16 (s_aload 0 (s_new 2 15 (s_dup (s_invI l D (d0, 10, 2624) m_Dr_init 0 (s_putR 0 19 (s_aload 0 (s_new 11 27 (s_dup (s_invI l D (d0, 28, 26391) m_La_init 0 (s_putR 0 20 (s_aload 0 (s_new 13 8 (s_dup (s_invI l D (d0, 7, 169) m_Gd_init 0 (s_putR 0 21 (s_aload 0 (s_new 14 7 (s_dup (s_invI l D (d0, 6, 180) m_Ba_init 0 (s_putR 0 22 (s_aload 0 (s_new 15 16 (s_dup (s_invI l D (d0, 13, 1432) m_Pn_init 0 (s_putR 0 23 (s_aload 0 (s_new 16 9 (s_dup (s_invI l D (d0, 4, 30048) m_Ro_init 0 (s_putR 0 24 (s_aload 0 (s_new 17 10 (s_dup (s_invI l D (d0, 0, 0) m_Ju_init 0 (s_putR 0 25 (s_aload 0 (s_ic (48) (s_newa 102 (s_putR 0 26 (s_aload 0 (s_ic (4000) (s_newa 101 (s_putR 0 27 (s_aload 0 (s_ic (4000) (s_newa 101 (s_putR 0 30 (s_aload 0 (s_ic (4096) (s_newa 100 (s_putR 0 31 (s_aload 0 (s_ic (48) (s_newa 100 (s_putR 0 34 (s_aload 0 (s_ic (48) (s_newa 100 (s_putR 0 35 (s_aload 0 (s_ic (48) (s_newa 102 (s_putR 0 36 (s_vret Q))))))))))))))))))))))))))))))))))))))))))))))))))))))))))))))))))))))))))))))))))))))))))))))))))))))))))))))))))))))))))))))))))))))))))))))))))))
theorem DH_init_0 {l : Launch} {D : qD} {d0 : Nat} {B : Nat × Nat} {Q : qQ} : qI (w_DH_init_0 l D d0 B Q) (qR l D (d0 + 1, B) m_DH_init 0 Q) := sorry
def w_Pl_init_0 (l : Launch) (D : qD) (d0 : Nat) (B : Nat × Nat) (Q : qQ) : qK := (s_aload 0 (s_oinit (s_aload 0 (s_ic (31) (s_newa 105 (s_putR 1 0 (s_aload 0 (s_new 2 15 (s_dup (s_invI l D (d0, 10, 2624) m_Dr_init 0 (s_putR 1 3 (s_aload 0 (s_ic (72) (s_newa 100 (s_putR 1 4 (s_aload 0 (s_ic (144) (s_newa 100 (s_putR 1 5 (s_aload 0 (s_getR 1 0 (s_ic (0) (s_new 3 14 (s_dup (s_invI l D (d0, 11, 536) m_Gr_init 0 (s_aast (s_aload 0 (s_getR 1 0 (s_ic (0) (s_aald (s_Gr_clear d0 (s_vret Q))))))))))))))))))))))))))))))))
theorem Pl_init_0 {l : Launch} {D : qD} {d0 : Nat} {B : Nat × Nat} {Q : qQ} : qI (w_Pl_init_0 l D d0 B Q) (qR l D (d0 + 1, B) m_Pl_init 0 Q) := sorry
def w_Dr_init_0 (l : Launch) (D : qD) (d0 : Nat) (B : Nat × Nat) (Q : qQ) : qK := (s_aload 0 (s_oinit (s_aload 0 (s_ic (24) (s_newa 100 (s_putR 2 5 (s_aload 0 (s_ic (24) (s_newa 100 (s_putR 2 6 (s_aload 0 (s_ic (48) (s_newa 100 (s_putR 2 7 (s_aload 0 (s_ic (1152) (s_newa 100 (s_putR 2 8 (s_aload 0 (s_ic (1152) (s_newa 100 (s_putR 2 9 (s_aload 0 (s_ic (24) (s_newa 100 (s_putR 2 10 (s_aload 0 (s_ic (24) (s_newa 100 (s_putR 2 11 (s_aload 0 (s_ic (96) (s_newa 100 (s_putR 2 12 (s_aload 0 (s_ic (32) (s_newa 100 (s_putR 2 13 (s_aload 0 (s_ic (48) (s_newa 102 (s_putR 2 14 (s_vret Q)))))))))))))))))))))))))))))))))))))))))))
theorem Dr_init_0 {l : Launch} {D : qD} {d0 : Nat} {B : Nat × Nat} {Q : qQ} : qI (w_Dr_init_0 l D d0 B Q) (qR l D (d0 + 1, B) m_Dr_init 0 Q) := sorry
def w_Gr_init_0 (l : Launch) (D : qD) (d0 : Nat) (B : Nat × Nat) (Q : qQ) : qK := (s_aload 0 (s_oinit (s_aload 0 (s_ic (1) (s_putI 3 2 (s_aload 0 (s_ic (192) (s_newa 101 (s_putR 3 3 (s_aload 0 (s_ic (64) (s_newa 101 (s_putR 3 4 (s_aload 0 (s_ic (24) (s_newa 100 (s_putR 3 5 (s_aload 0 (s_ic (24) (s_newa 100 (s_putR 3 6 (s_aload 0 (s_ic (24) (s_newa 100 (s_putR 3 7 (s_aload 0 (s_ic (48) (s_newa 100 (s_putR 3 8 (s_aload 0 (s_ic (48) (s_newa 100 (s_putR 3 9 (s_aload 0 (s_ic (48) (s_newa 100 (s_putR 3 10 (s_aload 0 (s_ic (48) (s_newa 102 (s_putR 3 11 (s_aload 0 (s_ic (8) (s_newa 100 (s_putR 3 12 (s_aload 0 (s_ic (8) (s_newa 100 (s_putR 3 13 (s_vret Q))))))))))))))))))))))))))))))))))))))))))))))))))
theorem Gr_init_0 {l : Launch} {D : qD} {d0 : Nat} {B : Nat × Nat} {Q : qQ} : qI (w_Gr_init_0 l D d0 B Q) (qR l D (d0 + 1, B) m_Gr_init 0 Q) := sorry
def w_Sh_init_0 (l : Launch) (D : qD) (d0 : Nat) (B : Nat × Nat) (Q : qQ) : qK := (s_aload 0 (s_oinit (s_aload 0 (s_ic (24) (s_newa 100 (s_putR 7 0 (s_aload 0 (s_ic (24) (s_newa 100 (s_putR 7 1 (s_aload 0 (s_ic (24) (s_newa 100 (s_putR 7 2 (s_aload 0 (s_ic (24) (s_newa 100 (s_putR 7 3 (s_aload 0 (s_ic (48) (s_newa 100 (s_putR 7 4 (s_aload 0 (s_ic (24) (s_newa 100 (s_putR 7 5 (s_aload 0 (s_ic (24) (s_newa 100 (s_putR 7 9 (s_aload 0 (s_ic (24) (s_newa 100 (s_putR 7 10 (s_aload 0 (s_ic (48) (s_newa 100 (s_putR 7 11 (s_vret Q)))))))))))))))))))))))))))))))))))))))
theorem Sh_init_0 {l : Launch} {D : qD} {d0 : Nat} {B : Nat × Nat} {Q : qQ} : qI (w_Sh_init_0 l D d0 B Q) (qR l D (d0 + 1, B) m_Sh_init 0 Q) := sorry
def w_Li_init_0 (l : Launch) (D : qD) (d0 : Nat) (B : Nat × Nat) (Q : qQ) : qK := (s_aload 0 (s_oinit (s_aload 0 (s_ic (24) (s_newa 100 (s_putR 8 0 (s_aload 0 (s_ic (24) (s_newa 100 (s_putR 8 1 (s_aload 0 (s_ic (-1) (s_putI 8 2 (s_aload 0 (s_ic (576) (s_newa 100 (s_putR 8 5 (s_aload 0 (s_ic (576) (s_newa 100 (s_putR 8 6 (s_aload 0 (s_ic (24) (s_newa 100 (s_putR 8 7 (s_aload 0 (s_ic (24) (s_newa 100 (s_putR 8 8 (s_vret Q))))))))))))))))))))))))))))))
theorem Li_init_0 {l : Launch} {D : qD} {d0 : Nat} {B : Nat × Nat} {Q : qQ} : qI (w_Li_init_0 l D d0 B Q) (qR l D (d0 + 1, B) m_Li_init 0 Q) := sorry
def w_Em_init_0 (l : Launch) (D : qD) (d0 : Nat) (B : Nat × Nat) (Q : qQ) : qK := (s_aload 0 (s_oinit (s_aload 0 (s_ic (72) (s_newa 100 (s_putR 9 0 (s_aload 0 (s_ic (72) (s_newa 100 (s_putR 9 1 (s_aload 0 (s_ic (72) (s_newa 100 (s_putR 9 4 (s_aload 0 (s_ic (72) (s_newa 102 (s_putR 9 6 (s_aload 0 (s_ic (1248) (s_newa 100 (s_putR 9 9 (s_aload 0 (s_ic (48) (s_newa 100 (s_putR 9 10 (s_aload 0 (s_ic (48) (s_newa 100 (s_putR 9 11 (s_aload 0 (s_ic (72) (s_newa 100 (s_putR 9 12 (s_aload 0 (s_ic (72) (s_newa 100 (s_putR 9 13 (s_aload 0 (s_ic (25) (s_newa 100 (s_putR 9 15 (s_aload 0 (s_ic (25) (s_newa 100 (s_putR 9 16 (s_aload 0 (s_ic (625) (s_newa 100 (s_putR 9 18 (s_aload 0 (s_ic (26) (s_newa 100 (s_putR 9 19 (s_vret Q)))))))))))))))))))))))))))))))))))))))))))))))))))))))
theorem Em_init_0 {l : Launch} {D : qD} {d0 : Nat} {B : Nat × Nat} {Q : qQ} : qI (w_Em_init_0 l D d0 B Q) (qR l D (d0 + 1, B) m_Em_init 0 Q) := sorry
def w_We_init_0 (l : Launch) (D : qD) (d0 : Nat) (B : Nat × Nat) (Q : qQ) : qK := (s_aload 0 (s_oinit (s_aload 0 (s_ic (80) (s_newa 100 (s_putR 10 3 (s_aload 0 (s_ic (80) (s_newa 100 (s_putR 10 4 (s_aload 0 (s_ic (24) (s_newa 100 (s_putR 10 5 (s_aload 0 (s_ic (768) (s_newa 100 (s_putR 10 6 (s_aload 0 (s_ic (9600) (s_newa 100 (s_putR 10 7 (s_aload 0 (s_ic (60) (s_newa 100 (s_putR 10 8 (s_aload 0 (s_ic (80) (s_newa 100 (s_putR 10 9 (s_aload 0 (s_ic (80) (s_newa 100 (s_putR 10 10 (s_vret Q)))))))))))))))))))))))))))))))))))
theorem We_init_0 {l : Launch} {D : qD} {d0 : Nat} {B : Nat × Nat} {Q : qQ} : qI (w_We_init_0 l D d0 B Q) (qR l D (d0 + 1, B) m_We_init 0 Q) := sorry
def w_La_init_0 (l : Launch) (D : qD) (d0 : Nat) (B : Nat × Nat) (Q : qQ) : qK := (s_aload 0 (s_oinit (s_aload 0 (s_new 12 8 (s_dup (s_invI l D (d0, 6, 2120) m_Ps_init 0 (s_putR 11 0 (s_aload 0 (s_ic (48) (s_newa 102 (s_putR 11 3 (s_aload 0 (s_ic (24) (s_newa 100 (s_putR 11 4 (s_aload 0 (s_ic (73) (s_newa 100 (s_putR 11 5 (s_aload 0 (s_ic (73) (s_newa 100 (s_putR 11 6 (s_aload 0 (s_ic (25) (s_newa 100 (s_putR 11 7 (s_aload 0 (s_ic (24) (s_newa 100 (s_putR 11 8 (s_aload 0 (s_ic (72) (s_newa 100 (s_putR 11 9 (s_aload 0 (s_ic (72) (s_newa 100 (s_putR 11 10 (s_aload 0 (s_ic (72) (s_newa 100 (s_putR 11 11 (s_aload 0 (s_ic (120) (s_newa 100 (s_putR 11 14 (s_aload 0 (s_ic (120) (s_newa 100 (s_putR 11 15 (s_aload 0 (s_ic (120) (s_newa 100 (s_putR 11 16 (s_aload 0 (s_ic (128) (s_newa 100 (s_putR 11 18 (s_aload 0 (s_ic (72) (s_newa 100 (s_putR 11 19 (s_aload 0 (s_ic (72) (s_newa 100 (s_putR 11 20 (s_aload 0 (s_ic (72) (s_newa 100 (s_putR 11 21 (s_aload 0 (s_ic (4320) (s_newa 100 (s_putR 11 22 (s_aload 0 (s_ic (720) (s_newa 100 (s_putR 11 23 (s_aload 0 (s_ic (720) (s_newa 100 (s_putR 11 24 (s_aload 0 (s_ic (17280) (s_newa 100 (s_putR 11 25 (s_aload 0 (s_ic (36) (s_newa 100 (s_putR 11 26 (s_vret Q))))))))))))))))))))))))))))))))))))))))))))))))))))))))))))))))))))))))))))))))))))))))))))
theorem La_init_0 {l : Launch} {D : qD} {d0 : Nat} {B : Nat × Nat} {Q : qQ} : qI (w_La_init_0 l D d0 B Q) (qR l D (d0 + 1, B) m_La_init 0 Q) := sorry
def w_Ps_init_0 (l : Launch) (D : qD) (d0 : Nat) (B : Nat × Nat) (Q : qQ) : qK := (s_aload 0 (s_oinit (s_aload 0 (s_ic (420) (s_newa 100 (s_putR 12 2 (s_aload 0 (s_ic (420) (s_newa 100 (s_putR 12 3 (s_aload 0 (s_ic (420) (s_newa 100 (s_putR 12 4 (s_aload 0 (s_ic (420) (s_newa 100 (s_putR 12 5 (s_aload 0 (s_ic (220) (s_newa 100 (s_putR 12 6 (s_aload 0 (s_ic (220) (s_newa 100 (s_putR 12 7 (s_vret Q)))))))))))))))))))))))))))
theorem Ps_init_0 {l : Launch} {D : qD} {d0 : Nat} {B : Nat × Nat} {Q : qQ} : qI (w_Ps_init_0 l D d0 B Q) (qR l D (d0 + 1, B) m_Ps_init 0 Q) := sorry
def w_Gd_init_0 (l : Launch) (D : qD) (d0 : Nat) (B : Nat × Nat) (Q : qQ) : qK := (s_aload 0 (s_oinit (s_aload 0 (s_ic (24) (s_newa 100 (s_putR 13 0 (s_aload 0 (s_ic (25) (s_newa 100 (s_putR 13 1 (s_aload 0 (s_ic (24) (s_newa 100 (s_putR 13 2 (s_aload 0 (s_ic (24) (s_newa 100 (s_putR 13 3 (s_aload 0 (s_ic (24) (s_newa 100 (s_putR 13 4 (s_aload 0 (s_ic (24) (s_newa 100 (s_putR 13 5 (s_aload 0 (s_ic (24) (s_newa 100 (s_putR 13 6 (s_vret Q)))))))))))))))))))))))))))))))
theorem Gd_init_0 {l : Launch} {D : qD} {d0 : Nat} {B : Nat × Nat} {Q : qQ} : qI (w_Gd_init_0 l D d0 B Q) (qR l D (d0 + 1, B) m_Gd_init 0 Q) := sorry
def w_Ba_init_0 (l : Launch) (D : qD) (d0 : Nat) (B : Nat × Nat) (Q : qQ) : qK := (s_aload 0 (s_oinit (s_aload 0 (s_ic (24) (s_newa 100 (s_putR 14 0 (s_aload 0 (s_ic (24) (s_newa 100 (s_putR 14 1 (s_aload 0 (s_ic (24) (s_newa 100 (s_putR 14 2 (s_aload 0 (s_ic (60) (s_newa 100 (s_putR 14 3 (s_aload 0 (s_ic (24) (s_newa 100 (s_putR 14 4 (s_aload 0 (s_ic (24) (s_newa 100 (s_putR 14 5 (s_vret Q)))))))))))))))))))))))))))
theorem Ba_init_0 {l : Launch} {D : qD} {d0 : Nat} {B : Nat × Nat} {Q : qQ} : qI (w_Ba_init_0 l D d0 B Q) (qR l D (d0 + 1, B) m_Ba_init 0 Q) := sorry
def w_Pn_init_0 (l : Launch) (D : qD) (d0 : Nat) (B : Nat × Nat) (Q : qQ) : qK := (s_aload 0 (s_oinit (s_aload 0 (s_ic (24) (s_newa 100 (s_putR 15 3 (s_aload 0 (s_ic (576) (s_newa 100 (s_putR 15 4 (s_aload 0 (s_ic (576) (s_newa 100 (s_putR 15 5 (s_aload 0 (s_ic (24) (s_newa 100 (s_putR 15 6 (s_aload 0 (s_ic (24) (s_newa 100 (s_putR 15 7 (s_aload 0 (s_ic (32) (s_newa 100 (s_putR 15 8 (s_aload 0 (s_ic (32) (s_newa 100 (s_putR 15 9 (s_aload 0 (s_ic (24) (s_newa 100 (s_putR 15 10 (s_aload 0 (s_ic (24) (s_newa 100 (s_putR 15 11 (s_aload 0 (s_ic (24) (s_newa 103 (s_putR 15 12 (s_aload 0 (s_ic (24) (s_newa 103 (s_putR 15 13 (s_aload 0 (s_ic (24) (s_newa 103 (s_putR 15 14 (s_aload 0 (s_ic (24) (s_newa 103 (s_putR 15 15 (s_vret Q)))))))))))))))))))))))))))))))))))))))))))))))))))))))
theorem Pn_init_0 {l : Launch} {D : qD} {d0 : Nat} {B : Nat × Nat} {Q : qQ} : qI (w_Pn_init_0 l D d0 B Q) (qR l D (d0 + 1, B) m_Pn_init 0 Q) := sorry
def w_Ro_init_0 (l : Launch) (D : qD) (d0 : Nat) (B : Nat × Nat) (Q : qQ) : qK := (s_aload 0 (s_oinit (s_aload 0 (s_ic (24000) (s_newa 100 (s_putR 16 0 (s_aload 0 (s_ic (6000) (s_newa 102 (s_putR 16 1 (s_aload 0 (s_ic (24) (s_newa 100 (s_putR 16 6 (s_aload 0 (s_ic (24) (s_newa 100 (s_putR 16 7 (s_vret Q)))))))))))))))))))
theorem Ro_init_0 {l : Launch} {D : qD} {d0 : Nat} {B : Nat × Nat} {Q : qQ} : qI (w_Ro_init_0 l D d0 B Q) (qR l D (d0 + 1, B) m_Ro_init 0 Q) := sorry
def w_Ju_init_0 (l : Launch) (D : qD) (d0 : Nat) (B : Nat × Nat) (Q : qQ) : qK := (s_aload 0 (s_oinit (s_vret Q)))
theorem Ju_init_0 {l : Launch} {D : qD} {d0 : Nat} {B : Nat × Nat} {Q : qQ} : qI (w_Ju_init_0 l D d0 B Q) (qR l D (d0 + 1, B) m_Ju_init 0 Q) := sorry
def w_Pl_more_94 (l : Launch) (D : qD) (d0 : Nat) (B : Nat × Nat) (Q : qQ) : qK := (s_aload 0 (s_getR 1 0 (s_aload 0 (s_getI 1 1 (s_ic (1) (s_iadd (s_aald (s_aload 0 (s_getR 1 0 (s_aload 0 (s_getI 1 1 (s_aald (s_invV l D (d0, 0, 0) 3 m_Gr_copy 1 (s_aload 0 (s_getR 1 0 (s_aload 0 (s_getI 1 1 (s_ic (1) (s_iadd (s_aald (s_aret Q)))))))))))))))))))))
theorem Pl_more_94 {l : Launch} {D : qD} {d0 : Nat} {B : Nat × Nat} {Q : qQ} : qI (w_Pl_more_94 l D d0 B Q) (qR l D (d0 + 1, B) m_Pl_more 94 Q) := sorry
def w_Pl_more_62 (l : Launch) (D : qD) (d0 : Nat) (B : Nat × Nat) (Q : qQ) : qK := (s_aload 0 (s_getR 1 0 (s_aload 0 (s_getI 1 1 (s_ic (1) (s_iadd (s_aald (s_ifnon (w_Pl_more_94 l D d0 B Q) (s_aload 0 (s_getR 1 0 (s_aload 0 (s_getI 1 1 (s_ic (1) (s_iadd (s_new 3 14 (s_dup (s_invI l D (d0, 11, 536) m_Gr_init 0 (s_aast (w_Pl_more_94 l D d0 B Q)))))))))))))))))))
theorem Pl_more_62 {l : Launch} {D : qD} {d0 : Nat} {B : Nat × Nat} {Q : qQ} : qI (w_Pl_more_62 l D d0 B Q) (qR l D (d0 + 1, B) m_Pl_more 62 Q) := sorry
def w_Pl_more_44 (l : Launch) (D : qD) (d0 : Nat) (B : Nat × Nat) (Q : qQ) : qK := (s_aload 0 (s_getR 1 0 (s_ic (30) (s_aload 1 (s_aast (s_aload 0 (s_dup (s_getI 1 1 (s_ic (1) (s_isub (s_putI 1 1 (w_Pl_more_62 l D d0 B Q))))))))))))
theorem Pl_more_44 {l : Launch} {D : qD} {d0 : Nat} {B : Nat × Nat} {Q : qQ} : qI (w_Pl_more_44 l D d0 B Q) (qR l D (d0 + 1, B) m_Pl_more 44 Q) := sorry
def w_Pl_more_18 (l : Launch) (D : qD) (d0 : Nat) (B : Nat × Nat) (Q : qQ) : qK := (s_iload 2 (s_ic (31) (s_icmp_ge (w_Pl_more_44 l D d0 B Q) (s_aload 0 (s_getR 1 0 (s_iload 2 (s_ic (1) (s_isub (s_aload 0 (s_getR 1 0 (s_iload 2 (s_aald (s_aast (s_iinc 2 (1) (qR l D (d0 + 1, B) m_Pl_more 18 Q)))))))))))))))
theorem Pl_more_18 {l : Launch} {D : qD} {d0 : Nat} {B : Nat × Nat} {Q : qQ} : qI (w_Pl_more_18 l D d0 B Q) (qR l D (d0 + 1, B) m_Pl_more 18 Q) := sorry
def w_Pl_more_0 (l : Launch) (D : qD) (d0 : Nat) (B : Nat × Nat) (Q : qQ) : qK := (s_aload 0 (s_getI 1 1 (s_ic (30) (s_icmp_ne (w_Pl_more_62 l D d0 B Q) (s_aload 0 (s_getR 1 0 (s_ic (0) (s_aald (s_astore 1 (s_ic (1) (s_istore 2 (qR l D (d0 + 1, B) m_Pl_more 18 Q))))))))))))
theorem Pl_more_0 {l : Launch} {D : qD} {d0 : Nat} {B : Nat × Nat} {Q : qQ} : qI (w_Pl_more_0 l D d0 B Q) (qR l D (d0 + 1, B) m_Pl_more 0 Q) := sorry
def w_Mo_init_1021 (l : Launch) (D : qD) (d0 : Nat) (B : Nat × Nat) (Q : qQ) : qK := (s_aload 0 (s_invV l D (d0, 0, 0) 18 m_Mo_permutations 0 (s_vret Q)))
theorem Mo_init_1021 {l : Launch} {D : qD} {d0 : Nat} {B : Nat × Nat} {Q : qQ} : qI (w_Mo_init_1021 l D d0 B Q) (qR l D (d0 + 1, B) m_Mo_init 1021 Q) := sorry
def w_Mo_init_1001 (l : Launch) (D : qD) (d0 : Nat) (B : Nat × Nat) (Q : qQ) : qK := (s_iload 1 (s_ic (4) (s_icmp_ge (w_Mo_init_1021 l D d0 B Q) (s_aload 0 (s_iload 1 (s_ic (0) (s_Mo_rowOf d0 (s_invV l D (d0, 0, 0) 18 m_Mo_clear 1 (s_iinc 1 (1) (qR l D (d0 + 1, B) m_Mo_init 1001 Q))))))))))
theorem Mo_init_1001 {l : Launch} {D : qD} {d0 : Nat} {B : Nat × Nat} {Q : qQ} : qI (w_Mo_init_1001 l D d0 B Q) (qR l D (d0 + 1, B) m_Mo_init 1001 Q) := sorry
def w_Mo_init_981 (l : Launch) (D : qD) (d0 : Nat) (B : Nat × Nat) (Q : qQ) : qK := (s_aload 0 (s_ic (4000) (s_newa 101 (s_putR 18 172 (s_aload 0 (s_ic (4096) (s_newa 100 (s_putR 18 175 (s_ic (0) (s_istore 1 (qR l D (d0 + 1, B) m_Mo_init 1001 Q)))))))))))
theorem Mo_init_981 {l : Launch} {D : qD} {d0 : Nat} {B : Nat × Nat} {Q : qQ} : qI (w_Mo_init_981 l D d0 B Q) (qR l D (d0 + 1, B) m_Mo_init 981 Q) := sorry
def w_Mo_init_896 (l : Launch) (D : qD) (d0 : Nat) (B : Nat × Nat) (Q : qQ) : qK := (s_aload 0 (s_ic (48) (s_newa 100 (s_putR 18 151 (s_aload 0 (s_ic (48) (s_newa 100 (s_putR 18 152 (s_aload 0 (s_ic (2010) (s_newa 100 (s_putR 18 160 (s_aload 0 (s_ic (2010) (s_newa 103 (s_putR 18 161 (s_aload 0 (s_ic (2010) (s_newa 100 (s_putR 18 162 (s_aload 0 (s_ic (2010) (s_newa 100 (s_putR 18 163 (s_aload 0 (s_ic (26) (s_newa 100 (s_putR 18 166 (s_aload 0 (s_ic (26) (s_newa 100 (s_putR 18 167 (s_aload 0 (s_ic (48) (s_newa 102 (s_putR 18 168 (s_aload 0 (s_ic (4000) (s_newa 101 (s_putR 18 171 (w_Mo_init_981 l D d0 B Q)))))))))))))))))))))))))))))))))))))))))
theorem Mo_init_896 {l : Launch} {D : qD} {d0 : Nat} {B : Nat × Nat} {Q : qQ} : qI (w_Mo_init_896 l D d0 B Q) (qR l D (d0 + 1, B) m_Mo_init 896 Q) := sorry
def w_Mo_init_814 (l : Launch) (D : qD) (d0 : Nat) (B : Nat × Nat) (Q : qQ) : qK := (s_aload 0 (s_ic (26) (s_newa 103 (s_putR 18 135 (s_aload 0 (s_ic (26) (s_newa 103 (s_putR 18 136 (s_aload 0 (s_ic (26) (s_newa 103 (s_putR 18 137 (s_aload 0 (s_ic (26) (s_newa 103 (s_putR 18 138 (s_aload 0 (s_ic (24000) (s_newa 100 (s_putR 18 140 (s_aload 0 (s_ic (96040) (s_newa 100 (s_putR 18 141 (s_aload 0 (s_ic (4) (s_newa 100 (s_putR 18 142 (s_aload 0 (s_ic (6000) (s_newa 102 (s_putR 18 143 (s_aload 0 (s_ic (26) (s_newa 100 (s_putR 18 148 (s_aload 0 (s_ic (26) (s_newa 100 (s_putR 18 149 (w_Mo_init_896 l D d0 B Q)))))))))))))))))))))))))))))))))))))))))
theorem Mo_init_814 {l : Launch} {D : qD} {d0 : Nat} {B : Nat × Nat} {Q : qQ} : qI (w_Mo_init_814 l D d0 B Q) (qR l D (d0 + 1, B) m_Mo_init 814 Q) := sorry
def w_Mo_init_734 (l : Launch) (D : qD) (d0 : Nat) (B : Nat × Nat) (Q : qQ) : qK := (s_aload 0 (s_ic (76) (s_newa 103 (s_putR 18 120 (s_aload 0 (s_ic (30) (s_newa 100 (s_putR 18 122 (s_aload 0 (s_ic (26) (s_newa 100 (s_putR 18 123 (s_aload 0 (s_ic (26) (s_newa 100 (s_putR 18 124 (s_aload 0 (s_ic (26) (s_newa 100 (s_putR 18 126 (s_aload 0 (s_ic (26) (s_newa 100 (s_putR 18 127 (s_aload 0 (s_ic (26) (s_newa 100 (s_putR 18 128 (s_aload 0 (s_ic (26) (s_newa 100 (s_putR 18 129 (s_aload 0 (s_ic (40) (s_newa 100 (s_putR 18 130 (s_aload 0 (s_ic (40) (s_newa 100 (s_putR 18 131 (w_Mo_init_814 l D d0 B Q)))))))))))))))))))))))))))))))))))))))))
theorem Mo_init_734 {l : Launch} {D : qD} {d0 : Nat} {B : Nat × Nat} {Q : qQ} : qI (w_Mo_init_734 l D d0 B Q) (qR l D (d0 + 1, B) m_Mo_init 734 Q) := sorry
def w_Mo_init_652 (l : Launch) (D : qD) (d0 : Nat) (B : Nat × Nat) (Q : qQ) : qK := (s_aload 0 (s_ic (8) (s_newa 100 (s_putR 18 110 (s_aload 0 (s_ic (8) (s_newa 100 (s_putR 18 111 (s_aload 0 (s_ic (6000) (s_newa 101 (s_putR 18 112 (s_aload 0 (s_ic (54720) (s_newa 100 (s_putR 18 113 (s_aload 0 (s_ic (36) (s_newa 100 (s_putR 18 114 (s_aload 0 (s_ic (76) (s_newa 100 (s_putR 18 115 (s_aload 0 (s_ic (6) (s_newa 100 (s_putR 18 116 (s_aload 0 (s_ic (100) (s_newa 100 (s_putR 18 117 (s_aload 0 (s_ic (5776) (s_newa 100 (s_putR 18 118 (s_aload 0 (s_ic (76) (s_newa 103 (s_putR 18 119 (w_Mo_init_734 l D d0 B Q)))))))))))))))))))))))))))))))))))))))))
theorem Mo_init_652 {l : Launch} {D : qD} {d0 : Nat} {B : Nat × Nat} {Q : qQ} : qI (w_Mo_init_652 l D d0 B Q) (qR l D (d0 + 1, B) m_Mo_init 652 Q) := sorry
def w_Mo_init_569 (l : Launch) (D : qD) (d0 : Nat) (B : Nat × Nat) (Q : qQ) : qK := (s_aload 0 (s_ic (26) (s_newa 100 (s_putR 18 96 (s_aload 0 (s_ic (26) (s_newa 100 (s_putR 18 97 (s_aload 0 (s_ic (26) (s_newa 100 (s_putR 18 98 (s_aload 0 (s_ic (76) (s_newa 100 (s_putR 18 102 (s_aload 0 (s_ic (76) (s_newa 100 (s_putR 18 103 (s_aload 0 (s_ic (48) (s_newa 100 (s_putR 18 104 (s_aload 0 (s_ic (76) (s_newa 100 (s_putR 18 105 (s_aload 0 (s_ic (5776) (s_newa 100 (s_putR 18 106 (s_aload 0 (s_ic (130) (s_newa 100 (s_putR 18 108 (s_aload 0 (s_ic (130) (s_newa 100 (s_putR 18 109 (w_Mo_init_652 l D d0 B Q)))))))))))))))))))))))))))))))))))))))))
theorem Mo_init_569 {l : Launch} {D : qD} {d0 : Nat} {B : Nat × Nat} {Q : qQ} : qI (w_Mo_init_569 l D d0 B Q) (qR l D (d0 + 1, B) m_Mo_init 569 Q) := sorry
def w_Mo_init_483 (l : Launch) (D : qD) (d0 : Nat) (B : Nat × Nat) (Q : qQ) : qK := (s_aload 0 (s_ic (200) (s_newa 100 (s_putR 18 85 (s_aload 0 (s_ic (200) (s_newa 102 (s_putR 18 86 (s_aload 0 (s_ic (200) (s_newa 100 (s_putR 18 87 (s_aload 0 (s_ic (200) (s_newa 100 (s_putR 18 88 (s_aload 0 (s_ic (200) (s_newa 100 (s_putR 18 89 (s_aload 0 (s_ic (6084) (s_newa 100 (s_putR 18 90 (s_aload 0 (s_ic (78) (s_newa 100 (s_putR 18 91 (s_aload 0 (s_ic (100) (s_newa 100 (s_putR 18 92 (s_aload 0 (s_ic (78) (s_newa 100 (s_putR 18 93 (s_aload 0 (s_ic (48) (s_newa 102 (s_putR 18 95 (w_Mo_init_569 l D d0 B Q)))))))))))))))))))))))))))))))))))))))))
theorem Mo_init_483 {l : Launch} {D : qD} {d0 : Nat} {B : Nat × Nat} {Q : qQ} : qI (w_Mo_init_483 l D d0 B Q) (qR l D (d0 + 1, B) m_Mo_init 483 Q) := sorry
def w_Mo_init_397 (l : Launch) (D : qD) (d0 : Nat) (B : Nat × Nat) (Q : qQ) : qK := (s_aload 0 (s_ic (128) (s_newa 100 (s_putR 18 72 (s_aload 0 (s_ic (864) (s_newa 100 (s_putR 18 73 (s_aload 0 (s_ic (100) (s_newa 100 (s_putR 18 74 (s_aload 0 (s_ic (100) (s_newa 100 (s_putR 18 75 (s_aload 0 (s_ic (48) (s_newa 100 (s_putR 18 76 (s_aload 0 (s_ic (1152) (s_newa 100 (s_putR 18 77 (s_aload 0 (s_ic (1152) (s_newa 100 (s_putR 18 78 (s_aload 0 (s_ic (76) (s_newa 100 (s_putR 18 82 (s_aload 0 (s_ic (200) (s_newa 100 (s_putR 18 83 (s_aload 0 (s_ic (200) (s_newa 100 (s_putR 18 84 (w_Mo_init_483 l D d0 B Q)))))))))))))))))))))))))))))))))))))))))
theorem Mo_init_397 {l : Launch} {D : qD} {d0 : Nat} {B : Nat × Nat} {Q : qQ} : qI (w_Mo_init_397 l D d0 B Q) (qR l D (d0 + 1, B) m_Mo_init 397 Q) := sorry
def w_Mo_init_314 (l : Launch) (D : qD) (d0 : Nat) (B : Nat × Nat) (Q : qQ) : qK := (s_aload 0 (s_ic (96) (s_newa 100 (s_putR 18 62 (s_aload 0 (s_ic (96) (s_newa 100 (s_putR 18 63 (s_aload 0 (s_ic (192) (s_newa 100 (s_putR 18 64 (s_aload 0 (s_ic (4608) (s_newa 100 (s_putR 18 65 (s_aload 0 (s_ic (4608) (s_newa 100 (s_putR 18 66 (s_aload 0 (s_ic (4) (s_newa 100 (s_putR 18 67 (s_aload 0 (s_ic (4) (s_newa 100 (s_putR 18 68 (s_aload 0 (s_ic (96) (s_newa 100 (s_putR 18 69 (s_aload 0 (s_ic (192) (s_newa 100 (s_putR 18 70 (s_aload 0 (s_ic (384) (s_newa 100 (s_putR 18 71 (w_Mo_init_397 l D d0 B Q)))))))))))))))))))))))))))))))))))))))))
theorem Mo_init_314 {l : Launch} {D : qD} {d0 : Nat} {B : Nat × Nat} {Q : qQ} : qI (w_Mo_init_314 l D d0 B Q) (qR l D (d0 + 1, B) m_Mo_init 314 Q) := sorry
def w_Mo_init_247 (l : Launch) (D : qD) (d0 : Nat) (B : Nat × Nat) (Q : qQ) : qK := (s_aload 0 (s_ic (160) (s_newa 100 (s_putR 18 54 (s_aload 0 (s_ic (160) (s_newa 100 (s_putR 18 55 (s_aload 0 (s_ic (161) (s_newa 100 (s_putR 18 56 (s_aload 0 (s_ic (160) (s_newa 100 (s_putR 18 57 (s_aload 0 (s_ic (80) (s_newa 100 (s_putR 18 60 (s_aload 0 (s_ic (4) (s_newa 100 (s_dup (s_ic (0) (s_ic (-1) (s_iast (s_dup (s_ic (1) (s_ic (-1) (s_iast (s_dup (s_ic (2) (s_ic (-1) (s_iast (s_dup (s_ic (3) (s_ic (-1) (s_iast (s_putR 18 61 (w_Mo_init_314 l D d0 B Q)))))))))))))))))))))))))))))))))))))))))
theorem Mo_init_247 {l : Launch} {D : qD} {d0 : Nat} {B : Nat × Nat} {Q : qQ} : qI (w_Mo_init_247 l D d0 B Q) (qR l D (d0 + 1, B) m_Mo_init 247 Q) := sorry
def w_Mo_init_166 (l : Launch) (D : qD) (d0 : Nat) (B : Nat × Nat) (Q : qQ) : qK := (s_aload 0 (s_ic (120) (s_newa 100 (s_putR 18 40 (s_aload 0 (s_ic (7200) (s_newa 100 (s_putR 18 41 (s_aload 0 (s_ic (26) (s_newa 102 (s_putR 18 42 (s_aload 0 (s_ic (80) (s_newa 102 (s_putR 18 43 (s_aload 0 (s_ic (80) (s_newa 100 (s_putR 18 44 (s_aload 0 (s_ic (30) (s_newa 100 (s_putR 18 46 (s_aload 0 (s_ic (26) (s_newa 100 (s_putR 18 48 (s_aload 0 (s_ic (80) (s_newa 100 (s_putR 18 50 (s_aload 0 (s_ic (120) (s_newa 100 (s_putR 18 51 (s_aload 0 (s_ic (30) (s_newa 100 (s_putR 18 52 (w_Mo_init_247 l D d0 B Q)))))))))))))))))))))))))))))))))))))))))
theorem Mo_init_166 {l : Launch} {D : qD} {d0 : Nat} {B : Nat × Nat} {Q : qQ} : qI (w_Mo_init_166 l D d0 B Q) (qR l D (d0 + 1, B) m_Mo_init 166 Q) := sorry
def w_Mo_init_84 (l : Launch) (D : qD) (d0 : Nat) (B : Nat × Nat) (Q : qQ) : qK := (s_aload 0 (s_ic (576) (s_newa 102 (s_putR 18 21 (s_aload 0 (s_ic (25) (s_newa 102 (s_putR 18 22 (s_aload 0 (s_ic (24) (s_newa 100 (s_putR 18 23 (s_aload 0 (s_ic (24) (s_newa 100 (s_putR 18 24 (s_aload 0 (s_ic (80) (s_newa 100 (s_putR 18 33 (s_aload 0 (s_ic (80) (s_newa 100 (s_putR 18 34 (s_aload 0 (s_ic (80) (s_newa 102 (s_putR 18 35 (s_aload 0 (s_ic (26) (s_newa 100 (s_putR 18 36 (s_aload 0 (s_ic (2080) (s_newa 100 (s_putR 18 37 (s_aload 0 (s_ic (26) (s_newa 102 (s_putR 18 38 (w_Mo_init_166 l D d0 B Q)))))))))))))))))))))))))))))))))))))))))
theorem Mo_init_84 {l : Launch} {D : qD} {d0 : Nat} {B : Nat × Nat} {Q : qQ} : qI (w_Mo_init_84 l D d0 B Q) (qR l D (d0 + 1, B) m_Mo_init 84 Q) := sorry
def w_Mo_init_0 (l : Launch) (D : qD) (d0 : Nat) (B : Nat × Nat) (Q : qQ) : qK := (s_aload 0 (s_oinit (s_aload 0 (s_ic (2000) (s_newa 101 (s_putR 18 1 (s_aload 0 (s_ic (66836) (s_newa 100 (s_putR 18 2 (s_aload 0 (s_ic (4) (s_newa 100 (s_putR 18 3 (s_aload 0 (s_ic (4) (s_newa 100 (s_putR 18 4 (s_aload 0 (s_ic (539) (s_newa 100 (s_putR 18 6 (s_aload 0 (s_ic (25) (s_newa 100 (s_putR 18 16 (s_aload 0 (s_ic (80) (s_newa 100 (s_putR 18 17 (s_aload 0 (s_ic (24) (s_newa 100 (s_putR 18 18 (s_aload 0 (s_ic (25) (s_newa 100 (s_putR 18 19 (s_aload 0 (s_ic (100) (s_newa 100 (s_putR 18 20 (w_Mo_init_84 l D d0 B Q)))))))))))))))))))))))))))))))))))))))))))
theorem Mo_init_0 {l : Launch} {D : qD} {d0 : Nat} {B : Nat × Nat} {Q : qQ} : qI (w_Mo_init_0 l D d0 B Q) (qR l D (d0 + 1, B) m_Mo_init 0 Q) := sorry
end
section
/-! ===== bits of an int ===== -/
/-- bit k of x -/
def bt (x k : Int) : Prop := (Int32.ofInt x).toBitVec.getLsbD k.toNat = true
theorem of_toInt32 (x : Int32) : Int32.ofInt x.toInt = x := sorry
theorem bt_ior (x y k : Int) : bt (z_ior x y) k ↔ bt x k ∨ bt y k := sorry
theorem bt_iand (x y k : Int) : bt (z_iand x y) k ↔ bt x k ∧ bt y k := sorry
theorem bt_ixor (x y k : Int) : bt (z_ixor x y) k ↔ ¬ (bt x k ↔ bt y k) := sorry
theorem sh31 (j : Int) (h0 : 0 ≤ j) (h1 : j < 32) : (Int32.ofInt j &&& 31).toBitVec = BitVec.ofNat 32 j.toNat := sorry
theorem sh_mod (j : Int) (h0 : 0 ≤ j) (h1 : j < 32) : ((Int32.ofInt j &&& 31).toBitVec.smod 32).toNat = j.toNat := sorry
theorem bt_ishl1 (j k : Int) (h0 : 0 ≤ j) (h1 : j < 32) (k0 : 0 ≤ k) (k1 : k < 32) : bt (z_ishl 1 j) k ↔ k = j := sorry
theorem bt_lt {x k : Int} (h : bt x k) : k < 32 := sorry
theorem bt_neg {x k : Int} (hk : k ≤ 0) : bt x k ↔ bt x 0 := sorry
/-- (x >> k & 1) is 1 or 0 -/
theorem shr1 (x k : Int) (h0 : 0 ≤ k) (h1 : k < 32) : z_iand (z_ishr x k) 1 = if (Int32.ofInt x).toBitVec.getLsbD k.toNat = true then 1 else 0 := sorry
theorem shr1_1 {x k : Int} (h0 : 0 ≤ k) (h1 : k < 32) : z_iand (z_ishr x k) 1 = 1 ↔ bt x k := sorry
theorem shr1_0 {x k : Int} (h0 : 0 ≤ k) (h1 : k < 32) : z_iand (z_ishr x k) 1 = 0 ↔ ¬ bt x k := sorry
theorem bt_ext32 (x y : Int32) (h : ∀ k : Int, 0 ≤ k → k < 32 → (bt x.toInt k ↔ bt y.toInt k)) : x = y := sorry
/-- an int of 32 bits -/
def i32 (x : Int) : Prop := -2147483648 ≤ x ∧ x < 2147483648
theorem i32_e1 {x : Int} (h : i32 x) : (Int32.ofInt x).toInt = x := sorry
theorem bt_ext {x y : Int} (hx : i32 x) (hy : i32 y) (h : ∀ k : Int, 0 ≤ k → k < 32 → (bt x k ↔ bt y k)) : x = y := sorry
theorem bt_zero (k : Int) : ¬ bt 0 k := sorry
theorem bt_m1 {k : Int} (h1 : k < 32) : bt (-1) k := sorry
theorem bt_not {x k : Int} (h1 : k < 32) : bt (z_ixor x (-1)) k ↔ ¬ bt x k := sorry
theorem i32_of32 (x : Int32) : i32 x.toInt := sorry
theorem i32_ior (x y : Int) : i32 (z_ior x y) := sorry
theorem i32_iand (x y : Int) : i32 (z_iand x y) := sorry
theorem i32_ixor (x y : Int) : i32 (z_ixor x y) := sorry
theorem i32_ishl (x y : Int) : i32 (z_ishl x y) := sorry
theorem i32_ishr (x y : Int) : i32 (z_ishr x y) := sorry
theorem bt_z {x : Int} (hx : i32 x) : x = 0 ↔ ∀ k : Int, 0 ≤ k → k < 32 → ¬ bt x k := sorry
end
section
/-! ===== counting, ways in a graph ===== -/
/-- how many of 0 .. n - 1 have P -/
noncomputable def cnt (P : Int → Prop) : Nat → Nat
  | 0 => 0
  | n + 1 => cnt P n + @ite Nat (P (n : Int)) (Classical.propDecidable _) 1 0
theorem cnt_le (P : Int → Prop) (n : Nat) : cnt P n ≤ n := sorry
theorem cnt_mono {P P' : Int → Prop} {n : Nat} (h : ∀ k : Int, 0 ≤ k → k < n → P k → P' k) : cnt P n ≤ cnt P' n := sorry
theorem cnt_congr {P P' : Int → Prop} {n : Nat} (h : ∀ k : Int, 0 ≤ k → k < n → (P k ↔ P' k)) : cnt P n = cnt P' n := sorry
theorem cnt_lt {P P' : Int → Prop} {n : Nat} (h : ∀ k : Int, 0 ≤ k → k < n → P k → P' k) {j : Int} (j0 : 0 ≤ j) (j1 : j < n) (hj : P' j) (hn : ¬ P j) : cnt P n < cnt P' n := sorry
theorem cnt_pos {P : Int → Prop} {n : Nat} {j : Int} (j0 : 0 ≤ j) (j1 : j < n) (hj : P j) : 0 < cnt P n := sorry
theorem cnt_full {P : Int → Prop} {n : Nat} (h : cnt P n = n) : ∀ k : Int, 0 ≤ k → k < n → P k := sorry
theorem cnt_none {P : Int → Prop} {n : Nat} (h : cnt P n = 0) : ∀ k : Int, 0 ≤ k → k < n → ¬ P k := sorry
theorem cnt_add {P P' : Int → Prop} {n : Nat} (h : ∀ k : Int, 0 ≤ k → k < n → P k → ¬ P' k) : cnt (fun k => P k ∨ P' k) n = cnt P n + cnt P' n := sorry
/-- b is reached from a in m steps -/
def rch (R : Int → Int → Prop) : Nat → Int → Int → Prop
  | 0, a, b => a = b
  | m + 1, a, b => ∃ c, rch R m a c ∧ R c b
/-- b is reached from a -/
def rchs (R : Int → Int → Prop) (a b : Int) : Prop := ∃ m, rch R m a b
theorem rch_add {R : Int → Int → Prop} {m k : Nat} {a b c : Int} (h1 : rch R m a b) (h2 : rch R k b c) : rch R (m + k) a c := sorry
theorem rch_1 {R : Int → Int → Prop} {a b : Int} (h : R a b) : rch R 1 a b := sorry
theorem rch_h {R : Int → Int → Prop} {m : Nat} {a b : Int} (h : rch R (m + 1) a b) : ∃ c, R a c ∧ rch R m c b := sorry
theorem rchs_rf {R : Int → Int → Prop} (a : Int) : rchs R a a := sorry
theorem rchs_tr {R : Int → Int → Prop} {a b c : Int} (h1 : rchs R a b) (h2 : rchs R b c) : rchs R a c := sorry
theorem rchs_st {R : Int → Int → Prop} {a b c : Int} (h1 : rchs R a b) (h2 : R b c) : rchs R a c := sorry
theorem rchs_1 {R : Int → Int → Prop} {a b : Int} (h2 : R a b) : rchs R a b := sorry
theorem rchs_ind {R : Int → Int → Prop} {P : Int → Prop} {a b : Int} (h : rchs R a b) (h0 : P a) (hs : ∀ x y, P x → R x y → P y) : P b := sorry
theorem rchs_mono {R R' : Int → Int → Prop} (h : ∀ x y, R x y → R' x y) {a b : Int} (q : rchs R a b) : rchs R' a b := sorry
theorem rch_sym {R : Int → Int → Prop} (h : ∀ x y, R x y → R y x) {m : Nat} {a b : Int} (q : rch R m a b) : rch R m b a := sorry
theorem rchs_sym {R : Int → Int → Prop} (h : ∀ x y, R x y → R y x) {a b : Int} (q : rchs R a b) : rchs R b a := sorry
/-- in at most m steps -/
def rchl (R : Int → Int → Prop) (m : Nat) (a b : Int) : Prop := ∃ k, k ≤ m ∧ rch R k a b
/-- what is reached among n is reached in less than n steps -/
theorem rch_short {R : Int → Int → Prop} {n : Nat} (hR : ∀ x y, R x y → 0 ≤ y ∧ y < n) {a b : Int} (ha : 0 ≤ a ∧ a < n) (h : rchs R a b) : ∃ m, m < n ∧ rch R m a b := sorry
/-- b is m steps from a, and not fewer -/
def dst (R : Int → Int → Prop) (a b : Int) (m : Nat) : Prop := rch R m a b ∧ ∀ k, k < m → ¬ rch R k a b
theorem dst_ex {R : Int → Int → Prop} {a b : Int} (h : rchs R a b) : ∃ m, dst R a b m := sorry
theorem dst_un {R : Int → Int → Prop} {a b : Int} {m k : Nat} (h : dst R a b m) (h' : dst R a b k) : m = k := sorry
theorem dst_lt {R : Int → Int → Prop} {n : Nat} (hR : ∀ x y, R x y → 0 ≤ y ∧ y < n) {a b : Int} (ha : 0 ≤ a ∧ a < n) {m : Nat} (h : dst R a b m) : m < n := sorry
/-- what Warshall's rounds make: i to j over inner nodes below k -/
def wsh (R : Int → Int → Prop) : Nat → Int → Int → Prop
  | 0, i, j => i = j ∨ R i j
  | k + 1, i, j => wsh R k i j ∨ (wsh R k i k ∧ wsh R k k j)
theorem wsh_rf {R : Int → Int → Prop} (k : Nat) (i : Int) : wsh R k i i := sorry
theorem wsh_rc {R : Int → Int → Prop} {k : Nat} {i j : Int} (h : wsh R k i j) : rchs R i j := sorry
theorem wsh_kr {R : Int → Int → Prop} {k : Nat} {i : Int} : wsh R (k + 1) i k ↔ wsh R k i k := sorry
theorem wsh_kl {R : Int → Int → Prop} {k : Nat} {i : Int} : wsh R (k + 1) k i ↔ wsh R k k i := sorry
theorem wsh_tr {R : Int → Int → Prop} {k : Nat} : ∀ {i m j : Int}, 0 ≤ m → m < k → wsh R k i m → wsh R k m j → wsh R k i j := sorry
theorem wsh_mono {R : Int → Int → Prop} {k k' : Nat} (h : k ≤ k') {i j : Int} (q : wsh R k i j) : wsh R k' i j := sorry
theorem wsh_iff {R : Int → Int → Prop} {n : Nat} (hR : ∀ x y, R x y → 0 ≤ y ∧ y < n) {i j : Int} : wsh R n i j ↔ rchs R i j := sorry
/-! cores -/
/-- neighbours in a set -/
noncomputable def dgr (R : Int → Int → Prop) (n : Nat) (S : Int → Prop) (j : Int) : Nat := cnt (fun x => R j x ∧ S x) n
/-- j is in a set of which each has k neighbours in it -/
def kco (R : Int → Int → Prop) (n k : Nat) (j : Int) : Prop := ∃ S : Int → Prop, S j ∧ (∀ x, S x → 0 ≤ x ∧ x < n ∧ k ≤ dgr R n S x)
theorem dgr_mono {R : Int → Int → Prop} {n : Nat} {S S' : Int → Prop} (h : ∀ x, S x → S' x) (j : Int) : dgr R n S j ≤ dgr R n S' j := sorry
theorem kco_in {R : Int → Int → Prop} {n k : Nat} {j : Int} (h : kco R n k j) : 0 ≤ j ∧ j < n ∧ k ≤ dgr R n (kco R n k) j := sorry
theorem kco_anti {R : Int → Int → Prop} {n k k' : Nat} (h : k ≤ k') {j : Int} (q : kco R n k' j) : kco R n k j := sorry
theorem kco_0 {R : Int → Int → Prop} {n : Nat} {j : Int} (h0 : 0 ≤ j) (h1 : j < n) : kco R n 0 j := sorry
theorem kco_big {R : Int → Int → Prop} {n k : Nat} {j : Int} (h : n < k) : ¬ kco R n k j := sorry
/-- one that has too few goes -/
theorem kco_out {R : Int → Int → Prop} {n k : Nat} {S : Int → Prop} (h : ∀ x, kco R n k x → S x) {j : Int} (hj : dgr R n S j < k) : ¬ kco R n k j := sorry
theorem kco_end {R : Int → Int → Prop} {n k : Nat} {S : Int → Prop} (hn : ∀ x, S x → 0 ≤ x ∧ x < n) (h : ∀ x, kco R n k x → S x) (he : ∀ x, S x → k ≤ dgr R n S x) (x : Int) : S x ↔ kco R n k x := sorry
/-- the core's number of j -/
def crn (R : Int → Int → Prop) (n : Nat) (j : Int) (k : Nat) : Prop := kco R n k j ∧ ¬ kco R n (k + 1) j
theorem crn_un {R : Int → Int → Prop} {n : Nat} {j : Int} {k k' : Nat} (h : crn R n j k) (h' : crn R n j k') : k = k' := sorry
end
section
/-! ===== how many bits: the JDK's way by pairs, fours, bytes ===== -/
theorem and_split (j z m a : Nat) (ha : a < 2 ^ j) : z &&& (2 ^ j * m + a) = 2 ^ j * ((z / 2 ^ j) &&& m) + ((z % 2 ^ j) &&& a) := sorry
theorem and_st1 (z m : Nat) : z &&& (4 * m + 1) = 4 * ((z / 4) &&& m) + z % 2 := sorry
theorem and_st2 (z m : Nat) : z &&& (16 * m + 3) = 16 * ((z / 16) &&& m) + z % 4 := sorry
theorem and_st3 (z m : Nat) : z &&& (256 * m + 15) = 256 * ((z / 256) &&& m) + z % 16 := sorry
def mk1 : Nat → Nat
  | 0 => 0
  | k + 1 => 4 * mk1 k + 1
def mk2 : Nat → Nat
  | 0 => 0
  | k + 1 => 16 * mk2 k + 3
def mk3 : Nat → Nat
  | 0 => 0
  | k + 1 => 256 * mk3 k + 15
/-- the bits of x, k of them -/
def pp : Nat → Nat → Nat
  | 0, _ => 0
  | k + 1, x => x % 2 + pp k (x / 2)
/-- the digits of y to a base, k of them -/
def sd (b : Nat) : Nat → Nat → Nat
  | 0, _ => 0
  | k + 1, y => y % b + sd b k (y / b)
def pc1 : Nat → Nat → Nat
  | 0, _ => 0
  | k + 1, x => 4 * pc1 k (x / 4) + (x % 2 + x / 2 % 2)
def pc2 : Nat → Nat → Nat
  | 0, _ => 0
  | k + 1, x => 16 * pc2 k (x / 16) + (x % 4 + x / 4 % 4)
def pc3 : Nat → Nat → Nat
  | 0, _ => 0
  | k + 1, x => 256 * pc3 k (x / 256) + (x % 16 + x / 16 % 16)
theorem pc1_eq (k : Nat) : ∀ x, x < 4 ^ k → x - ((x / 2) &&& mk1 k) = pc1 k x ∧ (x / 2) &&& mk1 k ≤ x := sorry
theorem pc2_eq (k : Nat) : ∀ x, x < 16 ^ k → (x &&& mk2 k) + ((x / 4) &&& mk2 k) = pc2 k x := sorry
/-- each digit to the base b, k of them, is at most c -/
def dle (b c : Nat) : Nat → Nat → Prop
  | 0, _ => True
  | k + 1, y => y % b ≤ c ∧ dle b c k (y / b)
theorem pc3_eq (k : Nat) : ∀ x, x < 256 ^ k → dle 16 4 (2 * k) x → (x + x / 16) &&& mk3 k = pc3 k x := sorry
theorem pc1_lt (k x : Nat) : pc1 k x < 4 ^ k := sorry
theorem pc2_lt (k x : Nat) : pc2 k x < 16 ^ k := sorry
theorem pc3_lt (k x : Nat) (h : dle 16 4 (2 * k) x) : pc3 k x < 256 ^ k := sorry
theorem sd_pc1 (k : Nat) : ∀ x, sd 4 k (pc1 k x) = pp (2 * k) x ∧ dle 4 2 k (pc1 k x) := sorry
theorem sd_pc2 (k : Nat) : ∀ x, dle 4 2 (2 * k) x → sd 16 k (pc2 k x) = sd 4 (2 * k) x ∧ dle 16 4 k (pc2 k x) := sorry
theorem sd_pc3 (k : Nat) : ∀ x, dle 16 4 (2 * k) x → sd 256 k (pc3 k x) = sd 16 (2 * k) x ∧ dle 256 8 k (pc3 k x) := sorry
/-- 32 bits -/
theorem pop32 (x y z w : Nat) (hx : x < 2 ^ 32) (hy : y = x - ((x / 2) &&& 1431655765)) (hz : z = (y &&& 858993459) + ((y / 4) &&& 858993459)) (hw : w = (z + z / 16) &&& 252645135) :
    (x / 2) &&& 1431655765 ≤ x ∧ y < 2 ^ 32 ∧ z < 2 ^ 31 ∧ w < 2 ^ 28 ∧ (w + w / 256 + (w + w / 256) / 65536) % 64 = pp 32 x := sorry
/-- 64 bits -/
theorem pop64 (x y z w : Nat) (hx : x < 2 ^ 64) (hy : y = x - ((x / 2) &&& 6148914691236517205)) (hz : z = (y &&& 3689348814741910323) + ((y / 4) &&& 3689348814741910323)) (hw : w = (z + z / 16) &&& 1085102592571150095) :
    (x / 2) &&& 6148914691236517205 ≤ x ∧ y < 2 ^ 64 ∧ z < 2 ^ 63 ∧ w < 2 ^ 60 ∧ (w + w / 256 + (w + w / 256) / 65536 + (w + w / 256 + (w + w / 256) / 65536) / 4294967296) % 128 = pp 64 x := sorry
theorem pp_top (k x : Nat) : pp (k + 1) x = pp k x + (if x.testBit k then 1 else 0) := sorry
theorem bt_tb {x : Int} (h0 : 0 ≤ x) (h1 : x < 2147483648) (k : Nat) : bt x k ↔ x.toNat.testBit k = true := sorry
theorem pp_cnt {x : Int} (h0 : 0 ≤ x) (h1 : x < 2147483648) (k : Nat) : pp k x.toNat = cnt (bt x) k := sorry
end
section
/-! ===== classes numbered by their first ones ===== -/
/-- f is the first of its class -/
def fst1 (E : Int → Int → Prop) (f : Int) : Prop := ∀ g, 0 ≤ g → g < f → ¬ E g f
/-- N numbers the classes of E on 0 .. m - 1 in the order of their first ones -/
def num (E : Int → Int → Prop) (m : Nat) (N : Int → Int) : Prop :=
  (∀ e f : Int, 0 ≤ e → e < m → 0 ≤ f → f < m → (N e = N f ↔ E e f)) ∧ (∀ e : Int, 0 ≤ e → e < m → fst1 E e → N e = cnt (fst1 E) e.toNat)
/-- how many classes -/
noncomputable def nums (E : Int → Int → Prop) (m : Nat) : Nat := cnt (fst1 E) m
theorem fst1_ex {E : Int → Int → Prop} (hE : ∀ x y z, E x y → E y z → E x z) (hr : ∀ x, E x x) : ∀ (k : Nat) (e : Int), 0 ≤ e → e < k → ∃ f, 0 ≤ f ∧ f ≤ e ∧ E f e ∧ fst1 E f := sorry
theorem num_un {E : Int → Int → Prop} {m : Nat} {N N' : Int → Int} (hE : ∀ x y z, E x y → E y z → E x z) (hr : ∀ x, E x x) (h : num E m N) (h' : num E m N') : ∀ e : Int, 0 ≤ e → e < m → N e = N' e := sorry
theorem num_ext {E E' : Int → Int → Prop} {m : Nat} {N : Int → Int} (hE : ∀ e f : Int, 0 ≤ e → e < m → 0 ≤ f → f < m → (E e f ↔ E' e f)) (h : num E m N) : num E' m N := sorry
theorem nums_ext {E E' : Int → Int → Prop} {m : Nat} (hE : ∀ e f : Int, 0 ≤ e → e < m → 0 ≤ f → f < m → (E e f ↔ E' e f)) : nums E m = nums E' m := sorry
/-- while classes are numbered one by one: those that begin below i have their numbers, all others none -/
def numd (E : Int → Int → Prop) (m : Nat) (N : Int → Int) (i : Int) (c : Int) : Prop :=
  c = cnt (fst1 E) i.toNat ∧ (∀ e : Int, 0 ≤ e → e < m → N e ≠ -1 → ∃ f, 0 ≤ f ∧ f < i ∧ E f e ∧ fst1 E f ∧ N e = cnt (fst1 E) f.toNat) ∧ (∀ e f : Int, 0 ≤ e → e < m → 0 ≤ f → f < i → E f e → N e ≠ -1)
theorem cnt_eq_of_lt {P : Int → Prop} {a b : Int} (a0 : 0 ≤ a) (h : a < b) (hP : P a) : cnt P a.toNat < cnt P b.toNat := sorry
theorem numd_end {E : Int → Int → Prop} {m : Nat} {N : Int → Int} {c : Int} (hs : ∀ x y, E x y → E y x) (hE : ∀ x y z, E x y → E y z → E x z) (hr : ∀ x, E x x) (h : numd E m N m c) : num E m N ∧ c = nums E m := sorry
theorem numd_0 {E : Int → Int → Prop} {m : Nat} {N : Int → Int} (h : ∀ e : Int, 0 ≤ e → e < m → N e = -1) : numd E m N 0 0 := sorry
/-- one that has its number is passed -/
theorem numd_skip {E : Int → Int → Prop} {m : Nat} {N : Int → Int} {i c : Int} (hs : ∀ x y, E x y → E y x) (hE : ∀ x y z, E x y → E y z → E x z) (i0 : 0 ≤ i) (i1 : i < m) (hi : N i ≠ -1) (h : numd E m N i c) : numd E m N (i + 1) c := sorry
/-- one without a number begins the next class -/
theorem numd_new {E : Int → Int → Prop} {m : Nat} {N N' : Int → Int} {i c : Int} (hs : ∀ x y, E x y → E y x) (hE : ∀ x y z, E x y → E y z → E x z) (i0 : 0 ≤ i) (i1 : i < m) (hi : N i = -1) (h : numd E m N i c)
    (hn : ∀ e : Int, 0 ≤ e → e < m → (E i e → N' e = c) ∧ (¬ E i e → N' e = N e)) : numd E m N' (i + 1) (c + 1) := sorry
end
section
/-! ===== blocks: what makes two edges be of one, and the walk by lowest ways back ===== -/
def inc (t h : Int → Int) (e x : Int) : Prop := t e = x ∨ h e = x
def oth (t h : Int → Int) (e x : Int) : Int := if t e = x then h e else t e
/-- x and y are joined by an edge of A -/
def aj (t h : Int → Int) (A : Int → Prop) (x y : Int) : Prop := ∃ e, A e ∧ inc t h e x ∧ oth t h e x = y
/-- joined, and neither is z -/
def ajw (t h : Int → Int) (A : Int → Prop) (z x y : Int) : Prop := aj t h A x y ∧ x ≠ z ∧ y ≠ z
/-- two edges at z whose other ends are joined without it -/
def sbk (t h : Int → Int) (A : Int → Prop) (z e f : Int) : Prop := inc t h e z ∧ inc t h f z ∧ rchs (ajw t h A z) (oth t h e z) (oth t h f z)
def sb1 (t h : Int → Int) (A : Int → Prop) (e f : Int) : Prop := A e ∧ A f ∧ ∃ z, sbk t h A z e f
/-- two edges of one block -/
def bk (t h : Int → Int) (A : Int → Prop) (e f : Int) : Prop := rchs (sb1 t h A) e f
/-- no edge is a loop -/
def nlp (t h : Int → Int) (A : Int → Prop) : Prop := ∀ e, A e → t e ≠ h e
theorem inc_oth {t h : Int → Int} {e x : Int} (hx : inc t h e x) : inc t h e (oth t h e x) := sorry
theorem oth_oth {t h : Int → Int} {e x : Int} (hx : inc t h e x) : oth t h e (oth t h e x) = x := sorry
theorem oth_ne {t h : Int → Int} {A : Int → Prop} (hl : nlp t h A) {e x : Int} (hA : A e) (hx : inc t h e x) : oth t h e x ≠ x := sorry
theorem inc2 {t h : Int → Int} {e x y : Int} (hx : inc t h e x) (hy : inc t h e y) : y = x ∨ y = oth t h e x := sorry
theorem aj_sym {t h : Int → Int} {A : Int → Prop} {x y : Int} (q : aj t h A x y) : aj t h A y x := sorry
theorem ajw_sym {t h : Int → Int} {A : Int → Prop} {z x y : Int} (q : ajw t h A z x y) : ajw t h A z y x := sorry
theorem sb1_sym {t h : Int → Int} {A : Int → Prop} {e f : Int} (q : sb1 t h A e f) : sb1 t h A f e := sorry
theorem bk_sym {t h : Int → Int} {A : Int → Prop} {e f : Int} (q : bk t h A e f) : bk t h A f e := sorry
theorem bk_rf {t h : Int → Int} {A : Int → Prop} (e : Int) : bk t h A e e := sorry
theorem bk_tr {t h : Int → Int} {A : Int → Prop} {e f g : Int} (q : bk t h A e f) (q' : bk t h A f g) : bk t h A e g := sorry
/-- e stands on the stack or is of a block -/
def psh (stk : Int → Int) (op : Int) (blk : Int → Int) (e : Int) : Prop := blk e ≠ -1 ∨ ∃ p, 0 ≤ p ∧ p < op ∧ stk p = e
/-- below m -/
def blw (m : Nat) (e : Int) : Prop := 0 ≤ e ∧ e < m
/-- what holds of the walk at all times -/
def TJ (n m : Nat) (t h met : Int → Int) (time : Int) (stk : Int → Int) (op : Int) (blk : Int → Int) (bn : Int) (act : Int → Prop) (byf pos : Int → Int) (pend : Int) : Prop :=
  (∀ x, blw n x → 0 ≤ met x ∧ met x ≤ time) ∧ (∀ x y, blw n x → blw n y → met x = met y → met x ≠ 0 → x = y) ∧ time = cnt (fun x => met x ≠ 0) n ∧
  (∀ x, act x → blw n x ∧ met x ≠ 0) ∧
  (∀ x e, blw n x → met x ≠ 0 → ¬ act x → blw m e → inc t h e x → met (oth t h e x) ≠ 0 ∧ psh stk op blk e ∧ (act (oth t h e x) → met (oth t h e x) < met x)) ∧
  (0 ≤ op ∧ op ≤ cnt (psh stk op blk) m ∧ (∀ p, 0 ≤ p → p < op → blw m (stk p) ∧ blk (stk p) = -1) ∧ (∀ p q, 0 ≤ p → p < op → 0 ≤ q → q < op → stk p = stk q → p = q)) ∧
  (∀ e, blw m e → psh stk op blk e → e ≠ pend → (met (t e) ≠ 0 ∧ met (h e) ≠ 0) ∧ ∀ x, inc t h e x → act x → met (oth t h e x) < met x → e = byf x ∨ e < pos x) ∧
  (0 ≤ bn ∧ bn ≤ cnt (fun e => blk e ≠ -1) m ∧ (∀ e, blw m e → blk e = -1 ∨ (48 ≤ blk e ∧ blk e < 48 + bn))) ∧
  (∀ b, 48 ≤ b → b < 48 + bn → (∃ e, blw m e ∧ blk e = b) ∧ ∃ (T : Int → Prop) (x : Int), ¬ T x ∧ (∀ w e, T w → blw m e → inc t h e w → (T (oth t h e w) ∨ oth t h e w = x) ∧ 48 ≤ blk e ∧ blk e ≤ b) ∧ (∀ e, blw m e → blk e = b → ∃ w, T w ∧ inc t h e w)) ∧
  (∀ e f, blw m e → blw m f → blk e = blk f → blk e ≠ -1 → bk t h (blw m) e f)
/-- two ends of one block: at the end of the walk -/
theorem TJ_end {n m : Nat} {t h met : Int → Int} {time : Int} {stk : Int → Int} {op : Int} {blk : Int → Int} {bn : Int} {act : Int → Prop} {byf pos : Int → Int} {pend : Int} (hl : nlp t h (blw m))
    (J : TJ n m t h met time stk op blk bn act byf pos pend) (hall : ∀ e, blw m e → blk e ≠ -1) {e f : Int} (he : blw m e) (hf : blw m f) : blk e = blk f ↔ bk t h (blw m) e f := sorry
end
section
theorem cnt_one {n : Nat} {i : Int} (h : blw n i) : cnt (fun x => x = i) n = 1 := sorry
theorem cnt_ins {n : Nat} {P P' : Int → Prop} {i : Int} (h : blw n i) (hi : ¬ P i) (hP : ∀ x, blw n x → (P' x ↔ P x ∨ x = i)) : cnt P' n = cnt P n + 1 := sorry
/-- new since then -/
def nwn (n : Nat) (met0 met : Int → Int) (x : Int) : Prop := blw n x ∧ met0 x = 0 ∧ met x ≠ 0
/-- how those that are begun hang together; by which edge i is come to -/
def PS (m : Nat) (t h met0 : Int → Int) (act : Int → Prop) (i by' : Int) : Prop :=
  (by' = -1 → ∀ x, ¬ act x) ∧ (by' ≠ -1 → blw m by' ∧ inc t h by' i ∧ act (oth t h by' i) ∧ ∀ x, act x → met0 x ≤ met0 (oth t h by' i)) ∧
  (∀ x y, act x → act y → rchs (fun a b => aj t h (blw m) a b ∧ act a ∧ act b) x y)
/-- from the state at the beginning of the call to one in it; e: edges of i below it are looked at -/
def RL (n m : Nat) (t h met0 low0 : Int → Int) (time0 : Int) (stk0 : Int → Int) (op0 : Int) (blk0 met low stk : Int → Int) (op : Int) (blk : Int → Int) (act : Int → Prop) (i by' e : Int) : Prop :=
  (∀ x, met0 x ≠ 0 → met x = met0 x ∧ low x = low0 x) ∧ (∀ x, nwn n met0 met x → time0 < met x) ∧ (∀ e, blk0 e ≠ -1 → blk e = blk0 e) ∧ (op0 ≤ op ∧ ∀ p, 0 ≤ p → p < op0 → stk p = stk0 p) ∧
  ((∀ p, op0 ≤ p → p < op → (∃ w, nwn n met0 met w ∧ inc t h (stk p) w) ∧ (by' ≠ -1 → bk t h (blw m) (stk p) by')) ∧ (by' = -1 → op = op0)) ∧
  (∀ w, nwn n met0 met w → rchs (fun a b => aj t h (blw m) a b ∧ nwn n met0 met a ∧ nwn n met0 met b) i w) ∧
  (low i ≤ met i ∧ ∀ w e', nwn n met0 met w → (w = i → e' < e) → blw m e' → inc t h e' w → e' ≠ by' → met0 (oth t h e' w) ≠ 0 → low i ≤ met0 (oth t h e' w)) ∧
  (low i = met i ∨ ∃ w u, nwn n met0 met w ∧ act u ∧ aj t h (blw m) w u ∧ met u = low i ∧ met u < met i) ∧
  (nwn n met0 met i ∧ met i = time0 + 1)
/-- with i begun too -/
def act1 (act : Int → Prop) (i x : Int) : Prop := x = i ∨ act x
def fu1 (f : Int → Int) (i z : Int) (x : Int) : Int := if x = i then z else f x
/-- in the loop over i's edges -/
def LI (n m : Nat) (t h met0 low0 : Int → Int) (time0 : Int) (stk0 : Int → Int) (op0 : Int) (blk0 met low : Int → Int) (time : Int) (stk : Int → Int) (op : Int) (blk : Int → Int) (bn : Int) (act : Int → Prop) (byf pos : Int → Int) (i by' e : Int) : Prop :=
  TJ n m t h met time stk op blk bn (act1 act i) (fu1 byf i by') (fu1 pos i e) (-1) ∧ RL n m t h met0 low0 time0 stk0 op0 blk0 met low stk op blk act i by' e ∧
  (∀ e', 0 ≤ e' → e' < e → e' < m → inc t h e' i → met (oth t h e' i) ≠ 0 ∧ psh stk op blk e')
/-- ahead of the call -/
def GPre (n m : Nat) (t h met : Int → Int) (time : Int) (stk : Int → Int) (op : Int) (blk : Int → Int) (bn : Int) (act : Int → Prop) (byf pos : Int → Int) (i by' : Int) : Prop :=
  TJ n m t h met time stk op blk bn act byf pos by' ∧ PS m t h met act i by' ∧ blw n i ∧ met i = 0 ∧ (by' ≠ -1 → psh stk op blk by')
/-- behind the call -/
def GPost (n m : Nat) (t h met0 low0 : Int → Int) (time0 : Int) (stk0 : Int → Int) (op0 : Int) (blk0 met low : Int → Int) (time : Int) (stk : Int → Int) (op : Int) (blk : Int → Int) (bn : Int) (act : Int → Prop) (byf pos : Int → Int) (i by' : Int) : Prop :=
  TJ n m t h met time stk op blk bn act byf pos (-1) ∧ RL n m t h met0 low0 time0 stk0 op0 blk0 met low stk op blk act i by' m
theorem psh_mono {stk0 : Int → Int} {op0 : Int} {blk0 stk : Int → Int} {op : Int} {blk : Int → Int} (h1 : ∀ e, blk0 e ≠ -1 → blk e = blk0 e) (h2 : op0 ≤ op) (h3 : ∀ p, 0 ≤ p → p < op0 → stk p = stk0 p) {e : Int} (q : psh stk0 op0 blk0 e) : psh stk op blk e := sorry
/-- i is met -/
theorem LI_in {n m : Nat} {t h met0 low0 : Int → Int} {time0 : Int} {stk : Int → Int} {op : Int} {blk : Int → Int} {bn : Int} {act : Int → Prop} {byf pos : Int → Int} {i by' : Int} {met low : Int → Int} (hl : nlp t h (blw m))
    (P : GPre n m t h met0 time0 stk op blk bn act byf pos i by') (hmi : met i = time0 + 1) (hmx : ∀ x, x ≠ i → met x = met0 x) (hli : low i = time0 + 1) (hlx : ∀ x, x ≠ i → low x = low0 x) :
    LI n m t h met0 low0 time0 stk op blk met low (time0 + 1) stk op blk bn act byf pos i by' 0 := sorry
/-- behind the last edge -/
theorem LI_out {n m : Nat} {t h met0 low0 : Int → Int} {time0 : Int} {stk0 : Int → Int} {op0 : Int} {blk0 : Int → Int} {met low : Int → Int} {time : Int} {stk : Int → Int} {op : Int} {blk : Int → Int} {bn : Int} {act : Int → Prop} {byf pos : Int → Int} {i by' : Int}
    (hact : ∀ x, act x → met0 x ≠ 0 ∧ met0 x ≤ time0) (L : LI n m t h met0 low0 time0 stk0 op0 blk0 met low time stk op blk bn act byf pos i by' m) : GPost n m t h met0 low0 time0 stk0 op0 blk0 met low time stk op blk bn act byf pos i by' := sorry
/-- what is known of k: it is begun, or it is new and done -/
theorem LI_k {n m : Nat} {t h met0 low0 : Int → Int} {time0 : Int} {stk0 : Int → Int} {op0 : Int} {blk0 : Int → Int} {met low : Int → Int} {time : Int} {stk : Int → Int} {op : Int} {blk : Int → Int} {bn : Int} {act : Int → Prop} {byf pos : Int → Int} {i by' e : Int} (hl : nlp t h (blw m)) (ht : ∀ e, blw m e → blw n (t e) ∧ blw n (h e))
    (L : LI n m t h met0 low0 time0 stk0 op0 blk0 met low time stk op blk bn act byf pos i by' e) (he : blw m e) (hinc : inc t h e i) : blw n (oth t h e i) ∧ oth t h e i ≠ i ∧ (met (oth t h e i) ≠ 0 → met (oth t h e i) < met i → act (oth t h e i)) := sorry
/-- an edge that is passed -/
theorem LI_skip {n m : Nat} {t h met0 low0 : Int → Int} {time0 : Int} {stk0 : Int → Int} {op0 : Int} {blk0 : Int → Int} {met low : Int → Int} {time : Int} {stk : Int → Int} {op : Int} {blk : Int → Int} {bn : Int} {act : Int → Prop} {byf pos : Int → Int} {i by' e : Int} (hl : nlp t h (blw m)) (ht : ∀ e, blw m e → blw n (t e) ∧ blw n (h e))
    (hb : by' ≠ -1 → blw m by' ∧ inc t h by' i ∧ met0 (oth t h by' i) ≠ 0 ∧ psh stk0 op0 blk0 by') (hact : ∀ x, act x → met0 x ≠ 0 ∧ met0 x ≤ time0) (h0 : ∀ x, blw n x → met0 x ≤ time0)
    (he : blw m e) (hs : inc t h e i → e = by' ∨ (met (oth t h e i) ≠ 0 ∧ ¬ met (oth t h e i) < met i)) (L : LI n m t h met0 low0 time0 stk0 op0 blk0 met low time stk op blk bn act byf pos i by' e) :
    LI n m t h met0 low0 time0 stk0 op0 blk0 met low time stk op blk bn act byf pos i by' (e + 1) := sorry
/-- an edge back -/
theorem LI_back {n m : Nat} {t h met0 low0 : Int → Int} {time0 : Int} {stk0 : Int → Int} {op0 : Int} {blk0 : Int → Int} {met low : Int → Int} {time : Int} {stk : Int → Int} {op : Int} {blk : Int → Int} {bn : Int} {act : Int → Prop} {byf pos : Int → Int} {i by' e : Int} {low' stk' : Int → Int} (hl : nlp t h (blw m)) (ht : ∀ e, blw m e → blw n (t e) ∧ blw n (h e))
    (hS : PS m t h met0 act i by') (hact : ∀ x, act x → met0 x ≠ 0) (hia : ¬ act i)
    (he : blw m e) (hi : inc t h e i) (hne : e ≠ by') (hk0 : met (oth t h e i) ≠ 0) (hkl : met (oth t h e i) < met i) (L : LI n m t h met0 low0 time0 stk0 op0 blk0 met low time stk op blk bn act byf pos i by' e)
    (s1 : stk' op = e) (s2 : ∀ p, p ≠ op → stk' p = stk p) (l1 : low' i = if low i ≤ met (oth t h e i) then low i else met (oth t h e i)) (l2 : ∀ x, x ≠ i → low' x = low x) :
    op < m ∧ LI n m t h met0 low0 time0 stk0 op0 blk0 met low' time stk' (op + 1) blk bn act byf pos i by' (e + 1) := sorry
/-- ahead of the call for k -/
theorem LI_pre {n m : Nat} {t h met0 low0 : Int → Int} {time0 : Int} {stk0 : Int → Int} {op0 : Int} {blk0 : Int → Int} {met low : Int → Int} {time : Int} {stk : Int → Int} {op : Int} {blk : Int → Int} {bn : Int} {act : Int → Prop} {byf pos : Int → Int} {i by' e : Int} {stk' : Int → Int} (hl : nlp t h (blw m)) (ht : ∀ e, blw m e → blw n (t e) ∧ blw n (h e))
    (hS : PS m t h met0 act i by') (hact : ∀ x, act x → met0 x ≠ 0 ∧ met0 x ≤ time0)
    (he : blw m e) (hi : inc t h e i) (hk0 : met (oth t h e i) = 0) (L : LI n m t h met0 low0 time0 stk0 op0 blk0 met low time stk op blk bn act byf pos i by' e)
    (s1 : stk' op = e) (s2 : ∀ p, p ≠ op → stk' p = stk p) :
    op < m ∧ e ≠ by' ∧ GPre n m t h met time stk' (op + 1) blk bn (act1 act i) (fu1 byf i by') (fu1 pos i e) (oth t h e i) e := sorry
end
section
/-- behind the call for k: what goes on from one state to the other one, but what is begun -/
theorem RL_ret {n m : Nat} {t h met0 low0 : Int → Int} {time0 : Int} {stk0 : Int → Int} {op0 : Int} {blk0 : Int → Int} {met low : Int → Int} {time : Int} {stk : Int → Int} {op : Int} {blk : Int → Int} {act : Int → Prop} {i by' e : Int} {stk' : Int → Int} {met2 low2 stk2 : Int → Int} {op2 : Int} {blk2 low3 : Int → Int} {op3 : Int} {blk3 : Int → Int} (hl : nlp t h (blw m))
    (h0 : ∀ x, blw n x → met0 x ≤ time0) (ht1 : ∀ x, blw n x → met x ≤ time) (hact : ∀ x, act x → met0 x ≠ 0)
    (he : blw m e) (hi : inc t h e i) (hk0 : met (oth t h e i) = 0) (R : RL n m t h met0 low0 time0 stk0 op0 blk0 met low stk op blk act i by' e)
    (s2 : ∀ p, p ≠ op → stk' p = stk p) (C : RL n m t h met low time stk' (op + 1) blk met2 low2 stk2 op2 blk2 (act1 act i) (oth t h e i) e m)
    (l1 : low3 i = if low2 i ≤ low2 (oth t h e i) then low2 i else low2 (oth t h e i)) (l2 : ∀ x, x ≠ i → low3 x = low2 x)
    (b3 : ∀ f, blk2 f ≠ -1 → blk3 f = blk2 f) (o3 : op0 ≤ op3 ∧ op3 ≤ op2)
    (hP : (∀ p, op0 ≤ p → p < op3 → (∃ w, nwn n met0 met2 w ∧ inc t h (stk2 p) w) ∧ (by' ≠ -1 → bk t h (blw m) (stk2 p) by')) ∧ (by' = -1 → op3 = op0)) :
    RL n m t h met0 low0 time0 stk0 op0 blk0 met2 low3 stk2 op3 blk3 act i by' (e + 1) := sorry
/-- behind the call for k, when its way back leads above i -/
theorem LI_open {n m : Nat} {t h met0 low0 : Int → Int} {time0 : Int} {stk0 : Int → Int} {op0 : Int} {blk0 : Int → Int} {met low : Int → Int} {time : Int} {stk : Int → Int} {op : Int} {blk : Int → Int} {bn : Int} {act : Int → Prop} {byf pos : Int → Int} {i by' e : Int} {stk' : Int → Int} {met2 low2 : Int → Int} {time2 : Int} {stk2 : Int → Int} {op2 : Int} {blk2 : Int → Int} {bn2 : Int} {low3 : Int → Int} (hl : nlp t h (blw m))
    (hS : PS m t h met0 act i by') (o0 : 0 ≤ op0) (h0 : ∀ x, blw n x → met0 x ≤ time0) (hact : ∀ x, act x → met0 x ≠ 0) (hia : ¬ act i)
    (he : blw m e) (hi : inc t h e i) (hk0 : met (oth t h e i) = 0) (L : LI n m t h met0 low0 time0 stk0 op0 blk0 met low time stk op blk bn act byf pos i by' e)
    (s1 : stk' op = e) (s2 : ∀ p, p ≠ op → stk' p = stk p) (C : GPost n m t h met low time stk' (op + 1) blk met2 low2 time2 stk2 op2 blk2 bn2 (act1 act i) (fu1 byf i by') (fu1 pos i e) (oth t h e i) e)
    (l1 : low3 i = if low2 i ≤ low2 (oth t h e i) then low2 i else low2 (oth t h e i)) (l2 : ∀ x, x ≠ i → low3 x = low2 x) (ho : low2 (oth t h e i) < met2 i) :
    LI n m t h met0 low0 time0 stk0 op0 blk0 met2 low3 time2 stk2 op2 blk2 bn2 act byf pos i by' (e + 1) := sorry
/-- behind the call for k, when no way back leads above i: what is begun from e on is a block -/
theorem LI_close {n m : Nat} {t h met0 low0 : Int → Int} {time0 : Int} {stk0 : Int → Int} {op0 : Int} {blk0 : Int → Int} {met low : Int → Int} {time : Int} {stk : Int → Int} {op : Int} {blk : Int → Int} {bn : Int} {act : Int → Prop} {byf pos : Int → Int} {i by' e : Int} {stk' : Int → Int} {met2 low2 : Int → Int} {time2 : Int} {stk2 : Int → Int} {op2 : Int} {blk2 : Int → Int} {bn2 : Int} {low3 blk3 : Int → Int} (hl : nlp t h (blw m)) (ht : ∀ e, blw m e → blw n (t e) ∧ blw n (h e))
    (o0 : 0 ≤ op0) (h0 : ∀ x, blw n x → met0 x ≤ time0) (hact : ∀ x, act x → met0 x ≠ 0)
    (he : blw m e) (hi : inc t h e i) (hk0 : met (oth t h e i) = 0) (L : LI n m t h met0 low0 time0 stk0 op0 blk0 met low time stk op blk bn act byf pos i by' e)
    (s1 : stk' op = e) (s2 : ∀ p, p ≠ op → stk' p = stk p) (C : GPost n m t h met low time stk' (op + 1) blk met2 low2 time2 stk2 op2 blk2 bn2 (act1 act i) (fu1 byf i by') (fu1 pos i e) (oth t h e i) e)
    (l1 : low3 i = if low2 i ≤ low2 (oth t h e i) then low2 i else low2 (oth t h e i)) (l2 : ∀ x, x ≠ i → low3 x = low2 x) (ho : ¬ low2 (oth t h e i) < met2 i)
    (d1 : ∀ p, op ≤ p → p < op2 → blk3 (stk2 p) = 48 + bn2) (d2 : ∀ f, (∀ p, op ≤ p → p < op2 → stk2 p ≠ f) → blk3 f = blk2 f) :
    LI n m t h met0 low0 time0 stk0 op0 blk0 met2 low3 time2 stk2 op blk3 (bn2 + 1) act byf pos i by' (e + 1) := sorry
end
section
/-! ===== sums; places that cost least ===== -/
/-- f 0 + .. + f (n - 1) -/
def sm (f : Int → Int) : Nat → Int
  | 0 => 0
  | n + 1 => sm f n + f n
theorem sm_congr {f g : Int → Int} {n : Nat} (h : ∀ k : Int, 0 ≤ k → k < n → f k = g k) : sm f n = sm g n := sorry
theorem sm_le {f g : Int → Int} {n : Nat} (h : ∀ k : Int, 0 ≤ k → k < n → f k ≤ g k) : sm f n ≤ sm g n := sorry
theorem sm_lt {f g : Int → Int} {n : Nat} (h : ∀ k : Int, 0 ≤ k → k < n → f k ≤ g k) {j : Int} (j0 : 0 ≤ j) (j1 : j < n) (hj : f j < g j) : sm f n < sm g n := sorry
theorem sm_add (f g : Int → Int) (n : Nat) : sm (fun k => f k + g k) n = sm f n + sm g n := sorry
theorem sm_sub (f g : Int → Int) (n : Nat) : sm (fun k => f k - g k) n = sm f n - sm g n := sorry
theorem sm_mul (c : Int) (f : Int → Int) (n : Nat) : sm (fun k => c * f k) n = c * sm f n := sorry
theorem sm_0 (n : Nat) : sm (fun _ => 0) n = 0 := sorry
theorem sm_nn {f : Int → Int} {n : Nat} (h : ∀ k : Int, 0 ≤ k → k < n → 0 ≤ f k) : 0 ≤ sm f n := sorry
/-- one term is another one -/
theorem sm_up {f g : Int → Int} {n : Nat} {j : Int} (j0 : 0 ≤ j) (j1 : j < n) (h : ∀ k, k ≠ j → g k = f k) : sm g n = sm f n + (g j - f j) := sorry
/-- y keeps the pairs apart: P pairs, a k, b k, d k -/
def fea (P : Nat) (a b d y : Int → Int) : Prop := ∀ k : Int, 0 ≤ k → k < P → y (a k) + d k ≤ y (b k)
/-- what it costs -/
def cst (P : Nat) (a b w y : Int → Int) : Int := sm (fun k => w k * (y (b k) - y (a k))) P
/-- y is the least of those that cost least, at least 0 -/
def lopt (n : Nat) (F : (Int → Int) → Prop) (C : (Int → Int) → Int) (y : Int → Int) : Prop :=
  (F y ∧ ∀ i : Int, 0 ≤ i → i < n → 0 ≤ y i) ∧ (∀ z, F z → (∀ i : Int, 0 ≤ i → i < n → 0 ≤ z i) → C y ≤ C z ∧ (C z ≤ C y → ∀ i : Int, 0 ≤ i → i < n → y i ≤ z i))
theorem lopt_un {n : Nat} {F : (Int → Int) → Prop} {C : (Int → Int) → Int} {y z : Int → Int} (hy : lopt n F C y) (hz : lopt n F C z) : ∀ i : Int, 0 ≤ i → i < n → y i = z i := sorry
/-- a flow with the weights' balance -/
def bal (P : Nat) (a b w x : Int → Int) : Prop := ∀ z : Int → Int, cst P a b x z = cst P a b w z
/-- the flow's worth -/
def wrt (P : Nat) (d x : Int → Int) : Int := sm (fun k => x k * d k) P
/-- weak duality, and what it means when both are the same -/
theorem dual1 {P : Nat} {a b d w x y z : Int → Int} (hb : bal P a b w x) (hx : ∀ k : Int, 0 ≤ k → k < P → 0 ≤ x k) (hz : fea P a b d z) (hy : fea P a b d y) (ht : ∀ k : Int, 0 ≤ k → k < P → 0 < x k → y (b k) = y (a k) + d k) :
    cst P a b w y ≤ cst P a b w z ∧ (cst P a b w z ≤ cst P a b w y → ∀ k : Int, 0 ≤ k → k < P → 0 < x k → z (b k) = z (a k) + d k) := sorry
theorem dual_le {P : Nat} {a b d w x z : Int → Int} (hb : bal P a b w x) (hx : ∀ k : Int, 0 ≤ k → k < P → 0 ≤ x k) (hz : fea P a b d z) : wrt P d x ≤ cst P a b w z := sorry
/-- the least that keeps the pairs apart and the flow tight is the least of those that cost least -/
theorem lopt_of {n P : Nat} {a b d w x y : Int → Int} (hb : bal P a b w x) (hx : ∀ k : Int, 0 ≤ k → k < P → 0 ≤ x k) (hy : fea P a b d y) (y0 : ∀ i : Int, 0 ≤ i → i < n → 0 ≤ y i)
    (ht : ∀ k : Int, 0 ≤ k → k < P → 0 < x k → y (b k) = y (a k) + d k)
    (hl : ∀ z, fea P a b d z → (∀ i : Int, 0 ≤ i → i < n → 0 ≤ z i) → (∀ k : Int, 0 ≤ k → k < P → 0 < x k → z (b k) = z (a k) + d k) → ∀ i : Int, 0 ≤ i → i < n → y i ≤ z i) :
    lopt n (fea P a b d) (cst P a b w) y := sorry
/-- a step of a walk round: pair k's flow by c, forward or back -/
theorem bal_up {P : Nat} {a b x x' : Int → Int} {k c : Int} (k0 : 0 ≤ k) (k1 : k < P) (hk : x' k = x k + c) (ho : ∀ j, j ≠ k → x' j = x j) (z : Int → Int) : cst P a b x' z = cst P a b x z + c * (z (b k) - z (a k)) := sorry
theorem wrt_up {P : Nat} {d x x' : Int → Int} {k c : Int} (k0 : 0 ≤ k) (k1 : k < P) (hk : x' k = x k + c) (ho : ∀ j, j ≠ k → x' j = x j) : wrt P d x' = wrt P d x + c * d k := sorry
/-! a ring of parents pays -/
/-- the m-th parent -/
def anc (par : Int → Int) : Nat → Int → Int
  | 0, c => c
  | m + 1, c => anc par m (par c)
/-- what m steps to parents bring -/
def gan (par len : Int → Int) : Nat → Int → Int
  | 0, _ => 0
  | m + 1, c => len c + gan par len m (par c)
theorem anc_s (par : Int → Int) (m : Nat) (c : Int) : anc par (m + 1) c = par (anc par m c) := sorry
theorem anc_add (par : Int → Int) (m k : Nat) (c : Int) : anc par (m + k) c = anc par k (anc par m c) := sorry
theorem gan_ok {S : Int → Prop} {par len y T : Int → Int} (hS : ∀ c, S c → S (par c)) (h1 : ∀ c, S c → y c + (if T c < T (par c) then 1 else 0) ≤ y (par c) + len c) (h2 : ∀ c, S c → T c ≠ T (par c)) :
    ∀ (m : Nat) (c : Int), S c → y c ≤ y (anc par m c) + gan par len m c ∧ (0 < m → y c + 1 ≤ y (anc par m c) + gan par len m c ∨ T (anc par m c) < T c) := sorry
theorem gan_pos {S : Int → Prop} {par len y T : Int → Int} (hS : ∀ c, S c → S (par c)) (h1 : ∀ c, S c → y c + (if T c < T (par c) then 1 else 0) ≤ y (par c) + len c) (h2 : ∀ c, S c → T c ≠ T (par c)) {m : Nat} {c : Int} (hc : S c) (hm : 0 < m) (hr : anc par m c = c) : 0 < gan par len m c := sorry
end
section
/-! ===== the least of all, reached from below ===== -/
def ab1 (z : Int) : Int := if z < 0 then -z else z
/-- what a row of places costs: w times how far two are apart, or times how much the second is beyond the first -/
def fct (p a b w : Int) (x : Int → Int) : Int := w * (if p = 1 then x b - x a else ab1 (x a - x b))
def fco (K : Nat) (ca cb cw cp x : Int → Int) : Int := sm (fun k => fct (cp k) (ca k) (cb k) (cw k) x) K
/-- a set as a row of 0 and 1 on 0 .. n - 1 -/
def set1 (n : Nat) (u : Int → Int) : Prop := ∀ i, (u i = 0 ∨ u i = 1) ∧ (u i = 1 → 0 ≤ i ∧ i < n)
def pls (x u : Int → Int) (j : Int) (i : Int) : Int := x i + j * u i
def mn2 (x y : Int → Int) (i : Int) : Int := if x i ≤ y i then x i else y i
def mx2 (x y : Int → Int) (i : Int) : Int := if x i ≤ y i then y i else x i
theorem fct_sub {p a b w : Int} (hw : 0 ≤ w) (x y : Int → Int) : fct p a b w (mn2 x y) + fct p a b w (mx2 x y) ≤ fct p a b w x + fct p a b w y := sorry
theorem fco_sub {K : Nat} {ca cb cw cp : Int → Int} (hw : ∀ k : Int, 0 ≤ k → k < K → 0 ≤ cw k) (x y : Int → Int) : fco K ca cb cw cp (mn2 x y) + fco K ca cb cw cp (mx2 x y) ≤ fco K ca cb cw cp x + fco K ca cb cw cp y := sorry
theorem fea_mn {A : Nat} {a b d x y : Int → Int} (hx : fea A a b d x) (hy : fea A a b d y) : fea A a b d (mn2 x y) := sorry
theorem fea_mx {A : Nat} {a b d x y : Int → Int} (hx : fea A a b d x) (hy : fea A a b d y) : fea A a b d (mx2 x y) := sorry
/-- a part of the set pays at first at least as much as later -/
theorem fct_mono {p a b w : Int} (hw : 0 ≤ w) {x u v : Int → Int} {j : Int} (hj : 0 ≤ j) (hu : ∀ i, u i = 0 ∨ u i = 1) (hv : ∀ i, v i = 0 ∨ v i = 1) (hvu : ∀ i, v i ≤ u i) :
    fct p a b w (pls x v 1) - fct p a b w x ≤ fct p a b w (pls (pls x u j) v 1) - fct p a b w (pls x u j) := sorry
theorem fco_mono {K : Nat} {ca cb cw cp : Int → Int} (hw : ∀ k : Int, 0 ≤ k → k < K → 0 ≤ cw k) {x u v : Int → Int} {j : Int} (hj : 0 ≤ j) (hu : ∀ i, u i = 0 ∨ u i = 1) (hv : ∀ i, v i = 0 ∨ v i = 1) (hvu : ∀ i, v i ≤ u i) :
    fco K ca cb cw cp (pls x v 1) - fco K ca cb cw cp x ≤ fco K ca cb cw cp (pls (pls x u j) v 1) - fco K ca cb cw cp (pls x u j) := sorry
theorem fco_congr {K n : Nat} {ca cb cw cp : Int → Int} (hi : ∀ k : Int, 0 ≤ k → k < K → (0 ≤ ca k ∧ ca k < n) ∧ (0 ≤ cb k ∧ cb k < n)) {x y : Int → Int} (h : ∀ i : Int, 0 ≤ i → i < n → x i = y i) : fco K ca cb cw cp x = fco K ca cb cw cp y := sorry
theorem fea_congr {A n : Nat} {a b d : Int → Int} (hi : ∀ k : Int, 0 ≤ k → k < A → (0 ≤ a k ∧ a k < n) ∧ (0 ≤ b k ∧ b k < n)) {x y : Int → Int} (h : ∀ i : Int, 0 ≤ i → i < n → x i = y i) (hx : fea A a b d x) : fea A a b d y := sorry
/-- u is the smallest of the sets whose going up costs least -/
def mncut (n K A : Nat) (ca cb cw cp aa bb dd x u : Int → Int) : Prop :=
  set1 n u ∧ fea A aa bb dd (pls x u 1) ∧ ∀ v, set1 n v → fea A aa bb dd (pls x v 1) → fco K ca cb cw cp (pls x u 1) ≤ fco K ca cb cw cp (pls x v 1) ∧ (fco K ca cb cw cp (pls x v 1) ≤ fco K ca cb cw cp (pls x u 1) → ∀ i, u i ≤ v i)
/-- a set that goes up step by step does not pass the least of those that cost least -/
theorem rise_st {n K A : Nat} {ca cb cw cp aa bb dd x u ys : Int → Int} {j : Int} (hw : ∀ k : Int, 0 ≤ k → k < K → 0 ≤ cw k) (hic : ∀ k : Int, 0 ≤ k → k < K → (0 ≤ ca k ∧ ca k < n) ∧ (0 ≤ cb k ∧ cb k < n)) (hia : ∀ k : Int, 0 ≤ k → k < A → (0 ≤ aa k ∧ aa k < n) ∧ (0 ≤ bb k ∧ bb k < n))
    (hys : lopt n (fea A aa bb dd) (fco K ca cb cw cp) ys) (hx : fea A aa bb dd x) (hu : mncut n K A ca cb cw cp aa bb dd x u) (hj : 0 ≤ j)
    (hle : ∀ i : Int, 0 ≤ i → i < n → pls x u j i ≤ ys i) (hnn : ∀ i : Int, 0 ≤ i → i < n → 0 ≤ x i) (hf : fea A aa bb dd (pls x u (j + 1)))
    (hlin : fco K ca cb cw cp (pls x u (j + 1)) - fco K ca cb cw cp (pls x u j) = fco K ca cb cw cp (pls x u 1) - fco K ca cb cw cp x) :
    ∀ i : Int, 0 ≤ i → i < n → pls x u (j + 1) i ≤ ys i := sorry
theorem max_ex {n : Nat} (hn : 0 < n) (f : Int → Int) : ∃ M, (∀ i : Int, 0 ≤ i → i < n → f i ≤ M) ∧ ∃ i : Int, 0 ≤ i ∧ i < n ∧ f i = M := sorry
theorem fct_tr {p a b w : Int} (hw : 0 ≤ w) {x z u : Int → Int} {M : Int} (hu : ∀ i, u i = 0 ∨ u i = 1) (ha : z a - x a ≤ M ∧ (u a = 1 ↔ z a - x a = M)) (hb : z b - x b ≤ M ∧ (u b = 1 ↔ z b - x b = M)) :
    fct p a b w (pls x u 1) + fct p a b w (pls z u (-1)) ≤ fct p a b w x + fct p a b w z := sorry
/-- when no set gets cheaper by going up, the row is the least of those that cost least -/
theorem rise_end {n K A : Nat} {ca cb cw cp aa bb dd x ys : Int → Int} (hw : ∀ k : Int, 0 ≤ k → k < K → 0 ≤ cw k) (hic : ∀ k : Int, 0 ≤ k → k < K → (0 ≤ ca k ∧ ca k < n) ∧ (0 ≤ cb k ∧ cb k < n)) (hia : ∀ k : Int, 0 ≤ k → k < A → (0 ≤ aa k ∧ aa k < n) ∧ (0 ≤ bb k ∧ bb k < n))
    (hys : lopt n (fea A aa bb dd) (fco K ca cb cw cp) ys) (hx : fea A aa bb dd x) (hnn : ∀ i : Int, 0 ≤ i → i < n → 0 ≤ x i) (hle : ∀ i : Int, 0 ≤ i → i < n → x i ≤ ys i)
    (hno : ∀ v, set1 n v → fea A aa bb dd (pls x v 1) → fco K ca cb cw cp x ≤ fco K ca cb cw cp (pls x v 1)) : ∀ i : Int, 0 ≤ i → i < n → x i = ys i := sorry
end
section
/-! ===== cuts: what is reached in what is left of a net is the smallest of the least cuts ===== -/
/-- the arc at p of an n by n net leads out of u -/
def ctb (n : Nat) (u : Int → Int) (p : Int) : Int := if u (p / n) = 1 ∧ u (p % n) = 0 then 1 else 0
def cutv (n : Nat) (r u : Int → Int) : Int := sm (fun p => r p * ctb n u p) (n * n)
theorem fl_dm {n : Nat} {i j : Int} (hj : 0 ≤ j) (hn : j < n) : ((n : Int) * i + j) / n = i ∧ ((n : Int) * i + j) % n = j := sorry
theorem fl_in {n : Nat} {i j : Int} (hi : 0 ≤ i) (hi1 : i < n) (hj : 0 ≤ j) (hj1 : j < n) : 0 ≤ (n : Int) * i + j ∧ (n : Int) * i + j < ((n * n : Nat) : Int) := sorry
theorem cut_up {n : Nat} {r r' u : Int → Int} {i j c : Int} (hi : 0 ≤ i) (hi1 : i < n) (hj : 0 ≤ j) (hj1 : j < n) (h1 : r' (n * i + j) = r (n * i + j) + c) (h2 : ∀ p, p ≠ n * i + j → r' p = r p) : cutv n r' u = cutv n r u + c * (if u i = 1 ∧ u j = 0 then 1 else 0) := sorry
/-- a step of a way: m less there, m more back -/
theorem cut_arc {n : Nat} {r r1 r2 u : Int → Int} {i j m : Int} (hu : ∀ i, u i = 0 ∨ u i = 1) (hi : 0 ≤ i) (hi1 : i < n) (hj : 0 ≤ j) (hj1 : j < n) (h1 : r1 (n * i + j) = r (n * i + j) - m) (h2 : ∀ p, p ≠ n * i + j → r1 p = r p) (h3 : r2 (n * j + i) = r1 (n * j + i) + m) (h4 : ∀ p, p ≠ n * j + i → r2 p = r1 p) :
    cutv n r2 u = cutv n r u - m * (u i - u j) := sorry
theorem cut_nn {n : Nat} {r u : Int → Int} (hr : ∀ p : Int, 0 ≤ p → p < ((n * n : Nat) : Int) → 0 ≤ r p) : 0 ≤ cutv n r u := sorry
theorem cut_0 {n : Nat} {r u : Int → Int} (h : ∀ i j : Int, 0 ≤ i → i < n → 0 ≤ j → j < n → u i = 1 → u j = 0 → r (n * i + j) = 0) : cutv n r u = 0 := sorry
/-- a cut with nothing left in it -/
theorem cut_z {n : Nat} {r u : Int → Int} (hr : ∀ p : Int, 0 ≤ p → p < ((n * n : Nat) : Int) → 0 ≤ r p) (hz : cutv n r u ≤ 0) {i j : Int} (hi : 0 ≤ i) (hi1 : i < n) (hj : 0 ≤ j) (hj1 : j < n) (ui : u i = 1) (uj : u j = 0) : r (n * i + j) = 0 := sorry
/-! what a set costs when it goes up by one, as a cut -/
theorem fct_1 {p a b w : Int} {x u : Int → Int} (hu : ∀ i, u i = 0 ∨ u i = 1) (h : p = 1 ∨ x a < x b) : fct p a b w (pls x u 1) - fct p a b w x = w * (u b - u a) := sorry
theorem fct_2 {p a b w : Int} {x u : Int → Int} (hu : ∀ i, u i = 0 ∨ u i = 1) (h1 : p ≠ 1) (h : x b < x a) : fct p a b w (pls x u 1) - fct p a b w x = w * (u a - u b) := sorry
theorem fct_3 {p a b w : Int} {x u : Int → Int} (hu : ∀ i, u i = 0 ∨ u i = 1) (h1 : p ≠ 1) (h : x a = x b) : fct p a b w (pls x u 1) - fct p a b w x = w * (if u a = 1 ∧ u b = 0 then 1 else 0) + w * (if u b = 1 ∧ u a = 0 then 1 else 0) := sorry
theorem fct_bd {p a b w : Int} (hw : 0 ≤ w) {x u : Int → Int} (hu : ∀ i, u i = 0 ∨ u i = 1) : -w ≤ fct p a b w (pls x u 1) - fct p a b w x := sorry
theorem fco_bd {K : Nat} {ca cb cw cp : Int → Int} (hw : ∀ k : Int, 0 ≤ k → k < K → 0 ≤ cw k) {x u : Int → Int} (hu : ∀ i, u i = 0 ∨ u i = 1) : -sm cw K ≤ fco K ca cb cw cp (pls x u 1) - fco K ca cb cw cp x := sorry
/-- how many of the pairs that are tight a set breaks -/
def vio (A : Nat) (aa bb dd x u : Int → Int) : Int := sm (fun k => if x (bb k) - x (aa k) = dd k ∧ u (aa k) = 1 ∧ u (bb k) = 0 then 1 else 0) A
theorem vio_nn (A : Nat) (aa bb dd x u : Int → Int) : 0 ≤ vio A aa bb dd x u := sorry
theorem vio_0 {A : Nat} {aa bb dd x u : Int → Int} (h : fea A aa bb dd (pls x u 1)) : vio A aa bb dd x u = 0 := sorry
theorem fea_vio {A : Nat} {aa bb dd x u : Int → Int} (hu : ∀ i, u i = 0 ∨ u i = 1) (hx : fea A aa bb dd x) (h : vio A aa bb dd x u ≤ 0) : fea A aa bb dd (pls x u 1) := sorry
/-- what is reached is the smallest set whose going up costs least -/
theorem mncut_of {n N K A : Nat} {ca cb cw cp aa bb dd x u r c : Int → Int} {val base big : Int} (s t : Int) (hN : N = n + 2) (hs : s = n) (ht : t = n + 1) (hw : ∀ k : Int, 0 ≤ k → k < K → 0 ≤ cw k) (hx : fea A aa bb dd x) (hb : sm cw K < big)
    (hc : ∀ v, (∀ i, v i = 0 ∨ v i = 1) → v s = 1 → v t = 0 → cutv N c v = fco K ca cb cw cp (pls x v 1) - fco K ca cb cw cp x + base + big * vio A aa bb dd x v)
    (hic : ∀ k : Int, 0 ≤ k → k < K → (0 ≤ ca k ∧ ca k < n) ∧ (0 ≤ cb k ∧ cb k < n)) (hia : ∀ k : Int, 0 ≤ k → k < A → (0 ≤ aa k ∧ aa k < n) ∧ (0 ≤ bb k ∧ bb k < n))
    (hr0 : ∀ p : Int, 0 ≤ p → p < ((N * N : Nat) : Int) → 0 ≤ r p) (hr : ∀ v, (∀ i, v i = 0 ∨ v i = 1) → v s = 1 → v t = 0 → cutv N r v = cutv N c v - val)
    (hset : set1 n u) (hre : ∀ i : Int, 0 ≤ i → i < n → u i = 1 → rchs (fun a b => 0 ≤ b ∧ b < N ∧ 0 ≤ a ∧ a < N ∧ r (N * a + b) ≠ 0) s i)
    (hcl : ∀ i j : Int, 0 ≤ i → i < N → 0 ≤ j → j < N → (u i = 1 ∨ i = s) → (u j = 0 ∧ j ≠ s) → r (N * i + j) = 0) : mncut n K A ca cb cw cp aa bb dd x u := sorry
end
section
/-! ===== how far a set goes up at once; pairs for how far two are apart ===== -/
theorem fct_lin {p a b w : Int} {x u : Int → Int} {j d : Int} (hu : ∀ i, u i = 0 ∨ u i = 1) (j0 : 0 ≤ j) (jd : j < d)
    (h : p = 1 ∨ u a = u b ∨ (u a = 1 ∧ u b = 0 ∧ (x b - x a ≤ 0 ∨ d ≤ x b - x a)) ∨ (u a = 0 ∧ u b = 1 ∧ (x a - x b ≤ 0 ∨ d ≤ x a - x b))) :
    fct p a b w (pls x u (j + 1)) - fct p a b w (pls x u j) = fct p a b w (pls x u 1) - fct p a b w x := sorry
/-- the set goes up by d: what limits d -/
def lims (K A : Nat) (ca cb cp aa bb dd x u : Int → Int) (d : Int) : Prop :=
  (∀ k : Int, 0 ≤ k → k < K → cp k = 1 ∨ u (ca k) = u (cb k) ∨ (u (ca k) = 1 ∧ u (cb k) = 0 ∧ (x (cb k) - x (ca k) ≤ 0 ∨ d ≤ x (cb k) - x (ca k))) ∨ (u (ca k) = 0 ∧ u (cb k) = 1 ∧ (x (ca k) - x (cb k) ≤ 0 ∨ d ≤ x (ca k) - x (cb k)))) ∧
  (∀ k : Int, 0 ≤ k → k < A → u (aa k) = 1 → u (bb k) = 0 → d ≤ x (bb k) - x (aa k) - dd k)
theorem rise_d {n K A : Nat} {ca cb cw cp aa bb dd x u ys : Int → Int} {d : Int} (hw : ∀ k : Int, 0 ≤ k → k < K → 0 ≤ cw k) (hic : ∀ k : Int, 0 ≤ k → k < K → (0 ≤ ca k ∧ ca k < n) ∧ (0 ≤ cb k ∧ cb k < n)) (hia : ∀ k : Int, 0 ≤ k → k < A → (0 ≤ aa k ∧ aa k < n) ∧ (0 ≤ bb k ∧ bb k < n))
    (hys : lopt n (fea A aa bb dd) (fco K ca cb cw cp) ys) (hx : fea A aa bb dd x) (hu : mncut n K A ca cb cw cp aa bb dd x u) (hl : lims K A ca cb cp aa bb dd x u d)
    (hle : ∀ i : Int, 0 ≤ i → i < n → x i ≤ ys i) (hnn : ∀ i : Int, 0 ≤ i → i < n → 0 ≤ x i) :
    ∀ j : Nat, (j : Int) ≤ d → fea A aa bb dd (pls x u j) ∧ ∀ i : Int, 0 ≤ i → i < n → pls x u j i ≤ ys i := sorry
/-- the set goes up by at least one -/
theorem lims_1 {n K A : Nat} {ca cb cw cp aa bb dd x u : Int → Int} (hu : mncut n K A ca cb cw cp aa bb dd x u) {k : Int} (k0 : 0 ≤ k) (k1 : k < A) (h1 : u (aa k) = 1) (h2 : u (bb k) = 0) : 1 ≤ x (bb k) - x (aa k) - dd k := sorry
/-! the component's pairs: R of rows without weight, then two of each piece: from a thing of its own to its upper and its lower end -/
theorem cst_ext {R P I : Nat} {a b w up dn hv y : Int → Int}
    (ha : ∀ k : Int, 0 ≤ k → k < R → w k = 0) (hp : ∀ p : Int, 0 ≤ p → p < P → (a (R + 2 * p) = I + p ∧ b (R + 2 * p) = up p ∧ w (R + 2 * p) = hv p) ∧ (a (R + 2 * p + 1) = I + p ∧ b (R + 2 * p + 1) = dn p ∧ w (R + 2 * p + 1) = hv p)) :
    cst (R + 2 * P) a b w y = sm (fun p => hv p * (y (up p) - y (I + p) + (y (dn p) - y (I + p)))) P := sorry
theorem lopt_ext {R P I : Nat} {a b d w up dn hv cp y : Int → Int} (hv0 : ∀ p : Int, 0 ≤ p → p < P → 0 ≤ hv p)
    (ha : ∀ k : Int, 0 ≤ k → k < R → w k = 0 ∧ (0 ≤ a k ∧ a k < I) ∧ (0 ≤ b k ∧ b k < I)) (hp : ∀ p : Int, 0 ≤ p → p < P → (a (R + 2 * p) = I + p ∧ b (R + 2 * p) = up p ∧ w (R + 2 * p) = hv p) ∧ (a (R + 2 * p + 1) = I + p ∧ b (R + 2 * p + 1) = dn p ∧ w (R + 2 * p + 1) = hv p))
    (hd : ∀ p : Int, 0 ≤ p → p < P → d (R + 2 * p) = 0 ∧ d (R + 2 * p + 1) = 0) (hu : ∀ p : Int, 0 ≤ p → p < P → (0 ≤ up p ∧ up p < I) ∧ (0 ≤ dn p ∧ dn p < I)) (hcp : ∀ p : Int, 0 ≤ p → p < P → cp p ≠ 1)
    (h : lopt (I + P) (fea (R + 2 * P) a b d) (cst (R + 2 * P) a b w) y) : lopt I (fea R a b d) (fco P up dn hv cp) y := sorry
theorem cst_fco {P : Nat} {a b w cp y : Int → Int} (h : ∀ k : Int, 0 ≤ k → k < P → cp k = 1) : fco P a b w cp y = cst P a b w y := sorry
end
section
/-! ===== graphs drawn in a disc: rows of nodes as its border, ways that split it ===== -/
/-- the same row, begun elsewhere -/
def cyc (c c' : List Int) : Prop := ∃ l1 l2, c = l1 ++ l2 ∧ c' = l2 ++ l1
theorem cyc_rf (c : List Int) : cyc c c := sorry
theorem cyc_ap (a b : List Int) : cyc (a ++ b) (b ++ a) := sorry
theorem cyc_sym {c c' : List Int} (h : cyc c c') : cyc c' c := sorry
theorem cyc_tr {a b c : List Int} (h1 : cyc a b) (h2 : cyc b c) : cyc a c := sorry
theorem cyc_mem {c c' : List Int} (h : cyc c c') (x : Int) : x ∈ c ↔ x ∈ c' := sorry
theorem cyc_nd {c c' : List Int} (h : cyc c c') (hn : c.Nodup) : c'.Nodup := sorry
theorem cyc_rev {c c' : List Int} (h : cyc c c') : cyc c.reverse c'.reverse := sorry
theorem cyc_un {x : Int} {R R' : List Int} (h : cyc (x :: R) (x :: R')) (hn : (x :: R).Nodup) : R = R' := sorry
theorem cyc_at {x : Int} {c : List Int} (h : x ∈ c) : ∃ R, cyc c (x :: R) := sorry
theorem cyc_two {x y : Int} {c : List Int} (hx : x ∈ c) (hy : y ∈ c) (hne : x ≠ y) : ∃ A B, cyc c (x :: A ++ y :: B) := sorry
/-- where the second one stands is told -/
theorem cyc_two_un {x y : Int} {A B A' B' : List Int} (h : cyc (x :: A ++ y :: B) (x :: A' ++ y :: B')) (hn : (x :: A ++ y :: B).Nodup) : A = A' ∧ B = B' := sorry
/-- e joins a and b -/
def jn1 (t h : Int → Int) (e a b : Int) : Prop := (t e = a ∧ h e = b) ∨ (t e = b ∧ h e = a)
/-- joined by an edge of Q -/
def jq (t h : Int → Int) (Q : Int → Prop) (a b : Int) : Prop := ∃ e, Q e ∧ jn1 t h e a b
/-- each is joined to the next -/
def chn (E : Int → Int → Prop) : List Int → Prop
  | [] => True
  | [_] => True
  | a :: b :: l => E a b ∧ chn E (b :: l)
/-- an edge along a row of nodes -/
def pE (t h : Int → Int) : List Int → Int → Prop
  | [], _ => False
  | [_], _ => False
  | a :: b :: l, e => jn1 t h e a b ∨ pE t h (b :: l) e
def tch (t h : Int → Int) (Q : Int → Prop) (v : Int) : Prop := ∃ e, Q e ∧ (t e = v ∨ h e = v)
/-- a way from x over I to y in Q, whose inner nodes are not on the border -/
def wy (t h : Int → Int) (c : List Int) (Q : Int → Prop) (x : Int) (I : List Int) (y : Int) : Prop :=
  (x :: I ++ [y]).Nodup ∧ (∀ v, v ∈ I → v ∉ c) ∧ chn (jq t h Q) (x :: I ++ [y])
/-- what is not on the way falls into what is on the one side and what is on the other one -/
def prt (t h : Int → Int) (Q : Int → Prop) (x : Int) (A : List Int) (y : Int) (B I : List Int) (Q1 Q2 : Int → Prop) : Prop :=
  (∀ e, (Q e ∧ ¬ pE t h (x :: I ++ [y]) e) ↔ (Q1 e ∨ Q2 e)) ∧ (∀ e, Q1 e → ¬ Q2 e) ∧ (∀ v, tch t h Q1 v → v ∉ B) ∧ (∀ v, tch t h Q2 v → v ∉ A) ∧ (∀ v, tch t h Q1 v → tch t h Q2 v → v ∈ x :: I ++ [y])
/-- Q can be drawn in a disc with the border c -/
def Dsc (t h : Int → Int) : Nat → List Int → (Int → Prop) → Prop
  | 0, _, Q => ∀ e, ¬ Q e
  | k + 1, c, Q => (∀ e, ¬ Q e) ∨ ∃ (x : Int) (A : List Int) (y : Int) (B I : List Int) (Q1 Q2 : Int → Prop), cyc c (x :: A ++ y :: B) ∧ wy t h c Q x I y ∧ prt t h Q x A y B I Q1 Q2 ∧ Dsc t h k (x :: A ++ y :: I.reverse) Q1 ∧ Dsc t h k (y :: B ++ x :: I) Q2
def Ds (t h : Int → Int) (c : List Int) (Q : Int → Prop) : Prop := ∃ k, Dsc t h k c Q
theorem Dsc_s {t h : Int → Int} {k : Nat} : ∀ {c : List Int} {Q : Int → Prop}, Dsc t h k c Q → Dsc t h (k + 1) c Q := sorry
theorem Dsc_le {t h : Int → Int} {k k' : Nat} (hk : k ≤ k') {c : List Int} {Q : Int → Prop} (q : Dsc t h k c Q) : Dsc t h k' c Q := sorry
/-- a split -/
theorem Ds_sp {t h : Int → Int} {c : List Int} {Q : Int → Prop} {x : Int} {A : List Int} {y : Int} {B I : List Int} {Q1 Q2 : Int → Prop} (h1 : cyc c (x :: A ++ y :: B)) (h2 : wy t h c Q x I y) (h3 : prt t h Q x A y B I Q1 Q2) (h4 : Ds t h (x :: A ++ y :: I.reverse) Q1) (h5 : Ds t h (y :: B ++ x :: I) Q2) : Ds t h c Q := sorry
theorem Ds_0 {t h : Int → Int} {c : List Int} {Q : Int → Prop} (q : ∀ e, ¬ Q e) : Ds t h c Q := sorry
theorem Ds_inv {t h : Int → Int} {c : List Int} {Q : Int → Prop} (q : Ds t h c Q) : (∀ e, ¬ Q e) ∨ ∃ (x : Int) (A : List Int) (y : Int) (B I : List Int) (Q1 Q2 : Int → Prop), cyc c (x :: A ++ y :: B) ∧ wy t h c Q x I y ∧ prt t h Q x A y B I Q1 Q2 ∧ Ds t h (x :: A ++ y :: I.reverse) Q1 ∧ Ds t h (y :: B ++ x :: I) Q2 := sorry
theorem wy_cyc {t h : Int → Int} {c c' : List Int} {Q : Int → Prop} {x : Int} {I : List Int} {y : Int} (hc : cyc c c') (q : wy t h c Q x I y) : wy t h c' Q x I y := sorry
theorem Dsc_cyc {t h : Int → Int} {k : Nat} {c c' : List Int} {Q : Int → Prop} (hc : cyc c c') (q : Dsc t h k c Q) : Dsc t h k c' Q := sorry
theorem Ds_cyc {t h : Int → Int} {c c' : List Int} {Q : Int → Prop} (hc : cyc c c') (q : Ds t h c Q) : Ds t h c' Q := sorry
theorem jn1_sym {t h : Int → Int} {e a b : Int} (q : jn1 t h e a b) : jn1 t h e b a := sorry
theorem jq_sym {t h : Int → Int} {Q : Int → Prop} {a b : Int} (q : jq t h Q a b) : jq t h Q b a := sorry
theorem chn_ap {E : Int → Int → Prop} {l1 : List Int} {a : Int} {l2 : List Int} : chn E (l1 ++ a :: l2) ↔ chn E (l1 ++ [a]) ∧ chn E (a :: l2) := sorry
theorem pE_ap {t h : Int → Int} {l1 : List Int} {a : Int} {l2 : List Int} {e : Int} : pE t h (l1 ++ a :: l2) e ↔ pE t h (l1 ++ [a]) e ∨ pE t h (a :: l2) e := sorry
theorem chn_rev {E : Int → Int → Prop} (hs : ∀ a b, E a b → E b a) {l : List Int} (q : chn E l) : chn E l.reverse := sorry
theorem pE_rev {t h : Int → Int} {l : List Int} {e : Int} : pE t h l.reverse e ↔ pE t h l e := sorry
/-- the disc seen from behind -/
theorem Dsc_rev {t h : Int → Int} {k : Nat} : ∀ {c : List Int} {Q : Int → Prop}, Dsc t h k c Q → Dsc t h k c.reverse Q := sorry
theorem Ds_rev {t h : Int → Int} {c : List Int} {Q : Int → Prop} (q : Ds t h c Q) : Ds t h c.reverse Q := sorry
end
section
theorem nd_rev {l : List Int} (q : l.Nodup) : l.reverse.Nodup := sorry
/-- a disc with a way that splits it -/
def Sp (t h : Int → Int) (c : List Int) (Q : Int → Prop) (x : Int) (A : List Int) (y : Int) (B I : List Int) (Q1 Q2 : Int → Prop) : Prop :=
  cyc c (x :: A ++ y :: B) ∧ wy t h c Q x I y ∧ prt t h Q x A y B I Q1 Q2 ∧ Ds t h (x :: A ++ y :: I.reverse) Q1 ∧ Ds t h (y :: B ++ x :: I) Q2
theorem Sp.ds {t h : Int → Int} {c : List Int} {Q : Int → Prop} {x : Int} {A : List Int} {y : Int} {B I : List Int} {Q1 Q2 : Int → Prop} (q : Sp t h c Q x A y B I Q1 Q2) : Ds t h c Q := sorry
theorem wy_rev {t h : Int → Int} {c : List Int} {Q : Int → Prop} {x : Int} {I : List Int} {y : Int} (q : wy t h c Q x I y) : wy t h c Q y I.reverse x := sorry
theorem Sp.swap {t h : Int → Int} {c : List Int} {Q : Int → Prop} {x : Int} {A : List Int} {y : Int} {B I : List Int} {Q1 Q2 : Int → Prop} (q : Sp t h c Q x A y B I Q1 Q2) : Sp t h c Q y B x A I.reverse Q2 Q1 := sorry
theorem Sp.mir {t h : Int → Int} {c : List Int} {Q : Int → Prop} {x : Int} {A : List Int} {y : Int} {B I : List Int} {Q1 Q2 : Int → Prop} (q : Sp t h c Q x A y B I Q1 Q2) : Sp t h c.reverse Q x B.reverse y A.reverse I Q2 Q1 := sorry
theorem pE_mem {t h : Int → Int} : ∀ {l : List Int} {e v : Int}, pE t h l e → (t e = v ∨ h e = v) → v ∈ l := sorry
/-- its ends are two nodes of the row -/
theorem pE_two {t h : Int → Int} : ∀ {l : List Int} {e : Int}, l.Nodup → pE t h l e → t e ≠ h e ∧ t e ∈ l ∧ h e ∈ l := sorry
theorem chn_imp {E E' : Int → Int → Prop} : ∀ {l : List Int}, (∀ a b, a ∈ l → b ∈ l → E a b → E' a b) → chn E l → chn E' l := sorry
/-- the edges along the row are all of Q that join two that stand side by side -/
theorem chn_pE {t h : Int → Int} {Q : Int → Prop} : ∀ {l : List Int}, chn (jq t h Q) l → chn (jq t h (fun e => Q e ∧ pE t h l e)) l := sorry
theorem chn_tch {t h : Int → Int} {Q : Int → Prop} : ∀ {l : List Int} {v : Int}, chn (jq t h Q) l → v ∈ l → 2 ≤ l.length → tch t h Q v := sorry
/-- a way in the first side from a node of the border to one of the way that splits: it takes the place of the way's beginning -/
theorem Sp_A {t h : Int → Int} {c : List Int} {Q : Int → Prop} {x0 : Int} {A1 A2 : List Int} {x y0 : Int} {B0 J1 J2 : List Int} {q : Int} {s : List Int} {Q10 Q20 Q11 Q12 : Int → Prop} (hc : c.Nodup)
    (S0 : Sp t h c Q x0 (A1 ++ x :: A2) y0 B0 (J1 ++ q :: J2) Q10 Q20)
    (S1 : Sp t h (x0 :: (A1 ++ x :: A2) ++ y0 :: (J1 ++ q :: J2).reverse) Q10 x (A2 ++ y0 :: J2.reverse) q (J1.reverse ++ x0 :: A1) s Q11 Q12) :
    ∃ Q', Sp t h c Q x A2 y0 (B0 ++ x0 :: A1) (s ++ q :: J2) Q11 Q' := sorry
end
section
/-- the same with the way as one row W -/
def Sw (t h : Int → Int) (c : List Int) (Q : Int → Prop) (A B W : List Int) (Q1 Q2 : Int → Prop) : Prop := ∃ x I y, W = x :: I ++ [y] ∧ Sp t h c Q x A y B I Q1 Q2
theorem ends_same {L1 M L2 I : List Int} {q q2 x y : Int} (s : List Int) (hW : L1 ++ q :: (M ++ q2 :: L2) = x :: I ++ [y]) : ∃ I', L1 ++ q :: (s ++ q2 :: L2) = x :: I' ++ [y] := sorry
/-- a way in the first side from a node of the way that splits to a later one -/
theorem Sw_B {t h : Int → Int} {c : List Int} {Q : Int → Prop} {A B L1 M L2 : List Int} {q q2 : Int} {s : List Int} {Q10 Q20 Q11 Q12 : Int → Prop} (hc : c.Nodup) (hsm : ∀ e f a b, Q e → Q f → jn1 t h e a b → jn1 t h f a b → e = f)
    (S0 : Sw t h c Q A B (L1 ++ q :: (M ++ q2 :: L2)) Q10 Q20)
    (S1 : Sp t h (A ++ (L1 ++ q :: (M ++ q2 :: L2)).reverse) Q10 q (L1.reverse ++ A ++ L2.reverse) q2 M.reverse s Q11 Q12) :
    ∃ Q', Sw t h c Q A B (L1 ++ q :: (s ++ q2 :: L2)) Q11 Q' := sorry
end
section
theorem pE_edge {t h : Int → Int} {Q : Int → Prop} {e : Int} : ∀ {l : List Int}, chn (jq t h Q) l → pE t h l e → ∃ f, Q f ∧ ∃ a b, jn1 t h f a b ∧ jn1 t h e a b := sorry
theorem fst_hit {P : Int → Prop} : ∀ {l : List Int}, (∃ v, v ∈ l ∧ P v) → ∃ S q R, l = S ++ q :: R ∧ (∀ v, v ∈ S → ¬ P v) ∧ P q := sorry
/-- a way with both ends on the first side's part of the border -/
theorem Sp_in {t h : Int → Int} {c : List Int} {Q : Int → Prop} {x0 : Int} {A0 : List Int} {y0 : Int} {B0 I0 : List Int} {Q10 Q20 : Int → Prop} {L1 M L2 : List Int} {x y : Int} {I : List Int} {Q11 Q12 : Int → Prop} (hc : c.Nodup) (hsm : ∀ e f a b, Q e → Q f → jn1 t h e a b → jn1 t h f a b → e = f)
    (S0 : Sp t h c Q x0 A0 y0 B0 I0 Q10 Q20) (hL : L1 ++ x :: (M ++ y :: L2) = x0 :: A0 ++ [y0]) (S1 : Sp t h (x0 :: A0 ++ y0 :: I0.reverse) Q10 x M y (L2 ++ I0.reverse ++ L1) I Q11 Q12) :
    ∃ Q', Sp t h c Q x M y (L2 ++ B0 ++ L1) I Q11 Q' := sorry
/-- a way that goes on in the first side as long as it meets neither the border nor the way that splits -/
theorem flw {t h : Int → Int} {Q Q10 Q20 : Int → Prop} {W : List Int} (p1 : ∀ e, (Q e ∧ ¬ pE t h W e) ↔ (Q10 e ∨ Q20 e)) (p5 : ∀ v, tch t h Q10 v → tch t h Q20 v → v ∈ W) :
    ∀ {S : List Int} {u z : Int}, chn (jq t h Q) (u :: S ++ [z]) → (∀ v, v ∈ S → v ∉ W) → (∀ e, Q e → jn1 t h e u ((S ++ [z]).headD 0) → Q10 e) → chn (jq t h Q10) (u :: S ++ [z]) := sorry
end
section
/-- simple: two edges of Q that join the same two are one -/
def smp (t h : Int → Int) (Q : Int → Prop) : Prop := ∀ e f a b, Q e → Q f → jn1 t h e a b → jn1 t h f a b → e = f
/-- whatever way is taken, it splits the disc -/
def PIp (t h : Int → Int) (c : List Int) (Q : Int → Prop) : Prop := ∀ x A y B I, cyc c (x :: A ++ y :: B) → wy t h c Q x I y → ∃ Q1 Q2, Sp t h c Q x A y B I Q1 Q2
theorem Sp_nd {t h : Int → Int} {c : List Int} {Q : Int → Prop} {x : Int} {A : List Int} {y : Int} {B I : List Int} {Q1 Q2 : Int → Prop} (hc : c.Nodup) (S : Sp t h c Q x A y B I Q1 Q2) : (x :: A ++ y :: I.reverse).Nodup ∧ (y :: B ++ x :: I).Nodup := sorry
theorem Sp_cnt {t h : Int → Int} {m : Nat} {c : List Int} {Q : Int → Prop} {x : Int} {A : List Int} {y : Int} {B I : List Int} {Q1 Q2 : Int → Prop} (hQ : ∀ e, Q e → blw m e) (S : Sp t h c Q x A y B I Q1 Q2) : cnt Q1 m < cnt Q m ∧ cnt Q2 m < cnt Q m := sorry
/-- the neighbours of a node along a row -/
theorem pE_nb {t h : Int → Int} {e q r : Int} : ∀ {L M : List Int}, (L ++ q :: M).Nodup → pE t h (L ++ q :: M) e → jn1 t h e q r → r ∈ L ∨ ∃ M', M = r :: M' := sorry
theorem Ds_pi {t h : Int → Int} {m : Nat} : ∀ (N : Nat) (c : List Int) (Q : Int → Prop), c.Nodup → (∀ e, Q e → blw m e) → smp t h Q → cnt Q m ≤ N → Ds t h c Q → PIp t h c Q := sorry
end
section
theorem wy_tch {t h : Int → Int} {c : List Int} {Q : Int → Prop} {x : Int} {I : List Int} {y : Int} (hw : wy t h c Q x I y) {v : Int} (hv : v ∈ x :: I ++ [y]) : tch t h Q v := sorry
theorem prt_tch {t h : Int → Int} {Q : Int → Prop} {x : Int} {A : List Int} {y : Int} {B I : List Int} {Q1 Q2 : Int → Prop} (hp : prt t h Q x A y B I Q1 Q2) {v : Int} : (tch t h Q1 v → tch t h Q v) ∧ (tch t h Q2 v → tch t h Q v) := sorry
/-- a node of the border that no edge comes to may go -/
theorem Dsc_del {t h : Int → Int} {k : Nat} : ∀ {c R : List Int} {Q : Int → Prop} {v : Int}, c.Nodup → cyc c (v :: R) → ¬ tch t h Q v → Dsc t h k c Q → Dsc t h k R Q := sorry
/-- and may come -/
theorem Dsc_ins {t h : Int → Int} {k : Nat} : ∀ {R : List Int} {Q : Int → Prop} {v : Int}, ¬ tch t h Q v → Dsc t h k R Q → Dsc t h k (v :: R) Q := sorry
theorem Ds_del {t h : Int → Int} {c R : List Int} {Q : Int → Prop} {v : Int} (hc : c.Nodup) (hcy : cyc c (v :: R)) (hv : ¬ tch t h Q v) : Ds t h c Q ↔ Ds t h R Q := sorry
theorem cyc_flt {c c' : List Int} (p : Int → Bool) (h : cyc c c') : cyc (c.filter p) (c'.filter p) := sorry
/-- only the nodes that edges come to tell -/
theorem Ds_flt {t h : Int → Int} {Q : Int → Prop} (p : Int → Bool) (hp : ∀ v, tch t h Q v → p v = true) : ∀ (n : Nat) (c : List Int), c.length ≤ n → c.Nodup → (Ds t h c Q ↔ Ds t h (c.filter p) Q) := sorry
/-- from one border to another one with the same row of nodes that edges come to, or that row from behind -/
theorem Ds_tr {t h : Int → Int} {Q : Int → Prop} (p : Int → Bool) (hp : ∀ v, tch t h Q v → p v = true) {c c' : List Int} (hc : c.Nodup) (hc' : c'.Nodup) (he : cyc (c.filter p) (c'.filter p) ∨ cyc (c.filter p) (c'.filter p).reverse) (q : Ds t h c Q) : Ds t h c' Q := sorry
end
section
/-! ===== what is drawn in a disc: every edge lies on a way, a part that has this may be drawn alone ===== -/
/-- every edge lies on a way between two nodes of the border -/
def Wf (t h : Int → Int) (c : List Int) (Q : Int → Prop) : Prop := ∀ e, Q e → ∃ x I y, x ∈ c ∧ y ∈ c ∧ wy t h c Q x I y ∧ pE t h (x :: I ++ [y]) e
theorem pE_sub {t h : Int → Int} {e : Int} {l1 l l2 : List Int} (q : pE t h l e) : pE t h (l1 ++ l ++ l2) e := sorry
theorem ext1 {t h : Int → Int} {c : List Int} {Q : Int → Prop} {x : Int} {I : List Int} {y : Int} (hw : wy t h c Q x I y) (hx : x ∈ c) (hy : y ∈ c) (x' y' : Int) (I' : List Int) (hx' : x' ∈ I) (hy' : y' ∈ c) (hn : (x' :: I' ++ [y']).Nodup) (hI : ∀ v, v ∈ I' → v ∉ c ∧ v ∉ I) (hc : chn (jq t h Q) (x' :: I' ++ [y'])) :
    ∃ x2 I2 y2, x2 ∈ c ∧ y2 ∈ c ∧ wy t h c Q x2 I2 y2 ∧ ∀ e, pE t h (x' :: I' ++ [y']) e → pE t h (x2 :: I2 ++ [y2]) e := sorry
theorem ext2 {t h : Int → Int} {c : List Int} {Q : Int → Prop} {x : Int} {I : List Int} {y : Int} (hw : wy t h c Q x I y) (hx : x ∈ c) (hy : y ∈ c) (x' y' : Int) (I' L1 L2 L3 : List Int) (e : I = L1 ++ x' :: (L2 ++ y' :: L3)) (hn : (x' :: I' ++ [y']).Nodup) (hI : ∀ v, v ∈ I' → v ∉ c ∧ v ∉ I) (hc : chn (jq t h Q) (x' :: I' ++ [y'])) :
    ∃ x2 I2 y2, x2 ∈ c ∧ y2 ∈ c ∧ wy t h c Q x2 I2 y2 ∧ ∀ e, pE t h (x' :: I' ++ [y']) e → pE t h (x2 :: I2 ++ [y2]) e := sorry
/-- a way that ends on another way or on the border, grown along that one to the border -/
theorem ext {t h : Int → Int} {c : List Int} {Q : Int → Prop} {x : Int} {I : List Int} {y x' : Int} {I' : List Int} {y' : Int} (hw : wy t h c Q x I y) (hx : x ∈ c) (hy : y ∈ c)
    (hx' : x' ∈ c ∨ x' ∈ I) (hy' : y' ∈ c ∨ y' ∈ I) (hn : (x' :: I' ++ [y']).Nodup) (hI : ∀ v, v ∈ I' → v ∉ c ∧ v ∉ I) (hc : chn (jq t h Q) (x' :: I' ++ [y'])) :
    ∃ x2 I2 y2, x2 ∈ c ∧ y2 ∈ c ∧ wy t h c Q x2 I2 y2 ∧ ∀ e, pE t h (x' :: I' ++ [y']) e → pE t h (x2 :: I2 ++ [y2]) e := sorry
/-- every edge of what is drawn lies on a way -/
theorem Dsc_way {t h : Int → Int} {k : Nat} : ∀ {c : List Int} {Q : Int → Prop}, Dsc t h k c Q → Wf t h c Q := sorry
theorem Ds_way {t h : Int → Int} {c : List Int} {Q : Int → Prop} (q : Ds t h c Q) : Wf t h c Q := sorry
theorem pE_spl {t h : Int → Int} {e : Int} : ∀ {L : List Int}, pE t h L e → ∃ M1 a b M2, L = M1 ++ a :: b :: M2 ∧ jn1 t h e a b := sorry
/-- the stretch of a way round an edge, from one node of P to the next one -/
theorem cut_seg {t h : Int → Int} {P : Int → Prop} {x' : Int} {I' : List Int} {y' e : Int} (hp : pE t h (x' :: I' ++ [y']) e) (hx : P x') (hy : P y') :
    ∃ R u S S' w R', x' :: I' ++ [y'] = R ++ (u :: (S.reverse ++ S') ++ [w]) ++ R' ∧ P u ∧ P w ∧ (∀ v, v ∈ S → ¬ P v) ∧ (∀ v, v ∈ S' → ¬ P v) ∧ jn1 t h e ((S ++ [u]).headD 0) ((S' ++ [w]).headD 0) := sorry
/-- a stretch round an edge of the first side stays there -/
theorem seg_in {t h : Int → Int} {Q Q10 Q20 : Int → Prop} {W : List Int} (p1 : ∀ e, (Q e ∧ ¬ pE t h W e) ↔ (Q10 e ∨ Q20 e)) (p5 : ∀ v, tch t h Q10 v → tch t h Q20 v → v ∈ W) (hs : smp t h Q)
    {u w e : Int} {S S' : List Int} (hc : chn (jq t h Q) (u :: (S.reverse ++ S') ++ [w])) (hS : ∀ v, v ∈ S → v ∉ W) (hS' : ∀ v, v ∈ S' → v ∉ W) (he : Q10 e) (hj : jn1 t h e ((S ++ [u]).headD 0) ((S' ++ [w]).headD 0)) : chn (jq t h Q10) (u :: (S.reverse ++ S') ++ [w]) := sorry
/-- a part of what is drawn whose edges lie on ways of its own -/
theorem Ds_sub {t h : Int → Int} {m : Nat} : ∀ (N : Nat) (c : List Int) (Q Q' : Int → Prop), c.Nodup → (∀ e, Q e → blw m e) → smp t h Q → cnt Q m ≤ N → Ds t h c Q → (∀ e, Q' e → Q e) → Wf t h c Q' → Ds t h c Q' := sorry
end
section
/-! ===== pieces on a border: which of them may stand side by side ===== -/
/-- four that stand so round the border -/
def X4 (c : List Int) (a b d e : Int) : Prop := ∃ c', cyc c c' ∧ List.Sublist [a, b, d, e] c'
/-- two sets of nodes of the border that do not get in each other's way -/
def nx (c : List Int) (S T : Int → Prop) : Prop := (∀ a b d e, S a → T b → S d → T e → ¬ X4 c a b d e) ∧ (∀ a b d, S a → S b → S d → T a → T b → T d → a ∈ c → b ∈ c → d ∈ c → a = b ∨ b = d ∨ a = d)
theorem X4_cyc {c c' : List Int} {a b d e : Int} (h : cyc c c') (q : X4 c a b d e) : X4 c' a b d e := sorry
theorem X4_rot {c : List Int} {a b d e : Int} (q : X4 c a b d e) : X4 c b d e a := sorry
theorem X4_rev {c : List Int} {a b d e : Int} (q : X4 c a b d e) : X4 c.reverse e d b a := sorry
theorem X4_flt {c : List Int} {a b d e : Int} (p : Int → Bool) (q : X4 c a b d e) (ha : p a = true) (hb : p b = true) (hd : p d = true) (he : p e = true) : X4 (c.filter p) a b d e := sorry
theorem X4_unf {c : List Int} {a b d e : Int} (p : Int → Bool) (q : X4 (c.filter p) a b d e) : X4 c a b d e := sorry
theorem X4_lin {c c0 : List Int} {a b d e : Int} (h : cyc c c0) (q : X4 c a b d e) : List.Sublist [a, b, d, e] c0 ∨ List.Sublist [b, d, e, a] c0 ∨ List.Sublist [d, e, a, b] c0 ∨ List.Sublist [e, a, b, d] c0 := sorry
theorem X4_of {c c0 : List Int} {a b d e : Int} (h : cyc c c0) (q : List.Sublist [a, b, d, e] c0) : X4 c a b d e := sorry
/-- a row that ends in the first stretch lies in it -/
theorem sub_end {U V L : List Int} {z : Int} (hn : (U ++ V).Nodup) (hz : z ∈ U) (q : List.Sublist (L ++ [z]) (U ++ V)) : List.Sublist (L ++ [z]) U := sorry
/-- two of four stand in a stretch: then one of the others stands between them -/
theorem X4_mid {c U V : List Int} {s t s' t' : Int} (hn : c.Nodup) (h : cyc c (U ++ V)) (ht : t ∈ U) (ht' : t' ∈ U) (q : X4 c s t s' t') : List.Sublist [t', s, t] U ∨ List.Sublist [t, s', t'] U := sorry
theorem X4_mem {c : List Int} {a b d e : Int} (q : X4 c a b d e) : a ∈ c ∧ b ∈ c ∧ d ∈ c ∧ e ∈ c := sorry
/-- four of a stretch stand so in each border that has the stretch -/
theorem X4_str {c c1 U V V' : List Int} {a b d e : Int} (hn : c.Nodup) (h : cyc c (U ++ V)) (h' : cyc c1 (U ++ V')) (ha : a ∈ U) (hb : b ∈ U) (hd : d ∈ U) (he : e ∈ U) (q : X4 c a b d e) : X4 c1 a b d e := sorry
theorem nx_sym {c : List Int} {S T : Int → Prop} (q : nx c S T) : nx c T S := sorry
theorem nx_mono {c : List Int} {S T S' T' : Int → Prop} (h1 : ∀ v, v ∈ c → S' v → S v) (h2 : ∀ v, v ∈ c → T' v → T v) (q : nx c S T) : nx c S' T' := sorry
theorem nx_cyc {c c' : List Int} {S T : Int → Prop} (h : cyc c c') (q : nx c S T) : nx c' S T := sorry
theorem nx_rev {c : List Int} {S T : Int → Prop} (q : nx c S T) : nx c.reverse S T := sorry
/-- from one border to another one with the same row of the nodes that tell -/
theorem nx_tr {c c' : List Int} {S T : Int → Prop} (p : Int → Bool) (hS : ∀ v, S v → p v = true) (hT : ∀ v, T v → p v = true) (he : cyc (c.filter p) (c'.filter p) ∨ cyc (c.filter p) (c'.filter p).reverse) (q : nx c S T) : nx c' S T := sorry
/-- two of a row, in one order or the other one -/
theorem two_sort : ∀ {U : List Int} {a b : Int}, a ∈ U → b ∈ U → a ≠ b → List.Sublist [a, b] U ∨ List.Sublist [b, a] U := sorry
/-- of three in a row one stands between the others -/
theorem three_sort : ∀ {U : List Int} {a b d : Int} (S : Int → Prop), S a → S b → S d → a ∈ U → b ∈ U → d ∈ U → a ≠ b → b ≠ d → a ≠ d → ∃ t1 s t2, S t1 ∧ S s ∧ S t2 ∧ List.Sublist [t1, s, t2] U := sorry
/-- what stands between two of a stretch is neither its beginning nor its end -/
theorem mid_in {x y : Int} {A : List Int} {t1 s t2 : Int} (hn : (x :: A ++ [y]).Nodup) (q : List.Sublist [t1, s, t2] (x :: A ++ [y])) : s ∈ A := sorry
end
section
/-! ===== DrawingHouse$Shape ===== -/
/-- a Shape and its arrays by their shapes -/
def isS (s : Int) : Prop := 0 ≤ s ∧ q_shp s = (7, 0) ∧ q_shp (s + 1) = (100, 24) ∧ q_shp (s + 2) = (100, 24) ∧ q_shp (s + 3) = (100, 24) ∧ q_shp (s + 4) = (100, 24) ∧ q_shp (s + 5) = (100, 48) ∧ q_shp (s + 6) = (100, 24) ∧ q_shp (s + 7) = (100, 24) ∧ q_shp (s + 8) = (100, 24) ∧ q_shp (s + 9) = (100, 48)
/-- a Shape's fields hold its arrays -/
def SA (v : Int → Int → Int) (s : Int) : Prop := v s 0 = s + 1 ∧ v s 1 = s + 2 ∧ v s 2 = s + 3 ∧ v s 3 = s + 4 ∧ v s 4 = s + 5 ∧ v s 5 = s + 6 ∧ v s 9 = s + 7 ∧ v s 10 = s + 8 ∧ v s 11 = s + 9
/-- a way by the bits of a row -/
def rbt (r : Int → Int) (n : Int) (x y : Int) : Prop := (0 ≤ x ∧ x < n) ∧ (0 ≤ y ∧ y < 32) ∧ bt (r x) y
/-- z has the bits that are reached from those of f -/
def spr (r : Int → Int) (n f z : Int) : Prop := i32 z ∧ ∀ k, 0 ≤ k → k < 32 → (bt z k ↔ ∃ j, 0 ≤ j ∧ j < 32 ∧ bt f j ∧ rchs (rbt r n) j k)
set_option maxRecDepth 100000 in
theorem sp_Sh_spread {l : Launch} {D : qD} {d : Nat} {s g f w : Int} {h : qh} {Q : qQ} (hs : isS s) (hg : isG g) (eg : h.2 s 15 = g) (hN : 0 ≤ h.2 g 0 ∧ h.2 g 0 ≤ 24) (hw : 0 ≤ w ∧ q_shp w = (100, 24)) (hf : i32 f)
    (hq : ∀ z, spr (h.2 w) (h.2 g 0) f z → Q (some (.inl z)) h) : qM l D (d + 1, 0, 0) m_Sh_spread [.inr (.inr s), .inl f, .inr (.inr w)] h Q := sorry
end
section
/-! ===== Shape: parts ===== -/
theorem shp_ne {a b : Int} {x y : Nat × Int} (ha : q_shp a = x) (hb : q_shp b = y) (h : x ≠ y) : a ≠ b := sorry
/-- what a Shape's method leaves as it was: all but the fields in F and the cells in C -/
def KS (s : Int) (F C : List Int) (v v' : Int → Int → Int) : Prop := (∀ a, a ≠ s → a ∉ C → v' a = v a) ∧ (∀ j, j ∉ F → v' s j = v s j)
theorem KS.rf {s : Int} {F C : List Int} {v : Int → Int → Int} : KS s F C v v := sorry
theorem KS.tr {s : Int} {F C : List Int} {v v' v'' : Int → Int → Int} (h : KS s F C v v') (h' : KS s F C v' v'') : KS s F C v v'' := sorry
theorem KS.up {s : Int} {F C : List Int} {v v' : Int → Int → Int} {a k z : Int} (h : KS s F C v v') (ha : a ∈ C) (hs : a ≠ s) : KS s F C v (up2 v' a k z) := sorry
theorem KS.fl {s : Int} {F C : List Int} {v v' : Int → Int → Int} {k z : Int} (h : KS s F C v v') (hk : k ∈ F) : KS s F C v (up2 v' s k z) := sorry
theorem KS.wk {s : Int} {F C F' C' : List Int} {v v' : Int → Int → Int} (h : KS s F C v v') (hF : ∀ j, j ∈ F → j ∈ F') (hC : ∀ j, j ∈ C → j ∈ C') : KS s F' C' v v' := sorry
theorem ite_ex (P : Int → Prop) (c : Int) (N : Int → Int) : ∃ f : Int → Int, (∀ e, P e → f e = c) ∧ (∀ e, ¬ P e → f e = N e) := sorry
set_option maxRecDepth 100000 in
theorem sp_Sh_lookParts {l : Launch} {D : qD} {d : Nat} {s g : Int} {h : qh} {Q : qQ} (hs : isS s) (hS : SA h.2 s) (hg : isG g) (eg : h.2 s 15 = g) (hN : 0 ≤ h.2 g 0 ∧ h.2 g 0 ≤ 24) (hsym : ∀ x y, rbt (h.2 (s + 1)) (h.2 g 0) x y → rbt (h.2 (s + 1)) (h.2 g 0) y x)
    (hq : ∀ v, KS s [6] [s + 2] h.2 v → num (rchs (rbt (h.2 (s + 1)) (h.2 g 0))) (h.2 g 0).toNat (v (s + 2)) → v s 6 = nums (rchs (rbt (h.2 (s + 1)) (h.2 g 0))) (h.2 g 0).toNat → Q none (h.1, v)) : qM l D (d + 2, 0, 0) m_Sh_lookParts [.inr (.inr s)] h Q := sorry
end
section
/-! ===== Shape: blocks ===== -/
set_option maxRecDepth 100000 in
theorem sp_Sh_close {l : Launch} {D : qD} {d : Nat} {s f o b : Int} {h : qh} {Q : qQ} (hs : isS s) (hS : SA h.2 s) (ho : h.2 s 13 = o) (hb : h.2 s 7 = b) (hf : 0 ≤ f ∧ f ≤ o ∧ o ≤ 48) (hb1 : 0 ≤ b ∧ b ≤ 48) (hst : ∀ p, f ≤ p → p < o → 0 ≤ h.2 (s + 9) p ∧ h.2 (s + 9) p < 48)
    (hq : ∀ v, KS s [7, 13] [s + 5] h.2 v → v s 13 = f → v s 7 = b + 1 → (∀ p, f ≤ p → p < o → v (s + 5) (h.2 (s + 9) p) = 48 + b) → (∀ x, (∀ p, f ≤ p → p < o → h.2 (s + 9) p ≠ x) → v (s + 5) x = h.2 (s + 5) x) → Q none (h.1, v)) : qM l D (d + 1, 0, 0) m_Sh_close [.inr (.inr s), .inl f] h Q := sorry
end
section
/-! ===== Shape.go: the walk by lowest ways back ===== -/
/-- what is known of the graph: so many nodes, edges; ends below; no loops -/
def gok (v : Int → Int → Int) (g : Int) : Prop := (0 ≤ v g 0 ∧ v g 0 ≤ 24) ∧ (0 ≤ v g 1 ∧ v g 1 ≤ 48) ∧ (∀ e, blw (v g 1).toNat e → blw (v g 0).toNat (v (g + 6) e) ∧ blw (v g 0).toNat (v (g + 7) e)) ∧ nlp (v (g + 6)) (v (g + 7)) (blw (v g 1).toNat)
/-- graph and shape lie apart -/
def aprt (g s : Int) : Prop := g + 11 < s ∨ s + 9 < g
theorem f_other (g e i : Int) (v : Int → Int → Int) : f_Gr_other g e i v = oth (v (g + 6)) (v (g + 7)) e i := sorry
theorem f_min (a b : Int) (v : Int → Int → Int) : f_Math_min_0 a b v = if a ≤ b then a else b := sorry
theorem SA.ks {v v' : Int → Int → Int} {s : Int} {F C : List Int} (h : SA v s) (K : KS s F C v v') (hF : ∀ j, j ∈ F → j ≠ 0 ∧ j ≠ 1 ∧ j ≠ 2 ∧ j ≠ 3 ∧ j ≠ 4 ∧ j ≠ 5 ∧ j ≠ 9 ∧ j ≠ 10 ∧ j ≠ 11) : SA v' s := sorry
theorem GA.of {v v' : Int → Int → Int} {g : Int} (h : GA v g) (e : v' g = v g) : GA v' g := sorry
theorem gok.of {v v' : Int → Int → Int} {g : Int} (h : gok v g) (e : v' g = v g) (e6 : v' (g + 6) = v (g + 6)) (e7 : v' (g + 7) = v (g + 7)) : gok v' g := sorry
/-- what stands behind the call -/
def kg_77 (l : Launch) (D : qD) (d0 : Nat) (B : Nat × Nat) (Q : qQ) : qK := (s_aload 0 (s_getR 7 10 (s_iload 1 (s_aload 0 (s_getR 7 10 (s_iload 1 (s_iald (s_aload 0 (s_getR 7 10 (s_iload 4 (s_iald (s_Math_min_0 d0 (s_iast (s_aload 0 (s_getR 7 10 (s_iload 4 (s_iald (s_aload 0 (s_getR 7 9 (s_iload 1 (s_iald (s_icmp_lt (w_Sh_go_175 l D d0 B Q) (s_aload 0 (s_iload 5 (s_invV l D (d0, 0, 0) 7 m_Sh_close 1 (w_Sh_go_175 l D d0 B Q))))))))))))))))))))))))))
def wg_77 (l : Launch) (D : qD) (d0 : Nat) (B : Nat × Nat) (Q : qQ) : qK := (s_aload 0 (s_getR 7 15 (s_iload 3 (s_iload 1 (s_Gr_other d0 (s_istore 4 (s_aload 0 (s_getR 7 9 (s_iload 4 (s_iald (s_if_ne (w_Sh_go_178 l D d0 B Q) (s_aload 0 (s_getI 7 13 (s_istore 5 (s_aload 0 (s_getR 7 11 (s_aload 0 (s_getI 7 13 (s_iload 3 (s_iast (s_aload 0 (s_dup (s_getI 7 13 (s_ic (1) (s_iadd (s_putI 7 13 (s_aload 0 (s_iload 4 (s_iload 3 (s_invV l D (d0, 0, 0) 7 m_Sh_go 2 (kg_77 l D d0 B Q)))))))))))))))))))))))))))))))
theorem w77_eq (l : Launch) (D : qD) (d0 : Nat) (B : Nat × Nat) (Q : qQ) : w_Sh_go_77 l D d0 B Q = wg_77 l D d0 B Q := sorry
set_option maxRecDepth 100000 in
theorem go_ret {l : Launch} {D : qD} {d' : Nat} {s i b e k f : Int} {c : Nat} {Q' : qQ} {v2 : Int → Int → Int} (hs : isS s) (hS : SA v2 s) (i24 : 0 ≤ i ∧ i < 24) (k24 : 0 ≤ k ∧ k < 24) (ki : k ≠ i) (e48 : 0 ≤ e ∧ e < 48) (hf : 0 ≤ f ∧ f ≤ v2 s 13 ∧ v2 s 13 ≤ 48) (hb : 0 ≤ v2 s 7 ∧ v2 s 7 ≤ 48) (hst : ∀ p, f ≤ p → p < v2 s 13 → 0 ≤ v2 (s + 9) p ∧ v2 (s + 9) p < 48)
    (ro : v2 (s + 8) k < v2 (s + 7) i → qR l D (d' + 2, 0, 0) m_Sh_go 32 Q' [some (.inr (.inr s)), some (.inl i), some (.inl b), some (.inl (e + 1)), some (.inl k), some (.inl f)] [] ((c, 0, 0), up2 v2 (s + 8) i (if v2 (s + 8) i ≤ v2 (s + 8) k then v2 (s + 8) i else v2 (s + 8) k)))
    (rc : v2 (s + 7) i ≤ v2 (s + 8) k → ∀ w v3, w = up2 v2 (s + 8) i (if v2 (s + 8) i ≤ v2 (s + 8) k then v2 (s + 8) i else v2 (s + 8) k) → KS s [7, 13] [s + 5] w v3 → v3 s 13 = f → v3 s 7 = v2 s 7 + 1 → (∀ p, f ≤ p → p < v2 s 13 → v3 (s + 5) (w (s + 9) p) = 48 + v2 s 7) → (∀ x, (∀ p, f ≤ p → p < v2 s 13 → w (s + 9) p ≠ x) → v3 (s + 5) x = w (s + 5) x) → qR l D (d' + 2, 0, 0) m_Sh_go 32 Q' [some (.inr (.inr s)), some (.inl i), some (.inl b), some (.inl (e + 1)), some (.inl k), some (.inl f)] [] ((c, 0, 0), v3)) :
    kg_77 l D (d' + 1) (0, 0) Q' [some (.inr (.inr s)), some (.inl i), some (.inl b), some (.inl e), some (.inl k), some (.inl f)] [] ((c, 0, 0), v2) := sorry
end
section
/-! ===== Shape.go: an edge of a node ===== -/
set_option maxRecDepth 100000 in
theorem go_77 {l : Launch} {D : qD} {d' : Nat} {s g i b e k : Int} {c : Nat} {Q' : qQ} {v : Int → Int → Int} {x4 x5 : Option qv} (hs : isS s) (hS : SA v s) (hg : isG g) (hG : GA v g) (eg : v s 15 = g) (i24 : 0 ≤ i ∧ i < 24) (k24 : 0 ≤ k ∧ k < 24) (e48 : 0 ≤ e ∧ e < 48) (hop : 0 ≤ v s 13 ∧ v s 13 ≤ 48) (hk : oth (v (g + 6)) (v (g + 7)) e i = k)
    (sk : v (s + 7) k ≠ 0 → ¬ v (s + 7) k < v (s + 7) i → qR l D (d' + 2, 0, 0) m_Sh_go 32 Q' [some (.inr (.inr s)), some (.inl i), some (.inl b), some (.inl (e + 1)), some (.inl k), x5] [] ((c, 0, 0), v))
    (bk1 : v (s + 7) k ≠ 0 → v (s + 7) k < v (s + 7) i → v s 13 < 48 ∧ qR l D (d' + 2, 0, 0) m_Sh_go 32 Q' [some (.inr (.inr s)), some (.inl i), some (.inl b), some (.inl (e + 1)), some (.inl k), x5] [] ((c, 0, 0), up2 (up2 (up2 v (s + 9) (v s 13) e) s 13 (v s 13 + 1)) (s + 8) i (if v (s + 8) i ≤ v (s + 7) k then v (s + 8) i else v (s + 7) k)))
    (tr : v (s + 7) k = 0 → v s 13 < 48 ∧ qM l D (d' + 1, 0, 0) m_Sh_go [.inr (.inr s), .inl k, .inl e] ((c, 0, 0), up2 (up2 v (s + 9) (v s 13) e) s 13 (v s 13 + 1)) (fun r h' => kg_77 l D (d' + 1) (0, 0) Q' [some (.inr (.inr s)), some (.inl i), some (.inl b), some (.inl e), some (.inl k), some (.inl (v s 13))] r.toList h')) :
    w_Sh_go_77 l D (d' + 1) (0, 0) Q' [some (.inr (.inr s)), some (.inl i), some (.inl b), some (.inl e), x4, x5] [] ((c, 0, 0), v) := sorry
theorem go_push {s e : Int} {h0 v u : Int → Int → Int} (K : KS s [7, 12, 13] [s + 5, s + 7, s + 8, s + 9] h0 v) (hu : u = up2 (up2 v (s + 9) (v s 13) e) s 13 (v s 13 + 1)) : (u (s + 9) (v s 13) = e ∧ (∀ p, p ≠ v s 13 → u (s + 9) p = v (s + 9) p)) ∧ (u (s + 7) = v (s + 7) ∧ u (s + 8) = v (s + 8) ∧ u (s + 5) = v (s + 5)) ∧ (u s 13 = v s 13 + 1 ∧ u s 12 = v s 12 ∧ u s 7 = v s 7) ∧ KS s [7, 12, 13] [s + 5, s + 7, s + 8, s + 9] h0 u := sorry
/-- what reading gives while the walk goes on -/
theorem go_rd {s g : Int} {h0 v : Int → Int → Int} (hS : SA h0 s) (eg : h0 s 15 = g) (hap : aprt g s) (K : KS s [7, 12, 13] [s + 5, s + 7, s + 8, s + 9] h0 v) : SA v s ∧ v s 15 = g ∧ v g = h0 g ∧ v (g + 6) = h0 (g + 6) ∧ v (g + 7) = h0 (g + 7) := sorry
end
section
/-! ===== Shape.go: the whole ===== -/
/-- what the call for another node gives -/
def goC (l : Launch) (D : qD) (N d' : Nat) (c : Nat) (s g : Int) : Prop := ∀ {i b : Int} {u : Int → Int → Int} {Q : qQ} {act : Int → Prop} {byf pos : Int → Int}, SA u s → GA u g → u s 15 = g → gok u g →
    GPre (u g 0).toNat (u g 1).toNat (u (g + 6)) (u (g + 7)) (u (s + 7)) (u s 12) (u (s + 9)) (u s 13) (u (s + 5)) (u s 7) act byf pos i b → cnt (fun x => u (s + 7) x = 0) (u g 0).toNat ≤ N →
    (∀ v, KS s [7, 12, 13] [s + 5, s + 7, s + 8, s + 9] u v → GPost (u g 0).toNat (u g 1).toNat (u (g + 6)) (u (g + 7)) (u (s + 7)) (u (s + 8)) (u s 12) (u (s + 9)) (u s 13) (u (s + 5)) (v (s + 7)) (v (s + 8)) (v s 12) (v (s + 9)) (v s 13) (v (s + 5)) (v s 7) act byf pos i b → Q none ((c, 0, 0), v)) →
    qM l D (d', 0, 0) m_Sh_go [.inr (.inr s), .inl i, .inl b] ((c, 0, 0), u) Q
/-- what is known in the loop over the edges of i -/
def goL (h0 v : Int → Int → Int) (s g : Int) (act : Int → Prop) (byf pos : Int → Int) (i b e : Int) : Prop := KS s [7, 12, 13] [s + 5, s + 7, s + 8, s + 9] h0 v ∧
    LI (h0 g 0).toNat (h0 g 1).toNat (h0 (g + 6)) (h0 (g + 7)) (h0 (s + 7)) (h0 (s + 8)) (h0 s 12) (h0 (s + 9)) (h0 s 13) (h0 (s + 5)) (v (s + 7)) (v (s + 8)) (v s 12) (v (s + 9)) (v s 13) (v (s + 5)) (v s 7) act byf pos i b e
set_option maxRecDepth 100000 in
theorem go_tree {l : Launch} {D : qD} {N d' : Nat} {s g i b e k : Int} {c : Nat} {Q' : qQ} {h0 v : Int → Int → Int} {act : Int → Prop} {byf pos : Int → Int} (hs : isS s) (hS : SA h0 s) (hG : GA h0 g) (eg : h0 s 15 = g) (hap : aprt g s) (hok : gok h0 g)
    (P : GPre (h0 g 0).toNat (h0 g 1).toNat (h0 (g + 6)) (h0 (g + 7)) (h0 (s + 7)) (h0 s 12) (h0 (s + 9)) (h0 s 13) (h0 (s + 5)) (h0 s 7) act byf pos i b) (hc : cnt (fun x => h0 (s + 7) x = 0) (h0 g 0).toNat ≤ N + 1) (hL : goL h0 v s g act byf pos i b e) (he : blw (h0 g 1).toNat e) (hin : inc (h0 (g + 6)) (h0 (g + 7)) e i) (hk : oth (h0 (g + 6)) (h0 (g + 7)) e i = k) (q : v (s + 7) k = 0)
    (nx : ∀ v', goL h0 v' s g act byf pos i b (e + 1) → qR l D (d' + 2, 0, 0) m_Sh_go 32 Q' [some (.inr (.inr s)), some (.inl i), some (.inl b), some (.inl (e + 1)), some (.inl k), some (.inl (v s 13))] [] ((c, 0, 0), v')) (IH : goC l D N (d' + 1) c s g) :
    v s 13 < 48 ∧ qM l D (d' + 1, 0, 0) m_Sh_go [.inr (.inr s), .inl k, .inl e] ((c, 0, 0), up2 (up2 v (s + 9) (v s 13) e) s 13 (v s 13 + 1)) (fun r h' => kg_77 l D (d' + 1) (0, 0) Q' [some (.inr (.inr s)), some (.inl i), some (.inl b), some (.inl e), some (.inl k), some (.inl (v s 13))] r.toList h') := sorry
set_option maxRecDepth 100000 in
theorem sp_Sh_go : ∀ (N : Nat) {l : Launch} {D : qD} {d : Nat} {c : Nat} {s g : Int}, isS s → isG g → aprt g s → goC l D N (d + N + 2) c s g := sorry
end
section
/-! ===== Shape.lookBlocks ===== -/
theorem cnt_inj {P : Int → Prop} {m n : Nat} {f : Int → Int} : ∀ {P' : Int → Prop}, (∀ x, blw m x → P x → blw n (f x) ∧ P' (f x)) → (∀ x y, blw m x → blw m y → P x → P y → f x = f y → x = y) → cnt P m ≤ cnt P' n := sorry
theorem cnt_false {P : Int → Prop} {n : Nat} (h : ∀ x, blw n x → ¬ P x) : cnt P n = 0 := sorry
theorem cnt_true (n : Nat) : cnt (fun _ => True) n = n := sorry
theorem TJ_0 {n m : Nat} {t h met stk blk byf pos : Int → Int} (hm : ∀ x, blw n x → met x = 0) (hb : ∀ e, blw m e → blk e = -1) : TJ n m t h met 0 stk 0 blk 0 (fun _ => False) byf pos (-1) := sorry
/-- as many numbers as classes -/
theorem bn_nums {m : Nat} {E : Int → Int → Prop} {blk : Int → Int} {bn : Int} (Es : ∀ x y, E x y → E y x) (Et : ∀ x y z, E x y → E y z → E x z) (Er : ∀ x, E x x) (h0 : 0 ≤ bn) (h1 : ∀ e, blw m e → 48 ≤ blk e ∧ blk e < 48 + bn) (h2 : ∀ e f, blw m e → blw m f → (blk e = blk f ↔ E e f)) (h3 : ∀ b, 48 ≤ b → b < 48 + bn → ∃ e, blw m e ∧ blk e = b) : bn = nums E m := sorry
set_option maxRecDepth 100000 in
theorem sp_Sh_lookBlocks {l : Launch} {D : qD} {d : Nat} {s g : Int} {h : qh} {Q : qQ} (hs : isS s) (hS : SA h.2 s) (hg : isG g) (hG : GA h.2 g) (eg : h.2 s 15 = g) (hap : aprt g s) (hok : gok h.2 g)
    (hq : ∀ v, KS s [7, 12, 13, 14] [s + 5, s + 7, s + 8, s + 9] h.2 v → num (bk (h.2 (g + 6)) (h.2 (g + 7)) (blw (h.2 g 1).toNat)) (h.2 g 1).toNat (v (s + 5)) → v s 7 = nums (bk (h.2 (g + 6)) (h.2 (g + 7)) (blw (h.2 g 1).toNat)) (h.2 g 1).toNat → Q none (h.1, v)) : qM l D (d + 27, 0, 0) m_Sh_lookBlocks [.inr (.inr s)] h Q := sorry
end
section
/-! ===== Shape.lookStrong ===== -/
/-- a step along an edge as it goes, or back along one that goes both ways -/
def dR (v : Int → Int → Int) (g a : Int) (x y : Int) : Prop := ∃ e, blw (v g 1).toNat e ∧ ((v (g + 6) e = x ∧ v (g + 7) e = y) ∨ (a = 0 ∧ v (g + 9) e = 0 ∧ v (g + 7) e = x ∧ v (g + 6) e = y))
/-- there and back -/
def sE (R : Int → Int → Prop) (x y : Int) : Prop := rchs R x y ∧ rchs R y x
theorem sE_rf {R : Int → Int → Prop} (x : Int) : sE R x x := sorry
theorem sE_sym {R : Int → Int → Prop} {x y : Int} (h : sE R x y) : sE R y x := sorry
theorem sE_tr {R : Int → Int → Prop} {x y z : Int} (h : sE R x y) (h' : sE R y z) : sE R x z := sorry
theorem rchs_iff {R R' : Int → Int → Prop} (h : ∀ x y, R x y ↔ R' x y) (a b : Int) : rchs R a b ↔ rchs R' a b := sorry
set_option maxRecDepth 100000 in
theorem sp_Sh_lookStrong {l : Launch} {D : qD} {d : Nat} {s g a : Int} {h : qh} {Q : qQ} (hs : isS s) (hS : SA h.2 s) (hg : isG g) (hG : GA h.2 g) (eg : h.2 s 15 = g) (hap : aprt g s) (hok : gok h.2 g)
    (hq : ∀ v, KS s [8] [s + 3, s + 6] h.2 v → num (sE (dR h.2 g a)) (h.2 g 0).toNat (v (s + 3)) → v s 8 = nums (sE (dR h.2 g a)) (h.2 g 0).toNat → Q none (h.1, v)) : qM l D (d + 2, 0, 0) m_Sh_lookStrong [.inr (.inr s), .inl a] h Q := sorry
end
section
/-! ===== shifts without sign, lxor ===== -/
def z_iushr (x y : Int) : Int := ((Int32.ofInt x).toUInt32 >>> ((Int32.ofInt y).toUInt32 &&& Int32.toUInt32 31)).toInt32.toInt
def s_iushr (K : qK) : qK := fun ls st h => match st with
  | .inl y :: .inl x :: r => K ls (.inl (z_iushr x y) :: r) h
  | _ => False
theorem ok_iushr {l : Launch} {D : qD} {d : qd} {M : qm} {pc : Nat} {Q : qQ} {K : qK} (hd : decode M.2.1 pc = .ok (.iushr, 1)) (k : qI (K) (qR l D d M (pc + 1) Q)) : qI (s_iushr K) (qR l D d M pc Q) := sorry
def z_lushr (x y : Int) : Int := ((Int64.ofInt x).toUInt64 >>> ((Int32.ofInt y).toInt64.toUInt64 &&& Int64.toUInt64 63)).toInt64.toInt
def s_lushr (K : qK) : qK := fun ls st h => match st with
  | .inl y :: .inr (.inl x) :: r => K ls (.inr (.inl (z_lushr x y)) :: r) h
  | _ => False
theorem ok_lushr {l : Launch} {D : qD} {d : qd} {M : qm} {pc : Nat} {Q : qQ} {K : qK} (hd : decode M.2.1 pc = .ok (.lushr, 1)) (k : qI (K) (qR l D d M (pc + 1) Q)) : qI (s_lushr K) (qR l D d M pc Q) := sorry
def z_lxor (x y : Int) : Int := (Int64.ofInt x ^^^ Int64.ofInt y).toInt
def s_lxor (K : qK) : qK := fun ls st h => match st with
  | .inr (.inl y) :: .inr (.inl x) :: r => K ls (.inr (.inl (z_lxor x y)) :: r) h
  | _ => False
theorem ok_lxor {l : Launch} {D : qD} {d : qd} {M : qm} {pc : Nat} {Q : qQ} {K : qK} (hd : decode M.2.1 pc = .ok (.lxor, 1)) (k : qI (K) (qR l D d M (pc + 1) Q)) : qI (s_lxor K) (qR l D d M pc Q) := sorry
end
section
/-! printed by gen/gcode.py: methods of the JDK with unsigned shifts -/

def w_Integer_bitCount_0 (l : Launch) (D : qD) (d0 : Nat) (B : Nat × Nat) (Q : qQ) : qK := (s_iload 0 (s_iload 0 (s_ic (1) (s_iushr (s_ic (1431655765) (s_iand (s_isub (s_istore 0 (s_iload 0 (s_ic (858993459) (s_iand (s_iload 0 (s_ic (2) (s_iushr (s_ic (858993459) (s_iand (s_iadd (s_istore 0 (s_iload 0 (s_iload 0 (s_ic (4) (s_iushr (s_iadd (s_ic (252645135) (s_iand (s_istore 0 (s_iload 0 (s_iload 0 (s_ic (8) (s_iushr (s_iadd (s_istore 0 (s_iload 0 (s_iload 0 (s_ic (16) (s_iushr (s_iadd (s_istore 0 (s_iload 0 (s_ic (63) (s_iand (s_iret Q))))))))))))))))))))))))))))))))))))))))))
theorem Integer_bitCount_0 {l : Launch} {D : qD} {d0 : Nat} {B : Nat × Nat} {Q : qQ} : qI (w_Integer_bitCount_0 l D d0 B Q) (qR l D (d0 + 1, B) m_Integer_bitCount 0 Q) := sorry
def w_Long_bitCount_0 (l : Launch) (D : qD) (d0 : Nat) (B : Nat × Nat) (Q : qQ) : qK := (s_lload 0 (s_lload 0 (s_ic (1) (s_lushr (s_lc (6148914691236517205) (s_land (s_lsub (s_lstore 0 (s_lload 0 (s_lc (3689348814741910323) (s_land (s_lload 0 (s_ic (2) (s_lushr (s_lc (3689348814741910323) (s_land (s_ladd (s_lstore 0 (s_lload 0 (s_lload 0 (s_ic (4) (s_lushr (s_ladd (s_lc (1085102592571150095) (s_land (s_lstore 0 (s_lload 0 (s_lload 0 (s_ic (8) (s_lushr (s_ladd (s_lstore 0 (s_lload 0 (s_lload 0 (s_ic (16) (s_lushr (s_ladd (s_lstore 0 (s_lload 0 (s_lload 0 (s_ic (32) (s_lushr (s_ladd (s_lstore 0 (s_lload 0 (s_l2i (s_ic (127) (s_iand (s_iret Q)))))))))))))))))))))))))))))))))))))))))))))))))
theorem Long_bitCount_0 {l : Launch} {D : qD} {d0 : Nat} {B : Nat × Nat} {Q : qQ} : qI (w_Long_bitCount_0 l D d0 B Q) (qR l D (d0 + 1, B) m_Long_bitCount 0 Q) := sorry
def w_Integer_numberOfTrailingZeros_74 (l : Launch) (D : qD) (d0 : Nat) (B : Nat × Nat) (Q : qQ) : qK := (s_iload 1 (s_iload 0 (s_ic (1) (s_iushr (s_iadd (s_iret Q))))))
theorem Integer_numberOfTrailingZeros_74 {l : Launch} {D : qD} {d0 : Nat} {B : Nat × Nat} {Q : qQ} : qI (w_Integer_numberOfTrailingZeros_74 l D d0 B Q) (qR l D (d0 + 1, B) m_Integer_numberOfTrailingZeros 74 Q) := sorry
def w_Integer_numberOfTrailingZeros_62 (l : Launch) (D : qD) (d0 : Nat) (B : Nat × Nat) (Q : qQ) : qK := (s_iload 0 (s_ic (4) (s_icmp_le (w_Integer_numberOfTrailingZeros_74 l D d0 B Q) (s_iinc 1 (2) (s_iload 0 (s_ic (2) (s_iushr (s_istore 0 (w_Integer_numberOfTrailingZeros_74 l D d0 B Q)))))))))
theorem Integer_numberOfTrailingZeros_62 {l : Launch} {D : qD} {d0 : Nat} {B : Nat × Nat} {Q : qQ} : qI (w_Integer_numberOfTrailingZeros_62 l D d0 B Q) (qR l D (d0 + 1, B) m_Integer_numberOfTrailingZeros 62 Q) := sorry
def w_Integer_numberOfTrailingZeros_49 (l : Launch) (D : qD) (d0 : Nat) (B : Nat × Nat) (Q : qQ) : qK := (s_iload 0 (s_ic (16) (s_icmp_le (w_Integer_numberOfTrailingZeros_62 l D d0 B Q) (s_iinc 1 (4) (s_iload 0 (s_ic (4) (s_iushr (s_istore 0 (w_Integer_numberOfTrailingZeros_62 l D d0 B Q)))))))))
theorem Integer_numberOfTrailingZeros_49 {l : Launch} {D : qD} {d0 : Nat} {B : Nat × Nat} {Q : qQ} : qI (w_Integer_numberOfTrailingZeros_49 l D d0 B Q) (qR l D (d0 + 1, B) m_Integer_numberOfTrailingZeros 49 Q) := sorry
def w_Integer_numberOfTrailingZeros_34 (l : Launch) (D : qD) (d0 : Nat) (B : Nat × Nat) (Q : qQ) : qK := (s_iload 0 (s_ic (256) (s_icmp_le (w_Integer_numberOfTrailingZeros_49 l D d0 B Q) (s_iinc 1 (8) (s_iload 0 (s_ic (8) (s_iushr (s_istore 0 (w_Integer_numberOfTrailingZeros_49 l D d0 B Q)))))))))
theorem Integer_numberOfTrailingZeros_34 {l : Launch} {D : qD} {d0 : Nat} {B : Nat × Nat} {Q : qQ} : qI (w_Integer_numberOfTrailingZeros_34 l D d0 B Q) (qR l D (d0 + 1, B) m_Integer_numberOfTrailingZeros 34 Q) := sorry
def w_Integer_numberOfTrailingZeros_17 (l : Launch) (D : qD) (d0 : Nat) (B : Nat × Nat) (Q : qQ) : qK := (s_ic (1) (s_istore 1 (s_iload 0 (s_ic (65536) (s_icmp_le (w_Integer_numberOfTrailingZeros_34 l D d0 B Q) (s_iinc 1 (16) (s_iload 0 (s_ic (16) (s_iushr (s_istore 0 (w_Integer_numberOfTrailingZeros_34 l D d0 B Q)))))))))))
theorem Integer_numberOfTrailingZeros_17 {l : Launch} {D : qD} {d0 : Nat} {B : Nat × Nat} {Q : qQ} : qI (w_Integer_numberOfTrailingZeros_17 l D d0 B Q) (qR l D (d0 + 1, B) m_Integer_numberOfTrailingZeros 17 Q) := sorry
def w_Integer_numberOfTrailingZeros_0 (l : Launch) (D : qD) (d0 : Nat) (B : Nat × Nat) (Q : qQ) : qK := (s_iload 0 (s_ic (-1) (s_ixor (s_iload 0 (s_ic (1) (s_isub (s_iand (s_istore 0 (s_iload 0 (s_if_gt (w_Integer_numberOfTrailingZeros_17 l D d0 B Q) (s_iload 0 (s_ic (32) (s_iand (s_iret Q))))))))))))))
theorem Integer_numberOfTrailingZeros_0 {l : Launch} {D : qD} {d0 : Nat} {B : Nat × Nat} {Q : qQ} : qI (w_Integer_numberOfTrailingZeros_0 l D d0 B Q) (qR l D (d0 + 1, B) m_Integer_numberOfTrailingZeros 0 Q) := sorry
def w_Math_floorDiv_1_27 (l : Launch) (D : qD) (d0 : Nat) (B : Nat × Nat) (Q : qQ) : qK := (s_lload 4 (s_lret Q))
theorem Math_floorDiv_1_27 {l : Launch} {D : qD} {d0 : Nat} {B : Nat × Nat} {Q : qQ} : qI (w_Math_floorDiv_1_27 l D d0 B Q) (qR l D (d0 + 1, B) m_Math_floorDiv_1 27 Q) := sorry
def w_Math_floorDiv_1_0 (l : Launch) (D : qD) (d0 : Nat) (B : Nat × Nat) (Q : qQ) : qK := (s_lload 0 (s_lload 2 (s_ldiv (s_lstore 4 (s_lload 0 (s_lload 2 (s_lxor (s_lc 0 (s_lcmp (s_if_ge (w_Math_floorDiv_1_27 l D d0 B Q) (s_lload 4 (s_lload 2 (s_lmul (s_lload 0 (s_lcmp (s_if_eq (w_Math_floorDiv_1_27 l D d0 B Q) (s_lload 4 (s_lc 1 (s_lsub (s_lret Q))))))))))))))))))))
theorem Math_floorDiv_1_0 {l : Launch} {D : qD} {d0 : Nat} {B : Nat × Nat} {Q : qQ} : qI (w_Math_floorDiv_1_0 l D d0 B Q) (qR l D (d0 + 1, B) m_Math_floorDiv_1 0 Q) := sorry
def w_Long_signum_0 (l : Launch) (D : qD) (d0 : Nat) (B : Nat × Nat) (Q : qQ) : qK := (s_lload 0 (s_ic (63) (s_lshr (s_lload 0 (s_lneg (s_ic (63) (s_lushr (s_lor (s_l2i (s_iret Q))))))))))
theorem Long_signum_0 {l : Launch} {D : qD} {d0 : Nat} {B : Nat × Nat} {Q : qQ} : qI (w_Long_signum_0 l D d0 B Q) (qR l D (d0 + 1, B) m_Long_signum 0 Q) := sorry
end
section
/-! ===== how many bits, by the JDK's code ===== -/
theorem nat32 {n : Nat} (h : n < 2147483648) : (Int32.ofInt (n : Int)).toBitVec = BitVec.ofNat 32 n := sorry
theorem toInt32_nat (x : Int32) (n : Nat) (h : n < 2147483648) (e : x.toBitVec = BitVec.ofNat 32 n) : x.toInt = n := sorry
theorem z_iand_n {x m : Nat} (hx : x < 2147483648) (hm : m < 2147483648) : z_iand x m = ((x &&& m : Nat) : Int) := sorry
theorem z_iushr_n {x k : Nat} (hx : x < 2147483648) (hk : k < 32) : z_iushr x k = ((x / 2 ^ k : Nat) : Int) := sorry
set_option maxRecDepth 100000 in
theorem sp_Integer_bitCount {l : Launch} {D : qD} {d : Nat} {x : Int} {h : qh} {Q : qQ} (h0 : 0 ≤ x) (h1 : x < 33554432) (hq : Q (some (.inl (cnt (bt x) 32))) h) : qM l D (d + 1, 0, 0) m_Integer_bitCount [.inl x] h Q := sorry
/-! the same for a long -/
def btl (x k : Int) : Prop := (Int64.ofInt x).toBitVec.getLsbD k.toNat = true
theorem of_toInt64 (x : Int64) : Int64.ofInt x.toInt = x := sorry
theorem btl_lor (x y k : Int) : btl (z_lor x y) k ↔ btl x k ∨ btl y k := sorry
theorem btl_zero (k : Int) : ¬ btl 0 k := sorry
theorem btl_lshl1 (j k : Int) (h0 : 0 ≤ j) (h1 : j < 64) (k0 : 0 ≤ k) (k1 : k < 64) : btl (z_lshl 1 j) k ↔ k = j := sorry
theorem nat64 {n : Nat} (h : n < 9223372036854775808) : (Int64.ofInt (n : Int)).toBitVec = BitVec.ofNat 64 n := sorry
theorem i64_e1 {x : Int} (h0 : -9223372036854775808 ≤ x) (h1 : x < 9223372036854775808) : (Int64.ofInt x).toInt = x := sorry
theorem toInt64_nat (x : Int64) (n : Nat) (h : n < 9223372036854775808) (e : x.toBitVec = BitVec.ofNat 64 n) : x.toInt = n := sorry
theorem z_land_n {x m : Nat} (hx : x < 9223372036854775808) (hm : m < 9223372036854775808) : z_land x m = ((x &&& m : Nat) : Int) := sorry
theorem z_lushr_n {x k : Nat} (hx : x < 9223372036854775808) (hk : k < 64) : z_lushr x k = ((x / 2 ^ k : Nat) : Int) := sorry
theorem btl_tb {x : Int} (h0 : 0 ≤ x) (h1 : x < 9223372036854775808) (k : Nat) : btl x k ↔ x.toNat.testBit k = true := sorry
theorem ppl_cnt {x : Int} (h0 : 0 ≤ x) (h1 : x < 9223372036854775808) (k : Nat) : pp k x.toNat = cnt (btl x) k := sorry
end
