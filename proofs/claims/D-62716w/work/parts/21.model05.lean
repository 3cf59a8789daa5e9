set_option maxRecDepth 100000
def fm_readBody_J53 (v4 : Int) (σ : tm_S) : tm_R :=
  if v4 = (-1) then
    tm_rt 0 σ
  else
    tm_rt 1 σ
theorem wm_readBody_J53 {p : Program} {l : Launch} {e : Env} {R : Room} {s : State} {m : MethodId} {args : Array Value} {below : List Frame} {meth : Method} {c : Code} {K : tm_K} (cx : tm_C p l R s m args meth c K cX6_readBody 7 RX6 "readBody" (some .boolean) 12 271) (v4 : Int) (σ : tm_S) (ls : Array Slot) (g4 : tm_in v4) (hl : tm_has 0 ls 7 [(4, tm_iv v4)]) : tm_J p l e R s m args below meth c K tm_xM 1 (fm_readBody_J53 v4 σ) σ (F0 m 53 ls []) := by
  unfold fm_readBody_J53
  refine tm_iload cx dX6_readBody_53 (tm_has_at hl 0 rfl) ?_
  refine tm_iconst cx dX6_readBody_55 ?_
  refine tm_icmp_eq (tgt := 63) cx g4 (by decide) dX6_readBody_56 (by decide) (fun c56 => ?_) (fun c56 => ?_)
  · refine tm_iconst cx dX6_readBody_63 ?_
    exact tm_zreturn cx (by decide) dX6_readBody_64
  · refine tm_iconst cx dX6_readBody_59 ?_
    refine tm_goto (tgt := 64) cx dX6_readBody_60 (by decide) ?_
    exact tm_zreturn cx (by decide) dX6_readBody_64
def fm_readBody_J224 (r14 : Int → Int → Int → tm_S → tm_R) (v1 : Int) (v2 : Int) (v3 : Int) (v4 : Int) (σ : tm_S) : tm_R :=
  tm_gx v2 61 <|
  if (tm_a σ 126 v2) = 40 then
    tm_bd (fm_stop 5 σ) fun u237 σ237 =>
    if u237 = (-1) then
      tm_rt 0 σ237
    else
      tm_rt 1 σ237
  else
    tm_gi (41 * v2) <|
    tm_gx v2 61 <|
    tm_gi ((41 * v2) + (tm_a σ 126 v2)) <|
    tm_gx ((41 * v2) + (tm_a σ 126 v2)) 2500 <|
    tm_gx v2 61 <|
    tm_gi ((tm_a (tm_wa σ 127 ((41 * v2) + (tm_a σ 126 v2)) v4) 126 v2) + 1) <|
    tm_gx v2 61 <|
    r14 v1 v2 v3 (tm_wa (tm_wa σ 127 ((41 * v2) + (tm_a σ 126 v2)) v4) 126 v2 ((tm_a (tm_wa σ 127 ((41 * v2) + (tm_a σ 126 v2)) v4) 126 v2) + 1))
theorem wm_readBody_J224 {p : Program} {l : Launch} {e : Env} {R : Room} {s : State} {m : MethodId} {args : Array Value} {below : List Frame} {meth : Method} {c : Code} {K : tm_K} {r14 : Int → Int → Int → tm_S → tm_R} (cx : tm_C p l R s m args meth c K cX6_readBody 7 RX6 "readBody" (some .boolean) 12 271) (h14 : ∀ (v1 : Int) (v2 : Int) (v3 : Int) (τ : tm_S) (ls : Array Slot), tm_in v1 → tm_in v2 → tm_in v3 → tm_has 0 ls 7 [(0, tm_rv K 0), (1, tm_iv v1), (2, tm_iv v2), (3, tm_iv v3)] → tm_J p l e R s m args below meth c K tm_xM 1 (r14 v1 v2 v3 τ) τ (F0 m 14 ls [])) (v1 : Int) (v2 : Int) (v3 : Int) (v4 : Int) (σ : tm_S) (ls : Array Slot) (g1 : tm_in v1) (g2 : tm_in v2) (g3 : tm_in v3) (g4 : tm_in v4) (hl : tm_has 0 ls 7 [(0, tm_rv K 0), (1, tm_iv v1), (2, tm_iv v2), (3, tm_iv v3), (4, tm_iv v4)]) : tm_J p l e R s m args below meth c K tm_xM 1 (fm_readBody_J224 r14 v1 v2 v3 v4 σ) σ (F0 m 224 ls []) := by
  unfold fm_readBody_J224
  refine tm_aload_n cx dX6_readBody_224 (tm_has_at hl 0 rfl) ?_
  refine tg_X6_50 cx dX6_readBody_225 ?_
  refine tm_iload_n cx dX6_readBody_228 (tm_has_at hl 2 rfl) ?_
  refine tm_iald cx tm_hM_126 g2 dX6_readBody_229 (fun i229 q229 => ?_)
  refine tm_bipush cx dX6_readBody_230 (by decide) ?_
  refine tm_icmp_ne (tgt := 250) cx q229 (by decide) dX6_readBody_232 (by decide) (fun c232 => ?_) (fun c232 => ?_)
  · refine tm_aload_n cx dX6_readBody_235 (tm_has_at hl 0 rfl) ?_
    refine tm_iconst cx dX6_readBody_236 ?_
    refine tm_callV (n := 1) cx (cm_stop K l (tm_hst cx) 5 (by decide)) (lw_V q1271 q1273 qs55 q113 q1274) ⟨rfl, by decide +kernel, by decide +kernel, by decide +kernel⟩ rfl tm_cd_X6 (fun h => (tm_hM_0 h).1) ⟨Nat.le_of_ble_eq_true rfl, Nat.le_of_ble_eq_true rfl⟩ rfl (Nat.le_of_ble_eq_true rfl) hl.1.1 dX6_readBody_237 (fun u237 σ237 q237 => ?_)
    show tm_J p l e R s m args below meth c K tm_xM 1 _ _ (F0 m 240 ls [tm_iv u237])
    refine tm_iconst cx dX6_readBody_240 ?_
    refine tm_icmp_eq (tgt := 248) cx q237 (by decide) dX6_readBody_241 (by decide) (fun c241 => ?_) (fun c241 => ?_)
    · refine tm_iconst cx dX6_readBody_248 ?_
      exact tm_zreturn cx (by decide) dX6_readBody_249
    · refine tm_iconst cx dX6_readBody_244 ?_
      refine tm_goto (tgt := 249) cx dX6_readBody_245 (by decide) ?_
      exact tm_zreturn cx (by decide) dX6_readBody_249
  · refine tm_aload_n cx dX6_readBody_250 (tm_has_at hl 0 rfl) ?_
    refine tg_X6_53 cx dX6_readBody_251 ?_
    refine tm_bipush cx dX6_readBody_254 (by decide) ?_
    refine tm_iload_n cx dX6_readBody_256 (tm_has_at hl 2 rfl) ?_
    refine tm_imul cx dX6_readBody_257 (fun q257 => ?_)
    refine tm_aload_n cx dX6_readBody_258 (tm_has_at hl 0 rfl) ?_
    refine tg_X6_50 cx dX6_readBody_259 ?_
    refine tm_iload_n cx dX6_readBody_262 (tm_has_at hl 2 rfl) ?_
    refine tm_iald cx tm_hM_126 g2 dX6_readBody_263 (fun i263 q263 => ?_)
    refine tm_iadd cx dX6_readBody_264 (fun q264 => ?_)
    refine tm_iload cx dX6_readBody_265 (tm_has_at hl 4 rfl) ?_
    refine tm_iast cx tm_famM tm_hM_127 q264 g4 dX6_readBody_267 ?_
    refine tm_aload_n cx dX6_readBody_268 (tm_has_at hl 0 rfl) ?_
    refine tg_X6_50 cx dX6_readBody_269 ?_
    refine tm_iload_n cx dX6_readBody_272 (tm_has_at hl 2 rfl) ?_
    refine tm_dup2_ir cx dX6_readBody_273 ?_
    refine tm_iald cx tm_hM_126 g2 dX6_readBody_274 (fun i274 q274 => ?_)
    refine tm_iconst cx dX6_readBody_275 ?_
    refine tm_iadd cx dX6_readBody_276 (fun q276 => ?_)
    refine tm_iast cx tm_famM tm_hM_126 g2 q276 dX6_readBody_277 ?_
    refine tm_goto (tgt := 14) cx dX6_readBody_278 (by decide) ?_
    exact h14 v1 v2 v3 _ _ g1 g2 g3 (tm_has_sub hl [0, 1, 2, 3] rfl)
def fm_readBody_J153 (σ : tm_S) : tm_R :=
  tm_bd (fm_stop 4 σ) fun u155 σ155 =>
  if u155 = (-1) then
    tm_rt 0 σ155
  else
    tm_rt 1 σ155
theorem wm_readBody_J153 {p : Program} {l : Launch} {e : Env} {R : Room} {s : State} {m : MethodId} {args : Array Value} {below : List Frame} {meth : Method} {c : Code} {K : tm_K} (cx : tm_C p l R s m args meth c K cX6_readBody 7 RX6 "readBody" (some .boolean) 12 271) (σ : tm_S) (ls : Array Slot) (hl : tm_has 0 ls 7 [(0, tm_rv K 0)]) : tm_J p l e R s m args below meth c K tm_xM 1 (fm_readBody_J153 σ) σ (F0 m 153 ls []) := by
  unfold fm_readBody_J153
  refine tm_aload_n cx dX6_readBody_153 (tm_has_at hl 0 rfl) ?_
  refine tm_iconst cx dX6_readBody_154 ?_
  refine tm_callV (n := 1) cx (cm_stop K l (tm_hst cx) 4 (by decide)) (lw_V q1271 q1273 qs55 q113 q1274) ⟨rfl, by decide +kernel, by decide +kernel, by decide +kernel⟩ rfl tm_cd_X6 (fun h => (tm_hM_0 h).1) ⟨Nat.le_of_ble_eq_true rfl, Nat.le_of_ble_eq_true rfl⟩ rfl (Nat.le_of_ble_eq_true rfl) hl.1.1 dX6_readBody_155 (fun u155 σ155 q155 => ?_)
  show tm_J p l e R s m args below meth c K tm_xM 1 _ _ (F0 m 158 ls [tm_iv u155])
  refine tm_iconst cx dX6_readBody_158 ?_
  refine tm_icmp_eq (tgt := 166) cx q155 (by decide) dX6_readBody_159 (by decide) (fun c159 => ?_) (fun c159 => ?_)
  · refine tm_iconst cx dX6_readBody_166 ?_
    exact tm_zreturn cx (by decide) dX6_readBody_167
  · refine tm_iconst cx dX6_readBody_162 ?_
    refine tm_goto (tgt := 167) cx dX6_readBody_163 (by decide) ?_
    exact tm_zreturn cx (by decide) dX6_readBody_167
def fm_readBody_J168 (r14 : Int → Int → Int → tm_S → tm_R) (v1 : Int) (v2 : Int) (v3 : Int) (v5 : Int) (v6 : Int) (σ : tm_S) : tm_R :=
  tm_bd (fm_isCharacter v5 6 σ) fun u172 σ172 =>
  if u172 = 0 then
    tm_gi (16384 + v6) <|
    tm_lt (16384 + v6) fun x189 =>
    fm_readBody_J224 r14 v1 v2 v3 x189 σ172
  else
    fm_readBody_J224 r14 v1 v2 v3 v5 σ172
theorem wm_readBody_J168 {p : Program} {l : Launch} {e : Env} {R : Room} {s : State} {m : MethodId} {args : Array Value} {below : List Frame} {meth : Method} {c : Code} {K : tm_K} {r14 : Int → Int → Int → tm_S → tm_R} (cx : tm_C p l R s m args meth c K cX6_readBody 7 RX6 "readBody" (some .boolean) 12 271) (h14 : ∀ (v1 : Int) (v2 : Int) (v3 : Int) (τ : tm_S) (ls : Array Slot), tm_in v1 → tm_in v2 → tm_in v3 → tm_has 0 ls 7 [(0, tm_rv K 0), (1, tm_iv v1), (2, tm_iv v2), (3, tm_iv v3)] → tm_J p l e R s m args below meth c K tm_xM 1 (r14 v1 v2 v3 τ) τ (F0 m 14 ls [])) (v1 : Int) (v2 : Int) (v3 : Int) (v5 : Int) (v6 : Int) (σ : tm_S) (ls : Array Slot) (g1 : tm_in v1) (g2 : tm_in v2) (g3 : tm_in v3) (g5 : tm_in v5) (g6 : tm_in v6) (hl : tm_has 0 ls 7 [(0, tm_rv K 0), (1, tm_iv v1), (2, tm_iv v2), (3, tm_iv v3), (5, tm_iv v5), (6, tm_iv v6)]) : tm_J p l e R s m args below meth c K tm_xM 1 (fm_readBody_J168 r14 v1 v2 v3 v5 v6 σ) σ (F0 m 168 ls []) := by
  unfold fm_readBody_J168
  refine tm_iload cx dX6_readBody_168 (tm_has_at hl 4 rfl) ?_
  refine tm_bipush cx dX6_readBody_170 (by decide) ?_
  refine tm_callS (n := 2) cx (cm_isCharacter K l (tm_hst cx) v5 g5 6 (by decide)) (lw_S q1328 q1329 q113 q1330) ⟨by decide +kernel, by decide +kernel, by decide +kernel⟩ rfl ⟨Nat.le_of_ble_eq_true rfl, Nat.le_of_ble_eq_true rfl⟩ rfl (Nat.le_of_ble_eq_true rfl) hl.1.1 dX6_readBody_172 (fun u172 σ172 q172 => ?_)
  show tm_J p l e R s m args below meth c K tm_xM 1 _ _ (F0 m 175 ls [tm_iv u172])
  refine tm_if_eq (tgt := 183) cx q172 dX6_readBody_175 (by decide) (fun c175 => ?_) (fun c175 => ?_)
  · refine tm_sipush cx dX6_readBody_183 (by decide) ?_
    refine tm_iload cx dX6_readBody_186 (tm_has_at hl 5 rfl) ?_
    refine tm_iadd cx dX6_readBody_188 (fun q188 => ?_)
    refine tm_lt_ q188 (fun x189 q189 => ?_)
    refine tm_istore (lv' := [(4, tm_iv x189), (0, tm_rv K 0), (1, tm_iv v1), (2, tm_iv v2), (3, tm_iv v3), (5, tm_iv v5), (6, tm_iv v6)]) cx dX6_readBody_189 hl (by decide) (by decide) rfl (fun ls hl => ?_)
    refine tm_goto (tgt := 224) cx dX6_readBody_191 (by decide) ?_
    exact wm_readBody_J224 cx h14 v1 v2 v3 x189 _ _ g1 g2 g3 q189 (tm_has_sub hl [1, 2, 3, 4, 0] rfl)
  · refine tm_iload cx dX6_readBody_178 (tm_has_at hl 4 rfl) ?_
    refine tm_goto (tgt := 189) cx dX6_readBody_180 (by decide) ?_
    refine tm_istore (lv' := [(4, tm_iv v5), (0, tm_rv K 0), (1, tm_iv v1), (2, tm_iv v2), (3, tm_iv v3), (5, tm_iv v5), (6, tm_iv v6)]) cx dX6_readBody_189 hl (by decide) (by decide) rfl (fun ls hl => ?_)
    refine tm_goto (tgt := 224) cx dX6_readBody_191 (by decide) ?_
    exact wm_readBody_J224 cx h14 v1 v2 v3 v5 _ _ g1 g2 g3 g5 (tm_has_sub hl [1, 2, 3, 4, 0] rfl)
def fm_readBody_J124 (r14 : Int → Int → Int → tm_S → tm_R) (v1 : Int) (v2 : Int) (v3 : Int) (v5 : Int) (vs0 : Int) (σ : tm_S) : tm_R :=
  tm_bd (fm_isCharacter v5 6 σ) fun u130 σ130 =>
  if u130 = 0 then
    if vs0 < 1 then
      fm_readBody_J153 σ130
    else
      tm_gx v2 61 <|
      if (tm_a σ130 128 v2) < vs0 then
        fm_readBody_J153 σ130
      else
        fm_readBody_J168 r14 v1 v2 v3 v5 vs0 σ130
  else
    fm_readBody_J168 r14 v1 v2 v3 v5 vs0 σ130
theorem wm_readBody_J124 {p : Program} {l : Launch} {e : Env} {R : Room} {s : State} {m : MethodId} {args : Array Value} {below : List Frame} {meth : Method} {c : Code} {K : tm_K} {r14 : Int → Int → Int → tm_S → tm_R} (cx : tm_C p l R s m args meth c K cX6_readBody 7 RX6 "readBody" (some .boolean) 12 271) (h14 : ∀ (v1 : Int) (v2 : Int) (v3 : Int) (τ : tm_S) (ls : Array Slot), tm_in v1 → tm_in v2 → tm_in v3 → tm_has 0 ls 7 [(0, tm_rv K 0), (1, tm_iv v1), (2, tm_iv v2), (3, tm_iv v3)] → tm_J p l e R s m args below meth c K tm_xM 1 (r14 v1 v2 v3 τ) τ (F0 m 14 ls [])) (v1 : Int) (v2 : Int) (v3 : Int) (v5 : Int) (vs0 : Int) (σ : tm_S) (ls : Array Slot) (g1 : tm_in v1) (g2 : tm_in v2) (g3 : tm_in v3) (g5 : tm_in v5) (gs0 : tm_in vs0) (hl : tm_has 0 ls 7 [(0, tm_rv K 0), (1, tm_iv v1), (2, tm_iv v2), (3, tm_iv v3), (5, tm_iv v5)]) : tm_J p l e R s m args below meth c K tm_xM 1 (fm_readBody_J124 r14 v1 v2 v3 v5 vs0 σ) σ (F0 m 124 ls [tm_iv vs0]) := by
  unfold fm_readBody_J124
  refine tm_istore (lv' := [(6, tm_iv vs0), (0, tm_rv K 0), (1, tm_iv v1), (2, tm_iv v2), (3, tm_iv v3), (5, tm_iv v5)]) cx dX6_readBody_124 hl (by decide) (by decide) rfl (fun ls hl => ?_)
  refine tm_iload cx dX6_readBody_126 (tm_has_at hl 5 rfl) ?_
  refine tm_bipush cx dX6_readBody_128 (by decide) ?_
  refine tm_callS (n := 2) cx (cm_isCharacter K l (tm_hst cx) v5 g5 6 (by decide)) (lw_S q1328 q1329 q113 q1330) ⟨by decide +kernel, by decide +kernel, by decide +kernel⟩ rfl ⟨Nat.le_of_ble_eq_true rfl, Nat.le_of_ble_eq_true rfl⟩ rfl (Nat.le_of_ble_eq_true rfl) hl.1.1 dX6_readBody_130 (fun u130 σ130 q130 => ?_)
  show tm_J p l e R s m args below meth c K tm_xM 1 _ _ (F0 m 133 ls [tm_iv u130])
  refine tm_if_ne (tgt := 168) cx q130 dX6_readBody_133 (by decide) (fun c133 => ?_) (fun c133 => ?_)
  · refine tm_iload cx dX6_readBody_136 (tm_has_at hl 0 rfl) ?_
    refine tm_iconst cx dX6_readBody_138 ?_
    refine tm_icmp_lt (tgt := 153) cx gs0 (by decide) dX6_readBody_139 (by decide) (fun c139 => ?_) (fun c139 => ?_)
    · exact wm_readBody_J153 cx _ _ (tm_has_sub hl [1] rfl)
    · refine tm_iload cx dX6_readBody_142 (tm_has_at hl 0 rfl) ?_
      refine tm_aload_n cx dX6_readBody_144 (tm_has_at hl 1 rfl) ?_
      refine tg_X6_56 cx dX6_readBody_145 ?_
      refine tm_iload_n cx dX6_readBody_148 (tm_has_at hl 3 rfl) ?_
      refine tm_iald cx tm_hM_128 g2 dX6_readBody_149 (fun i149 q149 => ?_)
      refine tm_icmp_le (tgt := 168) cx gs0 q149 dX6_readBody_150 (by decide) (fun c150 => ?_) (fun c150 => ?_)
      · exact wm_readBody_J153 cx _ _ (tm_has_sub hl [1] rfl)
      · exact wm_readBody_J168 cx h14 v1 v2 v3 v5 vs0 _ _ g1 g2 g3 g5 gs0 (tm_has_sub hl [1, 2, 3, 4, 5, 0] rfl)
  · exact wm_readBody_J168 cx h14 v1 v2 v3 v5 vs0 _ _ g1 g2 g3 g5 gs0 (tm_has_sub hl [1, 2, 3, 4, 5, 0] rfl)
def fm_readBody_J90 (r14 : Int → Int → Int → tm_S → tm_R) (v1 : Int) (v2 : Int) (v3 : Int) (vs0 : Int) (σ : tm_S) : tm_R :=
  tm_bd (fm_plain vs0 σ) fun u90 σ90 =>
  if u90 = (-1) then
    tm_rt 0 σ90
  else
    if u90 < 4096 then
      tm_gi ((u90 % 256) - 48) <|
      fm_readBody_J124 r14 v1 v2 v3 u90 ((u90 % 256) - 48) σ90
    else
      fm_readBody_J124 r14 v1 v2 v3 u90 0 σ90
theorem wm_readBody_J90 {p : Program} {l : Launch} {e : Env} {R : Room} {s : State} {m : MethodId} {args : Array Value} {below : List Frame} {meth : Method} {c : Code} {K : tm_K} {r14 : Int → Int → Int → tm_S → tm_R} (cx : tm_C p l R s m args meth c K cX6_readBody 7 RX6 "readBody" (some .boolean) 12 271) (h14 : ∀ (v1 : Int) (v2 : Int) (v3 : Int) (τ : tm_S) (ls : Array Slot), tm_in v1 → tm_in v2 → tm_in v3 → tm_has 0 ls 7 [(0, tm_rv K 0), (1, tm_iv v1), (2, tm_iv v2), (3, tm_iv v3)] → tm_J p l e R s m args below meth c K tm_xM 1 (r14 v1 v2 v3 τ) τ (F0 m 14 ls [])) (v1 : Int) (v2 : Int) (v3 : Int) (vs0 : Int) (σ : tm_S) (ls : Array Slot) (g1 : tm_in v1) (g2 : tm_in v2) (g3 : tm_in v3) (gs0 : tm_in vs0) (hl : tm_has 0 ls 7 [(0, tm_rv K 0), (1, tm_iv v1), (2, tm_iv v2), (3, tm_iv v3)]) : tm_J p l e R s m args below meth c K tm_xM 1 (fm_readBody_J90 r14 v1 v2 v3 vs0 σ) σ (F0 m 90 ls [tm_iv vs0]) := by
  unfold fm_readBody_J90
  refine tm_callS (n := 1) cx (cm_plain K l (tm_hst cx) vs0 gs0) (lw_S q1317 q1318 q113 q1319) ⟨by decide +kernel, by decide +kernel, by decide +kernel⟩ rfl ⟨Nat.le_of_ble_eq_true rfl, Nat.le_of_ble_eq_true rfl⟩ rfl (Nat.le_of_ble_eq_true rfl) hl.1.1 dX6_readBody_90 (fun u90 σ90 q90 => ?_)
  show tm_J p l e R s m args below meth c K tm_xM 1 _ _ (F0 m 93 ls [tm_iv u90])
  refine tm_istore (lv' := [(5, tm_iv u90), (0, tm_rv K 0), (1, tm_iv v1), (2, tm_iv v2), (3, tm_iv v3)]) cx dX6_readBody_93 hl (by decide) (by decide) rfl (fun ls hl => ?_)
  refine tm_iload cx dX6_readBody_95 (tm_has_at hl 0 rfl) ?_
  refine tm_iconst cx dX6_readBody_97 ?_
  refine tm_icmp_ne (tgt := 103) cx q90 (by decide) dX6_readBody_98 (by decide) (fun c98 => ?_) (fun c98 => ?_)
  · refine tm_iconst cx dX6_readBody_101 ?_
    exact tm_zreturn cx (by decide) dX6_readBody_102
  · refine tm_iload cx dX6_readBody_103 (tm_has_at hl 0 rfl) ?_
    refine tm_sipush cx dX6_readBody_105 (by decide) ?_
    refine tm_icmp_ge (tgt := 123) cx q90 (by decide) dX6_readBody_108 (by decide) (fun c108 => ?_) (fun c108 => ?_)
    · refine tm_iload cx dX6_readBody_111 (tm_has_at hl 0 rfl) ?_
      refine tm_sipush cx dX6_readBody_113 (by decide) ?_
      refine tm_iand255 cx q90 dX6_readBody_116 (fun q116 => ?_)
      refine tm_bipush cx dX6_readBody_117 (by decide) ?_
      refine tm_isub cx dX6_readBody_119 (fun q119 => ?_)
      refine tm_goto (tgt := 124) cx dX6_readBody_120 (by decide) ?_
      exact wm_readBody_J124 cx h14 v1 v2 v3 u90 ((u90 % 256) - 48) _ _ g1 g2 g3 q90 q119 (tm_has_sub hl [1, 2, 3, 4, 0] rfl)
    · refine tm_iconst cx dX6_readBody_123 ?_
      exact wm_readBody_J124 cx h14 v1 v2 v3 u90 0 _ _ g1 g2 g3 q90 (by decide) (tm_has_sub hl [1, 2, 3, 4, 0] rfl)
def fm_readBody_J65 (r14 : Int → Int → Int → tm_S → tm_R) (v1 : Int) (v2 : Int) (v3 : Int) (v4 : Int) (σ : tm_S) : tm_R :=
  tm_bd (fm_isCharacter v4 6 σ) fun u69 σ69 =>
  if u69 = 0 then
    tm_bd (fm_isCharacter v4 1 σ69) fun u198 σ198 =>
    if u198 = 0 then
      tm_bd (fm_isCharacter v4 2 σ198) fun u211 σ211 =>
      if u211 = 0 then
        tm_gi (v3 + 0) <|
        tm_lt (v3 + 0) fun x223 =>
        fm_readBody_J224 r14 v1 v2 x223 v4 σ211
      else
        tm_gi (v3 + (-1)) <|
        tm_lt (v3 + (-1)) fun x223 =>
        fm_readBody_J224 r14 v1 v2 x223 v4 σ211
    else
      tm_gi (v3 + 1) <|
      tm_lt (v3 + 1) fun x223 =>
      fm_readBody_J224 r14 v1 v2 x223 v4 σ198
  else
    if v1 = 0 then
      tm_bd (fm_need σ69) fun u87 σ87 =>
      fm_readBody_J90 r14 v1 v2 v3 u87 σ87
    else
      tm_bd (fm_needExpanded σ69) fun u80 σ80 =>
      fm_readBody_J90 r14 v1 v2 v3 u80 σ80
theorem wm_readBody_J65 {p : Program} {l : Launch} {e : Env} {R : Room} {s : State} {m : MethodId} {args : Array Value} {below : List Frame} {meth : Method} {c : Code} {K : tm_K} {r14 : Int → Int → Int → tm_S → tm_R} (cx : tm_C p l R s m args meth c K cX6_readBody 7 RX6 "readBody" (some .boolean) 12 271) (h14 : ∀ (v1 : Int) (v2 : Int) (v3 : Int) (τ : tm_S) (ls : Array Slot), tm_in v1 → tm_in v2 → tm_in v3 → tm_has 0 ls 7 [(0, tm_rv K 0), (1, tm_iv v1), (2, tm_iv v2), (3, tm_iv v3)] → tm_J p l e R s m args below meth c K tm_xM 1 (r14 v1 v2 v3 τ) τ (F0 m 14 ls [])) (v1 : Int) (v2 : Int) (v3 : Int) (v4 : Int) (σ : tm_S) (ls : Array Slot) (g1 : tm_in v1) (g2 : tm_in v2) (g3 : tm_in v3) (g4 : tm_in v4) (hl : tm_has 0 ls 7 [(0, tm_rv K 0), (1, tm_iv v1), (2, tm_iv v2), (3, tm_iv v3), (4, tm_iv v4)]) : tm_J p l e R s m args below meth c K tm_xM 1 (fm_readBody_J65 r14 v1 v2 v3 v4 σ) σ (F0 m 65 ls []) := by
  unfold fm_readBody_J65
  refine tm_iload cx dX6_readBody_65 (tm_has_at hl 4 rfl) ?_
  refine tm_bipush cx dX6_readBody_67 (by decide) ?_
  refine tm_callS (n := 2) cx (cm_isCharacter K l (tm_hst cx) v4 g4 6 (by decide)) (lw_S q1328 q1329 q113 q1330) ⟨by decide +kernel, by decide +kernel, by decide +kernel⟩ rfl ⟨Nat.le_of_ble_eq_true rfl, Nat.le_of_ble_eq_true rfl⟩ rfl (Nat.le_of_ble_eq_true rfl) hl.1.1 dX6_readBody_69 (fun u69 σ69 q69 => ?_)
  show tm_J p l e R s m args below meth c K tm_xM 1 _ _ (F0 m 72 ls [tm_iv u69])
  refine tm_if_eq (tgt := 194) cx q69 dX6_readBody_72 (by decide) (fun c72 => ?_) (fun c72 => ?_)
  · refine tm_iload_n cx dX6_readBody_194 (tm_has_at hl 3 rfl) ?_
    refine tm_iload cx dX6_readBody_195 (tm_has_at hl 4 rfl) ?_
    refine tm_iconst cx dX6_readBody_197 ?_
    refine tm_callS (n := 2) cx (cm_isCharacter K l (tm_hst cx) v4 g4 1 (by decide)) (lw_S q1328 q1329 q113 q1330) ⟨by decide +kernel, by decide +kernel, by decide +kernel⟩ rfl ⟨Nat.le_of_ble_eq_true rfl, Nat.le_of_ble_eq_true rfl⟩ rfl (Nat.le_of_ble_eq_true rfl) hl.1.1 dX6_readBody_198 (fun u198 σ198 q198 => ?_)
    show tm_J p l e R s m args below meth c K tm_xM 1 _ _ (F0 m 201 ls [tm_iv u198, tm_iv v3])
    refine tm_if_eq (tgt := 208) cx q198 dX6_readBody_201 (by decide) (fun c201 => ?_) (fun c201 => ?_)
    · refine tm_iload cx dX6_readBody_208 (tm_has_at hl 4 rfl) ?_
      refine tm_iconst cx dX6_readBody_210 ?_
      refine tm_callS (n := 2) cx (cm_isCharacter K l (tm_hst cx) v4 g4 2 (by decide)) (lw_S q1328 q1329 q113 q1330) ⟨by decide +kernel, by decide +kernel, by decide +kernel⟩ rfl ⟨Nat.le_of_ble_eq_true rfl, Nat.le_of_ble_eq_true rfl⟩ rfl (Nat.le_of_ble_eq_true rfl) hl.1.1 dX6_readBody_211 (fun u211 σ211 q211 => ?_)
      show tm_J p l e R s m args below meth c K tm_xM 1 _ _ (F0 m 214 ls [tm_iv u211, tm_iv v3])
      refine tm_if_eq (tgt := 221) cx q211 dX6_readBody_214 (by decide) (fun c214 => ?_) (fun c214 => ?_)
      · refine tm_iconst cx dX6_readBody_221 ?_
        refine tm_iadd cx dX6_readBody_222 (fun q222 => ?_)
        refine tm_lt_ q222 (fun x223 q223 => ?_)
        refine tm_istore_n (lv' := [(3, tm_iv x223), (0, tm_rv K 0), (1, tm_iv v1), (2, tm_iv v2), (4, tm_iv v4)]) cx dX6_readBody_223 hl (by decide) (by decide) rfl (fun ls hl => ?_)
        exact wm_readBody_J224 cx h14 v1 v2 x223 v4 _ _ g1 g2 q223 g4 (tm_has_sub hl [1, 2, 3, 0, 4] rfl)
      · refine tm_iconst cx dX6_readBody_217 ?_
        refine tm_goto (tgt := 222) cx dX6_readBody_218 (by decide) ?_
        refine tm_iadd cx dX6_readBody_222 (fun q222 => ?_)
        refine tm_lt_ q222 (fun x223 q223 => ?_)
        refine tm_istore_n (lv' := [(3, tm_iv x223), (0, tm_rv K 0), (1, tm_iv v1), (2, tm_iv v2), (4, tm_iv v4)]) cx dX6_readBody_223 hl (by decide) (by decide) rfl (fun ls hl => ?_)
        exact wm_readBody_J224 cx h14 v1 v2 x223 v4 _ _ g1 g2 q223 g4 (tm_has_sub hl [1, 2, 3, 0, 4] rfl)
    · refine tm_iconst cx dX6_readBody_204 ?_
      refine tm_goto (tgt := 222) cx dX6_readBody_205 (by decide) ?_
      refine tm_iadd cx dX6_readBody_222 (fun q222 => ?_)
      refine tm_lt_ q222 (fun x223 q223 => ?_)
      refine tm_istore_n (lv' := [(3, tm_iv x223), (0, tm_rv K 0), (1, tm_iv v1), (2, tm_iv v2), (4, tm_iv v4)]) cx dX6_readBody_223 hl (by decide) (by decide) rfl (fun ls hl => ?_)
      exact wm_readBody_J224 cx h14 v1 v2 x223 v4 _ _ g1 g2 q223 g4 (tm_has_sub hl [1, 2, 3, 0, 4] rfl)
  · refine tm_iload_n cx dX6_readBody_75 (tm_has_at hl 1 rfl) ?_
    refine tm_if_eq (tgt := 86) cx g1 dX6_readBody_76 (by decide) (fun c76 => ?_) (fun c76 => ?_)
    · refine tm_aload_n cx dX6_readBody_86 (tm_has_at hl 0 rfl) ?_
      refine tm_callV (n := 0) cx (cm_need K l (tm_hst cx)) (lw_V q1313 q1315 qs64 q113 q1316) ⟨rfl, by decide +kernel, by decide +kernel, by decide +kernel⟩ rfl tm_cd_X6 (fun h => (tm_hM_0 h).1) ⟨Nat.le_of_ble_eq_true rfl, Nat.le_of_ble_eq_true rfl⟩ rfl (Nat.le_of_ble_eq_true rfl) hl.1.1 dX6_readBody_87 (fun u87 σ87 q87 => ?_)
      show tm_J p l e R s m args below meth c K tm_xM 1 _ _ (F0 m 90 ls [tm_iv u87])
      exact wm_readBody_J90 cx h14 v1 v2 v3 u87 _ _ g1 g2 g3 q87 (tm_has_sub hl [0, 1, 2, 3] rfl)
    · refine tm_aload_n cx dX6_readBody_79 (tm_has_at hl 0 rfl) ?_
      refine tm_callV (n := 0) cx (cm_needExpanded K l (tm_hst cx)) (lw_V q1433 q1435 qs91 q113 q1436) ⟨rfl, by decide +kernel, by decide +kernel, by decide +kernel⟩ rfl tm_cd_X6 (fun h => (tm_hM_0 h).1) ⟨Nat.le_of_ble_eq_true rfl, Nat.le_of_ble_eq_true rfl⟩ rfl (Nat.le_of_ble_eq_true rfl) hl.1.1 dX6_readBody_80 (fun u80 σ80 q80 => ?_)
      show tm_J p l e R s m args below meth c K tm_xM 1 _ _ (F0 m 83 ls [tm_iv u80])
      refine tm_goto (tgt := 90) cx dX6_readBody_83 (by decide) ?_
      exact wm_readBody_J90 cx h14 v1 v2 v3 u80 _ _ g1 g2 g3 q80 (tm_has_sub hl [0, 1, 2, 3] rfl)
def fm_readBody_J29 (r14 : Int → Int → Int → tm_S → tm_R) (v1 : Int) (v2 : Int) (v3 : Int) (vs0 : Int) (σ : tm_S) : tm_R :=
  tm_bd (fm_plain vs0 σ) fun u29 σ29 =>
  if u29 = (-1) then
    fm_readBody_J53 u29 σ29
  else
    tm_bd (fm_isCharacter u29 2 σ29) fun u43 σ43 =>
    if u43 = 0 then
      fm_readBody_J65 r14 v1 v2 v3 u29 σ43
    else
      if v3 = 0 then
        fm_readBody_J53 u29 σ43
      else
        fm_readBody_J65 r14 v1 v2 v3 u29 σ43
theorem wm_readBody_J29 {p : Program} {l : Launch} {e : Env} {R : Room} {s : State} {m : MethodId} {args : Array Value} {below : List Frame} {meth : Method} {c : Code} {K : tm_K} {r14 : Int → Int → Int → tm_S → tm_R} (cx : tm_C p l R s m args meth c K cX6_readBody 7 RX6 "readBody" (some .boolean) 12 271) (h14 : ∀ (v1 : Int) (v2 : Int) (v3 : Int) (τ : tm_S) (ls : Array Slot), tm_in v1 → tm_in v2 → tm_in v3 → tm_has 0 ls 7 [(0, tm_rv K 0), (1, tm_iv v1), (2, tm_iv v2), (3, tm_iv v3)] → tm_J p l e R s m args below meth c K tm_xM 1 (r14 v1 v2 v3 τ) τ (F0 m 14 ls [])) (v1 : Int) (v2 : Int) (v3 : Int) (vs0 : Int) (σ : tm_S) (ls : Array Slot) (g1 : tm_in v1) (g2 : tm_in v2) (g3 : tm_in v3) (gs0 : tm_in vs0) (hl : tm_has 0 ls 7 [(0, tm_rv K 0), (1, tm_iv v1), (2, tm_iv v2), (3, tm_iv v3)]) : tm_J p l e R s m args below meth c K tm_xM 1 (fm_readBody_J29 r14 v1 v2 v3 vs0 σ) σ (F0 m 29 ls [tm_iv vs0]) := by
  unfold fm_readBody_J29
  refine tm_callS (n := 1) cx (cm_plain K l (tm_hst cx) vs0 gs0) (lw_S q1317 q1318 q113 q1319) ⟨by decide +kernel, by decide +kernel, by decide +kernel⟩ rfl ⟨Nat.le_of_ble_eq_true rfl, Nat.le_of_ble_eq_true rfl⟩ rfl (Nat.le_of_ble_eq_true rfl) hl.1.1 dX6_readBody_29 (fun u29 σ29 q29 => ?_)
  show tm_J p l e R s m args below meth c K tm_xM 1 _ _ (F0 m 32 ls [tm_iv u29])
  refine tm_istore (lv' := [(4, tm_iv u29), (0, tm_rv K 0), (1, tm_iv v1), (2, tm_iv v2), (3, tm_iv v3)]) cx dX6_readBody_32 hl (by decide) (by decide) rfl (fun ls hl => ?_)
  refine tm_iload cx dX6_readBody_34 (tm_has_at hl 0 rfl) ?_
  refine tm_iconst cx dX6_readBody_36 ?_
  refine tm_icmp_eq (tgt := 53) cx q29 (by decide) dX6_readBody_37 (by decide) (fun c37 => ?_) (fun c37 => ?_)
  · exact wm_readBody_J53 cx u29 _ _ q29 (tm_has_sub hl [0] rfl)
  · refine tm_iload cx dX6_readBody_40 (tm_has_at hl 0 rfl) ?_
    refine tm_iconst cx dX6_readBody_42 ?_
    refine tm_callS (n := 2) cx (cm_isCharacter K l (tm_hst cx) u29 q29 2 (by decide)) (lw_S q1328 q1329 q113 q1330) ⟨by decide +kernel, by decide +kernel, by decide +kernel⟩ rfl ⟨Nat.le_of_ble_eq_true rfl, Nat.le_of_ble_eq_true rfl⟩ rfl (Nat.le_of_ble_eq_true rfl) hl.1.1 dX6_readBody_43 (fun u43 σ43 q43 => ?_)
    show tm_J p l e R s m args below meth c K tm_xM 1 _ _ (F0 m 46 ls [tm_iv u43])
    refine tm_if_eq (tgt := 65) cx q43 dX6_readBody_46 (by decide) (fun c46 => ?_) (fun c46 => ?_)
    · exact wm_readBody_J65 cx h14 v1 v2 v3 u29 _ _ g1 g2 g3 q29 (tm_has_sub hl [1, 2, 3, 4, 0] rfl)
    · refine tm_iload_n cx dX6_readBody_49 (tm_has_at hl 4 rfl) ?_
      refine tm_if_ne (tgt := 65) cx g3 dX6_readBody_50 (by decide) (fun c50 => ?_) (fun c50 => ?_)
      · exact wm_readBody_J53 cx u29 _ _ q29 (tm_has_sub hl [0] rfl)
      · exact wm_readBody_J65 cx h14 v1 v2 v3 u29 _ _ g1 g2 g3 q29 (tm_has_sub hl [1, 2, 3, 4, 0] rfl)
def fm_readBody_B14 (r14 : Int → Int → Int → tm_S → tm_R) (v1 : Int) (v2 : Int) (v3 : Int) (σ : tm_S) : tm_R :=
  if v1 = 0 then
    tm_bd (fm_need σ) fun u26 σ26 =>
    fm_readBody_J29 r14 v1 v2 v3 u26 σ26
  else
    tm_bd (fm_needExpanded σ) fun u19 σ19 =>
    fm_readBody_J29 r14 v1 v2 v3 u19 σ19
theorem wm_readBody_B14 {p : Program} {l : Launch} {e : Env} {R : Room} {s : State} {m : MethodId} {args : Array Value} {below : List Frame} {meth : Method} {c : Code} {K : tm_K} {r14 : Int → Int → Int → tm_S → tm_R} (cx : tm_C p l R s m args meth c K cX6_readBody 7 RX6 "readBody" (some .boolean) 12 271) (h14 : ∀ (v1 : Int) (v2 : Int) (v3 : Int) (τ : tm_S) (ls : Array Slot), tm_in v1 → tm_in v2 → tm_in v3 → tm_has 0 ls 7 [(0, tm_rv K 0), (1, tm_iv v1), (2, tm_iv v2), (3, tm_iv v3)] → tm_J p l e R s m args below meth c K tm_xM 1 (r14 v1 v2 v3 τ) τ (F0 m 14 ls [])) (v1 : Int) (v2 : Int) (v3 : Int) (σ : tm_S) (ls : Array Slot) (g1 : tm_in v1) (g2 : tm_in v2) (g3 : tm_in v3) (hl : tm_has 0 ls 7 [(0, tm_rv K 0), (1, tm_iv v1), (2, tm_iv v2), (3, tm_iv v3)]) : tm_J p l e R s m args below meth c K tm_xM 1 (fm_readBody_B14 r14 v1 v2 v3 σ) σ (F0 m 14 ls []) := by
  unfold fm_readBody_B14
  refine tm_iload_n cx dX6_readBody_14 (tm_has_at hl 1 rfl) ?_
  refine tm_if_eq (tgt := 25) cx g1 dX6_readBody_15 (by decide) (fun c15 => ?_) (fun c15 => ?_)
  · refine tm_aload_n cx dX6_readBody_25 (tm_has_at hl 0 rfl) ?_
    refine tm_callV (n := 0) cx (cm_need K l (tm_hst cx)) (lw_V q1313 q1315 qs64 q113 q1316) ⟨rfl, by decide +kernel, by decide +kernel, by decide +kernel⟩ rfl tm_cd_X6 (fun h => (tm_hM_0 h).1) ⟨Nat.le_of_ble_eq_true rfl, Nat.le_of_ble_eq_true rfl⟩ rfl (Nat.le_of_ble_eq_true rfl) hl.1.1 dX6_readBody_26 (fun u26 σ26 q26 => ?_)
    show tm_J p l e R s m args below meth c K tm_xM 1 _ _ (F0 m 29 ls [tm_iv u26])
    exact wm_readBody_J29 cx h14 v1 v2 v3 u26 _ _ g1 g2 g3 q26 (tm_has_sub hl [0, 1, 2, 3] rfl)
  · refine tm_aload_n cx dX6_readBody_18 (tm_has_at hl 0 rfl) ?_
    refine tm_callV (n := 0) cx (cm_needExpanded K l (tm_hst cx)) (lw_V q1433 q1435 qs91 q113 q1436) ⟨rfl, by decide +kernel, by decide +kernel, by decide +kernel⟩ rfl tm_cd_X6 (fun h => (tm_hM_0 h).1) ⟨Nat.le_of_ble_eq_true rfl, Nat.le_of_ble_eq_true rfl⟩ rfl (Nat.le_of_ble_eq_true rfl) hl.1.1 dX6_readBody_19 (fun u19 σ19 q19 => ?_)
    show tm_J p l e R s m args below meth c K tm_xM 1 _ _ (F0 m 22 ls [tm_iv u19])
    refine tm_goto (tgt := 29) cx dX6_readBody_22 (by decide) ?_
    exact wm_readBody_J29 cx h14 v1 v2 v3 u19 _ _ g1 g2 g3 q19 (tm_has_sub hl [0, 1, 2, 3] rfl)
def fm_readBody_L14 : Nat → Int → Int → Int → tm_S → tm_R
  | 0, _, _, _, _ => none
  | n + 1, v1, v2, v3, σ => fm_readBody_B14 (fm_readBody_L14 n) v1 v2 v3 σ
theorem wm_readBody_L14 {p : Program} {l : Launch} {e : Env} {R : Room} {s : State} {m : MethodId} {args : Array Value} {below : List Frame} {meth : Method} {c : Code} {K : tm_K} (cx : tm_C p l R s m args meth c K cX6_readBody 7 RX6 "readBody" (some .boolean) 12 271) : ∀ (n : Nat) (v1 : Int) (v2 : Int) (v3 : Int) (σ : tm_S) (ls : Array Slot), tm_in v1 → tm_in v2 → tm_in v3 → tm_has 0 ls 7 [(0, tm_rv K 0), (1, tm_iv v1), (2, tm_iv v2), (3, tm_iv v3)] → tm_J p l e R s m args below meth c K tm_xM 1 (fm_readBody_L14 n v1 v2 v3 σ) σ (F0 m 14 ls []) := by
  intro n
  induction n with
  | zero => intros; exact tm_none
  | succ n ih =>
    intro v1 v2 v3 σ ls g1 g2 g3 hl
    exact wm_readBody_B14 (r14 := fm_readBody_L14 n) cx ih v1 v2 v3 σ ls g1 g2 g3 hl
def fm_readBody (a1 : Int) (σ : tm_S) : tm_R :=
  tm_lt (tm_f σ 471 0) fun x4 =>
  tm_gx x4 61 <|
  fm_readBody_L14 tm_FU a1 x4 0 (tm_wa σ 126 x4 0)
theorem tm_fits_X6_readBody (K : tm_K) (a1 : Int) : (lg_sl [tm_rv K 0, tm_iv a1]).length ≤ 2 := (tm_sl_r _ _ _ _ (tm_sl_i _ _ _ (tm_sl_n _)))
theorem cm_readBody (K : tm_K) (l : Launch) (hst : l.stackTraces = false) (a1 : Int) (g1 : tm_in a1) : tm_ct K tm_xM l yX6_readBody cX6_readBody 7 (some .boolean) 1 [tm_rv K 0, tm_iv a1] (fm_readBody a1) 12 271 := by
  refine tm_ct_of hst (by decide +kernel) (Nat.le_trans (tm_fits_X6_readBody K a1) (Nat.le_of_ble_eq_true rfl)) ?_
  intro p e R s m args below meth c cx σ ls hl0
  have hl : tm_has 0 ls 7 [(0, tm_rv K 0), (1, tm_iv a1)] := ⟨by
    have h9 := hl0
    simp only [tm_args_r, tm_args_i, tm_args_n, Nat.zero_add, Nat.reduceAdd] at h9
    exact h9, by
    intro q hq
    simp only [List.mem_cons, List.not_mem_nil, or_false] at hq
    rcases hq with rfl | rfl
    · exact Or.inl (tm_rv_cat K 0)
    · exact Or.inl rfl⟩
  clear hl0
  unfold fm_readBody
  refine tm_aload_n cx dX6_readBody_0 (tm_has_at hl 0 rfl) ?_
  refine tg_X6_174 cx dX6_readBody_1 (fun q1 => ?_)
  refine tm_lt_ q1 (fun x4 q4 => ?_)
  refine tm_istore_n (lv' := [(2, tm_iv x4), (0, tm_rv K 0), (1, tm_iv a1)]) cx dX6_readBody_4 hl (by decide) (by decide) rfl (fun ls hl => ?_)
  refine tm_aload_n cx dX6_readBody_5 (tm_has_at hl 1 rfl) ?_
  refine tg_X6_50 cx dX6_readBody_6 ?_
  refine tm_iload_n cx dX6_readBody_9 (tm_has_at hl 0 rfl) ?_
  refine tm_iconst cx dX6_readBody_10 ?_
  refine tm_iast cx tm_famM tm_hM_126 q4 (by decide) dX6_readBody_11 ?_
  refine tm_iconst cx dX6_readBody_12 ?_
  refine tm_istore_n (lv' := [(3, tm_iv 0), (2, tm_iv x4), (0, tm_rv K 0), (1, tm_iv a1)]) cx dX6_readBody_13 hl (by decide) (by decide) rfl (fun ls hl => ?_)
  exact wm_readBody_L14 cx tm_FU a1 x4 0 _ _ g1 q4 (by decide) (tm_has_sub hl [2, 3, 1, 0] rfl)
def fm_define_B92 (r92 : Int → Int → Int → tm_S → tm_R) (v2 : Int) (v3 : Int) (v4 : Int) (σ : tm_S) : tm_R :=
  if v4 < (tm_f σ 467 0) then
    tm_gx v4 60 <|
    if (tm_a σ 121 v4) = v2 then
      tm_gx v4 60 <|
      tm_gi (v4 + 1) <|
      r92 v2 v3 (v4 + 1) (tm_wa σ 122 v4 v3)
    else
      tm_gx v4 60 <|
      tm_gx v4 60 <|
      tm_gi (v4 + 1) <|
      r92 v2 v3 (v4 + 1) (tm_wa σ 122 v4 (tm_a σ 122 v4))
  else
    tm_rt 0 σ
theorem wm_define_B92 {p : Program} {l : Launch} {e : Env} {R : Room} {s : State} {m : MethodId} {args : Array Value} {below : List Frame} {meth : Method} {c : Code} {K : tm_K} {r92 : Int → Int → Int → tm_S → tm_R} (cx : tm_C p l R s m args meth c K cX6_define 5 RX6 "define" none 13 297) (h92 : ∀ (v2 : Int) (v3 : Int) (v4 : Int) (τ : tm_S) (ls : Array Slot), tm_in v2 → tm_in v3 → tm_in v4 → tm_has 0 ls 5 [(0, tm_rv K 0), (2, tm_iv v2), (3, tm_iv v3), (4, tm_iv v4)] → tm_J p l e R s m args below meth c K tm_xM 0 (r92 v2 v3 v4 τ) τ (F0 m 92 ls [])) (v2 : Int) (v3 : Int) (v4 : Int) (σ : tm_S) (ls : Array Slot) (g2 : tm_in v2) (g3 : tm_in v3) (g4 : tm_in v4) (hl : tm_has 0 ls 5 [(0, tm_rv K 0), (2, tm_iv v2), (3, tm_iv v3), (4, tm_iv v4)]) : tm_J p l e R s m args below meth c K tm_xM 0 (fm_define_B92 r92 v2 v3 v4 σ) σ (F0 m 92 ls []) := by
  unfold fm_define_B92
  refine tm_iload cx dX6_define_92 (tm_has_at hl 3 rfl) ?_
  refine tm_aload_n cx dX6_define_94 (tm_has_at hl 0 rfl) ?_
  refine tg_X6_171 cx dX6_define_95 (fun q95 => ?_)
  refine tm_icmp_ge (tgt := 136) cx g4 q95 dX6_define_98 (by decide) (fun c98 => ?_) (fun c98 => ?_)
  · refine tm_aload_n cx dX6_define_101 (tm_has_at hl 0 rfl) ?_
    refine tg_X6_41 cx dX6_define_102 ?_
    refine tm_iload cx dX6_define_105 (tm_has_at hl 3 rfl) ?_
    refine tm_aload_n cx dX6_define_107 (tm_has_at hl 0 rfl) ?_
    refine tg_X6_38 cx dX6_define_108 ?_
    refine tm_iload cx dX6_define_111 (tm_has_at hl 3 rfl) ?_
    refine tm_iald cx tm_hM_121 g4 dX6_define_113 (fun i113 q113 => ?_)
    refine tm_iload_n cx dX6_define_114 (tm_has_at hl 1 rfl) ?_
    refine tm_icmp_ne (tgt := 122) cx q113 g2 dX6_define_115 (by decide) (fun c115 => ?_) (fun c115 => ?_)
    · refine tm_iload_n cx dX6_define_118 (tm_has_at hl 2 rfl) ?_
      refine tm_goto (tgt := 129) cx dX6_define_119 (by decide) ?_
      refine tm_iast cx tm_famM tm_hM_122 g4 g3 dX6_define_129 ?_
      refine tm_iinc (lv' := [(4, tm_iv (v4 + 1)), (0, tm_rv K 0), (2, tm_iv v2), (3, tm_iv v3)]) cx dX6_define_130 hl (j := 3) rfl (by decide) (by decide) rfl (fun q130 ls hl => ?_)
      refine tm_goto (tgt := 92) cx dX6_define_133 (by decide) ?_
      exact h92 v2 v3 (v4 + 1) _ _ g2 g3 q130 (tm_has_sub hl [1, 2, 3, 0] rfl)
    · refine tm_aload_n cx dX6_define_122 (tm_has_at hl 0 rfl) ?_
      refine tg_X6_41 cx dX6_define_123 ?_
      refine tm_iload cx dX6_define_126 (tm_has_at hl 3 rfl) ?_
      refine tm_iald cx tm_hM_122 g4 dX6_define_128 (fun i128 q128 => ?_)
      refine tm_iast cx tm_famM tm_hM_122 g4 q128 dX6_define_129 ?_
      refine tm_iinc (lv' := [(4, tm_iv (v4 + 1)), (0, tm_rv K 0), (2, tm_iv v2), (3, tm_iv v3)]) cx dX6_define_130 hl (j := 3) rfl (by decide) (by decide) rfl (fun q130 ls hl => ?_)
      refine tm_goto (tgt := 92) cx dX6_define_133 (by decide) ?_
      exact h92 v2 v3 (v4 + 1) _ _ g2 g3 q130 (tm_has_sub hl [1, 2, 3, 0] rfl)
  · exact tm_vreturn cx dX6_define_136
def fm_define_L92 : Nat → Int → Int → Int → tm_S → tm_R
  | 0, _, _, _, _ => none
  | n + 1, v2, v3, v4, σ => fm_define_B92 (fm_define_L92 n) v2 v3 v4 σ
theorem wm_define_L92 {p : Program} {l : Launch} {e : Env} {R : Room} {s : State} {m : MethodId} {args : Array Value} {below : List Frame} {meth : Method} {c : Code} {K : tm_K} (cx : tm_C p l R s m args meth c K cX6_define 5 RX6 "define" none 13 297) : ∀ (n : Nat) (v2 : Int) (v3 : Int) (v4 : Int) (σ : tm_S) (ls : Array Slot), tm_in v2 → tm_in v3 → tm_in v4 → tm_has 0 ls 5 [(0, tm_rv K 0), (2, tm_iv v2), (3, tm_iv v3), (4, tm_iv v4)] → tm_J p l e R s m args below meth c K tm_xM 0 (fm_define_L92 n v2 v3 v4 σ) σ (F0 m 92 ls []) := by
  intro n
  induction n with
  | zero => intros; exact tm_none
  | succ n ih =>
    intro v2 v3 v4 σ ls g2 g3 g4 hl
    exact wm_define_B92 (r92 := fm_define_L92 n) cx ih v2 v3 v4 σ ls g2 g3 g4 hl
def fm_define_J28 (v1 : Int) (v2 : Int) (vs1 : Int) (σ : tm_S) : tm_R :=
  tm_bd (fm_readBody vs1 σ) fun u28 σ28 =>
  if u28 = 0 then
    tm_rt 0 σ28
  else
    if (tm_f σ28 471 0) = 60 then
      tm_bd (fm_stop 5 σ28) fun u46 σ46 =>
      tm_rt 0 σ46
    else
      tm_gi (6000 + (tm_f σ28 471 0)) <|
      tm_lt (6000 + (tm_f σ28 471 0)) fun x59 =>
      tm_gi ((tm_f σ28 471 0) + 1) <|
      if v1 = 4 then
        tm_gx v2 120 <|
        fm_define_L92 tm_FU v2 x59 0 (tm_wa (tm_wf σ28 471 0 ((tm_f σ28 471 0) + 1)) 115 v2 x59)
      else
        tm_bd (fm_change v2 x59 (tm_wf σ28 471 0 ((tm_f σ28 471 0) + 1))) fun u78 σ78 =>
        tm_rt 0 σ78
theorem wm_define_J28 {p : Program} {l : Launch} {e : Env} {R : Room} {s : State} {m : MethodId} {args : Array Value} {below : List Frame} {meth : Method} {c : Code} {K : tm_K} (cx : tm_C p l R s m args meth c K cX6_define 5 RX6 "define" none 13 297) (v1 : Int) (v2 : Int) (vs1 : Int) (σ : tm_S) (ls : Array Slot) (g1 : tm_in v1) (g2 : tm_in v2) (gs1 : tm_in vs1) (hl : tm_has 0 ls 5 [(0, tm_rv K 0), (1, tm_iv v1), (2, tm_iv v2)]) : tm_J p l e R s m args below meth c K tm_xM 0 (fm_define_J28 v1 v2 vs1 σ) σ (F0 m 28 ls [tm_iv vs1, tm_rv K 0]) := by
  unfold fm_define_J28
  refine tm_callV (n := 1) cx (cm_readBody K l (tm_hst cx) vs1 gs1) (lw_V q1429 q1431 qs90 q113 q1432) ⟨rfl, by decide +kernel, by decide +kernel, by decide +kernel⟩ rfl tm_cd_X6 (fun h => (tm_hM_0 h).1) ⟨Nat.le_of_ble_eq_true rfl, Nat.le_of_ble_eq_true rfl⟩ rfl (Nat.le_of_ble_eq_true rfl) hl.1.1 dX6_define_28 (fun u28 σ28 q28 => ?_)
  show tm_J p l e R s m args below meth c K tm_xM 0 _ _ (F0 m 31 ls [tm_iv u28])
  refine tm_if_ne (tgt := 35) cx q28 dX6_define_31 (by decide) (fun c31 => ?_) (fun c31 => ?_)
  · exact tm_vreturn cx dX6_define_34
  · refine tm_aload_n cx dX6_define_35 (tm_has_at hl 0 rfl) ?_
    refine tg_X6_174 cx dX6_define_36 (fun q36 => ?_)
    refine tm_bipush cx dX6_define_39 (by decide) ?_
    refine tm_icmp_ne (tgt := 51) cx q36 (by decide) dX6_define_41 (by decide) (fun c41 => ?_) (fun c41 => ?_)
    · refine tm_aload_n cx dX6_define_44 (tm_has_at hl 0 rfl) ?_
      refine tm_iconst cx dX6_define_45 ?_
      refine tm_callV (n := 1) cx (cm_stop K l (tm_hst cx) 5 (by decide)) (lw_V q1271 q1273 qs55 q113 q1274) ⟨rfl, by decide +kernel, by decide +kernel, by decide +kernel⟩ rfl tm_cd_X6 (fun h => (tm_hM_0 h).1) ⟨Nat.le_of_ble_eq_true rfl, Nat.le_of_ble_eq_true rfl⟩ rfl (Nat.le_of_ble_eq_true rfl) hl.1.1 dX6_define_46 (fun u46 σ46 q46 => ?_)
      show tm_J p l e R s m args below meth c K tm_xM 0 _ _ (F0 m 49 ls [tm_iv u46])
      refine tm_istore_n (lv' := [(3, tm_iv u46), (0, tm_rv K 0), (1, tm_iv v1), (2, tm_iv v2)]) cx dX6_define_49 hl (by decide) (by decide) rfl (fun ls hl => ?_)
      exact tm_vreturn cx dX6_define_50
    · refine tm_sipush cx dX6_define_51 (by decide) ?_
      refine tm_aload_n cx dX6_define_54 (tm_has_at hl 0 rfl) ?_
      refine tg_X6_174 cx dX6_define_55 (fun q55 => ?_)
      refine tm_iadd cx dX6_define_58 (fun q58 => ?_)
      refine tm_lt_ q58 (fun x59 q59 => ?_)
      refine tm_istore_n (lv' := [(3, tm_iv x59), (0, tm_rv K 0), (1, tm_iv v1), (2, tm_iv v2)]) cx dX6_define_59 hl (by decide) (by decide) rfl (fun ls hl => ?_)
      refine tm_aload_n cx dX6_define_60 (tm_has_at hl 1 rfl) ?_
      refine tm_dup_r cx dX6_define_61 ?_
      refine tg_X6_174 cx dX6_define_62 (fun q62 => ?_)
      refine tm_iconst cx dX6_define_65 ?_
      refine tm_iadd cx dX6_define_66 (fun q66 => ?_)
      refine tp_X6_174 cx q66 dX6_define_67 ?_
      refine tm_iload_n cx dX6_define_70 (tm_has_at hl 2 rfl) ?_
      refine tm_iconst cx dX6_define_71 ?_
      refine tm_icmp_eq (tgt := 82) cx g1 (by decide) dX6_define_72 (by decide) (fun c72 => ?_) (fun c72 => ?_)
      · refine tm_aload_n cx dX6_define_82 (tm_has_at hl 1 rfl) ?_
        refine tg_X6_29 cx dX6_define_83 ?_
        refine tm_iload_n cx dX6_define_86 (tm_has_at hl 3 rfl) ?_
        refine tm_iload_n cx dX6_define_87 (tm_has_at hl 0 rfl) ?_
        refine tm_iast cx tm_famM tm_hM_115 g2 q59 dX6_define_88 ?_
        refine tm_iconst cx dX6_define_89 ?_
        refine tm_istore (lv' := [(4, tm_iv 0), (3, tm_iv x59), (0, tm_rv K 0), (1, tm_iv v1), (2, tm_iv v2)]) cx dX6_define_90 hl (by decide) (by decide) rfl (fun ls hl => ?_)
        exact wm_define_L92 cx tm_FU v2 x59 0 _ _ g2 q59 (by decide) (tm_has_sub hl [2, 4, 1, 0] rfl)
      · refine tm_aload_n cx dX6_define_75 (tm_has_at hl 1 rfl) ?_
        refine tm_iload_n cx dX6_define_76 (tm_has_at hl 3 rfl) ?_
        refine tm_iload_n cx dX6_define_77 (tm_has_at hl 0 rfl) ?_
        refine tm_callV (n := 2) cx (cm_change K l (tm_hst cx) v2 g2 x59 q59) (lw_V q1390 q1392 qs81 q113 q1393) ⟨rfl, by decide +kernel, by decide +kernel, by decide +kernel⟩ rfl tm_cd_X6 (fun h => (tm_hM_0 h).1) ⟨Nat.le_of_ble_eq_true rfl, Nat.le_of_ble_eq_true rfl⟩ rfl (Nat.le_of_ble_eq_true rfl) hl.1.1 dX6_define_78 (fun u78 σ78 q78 => ?_)
        show tm_J p l e R s m args below meth c K tm_xM 0 _ _ (F0 m 81 ls [])
        exact tm_vreturn cx dX6_define_81
def fm_define (a1 : Int) (σ : tm_S) : tm_R :=
  tm_bd (fm_needName σ) fun u1 σ1 =>
  if u1 = (-1) then
    tm_rt 0 σ1
  else
    tm_bd (fm_readText σ1) fun u11 σ11 =>
    if u11 = 0 then
      tm_rt 0 σ11
    else
      if a1 = 5 then
        fm_define_J28 a1 u1 1 σ11
      else
        fm_define_J28 a1 u1 0 σ11
theorem tm_fits_X6_define (K : tm_K) (a1 : Int) : (lg_sl [tm_rv K 0, tm_iv a1]).length ≤ 2 := (tm_sl_r _ _ _ _ (tm_sl_i _ _ _ (tm_sl_n _)))
theorem cm_define (K : tm_K) (l : Launch) (hst : l.stackTraces = false) (a1 : Int) (g1 : tm_in a1) : tm_ct K tm_xM l yX6_define cX6_define 5 none 0 [tm_rv K 0, tm_iv a1] (fm_define a1) 13 297 := by
  refine tm_ct_of hst (by decide +kernel) (Nat.le_trans (tm_fits_X6_define K a1) (Nat.le_of_ble_eq_true rfl)) ?_
  intro p e R s m args below meth c cx σ ls hl0
  have hl : tm_has 0 ls 5 [(0, tm_rv K 0), (1, tm_iv a1)] := ⟨by
    have h9 := hl0
    simp only [tm_args_r, tm_args_i, tm_args_n, Nat.zero_add, Nat.reduceAdd] at h9
    exact h9, by
    intro q hq
    simp only [List.mem_cons, List.not_mem_nil, or_false] at hq
    rcases hq with rfl | rfl
    · exact Or.inl (tm_rv_cat K 0)
    · exact Or.inl rfl⟩
  clear hl0
  unfold fm_define
  refine tm_aload_n cx dX6_define_0 (tm_has_at hl 0 rfl) ?_
  refine tm_callV (n := 0) cx (cm_needName K l (tm_hst cx)) (lw_V q1410 q1412 qs86 q113 q1413) ⟨rfl, by decide +kernel, by decide +kernel, by decide +kernel⟩ rfl tm_cd_X6 (fun h => (tm_hM_0 h).1) ⟨Nat.le_of_ble_eq_true rfl, Nat.le_of_ble_eq_true rfl⟩ rfl (Nat.le_of_ble_eq_true rfl) hl.1.1 dX6_define_1 (fun u1 σ1 q1 => ?_)
  show tm_J p l e R s m args below meth c K tm_xM 0 _ _ (F0 m 4 ls [tm_iv u1])
  refine tm_istore_n (lv' := [(2, tm_iv u1), (0, tm_rv K 0), (1, tm_iv a1)]) cx dX6_define_4 hl (by decide) (by decide) rfl (fun ls hl => ?_)
  refine tm_iload_n cx dX6_define_5 (tm_has_at hl 0 rfl) ?_
  refine tm_iconst cx dX6_define_6 ?_
  refine tm_icmp_eq (tgt := 34) cx q1 (by decide) dX6_define_7 (by decide) (fun c7 => ?_) (fun c7 => ?_)
  · exact tm_vreturn cx dX6_define_34
  · refine tm_aload_n cx dX6_define_10 (tm_has_at hl 1 rfl) ?_
    refine tm_callV (n := 0) cx (cm_readText K l (tm_hst cx)) (lw_V q1425 q1427 qs89 q113 q1428) ⟨rfl, by decide +kernel, by decide +kernel, by decide +kernel⟩ rfl tm_cd_X6 (fun h => (tm_hM_0 h).1) ⟨Nat.le_of_ble_eq_true rfl, Nat.le_of_ble_eq_true rfl⟩ rfl (Nat.le_of_ble_eq_true rfl) hl.1.1 dX6_define_11 (fun u11 σ11 q11 => ?_)
    show tm_J p l e R s m args below meth c K tm_xM 0 _ _ (F0 m 14 ls [tm_iv u11])
    refine tm_if_eq (tgt := 34) cx q11 dX6_define_14 (by decide) (fun c14 => ?_) (fun c14 => ?_)
    · exact tm_vreturn cx dX6_define_34
    · refine tm_aload_n cx dX6_define_17 (tm_has_at hl 1 rfl) ?_
      refine tm_iload_n cx dX6_define_18 (tm_has_at hl 2 rfl) ?_
      refine tm_iconst cx dX6_define_19 ?_
      refine tm_icmp_ne (tgt := 27) cx g1 (by decide) dX6_define_20 (by decide) (fun c20 => ?_) (fun c20 => ?_)
      · refine tm_iconst cx dX6_define_23 ?_
        refine tm_goto (tgt := 28) cx dX6_define_24 (by decide) ?_
        exact wm_define_J28 cx a1 u1 1 _ _ g1 q1 (by decide) (tm_has_sub hl [1, 2, 0] rfl)
      · refine tm_iconst cx dX6_define_27 ?_
        exact wm_define_J28 cx a1 u1 0 _ _ g1 q1 (by decide) (tm_has_sub hl [1, 2, 0] rfl)
def fm_act_J109 (vs1 : Int) (σ : tm_S) : tm_R :=
  tm_bd (fm_stop vs1 σ) fun u109 σ109 =>
  tm_rt 0 σ109
theorem wm_act_J109 {p : Program} {l : Launch} {e : Env} {R : Room} {s : State} {m : MethodId} {args : Array Value} {below : List Frame} {meth : Method} {c : Code} {K : tm_K} (cx : tm_C p l R s m args meth c K cX6_act 5 RX6 "act" none 14 321) (vs1 : Int) (σ : tm_S) (ls : Array Slot) (gs1 : tm_in vs1) (hl : tm_has 0 ls 5 []) : tm_J p l e R s m args below meth c K tm_xM 0 (fm_act_J109 vs1 σ) σ (F0 m 109 ls [tm_iv vs1, tm_rv K 0]) := by
  unfold fm_act_J109
  refine tm_callV (n := 1) cx (cm_stop K l (tm_hst cx) vs1 gs1) (lw_V q1271 q1273 qs55 q113 q1274) ⟨rfl, by decide +kernel, by decide +kernel, by decide +kernel⟩ rfl tm_cd_X6 (fun h => (tm_hM_0 h).1) ⟨Nat.le_of_ble_eq_true rfl, Nat.le_of_ble_eq_true rfl⟩ rfl (Nat.le_of_ble_eq_true rfl) hl.1.1 dX6_act_109 (fun u109 σ109 q109 => ?_)
  show tm_J p l e R s m args below meth c K tm_xM 0 _ _ (F0 m 112 ls [tm_iv u109])
  refine tm_istore_n (lv' := [(3, tm_iv u109)]) cx dX6_act_112 hl (by decide) (by decide) rfl (fun ls hl => ?_)
  refine tm_goto (tgt := 167) cx dX6_act_113 (by decide) ?_
  exact tm_vreturn cx dX6_act_167
def fm_act_J99 (v2 : Int) (σ : tm_S) : tm_R :=
  if v2 = 0 then
    fm_act_J109 2 σ
  else
    fm_act_J109 1 σ
theorem wm_act_J99 {p : Program} {l : Launch} {e : Env} {R : Room} {s : State} {m : MethodId} {args : Array Value} {below : List Frame} {meth : Method} {c : Code} {K : tm_K} (cx : tm_C p l R s m args meth c K cX6_act 5 RX6 "act" none 14 321) (v2 : Int) (σ : tm_S) (ls : Array Slot) (g2 : tm_in v2) (hl : tm_has 0 ls 5 [(0, tm_rv K 0), (2, tm_iv v2)]) : tm_J p l e R s m args below meth c K tm_xM 0 (fm_act_J99 v2 σ) σ (F0 m 99 ls []) := by
  unfold fm_act_J99
  refine tm_aload_n cx dX6_act_99 (tm_has_at hl 0 rfl) ?_
  refine tm_iload_n cx dX6_act_100 (tm_has_at hl 1 rfl) ?_
  refine tm_if_ne (tgt := 108) cx g2 dX6_act_101 (by decide) (fun c101 => ?_) (fun c101 => ?_)
  · refine tm_iconst cx dX6_act_104 ?_
    refine tm_goto (tgt := 109) cx dX6_act_105 (by decide) ?_
    exact wm_act_J109 cx 2 _ _ (by decide) (tm_has_sub hl [] rfl)
  · refine tm_iconst cx dX6_act_108 ?_
    exact wm_act_J109 cx 1 _ _ (by decide) (tm_has_sub hl [] rfl)
def fm_act (a1 : Int) (σ : tm_S) : tm_R :=
  tm_bd (fm_meaningOf a1 σ) fun u2 σ2 =>
  if u2 < 1000 then
    if u2 = 0 then
      fm_act_J99 u2 σ2
    else
      if u2 = 11 then
        fm_act_J99 u2 σ2
      else
        if u2 = 1 then
          tm_bd (fm_send 4096 σ2) fun u125 σ125 =>
          tm_rt 0 σ125
        else
          if u2 = 6 then
            tm_bd (fm_let σ2) fun u138 σ138 =>
            tm_rt 0 σ138
          else
            if u2 = 7 then
              tm_bd (fm_catcode σ2) fun u151 σ151 =>
              tm_rt 0 σ151
            else
              if u2 = 2 then
                tm_rt 0 σ2
              else
                tm_bd (fm_define u2 σ2) fun u164 σ164 =>
                tm_rt 0 σ164
  else
    tm_gi (u2 - 1000) <|
    tm_lt (u2 - 1000) fun x18 =>
    tm_bd (fm_isCharacter x18 1 σ2) fun u21 σ21 =>
    if u21 = 0 then
      tm_bd (fm_isCharacter x18 2 σ21) fun u68 σ68 =>
      if u68 = 0 then
        tm_bd (fm_send x18 σ68) fun u83 σ83 =>
        tm_rt 0 σ83
      else
        tm_bd (fm_closeGroup σ68) fun u75 σ75 =>
        tm_rt 0 σ75
    else
      tm_gi ((tm_f σ21 466 0) + 1) <|
      if 30 < (tm_f (tm_wf σ21 466 0 ((tm_f σ21 466 0) + 1)) 466 0) then
        tm_gi ((tm_f (tm_wf σ21 466 0 ((tm_f σ21 466 0) + 1)) 466 0) - 1) <|
        tm_bd (fm_stop 5 (tm_wf (tm_wf σ21 466 0 ((tm_f σ21 466 0) + 1)) 466 0 ((tm_f (tm_wf σ21 466 0 ((tm_f σ21 466 0) + 1)) 466 0) - 1))) fun u58 σ58 =>
        tm_rt 0 σ58
      else
        tm_rt 0 (tm_wf σ21 466 0 ((tm_f σ21 466 0) + 1))
theorem tm_fits_X6_act (K : tm_K) (a1 : Int) : (lg_sl [tm_rv K 0, tm_iv a1]).length ≤ 2 := (tm_sl_r _ _ _ _ (tm_sl_i _ _ _ (tm_sl_n _)))
theorem cm_act (K : tm_K) (l : Launch) (hst : l.stackTraces = false) (a1 : Int) (g1 : tm_in a1) : tm_ct K tm_xM l yX6_act cX6_act 5 none 0 [tm_rv K 0, tm_iv a1] (fm_act a1) 14 321 := by
  refine tm_ct_of hst (by decide +kernel) (Nat.le_trans (tm_fits_X6_act K a1) (Nat.le_of_ble_eq_true rfl)) ?_
  intro p e R s m args below meth c cx σ ls hl0
  have hl : tm_has 0 ls 5 [(0, tm_rv K 0), (1, tm_iv a1)] := ⟨by
    have h9 := hl0
    simp only [tm_args_r, tm_args_i, tm_args_n, Nat.zero_add, Nat.reduceAdd] at h9
    exact h9, by
    intro q hq
    simp only [List.mem_cons, List.not_mem_nil, or_false] at hq
    rcases hq with rfl | rfl
    · exact Or.inl (tm_rv_cat K 0)
    · exact Or.inl rfl⟩
  clear hl0
  unfold fm_act
  refine tm_aload_n cx dX6_act_0 (tm_has_at hl 0 rfl) ?_
  refine tm_iload_n cx dX6_act_1 (tm_has_at hl 1 rfl) ?_
  refine tm_callV (n := 1) cx (cm_meaningOf K l (tm_hst cx) a1 g1) (lw_V q1291 q1293 qs60 q113 q1294) ⟨rfl, by decide +kernel, by decide +kernel, by decide +kernel⟩ rfl tm_cd_X6 (fun h => (tm_hM_0 h).1) ⟨Nat.le_of_ble_eq_true rfl, Nat.le_of_ble_eq_true rfl⟩ rfl (Nat.le_of_ble_eq_true rfl) hl.1.1 dX6_act_2 (fun u2 σ2 q2 => ?_)
  show tm_J p l e R s m args below meth c K tm_xM 0 _ _ (F0 m 5 ls [tm_iv u2])
  refine tm_istore_n (lv' := [(2, tm_iv u2), (0, tm_rv K 0), (1, tm_iv a1)]) cx dX6_act_5 hl (by decide) (by decide) rfl (fun ls hl => ?_)
  refine tm_iload_n cx dX6_act_6 (tm_has_at hl 0 rfl) ?_
  refine tm_sipush cx dX6_act_7 (by decide) ?_
  refine tm_icmp_lt (tgt := 89) cx q2 (by decide) dX6_act_10 (by decide) (fun c10 => ?_) (fun c10 => ?_)
  · refine tm_iload_n cx dX6_act_89 (tm_has_at hl 0 rfl) ?_
    refine tm_if_eq (tgt := 99) cx q2 dX6_act_90 (by decide) (fun c90 => ?_) (fun c90 => ?_)
    · exact wm_act_J99 cx u2 _ _ q2 (tm_has_sub hl [1, 0] rfl)
    · refine tm_iload_n cx dX6_act_93 (tm_has_at hl 0 rfl) ?_
      refine tm_bipush cx dX6_act_94 (by decide) ?_
      refine tm_icmp_ne (tgt := 116) cx q2 (by decide) dX6_act_96 (by decide) (fun c96 => ?_) (fun c96 => ?_)
      · exact wm_act_J99 cx u2 _ _ q2 (tm_has_sub hl [1, 0] rfl)
      · refine tm_iload_n cx dX6_act_116 (tm_has_at hl 0 rfl) ?_
        refine tm_iconst cx dX6_act_117 ?_
        refine tm_icmp_ne (tgt := 131) cx q2 (by decide) dX6_act_118 (by decide) (fun c118 => ?_) (fun c118 => ?_)
        · refine tm_aload_n cx dX6_act_121 (tm_has_at hl 1 rfl) ?_
          refine tm_sipush cx dX6_act_122 (by decide) ?_
          refine tm_callV (n := 1) cx (cm_send K l (tm_hst cx) 4096 (by decide)) (lw_V q1402 q1404 qs84 q113 q1405) ⟨rfl, by decide +kernel, by decide +kernel, by decide +kernel⟩ rfl tm_cd_X6 (fun h => (tm_hM_0 h).1) ⟨Nat.le_of_ble_eq_true rfl, Nat.le_of_ble_eq_true rfl⟩ rfl (Nat.le_of_ble_eq_true rfl) hl.1.1 dX6_act_125 (fun u125 σ125 q125 => ?_)
          show tm_J p l e R s m args below meth c K tm_xM 0 _ _ (F0 m 128 ls [])
          refine tm_goto (tgt := 167) cx dX6_act_128 (by decide) ?_
          exact tm_vreturn cx dX6_act_167
        · refine tm_iload_n cx dX6_act_131 (tm_has_at hl 0 rfl) ?_
          refine tm_bipush cx dX6_act_132 (by decide) ?_
          refine tm_icmp_ne (tgt := 144) cx q2 (by decide) dX6_act_134 (by decide) (fun c134 => ?_) (fun c134 => ?_)
          · refine tm_aload_n cx dX6_act_137 (tm_has_at hl 1 rfl) ?_
            refine tm_callV (n := 0) cx (cm_let K l (tm_hst cx)) (lw_V q1406 q1408 qs85 q113 q1409) ⟨rfl, by decide +kernel, by decide +kernel, by decide +kernel⟩ rfl tm_cd_X6 (fun h => (tm_hM_0 h).1) ⟨Nat.le_of_ble_eq_true rfl, Nat.le_of_ble_eq_true rfl⟩ rfl (Nat.le_of_ble_eq_true rfl) hl.1.1 dX6_act_138 (fun u138 σ138 q138 => ?_)
            show tm_J p l e R s m args below meth c K tm_xM 0 _ _ (F0 m 141 ls [])
            refine tm_goto (tgt := 167) cx dX6_act_141 (by decide) ?_
            exact tm_vreturn cx dX6_act_167
          · refine tm_iload_n cx dX6_act_144 (tm_has_at hl 0 rfl) ?_
            refine tm_bipush cx dX6_act_145 (by decide) ?_
            refine tm_icmp_ne (tgt := 157) cx q2 (by decide) dX6_act_147 (by decide) (fun c147 => ?_) (fun c147 => ?_)
            · refine tm_aload_n cx dX6_act_150 (tm_has_at hl 1 rfl) ?_
              refine tm_callV (n := 0) cx (cm_catcode K l (tm_hst cx)) (lw_V q1414 q1416 qs87 q113 q1417) ⟨rfl, by decide +kernel, by decide +kernel, by decide +kernel⟩ rfl tm_cd_X6 (fun h => (tm_hM_0 h).1) ⟨Nat.le_of_ble_eq_true rfl, Nat.le_of_ble_eq_true rfl⟩ rfl (Nat.le_of_ble_eq_true rfl) hl.1.1 dX6_act_151 (fun u151 σ151 q151 => ?_)
              show tm_J p l e R s m args below meth c K tm_xM 0 _ _ (F0 m 154 ls [])
              refine tm_goto (tgt := 167) cx dX6_act_154 (by decide) ?_
              exact tm_vreturn cx dX6_act_167
            · refine tm_iload_n cx dX6_act_157 (tm_has_at hl 0 rfl) ?_
              refine tm_iconst cx dX6_act_158 ?_
              refine tm_icmp_eq (tgt := 167) cx q2 (by decide) dX6_act_159 (by decide) (fun c159 => ?_) (fun c159 => ?_)
              · exact tm_vreturn cx dX6_act_167
              · refine tm_aload_n cx dX6_act_162 (tm_has_at hl 1 rfl) ?_
                refine tm_iload_n cx dX6_act_163 (tm_has_at hl 0 rfl) ?_
                refine tm_callV (n := 1) cx (cm_define K l (tm_hst cx) u2 q2) (lw_V q1421 q1423 qs88 q113 q1424) ⟨rfl, by decide +kernel, by decide +kernel, by decide +kernel⟩ rfl tm_cd_X6 (fun h => (tm_hM_0 h).1) ⟨Nat.le_of_ble_eq_true rfl, Nat.le_of_ble_eq_true rfl⟩ rfl (Nat.le_of_ble_eq_true rfl) hl.1.1 dX6_act_164 (fun u164 σ164 q164 => ?_)
                show tm_J p l e R s m args below meth c K tm_xM 0 _ _ (F0 m 167 ls [])
                exact tm_vreturn cx dX6_act_167
  · refine tm_iload_n cx dX6_act_13 (tm_has_at hl 0 rfl) ?_
    refine tm_sipush cx dX6_act_14 (by decide) ?_
    refine tm_isub cx dX6_act_17 (fun q17 => ?_)
    refine tm_lt_ q17 (fun x18 q18 => ?_)
    refine tm_istore_n (lv' := [(3, tm_iv x18), (2, tm_iv u2), (0, tm_rv K 0), (1, tm_iv a1)]) cx dX6_act_18 hl (by decide) (by decide) rfl (fun ls hl => ?_)
    refine tm_iload_n cx dX6_act_19 (tm_has_at hl 0 rfl) ?_
    refine tm_iconst cx dX6_act_20 ?_
    refine tm_callS (n := 2) cx (cm_isCharacter K l (tm_hst cx) x18 q18 1 (by decide)) (lw_S q1328 q1329 q113 q1330) ⟨by decide +kernel, by decide +kernel, by decide +kernel⟩ rfl ⟨Nat.le_of_ble_eq_true rfl, Nat.le_of_ble_eq_true rfl⟩ rfl (Nat.le_of_ble_eq_true rfl) hl.1.1 dX6_act_21 (fun u21 σ21 q21 => ?_)
    show tm_J p l e R s m args below meth c K tm_xM 0 _ _ (F0 m 24 ls [tm_iv u21])
    refine tm_if_eq (tgt := 66) cx q21 dX6_act_24 (by decide) (fun c24 => ?_) (fun c24 => ?_)
    · refine tm_iload_n cx dX6_act_66 (tm_has_at hl 0 rfl) ?_
      refine tm_iconst cx dX6_act_67 ?_
      refine tm_callS (n := 2) cx (cm_isCharacter K l (tm_hst cx) x18 q18 2 (by decide)) (lw_S q1328 q1329 q113 q1330) ⟨by decide +kernel, by decide +kernel, by decide +kernel⟩ rfl ⟨Nat.le_of_ble_eq_true rfl, Nat.le_of_ble_eq_true rfl⟩ rfl (Nat.le_of_ble_eq_true rfl) hl.1.1 dX6_act_68 (fun u68 σ68 q68 => ?_)
      show tm_J p l e R s m args below meth c K tm_xM 0 _ _ (F0 m 71 ls [tm_iv u68])
      refine tm_if_eq (tgt := 81) cx q68 dX6_act_71 (by decide) (fun c71 => ?_) (fun c71 => ?_)
      · refine tm_aload_n cx dX6_act_81 (tm_has_at hl 2 rfl) ?_
        refine tm_iload_n cx dX6_act_82 (tm_has_at hl 0 rfl) ?_
        refine tm_callV (n := 1) cx (cm_send K l (tm_hst cx) x18 q18) (lw_V q1402 q1404 qs84 q113 q1405) ⟨rfl, by decide +kernel, by decide +kernel, by decide +kernel⟩ rfl tm_cd_X6 (fun h => (tm_hM_0 h).1) ⟨Nat.le_of_ble_eq_true rfl, Nat.le_of_ble_eq_true rfl⟩ rfl (Nat.le_of_ble_eq_true rfl) hl.1.1 dX6_act_83 (fun u83 σ83 q83 => ?_)
        show tm_J p l e R s m args below meth c K tm_xM 0 _ _ (F0 m 86 ls [])
        refine tm_goto (tgt := 167) cx dX6_act_86 (by decide) ?_
        exact tm_vreturn cx dX6_act_167
      · refine tm_aload_n cx dX6_act_74 (tm_has_at hl 2 rfl) ?_
        refine tm_callV (n := 0) cx (cm_closeGroup K l (tm_hst cx)) (lw_V q1398 q1400 qs83 q113 q1401) ⟨rfl, by decide +kernel, by decide +kernel, by decide +kernel⟩ rfl tm_cd_X6 (fun h => (tm_hM_0 h).1) ⟨Nat.le_of_ble_eq_true rfl, Nat.le_of_ble_eq_true rfl⟩ rfl (Nat.le_of_ble_eq_true rfl) hl.1.1 dX6_act_75 (fun u75 σ75 q75 => ?_)
        show tm_J p l e R s m args below meth c K tm_xM 0 _ _ (F0 m 78 ls [])
        refine tm_goto (tgt := 86) cx dX6_act_78 (by decide) ?_
        refine tm_goto (tgt := 167) cx dX6_act_86 (by decide) ?_
        exact tm_vreturn cx dX6_act_167
    · refine tm_aload_n cx dX6_act_27 (tm_has_at hl 2 rfl) ?_
      refine tm_dup_r cx dX6_act_28 ?_
      refine tg_X6_168 cx dX6_act_29 (fun q29 => ?_)
      refine tm_iconst cx dX6_act_32 ?_
      refine tm_iadd cx dX6_act_33 (fun q33 => ?_)
      refine tp_X6_168 cx q33 dX6_act_34 ?_
      refine tm_aload_n cx dX6_act_37 (tm_has_at hl 2 rfl) ?_
      refine tg_X6_168 cx dX6_act_38 (fun q38 => ?_)
      refine tm_bipush cx dX6_act_41 (by decide) ?_
      refine tm_icmp_le (tgt := 86) cx q38 (by decide) dX6_act_43 (by decide) (fun c43 => ?_) (fun c43 => ?_)
      · refine tm_aload_n cx dX6_act_46 (tm_has_at hl 2 rfl) ?_
        refine tm_dup_r cx dX6_act_47 ?_
        refine tg_X6_168 cx dX6_act_48 (fun q48 => ?_)
        refine tm_iconst cx dX6_act_51 ?_
        refine tm_isub cx dX6_act_52 (fun q52 => ?_)
        refine tp_X6_168 cx q52 dX6_act_53 ?_
        refine tm_aload_n cx dX6_act_56 (tm_has_at hl 2 rfl) ?_
        refine tm_iconst cx dX6_act_57 ?_
        refine tm_callV (n := 1) cx (cm_stop K l (tm_hst cx) 5 (by decide)) (lw_V q1271 q1273 qs55 q113 q1274) ⟨rfl, by decide +kernel, by decide +kernel, by decide +kernel⟩ rfl tm_cd_X6 (fun h => (tm_hM_0 h).1) ⟨Nat.le_of_ble_eq_true rfl, Nat.le_of_ble_eq_true rfl⟩ rfl (Nat.le_of_ble_eq_true rfl) hl.1.1 dX6_act_58 (fun u58 σ58 q58 => ?_)
        show tm_J p l e R s m args below meth c K tm_xM 0 _ _ (F0 m 61 ls [tm_iv u58])
        refine tm_istore (lv' := [(4, tm_iv u58), (3, tm_iv x18), (2, tm_iv u2), (0, tm_rv K 0), (1, tm_iv a1)]) cx dX6_act_61 hl (by decide) (by decide) rfl (fun ls hl => ?_)
        refine tm_goto (tgt := 86) cx dX6_act_63 (by decide) ?_
        refine tm_goto (tgt := 167) cx dX6_act_86 (by decide) ?_
        exact tm_vreturn cx dX6_act_167
      · refine tm_goto (tgt := 167) cx dX6_act_86 (by decide) ?_
        exact tm_vreturn cx dX6_act_167
def fm_step_J29 (v1 : Int) (σ : tm_S) : tm_R :=
  tm_gi ((tm_f σ 454 0) + 1) <|
  if v1 = (-1) then
    tm_rt 1 (tm_wf σ 454 0 ((tm_f σ 454 0) + 1))
  else
    tm_bd (fm_isExpandable v1 (tm_wf σ 454 0 ((tm_f σ 454 0) + 1))) fun u46 σ46 =>
    if u46 = 0 then
      tm_bd (fm_act v1 σ46) fun u62 σ62 =>
      tm_rt 1 σ62
    else
      tm_bd (fm_expand v1 σ46) fun u54 σ54 =>
      tm_rt 1 σ54
theorem wm_step_J29 {p : Program} {l : Launch} {e : Env} {R : Room} {s : State} {m : MethodId} {args : Array Value} {below : List Frame} {meth : Method} {c : Code} {K : tm_K} (cx : tm_C p l R s m args meth c K cX6_step 2 RX6 "step" (some .boolean) 15 345) (v1 : Int) (σ : tm_S) (ls : Array Slot) (g1 : tm_in v1) (hl : tm_has 0 ls 2 [(0, tm_rv K 0), (1, tm_iv v1)]) : tm_J p l e R s m args below meth c K tm_xM 1 (fm_step_J29 v1 σ) σ (F0 m 29 ls []) := by
  unfold fm_step_J29
  refine tm_aload_n cx dX6_step_29 (tm_has_at hl 0 rfl) ?_
  refine tm_dup_r cx dX6_step_30 ?_
  refine tg_X6_162 cx dX6_step_31 (fun q31 => ?_)
  refine tm_iconst cx dX6_step_34 ?_
  refine tm_iadd cx dX6_step_35 (fun q35 => ?_)
  refine tp_X6_162 cx q35 dX6_step_36 ?_
  refine tm_iload_n cx dX6_step_39 (tm_has_at hl 1 rfl) ?_
  refine tm_iconst cx dX6_step_40 ?_
  refine tm_icmp_eq (tgt := 65) cx g1 (by decide) dX6_step_41 (by decide) (fun c41 => ?_) (fun c41 => ?_)
  · refine tm_iconst cx dX6_step_65 ?_
    exact tm_zreturn cx (by decide) dX6_step_66
  · refine tm_aload_n cx dX6_step_44 (tm_has_at hl 0 rfl) ?_
    refine tm_iload_n cx dX6_step_45 (tm_has_at hl 1 rfl) ?_
    refine tm_callV (n := 1) cx (cm_isExpandable K l (tm_hst cx) v1 g1) (lw_V q1287 q1289 qs59 q113 q1290) ⟨rfl, by decide +kernel, by decide +kernel, by decide +kernel⟩ rfl tm_cd_X6 (fun h => (tm_hM_0 h).1) ⟨Nat.le_of_ble_eq_true rfl, Nat.le_of_ble_eq_true rfl⟩ rfl (Nat.le_of_ble_eq_true rfl) hl.1.1 dX6_step_46 (fun u46 σ46 q46 => ?_)
    show tm_J p l e R s m args below meth c K tm_xM 1 _ _ (F0 m 49 ls [tm_iv u46])
    refine tm_if_eq (tgt := 60) cx q46 dX6_step_49 (by decide) (fun c49 => ?_) (fun c49 => ?_)
    · refine tm_aload_n cx dX6_step_60 (tm_has_at hl 0 rfl) ?_
      refine tm_iload_n cx dX6_step_61 (tm_has_at hl 1 rfl) ?_
      refine tm_callV (n := 1) cx (cm_act K l (tm_hst cx) v1 g1) (lw_V q1394 q1396 qs82 q113 q1397) ⟨rfl, by decide +kernel, by decide +kernel, by decide +kernel⟩ rfl tm_cd_X6 (fun h => (tm_hM_0 h).1) ⟨Nat.le_of_ble_eq_true rfl, Nat.le_of_ble_eq_true rfl⟩ rfl (Nat.le_of_ble_eq_true rfl) hl.1.1 dX6_step_62 (fun u62 σ62 q62 => ?_)
      show tm_J p l e R s m args below meth c K tm_xM 1 _ _ (F0 m 65 ls [])
      refine tm_iconst cx dX6_step_65 ?_
      exact tm_zreturn cx (by decide) dX6_step_66
    · refine tm_aload_n cx dX6_step_52 (tm_has_at hl 0 rfl) ?_
      refine tm_iload_n cx dX6_step_53 (tm_has_at hl 1 rfl) ?_
      refine tm_callV (n := 1) cx (cm_expand K l (tm_hst cx) v1 g1) (lw_V q1301 q1303 qs61 q113 q1304) ⟨rfl, by decide +kernel, by decide +kernel, by decide +kernel⟩ rfl tm_cd_X6 (fun h => (tm_hM_0 h).1) ⟨Nat.le_of_ble_eq_true rfl, Nat.le_of_ble_eq_true rfl⟩ rfl (Nat.le_of_ble_eq_true rfl) hl.1.1 dX6_step_54 (fun u54 σ54 q54 => ?_)
      show tm_J p l e R s m args below meth c K tm_xM 1 _ _ (F0 m 57 ls [])
      refine tm_goto (tgt := 65) cx dX6_step_57 (by decide) ?_
      refine tm_iconst cx dX6_step_65 ?_
      exact tm_zreturn cx (by decide) dX6_step_66
def fm_step (σ : tm_S) : tm_R :=
  tm_bd (fm_get (tm_wf (tm_wf σ 455 0 0) 479 0 0)) fun u11 σ11 =>
  if u11 = (-1) then
    if (tm_f σ11 453 0) = 0 then
      tm_rt 0 σ11
    else
      fm_step_J29 u11 σ11
  else
    fm_step_J29 u11 σ11
theorem tm_fits_X6_step (K : tm_K) : (lg_sl [tm_rv K 0]).length ≤ 1 := (tm_sl_r _ _ _ _ (tm_sl_n _))
theorem cm_step (K : tm_K) (l : Launch) (hst : l.stackTraces = false) : tm_ct K tm_xM l yX6_step cX6_step 2 (some .boolean) 1 [tm_rv K 0] (fm_step) 15 345 := by
  refine tm_ct_of hst (by decide +kernel) (Nat.le_trans (tm_fits_X6_step K) (Nat.le_of_ble_eq_true rfl)) ?_
  intro p e R s m args below meth c cx σ ls hl0
  have hl : tm_has 0 ls 2 [(0, tm_rv K 0)] := ⟨by
    have h9 := hl0
    simp only [tm_args_r, tm_args_n, Nat.zero_add, Nat.reduceAdd] at h9
    exact h9, by
    intro q hq
    simp only [List.mem_cons, List.not_mem_nil, or_false] at hq
    rcases hq with rfl
    · exact Or.inl (tm_rv_cat K 0)⟩
  clear hl0
  unfold fm_step
  refine tm_aload_n cx dX6_step_0 (tm_has_at hl 0 rfl) ?_
  refine tm_iconst cx dX6_step_1 ?_
  refine tp_X6_274 cx (by decide) dX6_step_2 ?_
  refine tm_aload_n cx dX6_step_5 (tm_has_at hl 0 rfl) ?_
  refine tm_iconst cx dX6_step_6 ?_
  refine tp_X6_180 cx (by decide) dX6_step_7 ?_
  refine tm_aload_n cx dX6_step_10 (tm_has_at hl 0 rfl) ?_
  refine tm_callV (n := 0) cx (cm_get K l (tm_hst cx)) (lw_V q1259 q1261 qs52 q113 q1262) ⟨rfl, by decide +kernel, by decide +kernel, by decide +kernel⟩ rfl tm_cd_X6 (fun h => (tm_hM_0 h).1) ⟨Nat.le_of_ble_eq_true rfl, Nat.le_of_ble_eq_true rfl⟩ rfl (Nat.le_of_ble_eq_true rfl) hl.1.1 dX6_step_11 (fun u11 σ11 q11 => ?_)
  show tm_J p l e R s m args below meth c K tm_xM 1 _ _ (F0 m 14 ls [tm_iv u11])
  refine tm_istore_n (lv' := [(1, tm_iv u11), (0, tm_rv K 0)]) cx dX6_step_14 hl (by decide) (by decide) rfl (fun ls hl => ?_)
  refine tm_iload_n cx dX6_step_15 (tm_has_at hl 0 rfl) ?_
  refine tm_iconst cx dX6_step_16 ?_
  refine tm_icmp_ne (tgt := 29) cx q11 (by decide) dX6_step_17 (by decide) (fun c17 => ?_) (fun c17 => ?_)
  · refine tm_aload_n cx dX6_step_20 (tm_has_at hl 1 rfl) ?_
    refine tg_X6_159 cx dX6_step_21 (fun q21 => ?_)
    refine tm_if_ne (tgt := 29) cx q21 dX6_step_24 (by decide) (fun c24 => ?_) (fun c24 => ?_)
    · refine tm_iconst cx dX6_step_27 ?_
      exact tm_zreturn cx (by decide) dX6_step_28
    · exact wm_step_J29 cx u11 _ _ q11 (tm_has_sub hl [1, 0] rfl)
  · exact wm_step_J29 cx u11 _ _ q11 (tm_has_sub hl [1, 0] rfl)
def fm_run_B34 (r34 : Int → Int → tm_S → tm_R) (v1 : Int) (v2 : Int) (σ : tm_S) : tm_R :=
  if v2 < v1 then
    if (tm_f σ 448 0) = 0 then
      tm_bd (fm_step σ) fun u47 σ47 =>
      if u47 = 0 then
        tm_rt 1 σ47
      else
        if 0 < (tm_f σ47 453 0) then
          tm_gi (v2 + 1) <|
          r34 v1 (v2 + 1) (tm_wf σ47 448 0 2)
        else
          tm_gi (v2 + 1) <|
          r34 v1 (v2 + 1) (tm_wf σ47 448 0 0)
    else
      tm_rt 0 σ
  else
    tm_rt 0 σ
theorem wm_run_B34 {p : Program} {l : Launch} {e : Env} {R : Room} {s : State} {m : MethodId} {args : Array Value} {below : List Frame} {meth : Method} {c : Code} {K : tm_K} {r34 : Int → Int → tm_S → tm_R} (cx : tm_C p l R s m args meth c K cX6_run 3 RX6 "run" (some .int) 16 366) (h34 : ∀ (v1 : Int) (v2 : Int) (τ : tm_S) (ls : Array Slot), tm_in v1 → tm_in v2 → tm_has 0 ls 3 [(0, tm_rv K 0), (1, tm_iv v1), (2, tm_iv v2)] → tm_J p l e R s m args below meth c K tm_xM 1 (r34 v1 v2 τ) τ (F0 m 34 ls [])) (v1 : Int) (v2 : Int) (σ : tm_S) (ls : Array Slot) (g1 : tm_in v1) (g2 : tm_in v2) (hl : tm_has 0 ls 3 [(0, tm_rv K 0), (1, tm_iv v1), (2, tm_iv v2)]) : tm_J p l e R s m args below meth c K tm_xM 1 (fm_run_B34 r34 v1 v2 σ) σ (F0 m 34 ls []) := by
  unfold fm_run_B34
  refine tm_iload_n cx dX6_run_34 (tm_has_at hl 2 rfl) ?_
  refine tm_iload_n cx dX6_run_35 (tm_has_at hl 1 rfl) ?_
  refine tm_icmp_ge (tgt := 77) cx g2 g1 dX6_run_36 (by decide) (fun c36 => ?_) (fun c36 => ?_)
  · refine tm_aload_n cx dX6_run_39 (tm_has_at hl 0 rfl) ?_
    refine tg_X6_186 cx dX6_run_40 (fun q40 => ?_)
    refine tm_if_ne (tgt := 77) cx q40 dX6_run_43 (by decide) (fun c43 => ?_) (fun c43 => ?_)
    · refine tm_aload_n cx dX6_run_46 (tm_has_at hl 0 rfl) ?_
      refine tm_callV (n := 0) cx (cm_step K l (tm_hst cx)) (lw_V q1255 q1257 qs51 q113 q1258) ⟨rfl, by decide +kernel, by decide +kernel, by decide +kernel⟩ rfl tm_cd_X6 (fun h => (tm_hM_0 h).1) ⟨Nat.le_of_ble_eq_true rfl, Nat.le_of_ble_eq_true rfl⟩ rfl (Nat.le_of_ble_eq_true rfl) hl.1.1 dX6_run_47 (fun u47 σ47 q47 => ?_)
      show tm_J p l e R s m args below meth c K tm_xM 1 _ _ (F0 m 50 ls [tm_iv u47])
      refine tm_if_ne (tgt := 55) cx q47 dX6_run_50 (by decide) (fun c50 => ?_) (fun c50 => ?_)
      · refine tm_iconst cx dX6_run_53 ?_
        exact tm_ireturn cx (by decide) dX6_run_54
      · refine tm_aload_n cx dX6_run_55 (tm_has_at hl 0 rfl) ?_
        refine tm_aload_n cx dX6_run_56 (tm_has_at hl 0 rfl) ?_
        refine tg_X6_159 cx dX6_run_57 (fun q57 => ?_)
        refine tm_if_le (tgt := 67) cx q57 dX6_run_60 (by decide) (fun c60 => ?_) (fun c60 => ?_)
        · refine tm_iconst cx dX6_run_63 ?_
          refine tm_goto (tgt := 68) cx dX6_run_64 (by decide) ?_
          refine tp_X6_186 cx (by decide) dX6_run_68 ?_
          refine tm_iinc (lv' := [(2, tm_iv (v2 + 1)), (0, tm_rv K 0), (1, tm_iv v1)]) cx dX6_run_71 hl (j := 2) rfl (by decide) (by decide) rfl (fun q71 ls hl => ?_)
          refine tm_goto (tgt := 34) cx dX6_run_74 (by decide) ?_
          exact h34 v1 (v2 + 1) _ _ g1 q71 (tm_has_sub hl [1, 2, 0] rfl)
        · refine tm_iconst cx dX6_run_67 ?_
          refine tp_X6_186 cx (by decide) dX6_run_68 ?_
          refine tm_iinc (lv' := [(2, tm_iv (v2 + 1)), (0, tm_rv K 0), (1, tm_iv v1)]) cx dX6_run_71 hl (j := 2) rfl (by decide) (by decide) rfl (fun q71 ls hl => ?_)
          refine tm_goto (tgt := 34) cx dX6_run_74 (by decide) ?_
          exact h34 v1 (v2 + 1) _ _ g1 q71 (tm_has_sub hl [1, 2, 0] rfl)
    · refine tm_iconst cx dX6_run_77 ?_
      exact tm_ireturn cx (by decide) dX6_run_78
  · refine tm_iconst cx dX6_run_77 ?_
    exact tm_ireturn cx (by decide) dX6_run_78
def fm_run_L34 : Nat → Int → Int → tm_S → tm_R
  | 0, _, _, _ => none
  | n + 1, v1, v2, σ => fm_run_B34 (fm_run_L34 n) v1 v2 σ
theorem wm_run_L34 {p : Program} {l : Launch} {e : Env} {R : Room} {s : State} {m : MethodId} {args : Array Value} {below : List Frame} {meth : Method} {c : Code} {K : tm_K} (cx : tm_C p l R s m args meth c K cX6_run 3 RX6 "run" (some .int) 16 366) : ∀ (n : Nat) (v1 : Int) (v2 : Int) (σ : tm_S) (ls : Array Slot), tm_in v1 → tm_in v2 → tm_has 0 ls 3 [(0, tm_rv K 0), (1, tm_iv v1), (2, tm_iv v2)] → tm_J p l e R s m args below meth c K tm_xM 1 (fm_run_L34 n v1 v2 σ) σ (F0 m 34 ls []) := by
  intro n
  induction n with
  | zero => intros; exact tm_none
  | succ n ih =>
    intro v1 v2 σ ls g1 g2 hl
    exact wm_run_B34 (r34 := fm_run_L34 n) cx ih v1 v2 σ ls g1 g2 hl
def fm_run (a1 : Int) (σ : tm_S) : tm_R :=
  if a1 < 1 then
    fm_run_L34 tm_FU a1 0 (tm_wf σ 448 0 1)
  else
    if 500 < a1 then
      fm_run_L34 tm_FU a1 0 (tm_wf σ 448 0 1)
    else
      if 0 < (tm_f σ 453 0) then
        fm_run_L34 tm_FU a1 0 (tm_wf σ 448 0 2)
      else
        fm_run_L34 tm_FU a1 0 (tm_wf σ 448 0 0)
theorem tm_fits_X6_run (K : tm_K) (a1 : Int) : (lg_sl [tm_rv K 0, tm_iv a1]).length ≤ 2 := (tm_sl_r _ _ _ _ (tm_sl_i _ _ _ (tm_sl_n _)))
theorem cm_run (K : tm_K) (l : Launch) (hst : l.stackTraces = false) (a1 : Int) (g1 : tm_in a1) : tm_ct K tm_xM l yX6_run cX6_run 3 (some .int) 1 [tm_rv K 0, tm_iv a1] (fm_run a1) 16 366 := by
  refine tm_ct_of hst (by decide +kernel) (Nat.le_trans (tm_fits_X6_run K a1) (Nat.le_of_ble_eq_true rfl)) ?_
  intro p e R s m args below meth c cx σ ls hl0
  have hl : tm_has 0 ls 3 [(0, tm_rv K 0), (1, tm_iv a1)] := ⟨by
    have h9 := hl0
    simp only [tm_args_r, tm_args_i, tm_args_n, Nat.zero_add, Nat.reduceAdd] at h9
    exact h9, by
    intro q hq
    simp only [List.mem_cons, List.not_mem_nil, or_false] at hq
    rcases hq with rfl | rfl
    · exact Or.inl (tm_rv_cat K 0)
    · exact Or.inl rfl⟩
  clear hl0
  unfold fm_run
  refine tm_aload_n cx dX6_run_0 (tm_has_at hl 0 rfl) ?_
  refine tm_iload_n cx dX6_run_1 (tm_has_at hl 1 rfl) ?_
  refine tm_iconst cx dX6_run_2 ?_
  refine tm_icmp_lt (tgt := 13) cx g1 (by decide) dX6_run_3 (by decide) (fun c3 => ?_) (fun c3 => ?_)
  · refine tm_iconst cx dX6_run_13 ?_
    refine tm_goto (tgt := 29) cx dX6_run_14 (by decide) ?_
    refine tp_X6_186 cx (by decide) dX6_run_29 ?_
    refine tm_iconst cx dX6_run_32 ?_
    refine tm_istore_n (lv' := [(2, tm_iv 0), (0, tm_rv K 0), (1, tm_iv a1)]) cx dX6_run_33 hl (by decide) (by decide) rfl (fun ls hl => ?_)
    exact wm_run_L34 cx tm_FU a1 0 _ _ g1 (by decide) (tm_has_sub hl [1, 2, 0] rfl)
  · refine tm_iload_n cx dX6_run_6 (tm_has_at hl 1 rfl) ?_
    refine tm_sipush cx dX6_run_7 (by decide) ?_
    refine tm_icmp_le (tgt := 17) cx g1 (by decide) dX6_run_10 (by decide) (fun c10 => ?_) (fun c10 => ?_)
    · refine tm_iconst cx dX6_run_13 ?_
      refine tm_goto (tgt := 29) cx dX6_run_14 (by decide) ?_
      refine tp_X6_186 cx (by decide) dX6_run_29 ?_
      refine tm_iconst cx dX6_run_32 ?_
      refine tm_istore_n (lv' := [(2, tm_iv 0), (0, tm_rv K 0), (1, tm_iv a1)]) cx dX6_run_33 hl (by decide) (by decide) rfl (fun ls hl => ?_)
      exact wm_run_L34 cx tm_FU a1 0 _ _ g1 (by decide) (tm_has_sub hl [1, 2, 0] rfl)
    · refine tm_aload_n cx dX6_run_17 (tm_has_at hl 0 rfl) ?_
      refine tg_X6_159 cx dX6_run_18 (fun q18 => ?_)
      refine tm_if_le (tgt := 28) cx q18 dX6_run_21 (by decide) (fun c21 => ?_) (fun c21 => ?_)
      · refine tm_iconst cx dX6_run_24 ?_
        refine tm_goto (tgt := 29) cx dX6_run_25 (by decide) ?_
        refine tp_X6_186 cx (by decide) dX6_run_29 ?_
        refine tm_iconst cx dX6_run_32 ?_
        refine tm_istore_n (lv' := [(2, tm_iv 0), (0, tm_rv K 0), (1, tm_iv a1)]) cx dX6_run_33 hl (by decide) (by decide) rfl (fun ls hl => ?_)
        exact wm_run_L34 cx tm_FU a1 0 _ _ g1 (by decide) (tm_has_sub hl [1, 2, 0] rfl)
      · refine tm_iconst cx dX6_run_28 ?_
        refine tp_X6_186 cx (by decide) dX6_run_29 ?_
        refine tm_iconst cx dX6_run_32 ?_
        refine tm_istore_n (lv' := [(2, tm_iv 0), (0, tm_rv K 0), (1, tm_iv a1)]) cx dX6_run_33 hl (by decide) (by decide) rfl (fun ls hl => ?_)
        exact wm_run_L34 cx tm_FU a1 0 _ _ g1 (by decide) (tm_has_sub hl [1, 2, 0] rfl)
def fm_fails (σ : tm_S) : tm_R :=
  tm_rt 0 (tm_wf σ 448 0 1)
theorem tm_fits_X6_fails (K : tm_K) : (lg_sl [tm_rv K 0]).length ≤ 1 := (tm_sl_r _ _ _ _ (tm_sl_n _))
theorem cm_fails (K : tm_K) (l : Launch) (hst : l.stackTraces = false) : tm_ct K tm_xM l yX6_fails cX6_fails 1 (some .int) 1 [tm_rv K 0] (fm_fails) 0 0 := by
  refine tm_ct_of hst (by decide +kernel) (Nat.le_trans (tm_fits_X6_fails K) (Nat.le_of_ble_eq_true rfl)) ?_
  intro p e R s m args below meth c cx σ ls hl0
  have hl : tm_has 0 ls 1 [(0, tm_rv K 0)] := ⟨by
    have h9 := hl0
    simp only [tm_args_r, tm_args_n, Nat.zero_add, Nat.reduceAdd] at h9
    exact h9, by
    intro q hq
    simp only [List.mem_cons, List.not_mem_nil, or_false] at hq
    rcases hq with rfl
    · exact Or.inl (tm_rv_cat K 0)⟩
  clear hl0
  unfold fm_fails
  refine tm_aload_n cx dX6_fails_0 (tm_has_at hl 0 rfl) ?_
  refine tm_iconst cx dX6_fails_1 ?_
  refine tp_X6_186 cx (by decide) dX6_fails_2 ?_
  refine tm_iconst cx dX6_fails_5 ?_
  exact tm_ireturn cx (by decide) dX6_fails_6
def fm_fault (a1 : Int) (σ : tm_S) : tm_R :=
  if a1 = 0 then
    tm_rt (tm_f (tm_wf σ 448 0 0) 453 0) (tm_wf σ 448 0 0)
  else
    if a1 = 1 then
      tm_rt (tm_f (tm_wf σ 448 0 0) 451 0) (tm_wf σ 448 0 0)
    else
      tm_bd (fm_fails (tm_wf σ 448 0 0)) fun u29 σ29 =>
      tm_rt u29 σ29
theorem tm_fits_X6_fault (K : tm_K) (a1 : Int) : (lg_sl [tm_rv K 0, tm_iv a1]).length ≤ 2 := (tm_sl_r _ _ _ _ (tm_sl_i _ _ _ (tm_sl_n _)))
theorem cm_fault (K : tm_K) (l : Launch) (hst : l.stackTraces = false) (a1 : Int) (g1 : tm_in a1) : tm_ct K tm_xM l yX6_fault cX6_fault 2 (some .int) 1 [tm_rv K 0, tm_iv a1] (fm_fault a1) 1 20 := by
  refine tm_ct_of hst (by decide +kernel) (Nat.le_trans (tm_fits_X6_fault K a1) (Nat.le_of_ble_eq_true rfl)) ?_
  intro p e R s m args below meth c cx σ ls hl0
  have hl : tm_has 0 ls 2 [(0, tm_rv K 0), (1, tm_iv a1)] := ⟨by
    have h9 := hl0
    simp only [tm_args_r, tm_args_i, tm_args_n, Nat.zero_add, Nat.reduceAdd] at h9
    exact h9, by
    intro q hq
    simp only [List.mem_cons, List.not_mem_nil, or_false] at hq
    rcases hq with rfl | rfl
    · exact Or.inl (tm_rv_cat K 0)
    · exact Or.inl rfl⟩
  clear hl0
  unfold fm_fault
  refine tm_aload_n cx dX6_fault_0 (tm_has_at hl 0 rfl) ?_
  refine tm_iconst cx dX6_fault_1 ?_
  refine tp_X6_186 cx (by decide) dX6_fault_2 ?_
  refine tm_iload_n cx dX6_fault_5 (tm_has_at hl 1 rfl) ?_
  refine tm_if_ne (tgt := 16) cx g1 dX6_fault_6 (by decide) (fun c6 => ?_) (fun c6 => ?_)
  · refine tm_aload_n cx dX6_fault_9 (tm_has_at hl 0 rfl) ?_
    refine tg_X6_159 cx dX6_fault_10 (fun q10 => ?_)
    refine tm_goto (tgt := 32) cx dX6_fault_13 (by decide) ?_
    exact tm_ireturn cx q10 dX6_fault_32
  · refine tm_iload_n cx dX6_fault_16 (tm_has_at hl 1 rfl) ?_
    refine tm_iconst cx dX6_fault_17 ?_
    refine tm_icmp_ne (tgt := 28) cx g1 (by decide) dX6_fault_18 (by decide) (fun c18 => ?_) (fun c18 => ?_)
    · refine tm_aload_n cx dX6_fault_21 (tm_has_at hl 0 rfl) ?_
      refine tg_X6_153 cx dX6_fault_22 (fun q22 => ?_)
      refine tm_goto (tgt := 32) cx dX6_fault_25 (by decide) ?_
      exact tm_ireturn cx q22 dX6_fault_32
    · refine tm_aload_n cx dX6_fault_28 (tm_has_at hl 0 rfl) ?_
      refine tm_callV (n := 0) cx (cm_fails K l (tm_hst cx)) (lw_V q1441 q1443 qs92 q113 q1444) ⟨rfl, by decide +kernel, by decide +kernel, by decide +kernel⟩ rfl tm_cd_X6 (fun h => (tm_hM_0 h).1) ⟨Nat.le_of_ble_eq_true rfl, Nat.le_of_ble_eq_true rfl⟩ rfl (Nat.le_of_ble_eq_true rfl) hl.1.1 dX6_fault_29 (fun u29 σ29 q29 => ?_)
      show tm_J p l e R s m args below meth c K tm_xM 1 _ _ (F0 m 32 ls [tm_iv u29])
      exact tm_ireturn cx q29 dX6_fault_32
def fm_out_J17 (σ : tm_S) : tm_R :=
  tm_bd (fm_fails σ) fun u18 σ18 =>
  tm_rt u18 σ18
theorem wm_out_J17 {p : Program} {l : Launch} {e : Env} {R : Room} {s : State} {m : MethodId} {args : Array Value} {below : List Frame} {meth : Method} {c : Code} {K : tm_K} (cx : tm_C p l R s m args meth c K cX6_out 2 RX6 "out" (some .int) 1 20) (σ : tm_S) (ls : Array Slot) (hl : tm_has 0 ls 2 [(0, tm_rv K 0)]) : tm_J p l e R s m args below meth c K tm_xM 1 (fm_out_J17 σ) σ (F0 m 17 ls []) := by
  unfold fm_out_J17
  refine tm_aload_n cx dX6_out_17 (tm_has_at hl 0 rfl) ?_
  refine tm_callV (n := 0) cx (cm_fails K l (tm_hst cx)) (lw_V q1441 q1443 qs92 q113 q1444) ⟨rfl, by decide +kernel, by decide +kernel, by decide +kernel⟩ rfl tm_cd_X6 (fun h => (tm_hM_0 h).1) ⟨Nat.le_of_ble_eq_true rfl, Nat.le_of_ble_eq_true rfl⟩ rfl (Nat.le_of_ble_eq_true rfl) hl.1.1 dX6_out_18 (fun u18 σ18 q18 => ?_)
  show tm_J p l e R s m args below meth c K tm_xM 1 _ _ (F0 m 21 ls [tm_iv u18])
  refine tm_goto (tgt := 30) cx dX6_out_21 (by decide) ?_
  exact tm_ireturn cx q18 dX6_out_30
def fm_out (a1 : Int) (σ : tm_S) : tm_R :=
  if a1 < 0 then
    fm_out_J17 (tm_wf σ 448 0 0)
  else
    if a1 < (tm_f (tm_wf σ 448 0 0) 485 0) then
      tm_gx a1 200 <|
      tm_rt (tm_a (tm_wf σ 448 0 0) 138 a1) (tm_wf σ 448 0 0)
    else
      fm_out_J17 (tm_wf σ 448 0 0)
theorem tm_fits_X6_out (K : tm_K) (a1 : Int) : (lg_sl [tm_rv K 0, tm_iv a1]).length ≤ 2 := (tm_sl_r _ _ _ _ (tm_sl_i _ _ _ (tm_sl_n _)))
theorem cm_out (K : tm_K) (l : Launch) (hst : l.stackTraces = false) (a1 : Int) (g1 : tm_in a1) : tm_ct K tm_xM l yX6_out cX6_out 2 (some .int) 1 [tm_rv K 0, tm_iv a1] (fm_out a1) 1 20 := by
  refine tm_ct_of hst (by decide +kernel) (Nat.le_trans (tm_fits_X6_out K a1) (Nat.le_of_ble_eq_true rfl)) ?_
  intro p e R s m args below meth c cx σ ls hl0
  have hl : tm_has 0 ls 2 [(0, tm_rv K 0), (1, tm_iv a1)] := ⟨by
    have h9 := hl0
    simp only [tm_args_r, tm_args_i, tm_args_n, Nat.zero_add, Nat.reduceAdd] at h9
    exact h9, by
    intro q hq
    simp only [List.mem_cons, List.not_mem_nil, or_false] at hq
    rcases hq with rfl | rfl
    · exact Or.inl (tm_rv_cat K 0)
    · exact Or.inl rfl⟩
  clear hl0
  unfold fm_out
  refine tm_aload_n cx dX6_out_0 (tm_has_at hl 0 rfl) ?_
  refine tm_iconst cx dX6_out_1 ?_
  refine tp_X6_186 cx (by decide) dX6_out_2 ?_
  refine tm_iload_n cx dX6_out_5 (tm_has_at hl 1 rfl) ?_
  refine tm_if_lt (tgt := 17) cx g1 dX6_out_6 (by decide) (fun c6 => ?_) (fun c6 => ?_)
  · exact wm_out_J17 cx _ _ (tm_has_sub hl [0] rfl)
  · refine tm_iload_n cx dX6_out_9 (tm_has_at hl 1 rfl) ?_
    refine tm_aload_n cx dX6_out_10 (tm_has_at hl 0 rfl) ?_
    refine tg_X6_183 cx dX6_out_11 (fun q11 => ?_)
    refine tm_icmp_lt (tgt := 24) cx g1 q11 dX6_out_14 (by decide) (fun c14 => ?_) (fun c14 => ?_)
    · refine tm_aload_n cx dX6_out_24 (tm_has_at hl 0 rfl) ?_
      refine tg_X6_77 cx dX6_out_25 ?_
      refine tm_iload_n cx dX6_out_28 (tm_has_at hl 1 rfl) ?_
      refine tm_iald cx tm_hM_138 g1 dX6_out_29 (fun i29 q29 => ?_)
      exact tm_ireturn cx q29 dX6_out_30
    · exact wm_out_J17 cx _ _ (tm_has_sub hl [0] rfl)
def fm_count (a1 : Int) (σ : tm_S) : tm_R :=
  if a1 = 0 then
    tm_rt (tm_f (tm_wf σ 448 0 0) 485 0) (tm_wf σ 448 0 0)
  else
    if a1 = 1 then
      tm_rt (tm_f (tm_wf σ 448 0 0) 454 0) (tm_wf σ 448 0 0)
    else
      if a1 = 2 then
        tm_rt (tm_f (tm_wf σ 448 0 0) 466 0) (tm_wf σ 448 0 0)
      else
        if a1 = 3 then
          tm_rt (tm_f (tm_wf σ 448 0 0) 477 0) (tm_wf σ 448 0 0)
        else
          if a1 = 4 then
            tm_rt (tm_f (tm_wf σ 448 0 0) 471 0) (tm_wf σ 448 0 0)
          else
            tm_bd (fm_fails (tm_wf σ 448 0 0)) fun u65 σ65 =>
            tm_rt u65 σ65
theorem tm_fits_X6_count (K : tm_K) (a1 : Int) : (lg_sl [tm_rv K 0, tm_iv a1]).length ≤ 2 := (tm_sl_r _ _ _ _ (tm_sl_i _ _ _ (tm_sl_n _)))
theorem cm_count (K : tm_K) (l : Launch) (hst : l.stackTraces = false) (a1 : Int) (g1 : tm_in a1) : tm_ct K tm_xM l yX6_count cX6_count 2 (some .int) 1 [tm_rv K 0, tm_iv a1] (fm_count a1) 1 20 := by
  refine tm_ct_of hst (by decide +kernel) (Nat.le_trans (tm_fits_X6_count K a1) (Nat.le_of_ble_eq_true rfl)) ?_
  intro p e R s m args below meth c cx σ ls hl0
  have hl : tm_has 0 ls 2 [(0, tm_rv K 0), (1, tm_iv a1)] := ⟨by
    have h9 := hl0
    simp only [tm_args_r, tm_args_i, tm_args_n, Nat.zero_add, Nat.reduceAdd] at h9
    exact h9, by
    intro q hq
    simp only [List.mem_cons, List.not_mem_nil, or_false] at hq
    rcases hq with rfl | rfl
    · exact Or.inl (tm_rv_cat K 0)
    · exact Or.inl rfl⟩
  clear hl0
  unfold fm_count
  refine tm_aload_n cx dX6_count_0 (tm_has_at hl 0 rfl) ?_
  refine tm_iconst cx dX6_count_1 ?_
  refine tp_X6_186 cx (by decide) dX6_count_2 ?_
  refine tm_iload_n cx dX6_count_5 (tm_has_at hl 1 rfl) ?_
  refine tm_if_ne (tgt := 16) cx g1 dX6_count_6 (by decide) (fun c6 => ?_) (fun c6 => ?_)
  · refine tm_aload_n cx dX6_count_9 (tm_has_at hl 0 rfl) ?_
    refine tg_X6_183 cx dX6_count_10 (fun q10 => ?_)
    refine tm_goto (tgt := 68) cx dX6_count_13 (by decide) ?_
    exact tm_ireturn cx q10 dX6_count_68
  · refine tm_iload_n cx dX6_count_16 (tm_has_at hl 1 rfl) ?_
    refine tm_iconst cx dX6_count_17 ?_
    refine tm_icmp_ne (tgt := 28) cx g1 (by decide) dX6_count_18 (by decide) (fun c18 => ?_) (fun c18 => ?_)
    · refine tm_aload_n cx dX6_count_21 (tm_has_at hl 0 rfl) ?_
      refine tg_X6_162 cx dX6_count_22 (fun q22 => ?_)
      refine tm_goto (tgt := 68) cx dX6_count_25 (by decide) ?_
      exact tm_ireturn cx q22 dX6_count_68
    · refine tm_iload_n cx dX6_count_28 (tm_has_at hl 1 rfl) ?_
      refine tm_iconst cx dX6_count_29 ?_
      refine tm_icmp_ne (tgt := 40) cx g1 (by decide) dX6_count_30 (by decide) (fun c30 => ?_) (fun c30 => ?_)
      · refine tm_aload_n cx dX6_count_33 (tm_has_at hl 0 rfl) ?_
        refine tg_X6_168 cx dX6_count_34 (fun q34 => ?_)
        refine tm_goto (tgt := 68) cx dX6_count_37 (by decide) ?_
        exact tm_ireturn cx q34 dX6_count_68
      · refine tm_iload_n cx dX6_count_40 (tm_has_at hl 1 rfl) ?_
        refine tm_iconst cx dX6_count_41 ?_
        refine tm_icmp_ne (tgt := 52) cx g1 (by decide) dX6_count_42 (by decide) (fun c42 => ?_) (fun c42 => ?_)
        · refine tm_aload_n cx dX6_count_45 (tm_has_at hl 0 rfl) ?_
          refine tg_X6_177 cx dX6_count_46 (fun q46 => ?_)
          refine tm_goto (tgt := 68) cx dX6_count_49 (by decide) ?_
          exact tm_ireturn cx q46 dX6_count_68
        · refine tm_iload_n cx dX6_count_52 (tm_has_at hl 1 rfl) ?_
          refine tm_iconst cx dX6_count_53 ?_
          refine tm_icmp_ne (tgt := 64) cx g1 (by decide) dX6_count_54 (by decide) (fun c54 => ?_) (fun c54 => ?_)
          · refine tm_aload_n cx dX6_count_57 (tm_has_at hl 0 rfl) ?_
            refine tg_X6_174 cx dX6_count_58 (fun q58 => ?_)
            refine tm_goto (tgt := 68) cx dX6_count_61 (by decide) ?_
            exact tm_ireturn cx q58 dX6_count_68
          · refine tm_aload_n cx dX6_count_64 (tm_has_at hl 0 rfl) ?_
            refine tm_callV (n := 0) cx (cm_fails K l (tm_hst cx)) (lw_V q1441 q1443 qs92 q113 q1444) ⟨rfl, by decide +kernel, by decide +kernel, by decide +kernel⟩ rfl tm_cd_X6 (fun h => (tm_hM_0 h).1) ⟨Nat.le_of_ble_eq_true rfl, Nat.le_of_ble_eq_true rfl⟩ rfl (Nat.le_of_ble_eq_true rfl) hl.1.1 dX6_count_65 (fun u65 σ65 q65 => ?_)
            show tm_J p l e R s m args below meth c K tm_xM 1 _ _ (F0 m 68 ls [tm_iv u65])
            exact tm_ireturn cx q65 dX6_count_68
def fm_category_J32 (σ : tm_S) : tm_R :=
  tm_bd (fm_fails σ) fun u33 σ33 =>
  tm_rt u33 σ33
theorem wm_category_J32 {p : Program} {l : Launch} {e : Env} {R : Room} {s : State} {m : MethodId} {args : Array Value} {below : List Frame} {meth : Method} {c : Code} {K : tm_K} (cx : tm_C p l R s m args meth c K cX6_category 2 RX6 "category" (some .int) 1 20) (σ : tm_S) (ls : Array Slot) (hl : tm_has 0 ls 2 [(0, tm_rv K 0)]) : tm_J p l e R s m args below meth c K tm_xM 1 (fm_category_J32 σ) σ (F0 m 32 ls []) := by
  unfold fm_category_J32
  refine tm_aload_n cx dX6_category_32 (tm_has_at hl 0 rfl) ?_
  refine tm_callV (n := 0) cx (cm_fails K l (tm_hst cx)) (lw_V q1441 q1443 qs92 q113 q1444) ⟨rfl, by decide +kernel, by decide +kernel, by decide +kernel⟩ rfl tm_cd_X6 (fun h => (tm_hM_0 h).1) ⟨Nat.le_of_ble_eq_true rfl, Nat.le_of_ble_eq_true rfl⟩ rfl (Nat.le_of_ble_eq_true rfl) hl.1.1 dX6_category_33 (fun u33 σ33 q33 => ?_)
  show tm_J p l e R s m args below meth c K tm_xM 1 _ _ (F0 m 36 ls [tm_iv u33])
  exact tm_ireturn cx q33 dX6_category_36
def fm_category (a1 : Int) (σ : tm_S) : tm_R :=
  if a1 = 10 then
    tm_gx a1 128 <|
    tm_rt (tm_a (tm_wf σ 448 0 0) 108 a1) (tm_wf σ 448 0 0)
  else
    if 31 < a1 then
      if a1 < 127 then
        tm_gx a1 128 <|
        tm_rt (tm_a (tm_wf σ 448 0 0) 108 a1) (tm_wf σ 448 0 0)
      else
        fm_category_J32 (tm_wf σ 448 0 0)
    else
      fm_category_J32 (tm_wf σ 448 0 0)
theorem tm_fits_X6_category (K : tm_K) (a1 : Int) : (lg_sl [tm_rv K 0, tm_iv a1]).length ≤ 2 := (tm_sl_r _ _ _ _ (tm_sl_i _ _ _ (tm_sl_n _)))
theorem cm_category (K : tm_K) (l : Launch) (hst : l.stackTraces = false) (a1 : Int) (g1 : tm_in a1) : tm_ct K tm_xM l yX6_category cX6_category 2 (some .int) 1 [tm_rv K 0, tm_iv a1] (fm_category a1) 1 20 := by
  refine tm_ct_of hst (by decide +kernel) (Nat.le_trans (tm_fits_X6_category K a1) (Nat.le_of_ble_eq_true rfl)) ?_
  intro p e R s m args below meth c cx σ ls hl0
  have hl : tm_has 0 ls 2 [(0, tm_rv K 0), (1, tm_iv a1)] := ⟨by
    have h9 := hl0
    simp only [tm_args_r, tm_args_i, tm_args_n, Nat.zero_add, Nat.reduceAdd] at h9
    exact h9, by
    intro q hq
    simp only [List.mem_cons, List.not_mem_nil, or_false] at hq
    rcases hq with rfl | rfl
    · exact Or.inl (tm_rv_cat K 0)
    · exact Or.inl rfl⟩
  clear hl0
  unfold fm_category
  refine tm_aload_n cx dX6_category_0 (tm_has_at hl 0 rfl) ?_
  refine tm_iconst cx dX6_category_1 ?_
  refine tp_X6_186 cx (by decide) dX6_category_2 ?_
  refine tm_iload_n cx dX6_category_5 (tm_has_at hl 1 rfl) ?_
  refine tm_bipush cx dX6_category_6 (by decide) ?_
  refine tm_icmp_eq (tgt := 23) cx g1 (by decide) dX6_category_8 (by decide) (fun c8 => ?_) (fun c8 => ?_)
  · refine tm_aload_n cx dX6_category_23 (tm_has_at hl 0 rfl) ?_
    refine tg_X6_13 cx dX6_category_24 ?_
    refine tm_iload_n cx dX6_category_27 (tm_has_at hl 1 rfl) ?_
    refine tm_iald cx tm_hM_108 g1 dX6_category_28 (fun i28 q28 => ?_)
    refine tm_goto (tgt := 36) cx dX6_category_29 (by decide) ?_
    exact tm_ireturn cx q28 dX6_category_36
  · refine tm_iload_n cx dX6_category_11 (tm_has_at hl 1 rfl) ?_
    refine tm_bipush cx dX6_category_12 (by decide) ?_
    refine tm_icmp_le (tgt := 32) cx g1 (by decide) dX6_category_14 (by decide) (fun c14 => ?_) (fun c14 => ?_)
    · refine tm_iload_n cx dX6_category_17 (tm_has_at hl 1 rfl) ?_
      refine tm_bipush cx dX6_category_18 (by decide) ?_
      refine tm_icmp_ge (tgt := 32) cx g1 (by decide) dX6_category_20 (by decide) (fun c20 => ?_) (fun c20 => ?_)
      · refine tm_aload_n cx dX6_category_23 (tm_has_at hl 0 rfl) ?_
        refine tg_X6_13 cx dX6_category_24 ?_
        refine tm_iload_n cx dX6_category_27 (tm_has_at hl 1 rfl) ?_
        refine tm_iald cx tm_hM_108 g1 dX6_category_28 (fun i28 q28 => ?_)
        refine tm_goto (tgt := 36) cx dX6_category_29 (by decide) ?_
        exact tm_ireturn cx q28 dX6_category_36
      · exact wm_category_J32 cx _ _ (tm_has_sub hl [0] rfl)
    · exact wm_category_J32 cx _ _ (tm_has_sub hl [0] rfl)
