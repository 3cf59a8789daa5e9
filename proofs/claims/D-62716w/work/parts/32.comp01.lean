set_option maxRecDepth 100000
def fc_isAlphabetic_J12 (v0 : Int) (σ : tm_S) : tm_R :=
  if v0 < 65 then
    tm_rt 0 σ
  else
    if 90 < v0 then
      tm_rt 0 σ
    else
      tm_rt 1 σ
theorem wc_isAlphabetic_J12 {p : Program} {l : Launch} {e : Env} {R : Room} {s : State} {m : MethodId} {args : Array Value} {below : List Frame} {meth : Method} {c : Code} {K : tm_K} (cx : tm_C p l R s m args meth c K cX1_isAlphabetic 1 RX1 "isAlphabetic" (some .boolean) 0 0) (v0 : Int) (σ : tm_S) (ls : Array Slot) (g0 : tm_in v0) (hl : tm_has 0 ls 1 [(0, tm_iv v0)]) : tm_J p l e R s m args below meth c K tm_xC 1 (fc_isAlphabetic_J12 v0 σ) σ (F0 m 12 ls []) := by
  unfold fc_isAlphabetic_J12
  refine tm_iload_n cx dX1_isAlphabetic_12 (tm_has_at hl 0 rfl) ?_
  refine tm_bipush cx dX1_isAlphabetic_13 (by decide) ?_
  refine tm_icmp_lt (tgt := 28) cx g0 (by decide) dX1_isAlphabetic_15 (by decide) (fun c15 => ?_) (fun c15 => ?_)
  · refine tm_iconst cx dX1_isAlphabetic_28 ?_
    exact tm_zreturn cx (by decide) dX1_isAlphabetic_29
  · refine tm_iload_n cx dX1_isAlphabetic_18 (tm_has_at hl 0 rfl) ?_
    refine tm_bipush cx dX1_isAlphabetic_19 (by decide) ?_
    refine tm_icmp_gt (tgt := 28) cx g0 (by decide) dX1_isAlphabetic_21 (by decide) (fun c21 => ?_) (fun c21 => ?_)
    · refine tm_iconst cx dX1_isAlphabetic_28 ?_
      exact tm_zreturn cx (by decide) dX1_isAlphabetic_29
    · refine tm_iconst cx dX1_isAlphabetic_24 ?_
      refine tm_goto (tgt := 29) cx dX1_isAlphabetic_25 (by decide) ?_
      exact tm_zreturn cx (by decide) dX1_isAlphabetic_29
def fc_isAlphabetic (a1 : Int) (σ : tm_S) : tm_R :=
  if a1 < 97 then
    fc_isAlphabetic_J12 a1 σ
  else
    if 122 < a1 then
      fc_isAlphabetic_J12 a1 σ
    else
      tm_rt 1 σ
theorem tm_fits_X1_isAlphabetic (K : tm_K) (a1 : Int) : (lg_sl [tm_iv a1]).length ≤ 1 := (tm_sl_i _ _ _ (tm_sl_n _))
theorem cc_isAlphabetic (K : tm_K) (l : Launch) (hst : l.stackTraces = false) (a1 : Int) (g1 : tm_in a1) : tm_ct K tm_xC l yX1_isAlphabetic cX1_isAlphabetic 1 (some .boolean) 1 [tm_iv a1] (fc_isAlphabetic a1) 0 0 := by
  refine tm_ct_of hst (by decide +kernel) (Nat.le_trans (tm_fits_X1_isAlphabetic K a1) (Nat.le_of_ble_eq_true rfl)) ?_
  intro p e R s m args below meth c cx σ ls hl0
  have hl : tm_has 0 ls 1 [(0, tm_iv a1)] := ⟨by
    have h9 := hl0
    simp only [tm_args_i, tm_args_n, Nat.zero_add, Nat.reduceAdd] at h9
    exact h9, by
    intro q hq
    simp only [List.mem_cons, List.not_mem_nil, or_false] at hq
    rcases hq with rfl
    · exact Or.inl rfl⟩
  clear hl0
  unfold fc_isAlphabetic
  refine tm_iload_n cx dX1_isAlphabetic_0 (tm_has_at hl 0 rfl) ?_
  refine tm_bipush cx dX1_isAlphabetic_1 (by decide) ?_
  refine tm_icmp_lt (tgt := 12) cx g1 (by decide) dX1_isAlphabetic_3 (by decide) (fun c3 => ?_) (fun c3 => ?_)
  · exact wc_isAlphabetic_J12 cx a1 _ _ g1 (tm_has_sub hl [0] rfl)
  · refine tm_iload_n cx dX1_isAlphabetic_6 (tm_has_at hl 0 rfl) ?_
    refine tm_bipush cx dX1_isAlphabetic_7 (by decide) ?_
    refine tm_icmp_le (tgt := 24) cx g1 (by decide) dX1_isAlphabetic_9 (by decide) (fun c9 => ?_) (fun c9 => ?_)
    · exact wc_isAlphabetic_J12 cx a1 _ _ g1 (tm_has_sub hl [0] rfl)
    · refine tm_iconst cx dX1_isAlphabetic_24 ?_
      refine tm_goto (tgt := 29) cx dX1_isAlphabetic_25 (by decide) ?_
      exact tm_zreturn cx (by decide) dX1_isAlphabetic_29
def fc_begin_B185 (r185 : Int → tm_S → tm_R) (v1 : Int) (σ : tm_S) : tm_R :=
  if v1 < 18 then
    tm_bd (fc_J3_get 106 v1 σ) fun u199 σ199 =>
    tm_gk (tm_k σ199 u199) 4 <|
    tm_gx v1 18 <|
    tm_gi (v1 + 1) <|
    r185 (v1 + 1) (tm_wf σ199 195 u199 (400 + v1))
  else
    tm_ls (tm_wf (tm_wf (tm_wf σ 10 0 0) 12 0 0) 13 0 0) fun τ10 =>
    tm_ls (tm_wf (tm_wf (tm_wf τ10 14 0 0) 15 0 0) 16 0 0) fun τ11 =>
    tm_rt 0 (tm_wf (tm_wf τ11 20 0 0) 22 0 0)
theorem wc_begin_B185 {p : Program} {l : Launch} {e : Env} {R : Room} {s : State} {m : MethodId} {args : Array Value} {below : List Frame} {meth : Method} {c : Code} {K : tm_K} {r185 : Int → tm_S → tm_R} (cx : tm_C p l R s m args meth c K cX1_begin 2 RX1 "begin" none 3 66) (h185 : ∀ (v1 : Int) (τ : tm_S) (ls : Array Slot), tm_in v1 → tm_has 0 ls 2 [(0, tm_rv K 0), (1, tm_iv v1)] → tm_J p l e R s m args below meth c K tm_xC 0 (r185 v1 τ) τ (F0 m 185 ls [])) (v1 : Int) (σ : tm_S) (ls : Array Slot) (g1 : tm_in v1) (hl : tm_has 0 ls 2 [(0, tm_rv K 0), (1, tm_iv v1)]) : tm_J p l e R s m args below meth c K tm_xC 0 (fc_begin_B185 r185 v1 σ) σ (F0 m 185 ls []) := by
  unfold fc_begin_B185
  refine tm_iload_n cx dX1_begin_185 (tm_has_at hl 1 rfl) ?_
  refine tm_aload_n cx dX1_begin_186 (tm_has_at hl 0 rfl) ?_
  refine tg_X1_22 cx dX1_begin_187 ?_
  refine tm_alen cx tm_hC_105 (by decide) dX1_begin_190 (fun q190 => ?_)
  refine tm_icmp_ge (tgt := 220) cx g1 (by decide) dX1_begin_191 (by decide) (fun c191 => ?_) (fun c191 => ?_)
  · refine tm_aload_n cx dX1_begin_194 (tm_has_at hl 0 rfl) ?_
    refine tg_X1_29 cx dX1_begin_195 ?_
    refine tm_iload_n cx dX1_begin_198 (tm_has_at hl 1 rfl) ?_
    refine tm_callV (n := 1) cx (cc_J3_get K l (tm_hst cx) 106 (by decide) v1 g1) (lw_V q371 q372 q373 q100 q374) ⟨rfl, by decide +kernel, by decide +kernel, by decide +kernel⟩ rfl tm_cd_J3 (fun h => (tm_hC_106 h).1) ⟨Nat.le_of_ble_eq_true rfl, Nat.le_of_ble_eq_true rfl⟩ rfl (Nat.le_of_ble_eq_true rfl) hl.1.1 dX1_begin_199 (fun u199 σ199 q199 => ?_)
    show tm_J p l e R s m args below meth c K tm_xC 0 _ _ (F0 m 202 ls [tm_rv K u199])
    refine tm_gk_ (fun k202 => ?_)
    refine tm_castO cx tm_cd_X5 (fun _ => k202) q213 dX1_begin_202 ?_
    refine tm_aload_n cx dX1_begin_205 (tm_has_at hl 0 rfl) ?_
    refine tg_X1_22 cx dX1_begin_206 ?_
    refine tm_iload_n cx dX1_begin_209 (tm_has_at hl 1 rfl) ?_
    refine tm_aald cx (by decide) tm_hC_105 g1 dX1_begin_210 (fun i210 q210 f210 => ?_)
    rw [tm_aC_105 f210 _ i210] at q210 ⊢
    refine tp_X1_114 cx (fun _ => k202) q210 dX1_begin_211 ?_
    refine tm_iinc (lv' := [(1, tm_iv (v1 + 1)), (0, tm_rv K 0)]) cx dX1_begin_214 hl (j := 1) rfl (by decide) (by decide) rfl (fun q214 ls hl => ?_)
    refine tm_goto (tgt := 185) cx dX1_begin_217 (by decide) ?_
    exact h185 (v1 + 1) _ _ q214 (tm_has_sub hl [1, 0] rfl)
  · refine tm_aload_n cx dX1_begin_220 (tm_has_at hl 0 rfl) ?_
    refine tm_iconst cx dX1_begin_221 ?_
    refine tp_X1_118 cx (by decide) dX1_begin_222 ?_
    refine tm_aload_n cx dX1_begin_225 (tm_has_at hl 0 rfl) ?_
    refine tm_iconst cx dX1_begin_226 ?_
    refine tp_X1_121 cx (by decide) dX1_begin_227 ?_
    refine tm_aload_n cx dX1_begin_230 (tm_has_at hl 0 rfl) ?_
    refine tm_iconst cx dX1_begin_231 ?_
    refine tp_X1_124 cx (by decide) dX1_begin_232 ?_
    refine tm_ls_ (fun τ10 => ?_)
    refine tm_aload_n cx dX1_begin_235 (tm_has_at hl 0 rfl) ?_
    refine tm_iconst cx dX1_begin_236 ?_
    refine tp_X1_127 cx (by decide) dX1_begin_237 ?_
    refine tm_aload_n cx dX1_begin_240 (tm_has_at hl 0 rfl) ?_
    refine tm_iconst cx dX1_begin_241 ?_
    refine tp_X1_130 cx (by decide) dX1_begin_242 ?_
    refine tm_aload_n cx dX1_begin_245 (tm_has_at hl 0 rfl) ?_
    refine tm_iconst cx dX1_begin_246 ?_
    refine tp_X1_133 cx (by decide) dX1_begin_247 ?_
    refine tm_ls_ (fun τ11 => ?_)
    refine tm_aload_n cx dX1_begin_250 (tm_has_at hl 0 rfl) ?_
    refine tm_iconst cx dX1_begin_251 ?_
    refine tp_X1_136 cx (by decide) dX1_begin_252 ?_
    refine tm_aload_n cx dX1_begin_255 (tm_has_at hl 0 rfl) ?_
    refine tm_iconst cx dX1_begin_256 ?_
    refine tp_X1_139 cx (by decide) dX1_begin_257 ?_
    exact tm_vreturn cx dX1_begin_260
def fc_begin_L185 : Nat → Int → tm_S → tm_R
  | 0, _, _ => none
  | n + 1, v1, σ => fc_begin_B185 (fc_begin_L185 n) v1 σ
theorem wc_begin_L185 {p : Program} {l : Launch} {e : Env} {R : Room} {s : State} {m : MethodId} {args : Array Value} {below : List Frame} {meth : Method} {c : Code} {K : tm_K} (cx : tm_C p l R s m args meth c K cX1_begin 2 RX1 "begin" none 3 66) : ∀ (n : Nat) (v1 : Int) (σ : tm_S) (ls : Array Slot), tm_in v1 → tm_has 0 ls 2 [(0, tm_rv K 0), (1, tm_iv v1)] → tm_J p l e R s m args below meth c K tm_xC 0 (fc_begin_L185 n v1 σ) σ (F0 m 185 ls []) := by
  intro n
  induction n with
  | zero => intros; exact tm_none
  | succ n ih =>
    intro v1 σ ls g1 hl
    exact wc_begin_B185 (r185 := fc_begin_L185 n) cx ih v1 σ ls g1 hl
def fc_begin_B148 (r148 : tm_S → tm_R) (σ : tm_S) : tm_R :=
  tm_bd (fc_J3_size 106 σ) fun u152 σ152 =>
  if 18 < u152 then
    tm_bd (fc_J3_size 106 σ152) fun u171 σ171 =>
    tm_gi (u171 - 1) <|
    tm_bd (fc_J3_remove 106 (u171 - 1) σ171) fun u176 σ176 =>
    r148 σ176
  else
    fc_begin_L185 tm_FU 0 σ152
theorem wc_begin_B148 {p : Program} {l : Launch} {e : Env} {R : Room} {s : State} {m : MethodId} {args : Array Value} {below : List Frame} {meth : Method} {c : Code} {K : tm_K} {r148 : tm_S → tm_R} (cx : tm_C p l R s m args meth c K cX1_begin 2 RX1 "begin" none 3 66) (h148 : ∀  (τ : tm_S) (ls : Array Slot), tm_has 0 ls 2 [(0, tm_rv K 0)] → tm_J p l e R s m args below meth c K tm_xC 0 (r148 τ) τ (F0 m 148 ls [])) (σ : tm_S) (ls : Array Slot) (hl : tm_has 0 ls 2 [(0, tm_rv K 0)]) : tm_J p l e R s m args below meth c K tm_xC 0 (fc_begin_B148 r148 σ) σ (F0 m 148 ls []) := by
  unfold fc_begin_B148
  refine tm_aload_n cx dX1_begin_148 (tm_has_at hl 0 rfl) ?_
  refine tg_X1_29 cx dX1_begin_149 ?_
  refine tm_callV (n := 0) cx (cc_J3_size K l (tm_hst cx) 106 (by decide)) (lw_V q354 q355 q356 q100 q357) ⟨rfl, by decide +kernel, by decide +kernel, by decide +kernel⟩ rfl tm_cd_J3 (fun h => (tm_hC_106 h).1) ⟨Nat.le_of_ble_eq_true rfl, Nat.le_of_ble_eq_true rfl⟩ rfl (Nat.le_of_ble_eq_true rfl) hl.1.1 dX1_begin_152 (fun u152 σ152 q152 => ?_)
  show tm_J p l e R s m args below meth c K tm_xC 0 _ _ (F0 m 155 ls [tm_iv u152])
  refine tm_aload_n cx dX1_begin_155 (tm_has_at hl 0 rfl) ?_
  refine tg_X1_22 cx dX1_begin_156 ?_
  refine tm_alen cx tm_hC_105 (by decide) dX1_begin_159 (fun q159 => ?_)
  refine tm_icmp_le (tgt := 183) cx q152 (by decide) dX1_begin_160 (by decide) (fun c160 => ?_) (fun c160 => ?_)
  · refine tm_aload_n cx dX1_begin_163 (tm_has_at hl 0 rfl) ?_
    refine tg_X1_29 cx dX1_begin_164 ?_
    refine tm_aload_n cx dX1_begin_167 (tm_has_at hl 0 rfl) ?_
    refine tg_X1_29 cx dX1_begin_168 ?_
    refine tm_callV (n := 0) cx (cc_J3_size K l (tm_hst cx) 106 (by decide)) (lw_V q354 q355 q356 q100 q357) ⟨rfl, by decide +kernel, by decide +kernel, by decide +kernel⟩ rfl tm_cd_J3 (fun h => (tm_hC_106 h).1) ⟨Nat.le_of_ble_eq_true rfl, Nat.le_of_ble_eq_true rfl⟩ rfl (Nat.le_of_ble_eq_true rfl) hl.1.1 dX1_begin_171 (fun u171 σ171 q171 => ?_)
    show tm_J p l e R s m args below meth c K tm_xC 0 _ _ (F0 m 174 ls [tm_iv u171, tm_rv K 106])
    refine tm_iconst cx dX1_begin_174 ?_
    refine tm_isub cx dX1_begin_175 (fun q175 => ?_)
    refine tm_callV (n := 1) cx (cc_J3_remove K l (tm_hst cx) 106 (by decide) (u171 - 1) q175) (lw_V q358 q359 q360 q100 q361) ⟨rfl, by decide +kernel, by decide +kernel, by decide +kernel⟩ rfl tm_cd_J3 (fun h => (tm_hC_106 h).1) ⟨Nat.le_of_ble_eq_true rfl, Nat.le_of_ble_eq_true rfl⟩ rfl (Nat.le_of_ble_eq_true rfl) hl.1.1 dX1_begin_176 (fun u176 σ176 q176 => ?_)
    show tm_J p l e R s m args below meth c K tm_xC 0 _ _ (F0 m 179 ls [tm_rv K u176])
    refine tm_pop_r cx dX1_begin_179 ?_
    refine tm_goto (tgt := 148) cx dX1_begin_180 (by decide) ?_
    exact h148 _ _ (tm_has_sub hl [0] rfl)
  · refine tm_iconst cx dX1_begin_183 ?_
    refine tm_istore_n (lv' := [(1, tm_iv 0), (0, tm_rv K 0)]) cx dX1_begin_184 hl (by decide) (by decide) rfl (fun ls hl => ?_)
    exact wc_begin_L185 cx tm_FU 0 _ _ (by decide) (tm_has_sub hl [1, 0] rfl)
def fc_begin_L148 : Nat → tm_S → tm_R
  | 0, _ => none
  | n + 1, σ => fc_begin_B148 (fc_begin_L148 n) σ
theorem wc_begin_L148 {p : Program} {l : Launch} {e : Env} {R : Room} {s : State} {m : MethodId} {args : Array Value} {below : List Frame} {meth : Method} {c : Code} {K : tm_K} (cx : tm_C p l R s m args meth c K cX1_begin 2 RX1 "begin" none 3 66) : ∀ (n : Nat) (σ : tm_S) (ls : Array Slot), tm_has 0 ls 2 [(0, tm_rv K 0)] → tm_J p l e R s m args below meth c K tm_xC 0 (fc_begin_L148 n σ) σ (F0 m 148 ls []) := by
  intro n
  induction n with
  | zero => intros; exact tm_none
  | succ n ih =>
    intro σ ls hl
    exact wc_begin_B148 (r148 := fc_begin_L148 n) cx ih σ ls hl
def fc_begin_B12 (r12 : Int → tm_S → tm_R) (v1 : Int) (σ : tm_S) : tm_R :=
  if v1 < 128 then
    tm_bd (fc_isAlphabetic v1 σ) fun u25 σ25 =>
    if u25 = 0 then
      tm_gb 12 <|
      tm_gx v1 128 <|
      tm_gb 12 <|
      tm_gi (v1 + 1) <|
      r12 (v1 + 1) (tm_wa σ25 104 v1 12)
    else
      tm_gb 11 <|
      tm_gx v1 128 <|
      tm_gb 11 <|
      tm_gi (v1 + 1) <|
      r12 (v1 + 1) (tm_wa σ25 104 v1 11)
  else
    tm_gx 92 128 <|
    tm_gb 0 <|
    tm_gx 123 128 <|
    tm_gb 1 <|
    tm_gx 125 128 <|
    tm_gb 2 <|
    tm_ls (tm_wa (tm_wa (tm_wa σ 104 92 0) 104 123 1) 104 125 2) fun τ2 =>
    tm_gx 36 128 <|
    tm_gb 3 <|
    tm_gx 38 128 <|
    tm_gb 4 <|
    tm_gx 10 128 <|
    tm_gb 5 <|
    tm_ls (tm_wa (tm_wa (tm_wa τ2 104 36 3) 104 38 4) 104 10 5) fun τ3 =>
    tm_gx 35 128 <|
    tm_gb 6 <|
    tm_gx 94 128 <|
    tm_gb 7 <|
    tm_gx 95 128 <|
    tm_gb 8 <|
    tm_ls (tm_wa (tm_wa (tm_wa τ3 104 35 6) 104 94 7) 104 95 8) fun τ4 =>
    tm_gx 32 128 <|
    tm_gb 10 <|
    tm_gx 126 128 <|
    tm_gb 13 <|
    tm_gx 37 128 <|
    tm_gb 14 <|
    tm_ls (tm_wa (tm_wa (tm_wa τ4 104 32 10) 104 126 13) 104 37 14) fun τ5 =>
    fc_begin_L148 tm_FU τ5
theorem wc_begin_B12 {p : Program} {l : Launch} {e : Env} {R : Room} {s : State} {m : MethodId} {args : Array Value} {below : List Frame} {meth : Method} {c : Code} {K : tm_K} {r12 : Int → tm_S → tm_R} (cx : tm_C p l R s m args meth c K cX1_begin 2 RX1 "begin" none 3 66) (h12 : ∀ (v1 : Int) (τ : tm_S) (ls : Array Slot), tm_in v1 → tm_has 0 ls 2 [(0, tm_rv K 0), (1, tm_iv v1)] → tm_J p l e R s m args below meth c K tm_xC 0 (r12 v1 τ) τ (F0 m 12 ls [])) (v1 : Int) (σ : tm_S) (ls : Array Slot) (g1 : tm_in v1) (hl : tm_has 0 ls 2 [(0, tm_rv K 0), (1, tm_iv v1)]) : tm_J p l e R s m args below meth c K tm_xC 0 (fc_begin_B12 r12 v1 σ) σ (F0 m 12 ls []) := by
  unfold fc_begin_B12
  refine tm_iload_n cx dX1_begin_12 (tm_has_at hl 1 rfl) ?_
  refine tm_sipush cx dX1_begin_13 (by decide) ?_
  refine tm_icmp_ge (tgt := 46) cx g1 (by decide) dX1_begin_16 (by decide) (fun c16 => ?_) (fun c16 => ?_)
  · refine tm_aload_n cx dX1_begin_19 (tm_has_at hl 0 rfl) ?_
    refine tg_X1_13 cx dX1_begin_20 ?_
    refine tm_iload_n cx dX1_begin_23 (tm_has_at hl 1 rfl) ?_
    refine tm_iload_n cx dX1_begin_24 (tm_has_at hl 1 rfl) ?_
    refine tm_callS (n := 1) cx (cc_isAlphabetic K l (tm_hst cx) v1 g1) (lw_S q351 q352 q95 q353) ⟨by decide +kernel, by decide +kernel, by decide +kernel⟩ rfl ⟨Nat.le_of_ble_eq_true rfl, Nat.le_of_ble_eq_true rfl⟩ rfl (Nat.le_of_ble_eq_true rfl) hl.1.1 dX1_begin_25 (fun u25 σ25 q25 => ?_)
    show tm_J p l e R s m args below meth c K tm_xC 0 _ _ (F0 m 28 ls [tm_iv u25, tm_iv v1, tm_rv K 104])
    refine tm_if_eq (tgt := 36) cx q25 dX1_begin_28 (by decide) (fun c28 => ?_) (fun c28 => ?_)
    · refine tm_bipush cx dX1_begin_36 (by decide) ?_
      refine tm_i2b cx dX1_begin_38 ?_
      refine tm_bast cx tm_famC tm_hC_104 g1 (by decide) dX1_begin_39 ?_
      refine tm_iinc (lv' := [(1, tm_iv (v1 + 1)), (0, tm_rv K 0)]) cx dX1_begin_40 hl (j := 1) rfl (by decide) (by decide) rfl (fun q40 ls hl => ?_)
      refine tm_goto (tgt := 12) cx dX1_begin_43 (by decide) ?_
      exact h12 (v1 + 1) _ _ q40 (tm_has_sub hl [1, 0] rfl)
    · refine tm_bipush cx dX1_begin_31 (by decide) ?_
      refine tm_goto (tgt := 38) cx dX1_begin_33 (by decide) ?_
      refine tm_i2b cx dX1_begin_38 ?_
      refine tm_bast cx tm_famC tm_hC_104 g1 (by decide) dX1_begin_39 ?_
      refine tm_iinc (lv' := [(1, tm_iv (v1 + 1)), (0, tm_rv K 0)]) cx dX1_begin_40 hl (j := 1) rfl (by decide) (by decide) rfl (fun q40 ls hl => ?_)
      refine tm_goto (tgt := 12) cx dX1_begin_43 (by decide) ?_
      exact h12 (v1 + 1) _ _ q40 (tm_has_sub hl [1, 0] rfl)
  · refine tm_aload_n cx dX1_begin_46 (tm_has_at hl 0 rfl) ?_
    refine tg_X1_13 cx dX1_begin_47 ?_
    refine tm_bipush cx dX1_begin_50 (by decide) ?_
    refine tm_iconst cx dX1_begin_52 ?_
    refine tm_bast cx tm_famC tm_hC_104 (by decide) (by decide) dX1_begin_53 ?_
    refine tm_aload_n cx dX1_begin_54 (tm_has_at hl 0 rfl) ?_
    refine tg_X1_13 cx dX1_begin_55 ?_
    refine tm_bipush cx dX1_begin_58 (by decide) ?_
    refine tm_iconst cx dX1_begin_60 ?_
    refine tm_bast cx tm_famC tm_hC_104 (by decide) (by decide) dX1_begin_61 ?_
    refine tm_aload_n cx dX1_begin_62 (tm_has_at hl 0 rfl) ?_
    refine tg_X1_13 cx dX1_begin_63 ?_
    refine tm_bipush cx dX1_begin_66 (by decide) ?_
    refine tm_iconst cx dX1_begin_68 ?_
    refine tm_bast cx tm_famC tm_hC_104 (by decide) (by decide) dX1_begin_69 ?_
    refine tm_ls_ (fun τ2 => ?_)
    refine tm_aload_n cx dX1_begin_70 (tm_has_at hl 0 rfl) ?_
    refine tg_X1_13 cx dX1_begin_71 ?_
    refine tm_bipush cx dX1_begin_74 (by decide) ?_
    refine tm_iconst cx dX1_begin_76 ?_
    refine tm_bast cx tm_famC tm_hC_104 (by decide) (by decide) dX1_begin_77 ?_
    refine tm_aload_n cx dX1_begin_78 (tm_has_at hl 0 rfl) ?_
    refine tg_X1_13 cx dX1_begin_79 ?_
    refine tm_bipush cx dX1_begin_82 (by decide) ?_
    refine tm_iconst cx dX1_begin_84 ?_
    refine tm_bast cx tm_famC tm_hC_104 (by decide) (by decide) dX1_begin_85 ?_
    refine tm_aload_n cx dX1_begin_86 (tm_has_at hl 0 rfl) ?_
    refine tg_X1_13 cx dX1_begin_87 ?_
    refine tm_bipush cx dX1_begin_90 (by decide) ?_
    refine tm_iconst cx dX1_begin_92 ?_
    refine tm_bast cx tm_famC tm_hC_104 (by decide) (by decide) dX1_begin_93 ?_
    refine tm_ls_ (fun τ3 => ?_)
    refine tm_aload_n cx dX1_begin_94 (tm_has_at hl 0 rfl) ?_
    refine tg_X1_13 cx dX1_begin_95 ?_
    refine tm_bipush cx dX1_begin_98 (by decide) ?_
    refine tm_bipush cx dX1_begin_100 (by decide) ?_
    refine tm_bast cx tm_famC tm_hC_104 (by decide) (by decide) dX1_begin_102 ?_
    refine tm_aload_n cx dX1_begin_103 (tm_has_at hl 0 rfl) ?_
    refine tg_X1_13 cx dX1_begin_104 ?_
    refine tm_bipush cx dX1_begin_107 (by decide) ?_
    refine tm_bipush cx dX1_begin_109 (by decide) ?_
    refine tm_bast cx tm_famC tm_hC_104 (by decide) (by decide) dX1_begin_111 ?_
    refine tm_aload_n cx dX1_begin_112 (tm_has_at hl 0 rfl) ?_
    refine tg_X1_13 cx dX1_begin_113 ?_
    refine tm_bipush cx dX1_begin_116 (by decide) ?_
    refine tm_bipush cx dX1_begin_118 (by decide) ?_
    refine tm_bast cx tm_famC tm_hC_104 (by decide) (by decide) dX1_begin_120 ?_
    refine tm_ls_ (fun τ4 => ?_)
    refine tm_aload_n cx dX1_begin_121 (tm_has_at hl 0 rfl) ?_
    refine tg_X1_13 cx dX1_begin_122 ?_
    refine tm_bipush cx dX1_begin_125 (by decide) ?_
    refine tm_bipush cx dX1_begin_127 (by decide) ?_
    refine tm_bast cx tm_famC tm_hC_104 (by decide) (by decide) dX1_begin_129 ?_
    refine tm_aload_n cx dX1_begin_130 (tm_has_at hl 0 rfl) ?_
    refine tg_X1_13 cx dX1_begin_131 ?_
    refine tm_bipush cx dX1_begin_134 (by decide) ?_
    refine tm_bipush cx dX1_begin_136 (by decide) ?_
    refine tm_bast cx tm_famC tm_hC_104 (by decide) (by decide) dX1_begin_138 ?_
    refine tm_aload_n cx dX1_begin_139 (tm_has_at hl 0 rfl) ?_
    refine tg_X1_13 cx dX1_begin_140 ?_
    refine tm_bipush cx dX1_begin_143 (by decide) ?_
    refine tm_bipush cx dX1_begin_145 (by decide) ?_
    refine tm_bast cx tm_famC tm_hC_104 (by decide) (by decide) dX1_begin_147 ?_
    refine tm_ls_ (fun τ5 => ?_)
    exact wc_begin_L148 cx tm_FU _ _ (tm_has_sub hl [0] rfl)
def fc_begin_L12 : Nat → Int → tm_S → tm_R
  | 0, _, _ => none
  | n + 1, v1, σ => fc_begin_B12 (fc_begin_L12 n) v1 σ
theorem wc_begin_L12 {p : Program} {l : Launch} {e : Env} {R : Room} {s : State} {m : MethodId} {args : Array Value} {below : List Frame} {meth : Method} {c : Code} {K : tm_K} (cx : tm_C p l R s m args meth c K cX1_begin 2 RX1 "begin" none 3 66) : ∀ (n : Nat) (v1 : Int) (σ : tm_S) (ls : Array Slot), tm_in v1 → tm_has 0 ls 2 [(0, tm_rv K 0), (1, tm_iv v1)] → tm_J p l e R s m args below meth c K tm_xC 0 (fc_begin_L12 n v1 σ) σ (F0 m 12 ls []) := by
  intro n
  induction n with
  | zero => intros; exact tm_none
  | succ n ih =>
    intro v1 σ ls g1 hl
    exact wc_begin_B12 (r12 := fc_begin_L12 n) cx ih v1 σ ls g1 hl
def fc_begin (σ : tm_S) : tm_R :=
  fc_begin_L12 tm_FU 0 (tm_wf (tm_wf σ 2 0 0) 3 0 0)
theorem tm_fits_X1_begin (K : tm_K) : (lg_sl [tm_rv K 0]).length ≤ 1 := (tm_sl_r _ _ _ _ (tm_sl_n _))
theorem cc_begin (K : tm_K) (l : Launch) (hst : l.stackTraces = false) : tm_ct K tm_xC l yX1_begin cX1_begin 2 none 0 [tm_rv K 0] (fc_begin) 3 66 := by
  refine tm_ct_of hst (by decide +kernel) (Nat.le_trans (tm_fits_X1_begin K) (Nat.le_of_ble_eq_true rfl)) ?_
  intro p e R s m args below meth c cx σ ls hl0
  have hl : tm_has 0 ls 2 [(0, tm_rv K 0)] := ⟨by
    have h9 := hl0
    simp only [tm_args_r, tm_args_n, Nat.zero_add, Nat.reduceAdd] at h9
    exact h9, by
    intro q hq
    simp only [List.mem_cons, List.not_mem_nil, or_false] at hq
    rcases hq with rfl
    · exact Or.inl (tm_rv_cat K 0)⟩
  clear hl0
  unfold fc_begin
  refine tm_aload_n cx dX1_begin_0 (tm_has_at hl 0 rfl) ?_
  refine tm_iconst cx dX1_begin_1 ?_
  refine tp_X1_92 cx (by decide) dX1_begin_2 ?_
  refine tm_aload_n cx dX1_begin_5 (tm_has_at hl 0 rfl) ?_
  refine tm_iconst cx dX1_begin_6 ?_
  refine tp_X1_96 cx (by decide) dX1_begin_7 ?_
  refine tm_iconst cx dX1_begin_10 ?_
  refine tm_istore_n (lv' := [(1, tm_iv 0), (0, tm_rv K 0)]) cx dX1_begin_11 hl (by decide) (by decide) rfl (fun ls hl => ?_)
  exact wc_begin_L12 cx tm_FU 0 _ _ (by decide) (tm_has_sub hl [1, 0] rfl)
def fc_isSign_J12 (v0 : Int) (σ : tm_S) : tm_R :=
  if v0 = 10 then
    tm_rt 1 σ
  else
    tm_rt 0 σ
theorem wc_isSign_J12 {p : Program} {l : Launch} {e : Env} {R : Room} {s : State} {m : MethodId} {args : Array Value} {below : List Frame} {meth : Method} {c : Code} {K : tm_K} (cx : tm_C p l R s m args meth c K cX1_isSign 1 RX1 "isSign" (some .boolean) 0 0) (v0 : Int) (σ : tm_S) (ls : Array Slot) (g0 : tm_in v0) (hl : tm_has 0 ls 1 [(0, tm_iv v0)]) : tm_J p l e R s m args below meth c K tm_xC 1 (fc_isSign_J12 v0 σ) σ (F0 m 12 ls []) := by
  unfold fc_isSign_J12
  refine tm_iload_n cx dX1_isSign_12 (tm_has_at hl 0 rfl) ?_
  refine tm_bipush cx dX1_isSign_13 (by decide) ?_
  refine tm_icmp_ne (tgt := 22) cx g0 (by decide) dX1_isSign_15 (by decide) (fun c15 => ?_) (fun c15 => ?_)
  · refine tm_iconst cx dX1_isSign_18 ?_
    refine tm_goto (tgt := 23) cx dX1_isSign_19 (by decide) ?_
    exact tm_zreturn cx (by decide) dX1_isSign_23
  · refine tm_iconst cx dX1_isSign_22 ?_
    exact tm_zreturn cx (by decide) dX1_isSign_23
def fc_isSign (a1 : Int) (σ : tm_S) : tm_R :=
  if a1 < 32 then
    fc_isSign_J12 a1 σ
  else
    if 126 < a1 then
      fc_isSign_J12 a1 σ
    else
      tm_rt 1 σ
theorem tm_fits_X1_isSign (K : tm_K) (a1 : Int) : (lg_sl [tm_iv a1]).length ≤ 1 := (tm_sl_i _ _ _ (tm_sl_n _))
theorem cc_isSign (K : tm_K) (l : Launch) (hst : l.stackTraces = false) (a1 : Int) (g1 : tm_in a1) : tm_ct K tm_xC l yX1_isSign cX1_isSign 1 (some .boolean) 1 [tm_iv a1] (fc_isSign a1) 0 0 := by
  refine tm_ct_of hst (by decide +kernel) (Nat.le_trans (tm_fits_X1_isSign K a1) (Nat.le_of_ble_eq_true rfl)) ?_
  intro p e R s m args below meth c cx σ ls hl0
  have hl : tm_has 0 ls 1 [(0, tm_iv a1)] := ⟨by
    have h9 := hl0
    simp only [tm_args_i, tm_args_n, Nat.zero_add, Nat.reduceAdd] at h9
    exact h9, by
    intro q hq
    simp only [List.mem_cons, List.not_mem_nil, or_false] at hq
    rcases hq with rfl
    · exact Or.inl rfl⟩
  clear hl0
  unfold fc_isSign
  refine tm_iload_n cx dX1_isSign_0 (tm_has_at hl 0 rfl) ?_
  refine tm_bipush cx dX1_isSign_1 (by decide) ?_
  refine tm_icmp_lt (tgt := 12) cx g1 (by decide) dX1_isSign_3 (by decide) (fun c3 => ?_) (fun c3 => ?_)
  · exact wc_isSign_J12 cx a1 _ _ g1 (tm_has_sub hl [0] rfl)
  · refine tm_iload_n cx dX1_isSign_6 (tm_has_at hl 0 rfl) ?_
    refine tm_bipush cx dX1_isSign_7 (by decide) ?_
    refine tm_icmp_le (tgt := 18) cx g1 (by decide) dX1_isSign_9 (by decide) (fun c9 => ?_) (fun c9 => ?_)
    · exact wc_isSign_J12 cx a1 _ _ g1 (tm_has_sub hl [0] rfl)
    · refine tm_iconst cx dX1_isSign_18 ?_
      refine tm_goto (tgt := 23) cx dX1_isSign_19 (by decide) ?_
      exact tm_zreturn cx (by decide) dX1_isSign_23
def fc_type_B81 (r81 : Int → Int → tm_S → tm_R) (v1 : Int) (v4 : Int) (σ : tm_S) : tm_R :=
  if v4 < 0 then
    tm_rt 1 σ
  else
    tm_gx v4 57 <|
    tm_lt (tm_by v1 v4 256) fun x95 =>
    if x95 = 0 then
      tm_gi (v4 + (-8)) <|
      r81 v1 (v4 + (-8)) σ
    else
      tm_gb x95 <|
      tm_gx (tm_f σ 1 0) 160 <|
      tm_gb x95 <|
      tm_gi ((tm_f (tm_wa σ 100 (tm_f σ 1 0) x95) 1 0) + 1) <|
      tm_gi (v4 + (-8)) <|
      r81 v1 (v4 + (-8)) (tm_wf (tm_wa σ 100 (tm_f σ 1 0) x95) 1 0 ((tm_f (tm_wa σ 100 (tm_f σ 1 0) x95) 1 0) + 1))
theorem wc_type_B81 {p : Program} {l : Launch} {e : Env} {R : Room} {s : State} {m : MethodId} {args : Array Value} {below : List Frame} {meth : Method} {c : Code} {K : tm_K} {r81 : Int → Int → tm_S → tm_R} (cx : tm_C p l R s m args meth c K cX1_type 6 RX1 "type" (some .boolean) 1 20) (h81 : ∀ (v1 : Int) (v4 : Int) (τ : tm_S) (ls : Array Slot), tm_inl v1 → tm_in v4 → tm_has 1 ls 6 [(0, tm_rv K 0), (1, tm_lv v1), (4, tm_iv v4)] → tm_J p l e R s m args below meth c K tm_xC 1 (r81 v1 v4 τ) τ (F0 m 81 ls [])) (v1 : Int) (v4 : Int) (σ : tm_S) (ls : Array Slot) (g1 : tm_inl v1) (g4 : tm_in v4) (hl : tm_has 1 ls 6 [(0, tm_rv K 0), (1, tm_lv v1), (4, tm_iv v4)]) : tm_J p l e R s m args below meth c K tm_xC 1 (fc_type_B81 r81 v1 v4 σ) σ (F0 m 81 ls []) := by
  unfold fc_type_B81
  refine tm_iload cx dX1_type_81 (tm_has_at hl 2 rfl) ?_
  refine tm_if_lt (tgt := 133) cx g4 dX1_type_83 (by decide) (fun c83 => ?_) (fun c83 => ?_)
  · refine tm_iconst cx dX1_type_133 ?_
    exact tm_zreturn cx (by decide) dX1_type_134
  · refine tm_lload_n cx dX1_type_86 (tm_has_at hl 1 rfl) ?_
    refine tm_iload cx dX1_type_87 (tm_has_at hl 2 rfl) ?_
    refine tm_byu cx g1 g4 dX1_type_89 dX1_type_90 dX1_type_91 dX1_type_94 (fun q89 => ?_)
    refine tm_lt_ q89 (fun x95 q95 => ?_)
    refine tm_istore (lv' := [(5, tm_iv x95), (0, tm_rv K 0), (1, tm_lv v1), (4, tm_iv v4)]) cx dX1_type_95 hl (by decide) (by decide) rfl (fun ls hl => ?_)
    refine tm_iload cx dX1_type_97 (tm_has_at hl 0 rfl) ?_
    refine tm_if_ne (tgt := 105) cx q95 dX1_type_99 (by decide) (fun c99 => ?_) (fun c99 => ?_)
    · refine tm_goto (tgt := 127) cx dX1_type_102 (by decide) ?_
      refine tm_iinc (lv' := [(4, tm_iv (v4 + (-8))), (5, tm_iv x95), (0, tm_rv K 0), (1, tm_lv v1)]) cx dX1_type_127 hl (j := 3) rfl (by decide) (by decide) rfl (fun q127 ls hl => ?_)
      refine tm_goto (tgt := 81) cx dX1_type_130 (by decide) ?_
      exact h81 v1 (v4 + (-8)) _ _ g1 q127 (tm_has_sub hl [2, 3, 0] rfl)
    · refine tm_aload_n cx dX1_type_105 (tm_has_at hl 1 rfl) ?_
      refine tg_X1_9 cx dX1_type_106 ?_
      refine tm_aload_n cx dX1_type_109 (tm_has_at hl 1 rfl) ?_
      refine tg_X1_207 cx dX1_type_110 (fun q110 => ?_)
      refine tm_iload cx dX1_type_113 (tm_has_at hl 0 rfl) ?_
      refine tm_i2b cx dX1_type_115 ?_
      refine tm_bast cx tm_famC tm_hC_100 q110 q95 dX1_type_116 ?_
      refine tm_aload_n cx dX1_type_117 (tm_has_at hl 1 rfl) ?_
      refine tm_dup_r cx dX1_type_118 ?_
      refine tg_X1_207 cx dX1_type_119 (fun q119 => ?_)
      refine tm_iconst cx dX1_type_122 ?_
      refine tm_iadd cx dX1_type_123 (fun q123 => ?_)
      refine tp_X1_207 cx q123 dX1_type_124 ?_
      refine tm_iinc (lv' := [(4, tm_iv (v4 + (-8))), (5, tm_iv x95), (0, tm_rv K 0), (1, tm_lv v1)]) cx dX1_type_127 hl (j := 3) rfl (by decide) (by decide) rfl (fun q127 ls hl => ?_)
      refine tm_goto (tgt := 81) cx dX1_type_130 (by decide) ?_
      exact h81 v1 (v4 + (-8)) _ _ g1 q127 (tm_has_sub hl [2, 3, 0] rfl)
def fc_type_L81 : Nat → Int → Int → tm_S → tm_R
  | 0, _, _, _ => none
  | n + 1, v1, v4, σ => fc_type_B81 (fc_type_L81 n) v1 v4 σ
theorem wc_type_L81 {p : Program} {l : Launch} {e : Env} {R : Room} {s : State} {m : MethodId} {args : Array Value} {below : List Frame} {meth : Method} {c : Code} {K : tm_K} (cx : tm_C p l R s m args meth c K cX1_type 6 RX1 "type" (some .boolean) 1 20) : ∀ (n : Nat) (v1 : Int) (v4 : Int) (σ : tm_S) (ls : Array Slot), tm_inl v1 → tm_in v4 → tm_has 1 ls 6 [(0, tm_rv K 0), (1, tm_lv v1), (4, tm_iv v4)] → tm_J p l e R s m args below meth c K tm_xC 1 (fc_type_L81 n v1 v4 σ) σ (F0 m 81 ls []) := by
  intro n
  induction n with
  | zero => intros; exact tm_none
  | succ n ih =>
    intro v1 v4 σ ls g1 g4 hl
    exact wc_type_B81 (r81 := fc_type_L81 n) cx ih v1 v4 σ ls g1 g4 hl
def fc_type_J37 (r6 : Int → Int → Int → tm_S → tm_R) (v1 : Int) (v3 : Int) (v4 : Int) (v5 : Int) (σ : tm_S) : tm_R :=
  if v5 = 0 then
    tm_gi (v3 + 0) <|
    tm_lt (v3 + 0) fun x49 =>
    tm_gi (v4 + (-8)) <|
    r6 v1 x49 (v4 + (-8)) σ
  else
    tm_gi (v3 + 1) <|
    tm_lt (v3 + 1) fun x49 =>
    tm_gi (v4 + (-8)) <|
    r6 v1 x49 (v4 + (-8)) σ
theorem wc_type_J37 {p : Program} {l : Launch} {e : Env} {R : Room} {s : State} {m : MethodId} {args : Array Value} {below : List Frame} {meth : Method} {c : Code} {K : tm_K} {r6 : Int → Int → Int → tm_S → tm_R} (cx : tm_C p l R s m args meth c K cX1_type 6 RX1 "type" (some .boolean) 1 20) (h6 : ∀ (v1 : Int) (v3 : Int) (v4 : Int) (τ : tm_S) (ls : Array Slot), tm_inl v1 → tm_in v3 → tm_in v4 → tm_has 1 ls 6 [(0, tm_rv K 0), (1, tm_lv v1), (3, tm_iv v3), (4, tm_iv v4)] → tm_J p l e R s m args below meth c K tm_xC 1 (r6 v1 v3 v4 τ) τ (F0 m 6 ls [])) (v1 : Int) (v3 : Int) (v4 : Int) (v5 : Int) (σ : tm_S) (ls : Array Slot) (g1 : tm_inl v1) (g3 : tm_in v3) (g4 : tm_in v4) (g5 : tm_in v5) (hl : tm_has 1 ls 6 [(0, tm_rv K 0), (1, tm_lv v1), (3, tm_iv v3), (4, tm_iv v4), (5, tm_iv v5)]) : tm_J p l e R s m args below meth c K tm_xC 1 (fc_type_J37 r6 v1 v3 v4 v5 σ) σ (F0 m 37 ls []) := by
  unfold fc_type_J37
  refine tm_iload_n cx dX1_type_37 (tm_has_at hl 2 rfl) ?_
  refine tm_iload cx dX1_type_38 (tm_has_at hl 4 rfl) ?_
  refine tm_if_ne (tgt := 47) cx g5 dX1_type_40 (by decide) (fun c40 => ?_) (fun c40 => ?_)
  · refine tm_iconst cx dX1_type_43 ?_
    refine tm_goto (tgt := 48) cx dX1_type_44 (by decide) ?_
    refine tm_iadd cx dX1_type_48 (fun q48 => ?_)
    refine tm_lt_ q48 (fun x49 q49 => ?_)
    refine tm_istore_n (lv' := [(3, tm_iv x49), (0, tm_rv K 0), (1, tm_lv v1), (4, tm_iv v4), (5, tm_iv v5)]) cx dX1_type_49 hl (by decide) (by decide) rfl (fun ls hl => ?_)
    refine tm_iinc (lv' := [(4, tm_iv (v4 + (-8))), (3, tm_iv x49), (0, tm_rv K 0), (1, tm_lv v1), (5, tm_iv v5)]) cx dX1_type_50 hl (j := 3) rfl (by decide) (by decide) rfl (fun q50 ls hl => ?_)
    refine tm_goto (tgt := 6) cx dX1_type_53 (by decide) ?_
    exact h6 v1 x49 (v4 + (-8)) _ _ g1 q49 q50 (tm_has_sub hl [2, 3, 1, 0] rfl)
  · refine tm_iconst cx dX1_type_47 ?_
    refine tm_iadd cx dX1_type_48 (fun q48 => ?_)
    refine tm_lt_ q48 (fun x49 q49 => ?_)
    refine tm_istore_n (lv' := [(3, tm_iv x49), (0, tm_rv K 0), (1, tm_lv v1), (4, tm_iv v4), (5, tm_iv v5)]) cx dX1_type_49 hl (by decide) (by decide) rfl (fun ls hl => ?_)
    refine tm_iinc (lv' := [(4, tm_iv (v4 + (-8))), (3, tm_iv x49), (0, tm_rv K 0), (1, tm_lv v1), (5, tm_iv v5)]) cx dX1_type_50 hl (j := 3) rfl (by decide) (by decide) rfl (fun q50 ls hl => ?_)
    refine tm_goto (tgt := 6) cx dX1_type_53 (by decide) ?_
    exact h6 v1 x49 (v4 + (-8)) _ _ g1 q49 q50 (tm_has_sub hl [2, 3, 1, 0] rfl)
def fc_type_B6 (r6 : Int → Int → Int → tm_S → tm_R) (v1 : Int) (v3 : Int) (v4 : Int) (σ : tm_S) : tm_R :=
  if v4 < 0 then
    tm_gi ((tm_f σ 1 0) + v3) <|
    if 160 < ((tm_f σ 1 0) + v3) then
      tm_rt 0 σ
    else
      if 0 < (tm_f σ 13 0) then
        tm_rt 0 σ
      else
        fc_type_L81 tm_FU v1 56 σ
  else
    tm_gx v4 57 <|
    tm_lt (tm_by v1 v4 256) fun x20 =>
    if x20 = 0 then
      fc_type_J37 r6 v1 v3 v4 x20 σ
    else
      tm_bd (fc_isSign x20 σ) fun u29 σ29 =>
      if u29 = 0 then
        tm_rt 0 σ29
      else
        fc_type_J37 r6 v1 v3 v4 x20 σ29
theorem wc_type_B6 {p : Program} {l : Launch} {e : Env} {R : Room} {s : State} {m : MethodId} {args : Array Value} {below : List Frame} {meth : Method} {c : Code} {K : tm_K} {r6 : Int → Int → Int → tm_S → tm_R} (cx : tm_C p l R s m args meth c K cX1_type 6 RX1 "type" (some .boolean) 1 20) (h6 : ∀ (v1 : Int) (v3 : Int) (v4 : Int) (τ : tm_S) (ls : Array Slot), tm_inl v1 → tm_in v3 → tm_in v4 → tm_has 1 ls 6 [(0, tm_rv K 0), (1, tm_lv v1), (3, tm_iv v3), (4, tm_iv v4)] → tm_J p l e R s m args below meth c K tm_xC 1 (r6 v1 v3 v4 τ) τ (F0 m 6 ls [])) (v1 : Int) (v3 : Int) (v4 : Int) (σ : tm_S) (ls : Array Slot) (g1 : tm_inl v1) (g3 : tm_in v3) (g4 : tm_in v4) (hl : tm_has 1 ls 6 [(0, tm_rv K 0), (1, tm_lv v1), (3, tm_iv v3), (4, tm_iv v4)]) : tm_J p l e R s m args below meth c K tm_xC 1 (fc_type_B6 r6 v1 v3 v4 σ) σ (F0 m 6 ls []) := by
  unfold fc_type_B6
  refine tm_iload cx dX1_type_6 (tm_has_at hl 3 rfl) ?_
  refine tm_if_lt (tgt := 56) cx g4 dX1_type_8 (by decide) (fun c8 => ?_) (fun c8 => ?_)
  · refine tm_aload_n cx dX1_type_56 (tm_has_at hl 0 rfl) ?_
    refine tg_X1_207 cx dX1_type_57 (fun q57 => ?_)
    refine tm_iload_n cx dX1_type_60 (tm_has_at hl 2 rfl) ?_
    refine tm_iadd cx dX1_type_61 (fun q61 => ?_)
    refine tm_sipush cx dX1_type_62 (by decide) ?_
    refine tm_icmp_gt (tgt := 75) cx q61 (by decide) dX1_type_65 (by decide) (fun c65 => ?_) (fun c65 => ?_)
    · refine tm_iconst cx dX1_type_75 ?_
      exact tm_zreturn cx (by decide) dX1_type_76
    · refine tm_aload_n cx dX1_type_68 (tm_has_at hl 0 rfl) ?_
      refine tg_X1_124 cx dX1_type_69 (fun q69 => ?_)
      refine tm_if_le (tgt := 77) cx q69 dX1_type_72 (by decide) (fun c72 => ?_) (fun c72 => ?_)
      · refine tm_iconst cx dX1_type_75 ?_
        exact tm_zreturn cx (by decide) dX1_type_76
      · refine tm_bipush cx dX1_type_77 (by decide) ?_
        refine tm_istore (lv' := [(4, tm_iv 56), (0, tm_rv K 0), (1, tm_lv v1), (3, tm_iv v3)]) cx dX1_type_79 hl (by decide) (by decide) rfl (fun ls hl => ?_)
        exact wc_type_L81 cx tm_FU v1 56 _ _ g1 (by decide) (tm_has_sub hl [1, 2, 0] rfl)
  · refine tm_lload_n cx dX1_type_11 (tm_has_at hl 1 rfl) ?_
    refine tm_iload cx dX1_type_12 (tm_has_at hl 3 rfl) ?_
    refine tm_byu cx g1 g4 dX1_type_14 dX1_type_15 dX1_type_16 dX1_type_19 (fun q14 => ?_)
    refine tm_lt_ q14 (fun x20 q20 => ?_)
    refine tm_istore (lv' := [(5, tm_iv x20), (0, tm_rv K 0), (1, tm_lv v1), (3, tm_iv v3), (4, tm_iv v4)]) cx dX1_type_20 hl (by decide) (by decide) rfl (fun ls hl => ?_)
    refine tm_iload cx dX1_type_22 (tm_has_at hl 0 rfl) ?_
    refine tm_if_eq (tgt := 37) cx q20 dX1_type_24 (by decide) (fun c24 => ?_) (fun c24 => ?_)
    · exact wc_type_J37 cx h6 v1 v3 v4 x20 _ _ g1 g3 g4 q20 (tm_has_sub hl [1, 2, 3, 4, 0] rfl)
    · refine tm_iload cx dX1_type_27 (tm_has_at hl 0 rfl) ?_
      refine tm_callS (n := 1) cx (cc_isSign K l (tm_hst cx) x20 q20) (lw_S q463 q464 q95 q465) ⟨by decide +kernel, by decide +kernel, by decide +kernel⟩ rfl ⟨Nat.le_of_ble_eq_true rfl, Nat.le_of_ble_eq_true rfl⟩ rfl (Nat.le_of_ble_eq_true rfl) hl.1.1 dX1_type_29 (fun u29 σ29 q29 => ?_)
      show tm_J p l e R s m args below meth c K tm_xC 1 _ _ (F0 m 32 ls [tm_iv u29])
      refine tm_if_ne (tgt := 37) cx q29 dX1_type_32 (by decide) (fun c32 => ?_) (fun c32 => ?_)
      · refine tm_iconst cx dX1_type_35 ?_
        exact tm_zreturn cx (by decide) dX1_type_36
      · exact wc_type_J37 cx h6 v1 v3 v4 x20 _ _ g1 g3 g4 q20 (tm_has_sub hl [1, 2, 3, 4, 0] rfl)
def fc_type_L6 : Nat → Int → Int → Int → tm_S → tm_R
  | 0, _, _, _, _ => none
  | n + 1, v1, v3, v4, σ => fc_type_B6 (fc_type_L6 n) v1 v3 v4 σ
theorem wc_type_L6 {p : Program} {l : Launch} {e : Env} {R : Room} {s : State} {m : MethodId} {args : Array Value} {below : List Frame} {meth : Method} {c : Code} {K : tm_K} (cx : tm_C p l R s m args meth c K cX1_type 6 RX1 "type" (some .boolean) 1 20) : ∀ (n : Nat) (v1 : Int) (v3 : Int) (v4 : Int) (σ : tm_S) (ls : Array Slot), tm_inl v1 → tm_in v3 → tm_in v4 → tm_has 1 ls 6 [(0, tm_rv K 0), (1, tm_lv v1), (3, tm_iv v3), (4, tm_iv v4)] → tm_J p l e R s m args below meth c K tm_xC 1 (fc_type_L6 n v1 v3 v4 σ) σ (F0 m 6 ls []) := by
  intro n
  induction n with
  | zero => intros; exact tm_none
  | succ n ih =>
    intro v1 v3 v4 σ ls g1 g3 g4 hl
    exact wc_type_B6 (r6 := fc_type_L6 n) cx ih v1 v3 v4 σ ls g1 g3 g4 hl
def fc_type (a1 : Int) (σ : tm_S) : tm_R :=
  fc_type_L6 tm_FU a1 0 56 σ
theorem tm_fits_X1_type (K : tm_K) (a1 : Int) : (lg_sl [tm_rv K 0, tm_lv a1]).length ≤ 3 := (tm_sl_r _ _ _ _ (tm_sl_l _ _ _ (tm_sl_n _)))
theorem cc_type (K : tm_K) (l : Launch) (hst : l.stackTraces = false) (a1 : Int) (g1 : tm_inl a1) : tm_ct K tm_xC l yX1_type cX1_type 6 (some .boolean) 1 [tm_rv K 0, tm_lv a1] (fc_type a1) 1 20 := by
  refine tm_ct_of hst (by decide +kernel) (Nat.le_trans (tm_fits_X1_type K a1) (Nat.le_of_ble_eq_true rfl)) ?_
  intro p e R s m args below meth c cx σ ls hl0
  have hl : tm_has 1 ls 6 [(0, tm_rv K 0), (1, tm_lv a1)] := ⟨by
    have h9 := hl0
    simp only [tm_args_r, tm_args_l, tm_args_n, Nat.zero_add, Nat.reduceAdd] at h9
    exact h9, by
    intro q hq
    simp only [List.mem_cons, List.not_mem_nil, or_false] at hq
    rcases hq with rfl | rfl
    · exact Or.inl (tm_rv_cat K 0)
    · exact Or.inr (Or.inl ⟨by decide, rfl⟩)⟩
  clear hl0
  unfold fc_type
  refine tm_iconst cx dX1_type_0 ?_
  refine tm_istore_n (lv' := [(3, tm_iv 0), (0, tm_rv K 0), (1, tm_lv a1)]) cx dX1_type_1 hl (by decide) (by decide) rfl (fun ls hl => ?_)
  refine tm_bipush cx dX1_type_2 (by decide) ?_
  refine tm_istore (lv' := [(4, tm_iv 56), (3, tm_iv 0), (0, tm_rv K 0), (1, tm_lv a1)]) cx dX1_type_4 hl (by decide) (by decide) rfl (fun ls hl => ?_)
  exact wc_type_L6 cx tm_FU a1 0 56 _ _ g1 (by decide) (by decide) (tm_has_sub hl [2, 3, 1, 0] rfl)
def fc_wipe (σ : tm_S) : tm_R :=
  tm_bd (fc_begin (tm_wf σ 1 0 0)) fun u6 σ6 =>
  tm_rt 0 σ6
theorem tm_fits_X1_wipe (K : tm_K) : (lg_sl [tm_rv K 0]).length ≤ 1 := (tm_sl_r _ _ _ _ (tm_sl_n _))
theorem cc_wipe (K : tm_K) (l : Launch) (hst : l.stackTraces = false) : tm_ct K tm_xC l yX1_wipe cX1_wipe 1 none 0 [tm_rv K 0] (fc_wipe) 4 87 := by
  refine tm_ct_of hst (by decide +kernel) (Nat.le_trans (tm_fits_X1_wipe K) (Nat.le_of_ble_eq_true rfl)) ?_
  intro p e R s m args below meth c cx σ ls hl0
  have hl : tm_has 0 ls 1 [(0, tm_rv K 0)] := ⟨by
    have h9 := hl0
    simp only [tm_args_r, tm_args_n, Nat.zero_add, Nat.reduceAdd] at h9
    exact h9, by
    intro q hq
    simp only [List.mem_cons, List.not_mem_nil, or_false] at hq
    rcases hq with rfl
    · exact Or.inl (tm_rv_cat K 0)⟩
  clear hl0
  unfold fc_wipe
  refine tm_aload_n cx dX1_wipe_0 (tm_has_at hl 0 rfl) ?_
  refine tm_iconst cx dX1_wipe_1 ?_
  refine tp_X1_207 cx (by decide) dX1_wipe_2 ?_
  refine tm_aload_n cx dX1_wipe_5 (tm_has_at hl 0 rfl) ?_
  refine tm_callV (n := 0) cx (cc_begin K l (tm_hst cx)) (lw_V q347 q349 qs3 q95 q350) ⟨rfl, by decide +kernel, by decide +kernel, by decide +kernel⟩ rfl tm_cd_X1 (fun h => (tm_hC_0 h).1) ⟨Nat.le_of_ble_eq_true rfl, Nat.le_of_ble_eq_true rfl⟩ rfl (Nat.le_of_ble_eq_true rfl) hl.1.1 dX1_wipe_6 (fun u6 σ6 q6 => ?_)
  show tm_J p l e R s m args below meth c K tm_xC 0 _ _ (F0 m 9 ls [])
  exact tm_vreturn cx dX1_wipe_9
def fc_again (σ : tm_S) : tm_R :=
  tm_bd (fc_begin σ) fun u1 σ1 =>
  tm_rt 0 σ1
theorem tm_fits_X1_again (K : tm_K) : (lg_sl [tm_rv K 0]).length ≤ 1 := (tm_sl_r _ _ _ _ (tm_sl_n _))
theorem cc_again (K : tm_K) (l : Launch) (hst : l.stackTraces = false) : tm_ct K tm_xC l yX1_again cX1_again 1 none 0 [tm_rv K 0] (fc_again) 4 87 := by
  refine tm_ct_of hst (by decide +kernel) (Nat.le_trans (tm_fits_X1_again K) (Nat.le_of_ble_eq_true rfl)) ?_
  intro p e R s m args below meth c cx σ ls hl0
  have hl : tm_has 0 ls 1 [(0, tm_rv K 0)] := ⟨by
    have h9 := hl0
    simp only [tm_args_r, tm_args_n, Nat.zero_add, Nat.reduceAdd] at h9
    exact h9, by
    intro q hq
    simp only [List.mem_cons, List.not_mem_nil, or_false] at hq
    rcases hq with rfl
    · exact Or.inl (tm_rv_cat K 0)⟩
  clear hl0
  unfold fc_again
  refine tm_aload_n cx dX1_again_0 (tm_has_at hl 0 rfl) ?_
  refine tm_callV (n := 0) cx (cc_begin K l (tm_hst cx)) (lw_V q347 q349 qs3 q95 q350) ⟨rfl, by decide +kernel, by decide +kernel, by decide +kernel⟩ rfl tm_cd_X1 (fun h => (tm_hC_0 h).1) ⟨Nat.le_of_ble_eq_true rfl, Nat.le_of_ble_eq_true rfl⟩ rfl (Nat.le_of_ble_eq_true rfl) hl.1.1 dX1_again_1 (fun u1 σ1 q1 => ?_)
  show tm_J p l e R s m args below meth c K tm_xC 0 _ _ (F0 m 4 ls [])
  exact tm_vreturn cx dX1_again_4
def fc_fail (a1 : Int) (σ : tm_S) : tm_R :=
  tm_gn (tm_wf σ 16 0 a1) 6 (tm_th 0 (tm_wf σ 16 0 a1))
theorem tm_fits_X1_fail (K : tm_K) (a1 : Int) : (lg_sl [tm_rv K 0, tm_iv a1]).length ≤ 2 := (tm_sl_r _ _ _ _ (tm_sl_i _ _ _ (tm_sl_n _)))
theorem cc_fail (K : tm_K) (l : Launch) (hst : l.stackTraces = false) (a1 : Int) (g1 : tm_in a1) : tm_ct K tm_xC l yX1_fail cX1_fail 2 none 0 [tm_rv K 0, tm_iv a1] (fc_fail a1) 6 100 := by
  refine tm_ct_of hst (by decide +kernel) (Nat.le_trans (tm_fits_X1_fail K a1) (Nat.le_of_ble_eq_true rfl)) ?_
  intro p e R s m args below meth c cx σ ls hl0
  have hl : tm_has 0 ls 2 [(0, tm_rv K 0), (1, tm_iv a1)] := ⟨by
    have h9 := hl0
    simp only [tm_args_r, tm_args_i, tm_args_n, Nat.zero_add, Nat.reduceAdd] at h9
    exact h9, by
    intro q hq
    simp only [List.mem_cons, List.not_mem_nil, or_false] at hq
    rcases hq with rfl | rfl
    · exact Or.inl (tm_rv_cat K 0)
    · exact Or.inl rfl⟩
  clear hl0
  unfold fc_fail
  refine tm_aload_n cx dX1_fail_0 (tm_has_at hl 0 rfl) ?_
  refine tm_iload_n cx dX1_fail_1 (tm_has_at hl 1 rfl) ?_
  refine tp_X1_133 cx g1 dX1_fail_2 ?_
  exact tm_throw cx (e9 := 0) (names := tm_nx) (by decide +kernel) (by decide +kernel) q549 q118 (tm_at0 cx) tm_ag0 ⟨by decide, by decide⟩ (Nat.le_of_ble_eq_true rfl) hl.1.1 dX1_fail_5 dX1_fail_8 dX1_fail_9 dX1_fail_12
def fc_X5_is_B27 (r27 : Int → Int → Int → Int → Int → tm_S → tm_R) (v0 : Int) (v1 : Int) (v2 : Int) (v4 : Int) (v5 : Int) (σ : tm_S) : tm_R :=
  if v5 < v2 then
    if v4 = 0 then
      tm_gz v4 (tm_rt v4 σ)
    else
      tm_gk (tm_k σ v0) 4 <|
      tm_gk (tm_k σ (tm_f σ 192 v0)) 20 <|
      tm_gx v5 (tm_n σ (tm_f σ 192 v0)) <|
      tm_gk (tm_k σ v1) 20 <|
      tm_gx v5 (tm_n σ v1) <|
      if (tm_a σ (tm_f σ 192 v0) v5) = (tm_a σ v1 v5) then
        tm_gi (v5 + 1) <|
        r27 v0 v1 v2 1 (v5 + 1) σ
      else
        tm_gi (v5 + 1) <|
        r27 v0 v1 v2 0 (v5 + 1) σ
  else
    tm_gz v4 (tm_rt v4 σ)
theorem wc_X5_is_B27 {p : Program} {l : Launch} {e : Env} {R : Room} {s : State} {m : MethodId} {args : Array Value} {below : List Frame} {meth : Method} {c : Code} {K : tm_K} {r27 : Int → Int → Int → Int → Int → tm_S → tm_R} (cx : tm_C p l R s m args meth c K cX5_is 6 RX5 "is" (some .boolean) 0 0) (h27 : ∀ (v0 : Int) (v1 : Int) (v2 : Int) (v4 : Int) (v5 : Int) (τ : tm_S) (ls : Array Slot), tm_in v0 → tm_in v1 → tm_in v2 → tm_in v4 → tm_in v5 → tm_has 0 ls 6 [(0, tm_rv K v0), (1, tm_rv K v1), (2, tm_iv v2), (4, tm_iv v4), (5, tm_iv v5)] → tm_J p l e R s m args below meth c K tm_xC 1 (r27 v0 v1 v2 v4 v5 τ) τ (F0 m 27 ls [])) (v0 : Int) (v1 : Int) (v2 : Int) (v4 : Int) (v5 : Int) (σ : tm_S) (ls : Array Slot) (g0 : tm_in v0) (g1 : tm_in v1) (g2 : tm_in v2) (g4 : tm_in v4) (g5 : tm_in v5) (hl : tm_has 0 ls 6 [(0, tm_rv K v0), (1, tm_rv K v1), (2, tm_iv v2), (4, tm_iv v4), (5, tm_iv v5)]) : tm_J p l e R s m args below meth c K tm_xC 1 (fc_X5_is_B27 r27 v0 v1 v2 v4 v5 σ) σ (F0 m 27 ls []) := by
  unfold fc_X5_is_B27
  refine tm_iload cx dX5_is_27 (tm_has_at hl 4 rfl) ?_
  refine tm_iload_n cx dX5_is_29 (tm_has_at hl 2 rfl) ?_
  refine tm_icmp_ge (tgt := 65) cx g5 g2 dX5_is_30 (by decide) (fun c30 => ?_) (fun c30 => ?_)
  · refine tm_iload cx dX5_is_33 (tm_has_at hl 3 rfl) ?_
    refine tm_if_eq (tgt := 65) cx g4 dX5_is_35 (by decide) (fun c35 => ?_) (fun c35 => ?_)
    · refine tm_iload cx dX5_is_65 (tm_has_at hl 3 rfl) ?_
      exact tm_zreturnG cx dX5_is_67
    · refine tm_aload_n cx dX5_is_38 (tm_has_at hl 0 rfl) ?_
      refine tm_gk_ (fun k39 => ?_)
      refine tg_X5_7 cx (fun _ => k39) dX5_is_39 (fun q39 => ?_)
      refine tm_iload cx dX5_is_42 (tm_has_at hl 4 rfl) ?_
      refine tm_gk_ (fun k44 => ?_)
      refine tm_bald cx (fun _ => ⟨k44, rfl⟩) g5 dX5_is_44 (fun i44 q44 => ?_)
      refine tm_aload_n cx dX5_is_45 (tm_has_at hl 1 rfl) ?_
      refine tm_iload cx dX5_is_46 (tm_has_at hl 4 rfl) ?_
      refine tm_gk_ (fun k48 => ?_)
      refine tm_bald cx (fun _ => ⟨k48, rfl⟩) g5 dX5_is_48 (fun i48 q48 => ?_)
      refine tm_icmp_ne (tgt := 56) cx q44 q48 dX5_is_49 (by decide) (fun c49 => ?_) (fun c49 => ?_)
      · refine tm_iconst cx dX5_is_52 ?_
        refine tm_goto (tgt := 57) cx dX5_is_53 (by decide) ?_
        refine tm_istore (lv' := [(4, tm_iv 1), (0, tm_rv K v0), (1, tm_rv K v1), (2, tm_iv v2), (5, tm_iv v5)]) cx dX5_is_57 hl (by decide) (by decide) rfl (fun ls hl => ?_)
        refine tm_iinc (lv' := [(5, tm_iv (v5 + 1)), (4, tm_iv 1), (0, tm_rv K v0), (1, tm_rv K v1), (2, tm_iv v2)]) cx dX5_is_59 hl (j := 4) rfl (by decide) (by decide) rfl (fun q59 ls hl => ?_)
        refine tm_goto (tgt := 27) cx dX5_is_62 (by decide) ?_
        exact h27 v0 v1 v2 1 (v5 + 1) _ _ g0 g1 g2 (by decide) q59 (tm_has_sub hl [2, 3, 4, 1, 0] rfl)
      · refine tm_iconst cx dX5_is_56 ?_
        refine tm_istore (lv' := [(4, tm_iv 0), (0, tm_rv K v0), (1, tm_rv K v1), (2, tm_iv v2), (5, tm_iv v5)]) cx dX5_is_57 hl (by decide) (by decide) rfl (fun ls hl => ?_)
        refine tm_iinc (lv' := [(5, tm_iv (v5 + 1)), (4, tm_iv 0), (0, tm_rv K v0), (1, tm_rv K v1), (2, tm_iv v2)]) cx dX5_is_59 hl (j := 4) rfl (by decide) (by decide) rfl (fun q59 ls hl => ?_)
        refine tm_goto (tgt := 27) cx dX5_is_62 (by decide) ?_
        exact h27 v0 v1 v2 0 (v5 + 1) _ _ g0 g1 g2 (by decide) q59 (tm_has_sub hl [2, 3, 4, 1, 0] rfl)
  · refine tm_iload cx dX5_is_65 (tm_has_at hl 3 rfl) ?_
    exact tm_zreturnG cx dX5_is_67
def fc_X5_is_L27 : Nat → Int → Int → Int → Int → Int → tm_S → tm_R
  | 0, _, _, _, _, _, _ => none
  | n + 1, v0, v1, v2, v4, v5, σ => fc_X5_is_B27 (fc_X5_is_L27 n) v0 v1 v2 v4 v5 σ
theorem wc_X5_is_L27 {p : Program} {l : Launch} {e : Env} {R : Room} {s : State} {m : MethodId} {args : Array Value} {below : List Frame} {meth : Method} {c : Code} {K : tm_K} (cx : tm_C p l R s m args meth c K cX5_is 6 RX5 "is" (some .boolean) 0 0) : ∀ (n : Nat) (v0 : Int) (v1 : Int) (v2 : Int) (v4 : Int) (v5 : Int) (σ : tm_S) (ls : Array Slot), tm_in v0 → tm_in v1 → tm_in v2 → tm_in v4 → tm_in v5 → tm_has 0 ls 6 [(0, tm_rv K v0), (1, tm_rv K v1), (2, tm_iv v2), (4, tm_iv v4), (5, tm_iv v5)] → tm_J p l e R s m args below meth c K tm_xC 1 (fc_X5_is_L27 n v0 v1 v2 v4 v5 σ) σ (F0 m 27 ls []) := by
  intro n
  induction n with
  | zero => intros; exact tm_none
  | succ n ih =>
    intro v0 v1 v2 v4 v5 σ ls g0 g1 g2 g4 g5 hl
    exact wc_X5_is_B27 (r27 := fc_X5_is_L27 n) cx ih v0 v1 v2 v4 v5 σ ls g0 g1 g2 g4 g5 hl
def fc_X5_is (a0 : Int) (a1 : Int) (a2 : Int) (a3 : Int) (σ : tm_S) : tm_R :=
  tm_gk (tm_k σ a0) 4 <|
  tm_gk (tm_k σ (tm_f σ 192 a0)) 20 <|
  if a2 = (tm_n σ (tm_f σ 192 a0)) then
    if (tm_f σ 193 a0) = a3 then
      fc_X5_is_L27 tm_FU a0 a1 a2 1 0 σ
    else
      fc_X5_is_L27 tm_FU a0 a1 a2 0 0 σ
  else
    fc_X5_is_L27 tm_FU a0 a1 a2 0 0 σ
theorem tm_fits_X5_is (K : tm_K) (a0 : Int) (a1 : Int) (a2 : Int) (a3 : Int) : (lg_sl [tm_rv K a0, tm_rv K a1, tm_iv a2, tm_iv a3]).length ≤ 4 := (tm_sl_r _ _ _ _ (tm_sl_r _ _ _ _ (tm_sl_i _ _ _ (tm_sl_i _ _ _ (tm_sl_n _)))))
theorem cc_X5_is (K : tm_K) (l : Launch) (hst : l.stackTraces = false) (a0 : Int) (g0 : tm_in a0) (a1 : Int) (g1 : tm_in a1) (a2 : Int) (g2 : tm_in a2) (a3 : Int) (g3 : tm_in a3) : tm_ct K tm_xC l yX5_is cX5_is 6 (some .boolean) 1 [tm_rv K a0, tm_rv K a1, tm_iv a2, tm_iv a3] (fc_X5_is a0 a1 a2 a3) 0 0 := by
  refine tm_ct_of hst (by decide +kernel) (Nat.le_trans (tm_fits_X5_is K a0 a1 a2 a3) (Nat.le_of_ble_eq_true rfl)) ?_
  intro p e R s m args below meth c cx σ ls hl0
  have hl : tm_has 0 ls 6 [(0, tm_rv K a0), (1, tm_rv K a1), (2, tm_iv a2), (3, tm_iv a3)] := ⟨by
    have h9 := hl0
    simp only [tm_args_r, tm_args_r, tm_args_i, tm_args_i, tm_args_n, Nat.zero_add, Nat.reduceAdd] at h9
    exact h9, by
    intro q hq
    simp only [List.mem_cons, List.not_mem_nil, or_false] at hq
    rcases hq with rfl | rfl | rfl | rfl
    · exact Or.inl (tm_rv_cat K a0)
    · exact Or.inl (tm_rv_cat K a1)
    · exact Or.inl rfl
    · exact Or.inl rfl⟩
  clear hl0
  unfold fc_X5_is
  refine tm_iload_n cx dX5_is_0 (tm_has_at hl 2 rfl) ?_
  refine tm_aload_n cx dX5_is_1 (tm_has_at hl 0 rfl) ?_
  refine tm_gk_ (fun k2 => ?_)
  refine tg_X5_7 cx (fun _ => k2) dX5_is_2 (fun q2 => ?_)
  refine tm_gk_ (fun k5 => ?_)
  refine tm_alen cx (fun _ => ⟨k5, rfl⟩) (by decide) dX5_is_5 (fun q5 => ?_)
  refine tm_icmp_ne (tgt := 21) cx g2 (tm_in0 q5) dX5_is_6 (by decide) (fun c6 => ?_) (fun c6 => ?_)
  · refine tm_aload_n cx dX5_is_9 (tm_has_at hl 0 rfl) ?_
    refine tg_X5_13 cx (fun _ => k2) dX5_is_10 (fun q10 => ?_)
    refine tm_iload_n cx dX5_is_13 (tm_has_at hl 3 rfl) ?_
    refine tm_icmp_ne (tgt := 21) cx q10 g3 dX5_is_14 (by decide) (fun c14 => ?_) (fun c14 => ?_)
    · refine tm_iconst cx dX5_is_17 ?_
      refine tm_goto (tgt := 22) cx dX5_is_18 (by decide) ?_
      refine tm_istore (lv' := [(4, tm_iv 1), (0, tm_rv K a0), (1, tm_rv K a1), (2, tm_iv a2), (3, tm_iv a3)]) cx dX5_is_22 hl (by decide) (by decide) rfl (fun ls hl => ?_)
      refine tm_iconst cx dX5_is_24 ?_
      refine tm_istore (lv' := [(5, tm_iv 0), (4, tm_iv 1), (0, tm_rv K a0), (1, tm_rv K a1), (2, tm_iv a2), (3, tm_iv a3)]) cx dX5_is_25 hl (by decide) (by decide) rfl (fun ls hl => ?_)
      exact wc_X5_is_L27 cx tm_FU a0 a1 a2 1 0 _ _ g0 g1 g2 (by decide) (by decide) (tm_has_sub hl [2, 3, 4, 1, 0] rfl)
    · refine tm_iconst cx dX5_is_21 ?_
      refine tm_istore (lv' := [(4, tm_iv 0), (0, tm_rv K a0), (1, tm_rv K a1), (2, tm_iv a2), (3, tm_iv a3)]) cx dX5_is_22 hl (by decide) (by decide) rfl (fun ls hl => ?_)
      refine tm_iconst cx dX5_is_24 ?_
      refine tm_istore (lv' := [(5, tm_iv 0), (4, tm_iv 0), (0, tm_rv K a0), (1, tm_rv K a1), (2, tm_iv a2), (3, tm_iv a3)]) cx dX5_is_25 hl (by decide) (by decide) rfl (fun ls hl => ?_)
      exact wc_X5_is_L27 cx tm_FU a0 a1 a2 0 0 _ _ g0 g1 g2 (by decide) (by decide) (tm_has_sub hl [2, 3, 4, 1, 0] rfl)
  · refine tm_iconst cx dX5_is_21 ?_
    refine tm_istore (lv' := [(4, tm_iv 0), (0, tm_rv K a0), (1, tm_rv K a1), (2, tm_iv a2), (3, tm_iv a3)]) cx dX5_is_22 hl (by decide) (by decide) rfl (fun ls hl => ?_)
    refine tm_iconst cx dX5_is_24 ?_
    refine tm_istore (lv' := [(5, tm_iv 0), (4, tm_iv 0), (0, tm_rv K a0), (1, tm_rv K a1), (2, tm_iv a2), (3, tm_iv a3)]) cx dX5_is_25 hl (by decide) (by decide) rfl (fun ls hl => ?_)
    exact wc_X5_is_L27 cx tm_FU a0 a1 a2 0 0 _ _ g0 g1 g2 (by decide) (by decide) (tm_has_sub hl [2, 3, 4, 1, 0] rfl)
def fc_find_B3 (r3 : Int → Int → Int → Int → tm_S → tm_R) (v1 : Int) (v2 : Int) (v3 : Int) (v4 : Int) (σ : tm_S) : tm_R :=
  tm_bd (fc_J3_size 106 σ) fun u9 σ9 =>
  if v4 < u9 then
    tm_bd (fc_J3_get 106 v4 σ9) fun u21 σ21 =>
    tm_gk (tm_k σ21 u21) 4 <|
    tm_bd (fc_X5_is u21 v1 v2 v3 σ21) fun u30 σ30 =>
    if u30 = 0 then
      tm_gi (v4 + 1) <|
      r3 v1 v2 v3 (v4 + 1) σ30
    else
      tm_bd (fc_J3_get 106 v4 σ30) fun u42 σ42 =>
      tm_gk (tm_k σ42 u42) 4 <|
      tm_rt u42 σ42
  else
    tm_rt (-1) σ9
theorem wc_find_B3 {p : Program} {l : Launch} {e : Env} {R : Room} {s : State} {m : MethodId} {args : Array Value} {below : List Frame} {meth : Method} {c : Code} {K : tm_K} {r3 : Int → Int → Int → Int → tm_S → tm_R} (cx : tm_C p l R s m args meth c K cX1_find 5 RX1 "find" (some (.object "TokenMouth$Name")) 3 64) (h3 : ∀ (v1 : Int) (v2 : Int) (v3 : Int) (v4 : Int) (τ : tm_S) (ls : Array Slot), tm_in v1 → tm_in v2 → tm_in v3 → tm_in v4 → tm_has 0 ls 5 [(0, tm_rv K 0), (1, tm_rv K v1), (2, tm_iv v2), (3, tm_iv v3), (4, tm_iv v4)] → tm_J p l e R s m args below meth c K tm_xC 2 (r3 v1 v2 v3 v4 τ) τ (F0 m 3 ls [])) (v1 : Int) (v2 : Int) (v3 : Int) (v4 : Int) (σ : tm_S) (ls : Array Slot) (g1 : tm_in v1) (g2 : tm_in v2) (g3 : tm_in v3) (g4 : tm_in v4) (hl : tm_has 0 ls 5 [(0, tm_rv K 0), (1, tm_rv K v1), (2, tm_iv v2), (3, tm_iv v3), (4, tm_iv v4)]) : tm_J p l e R s m args below meth c K tm_xC 2 (fc_find_B3 r3 v1 v2 v3 v4 σ) σ (F0 m 3 ls []) := by
  unfold fc_find_B3
  refine tm_iload cx dX1_find_3 (tm_has_at hl 4 rfl) ?_
  refine tm_aload_n cx dX1_find_5 (tm_has_at hl 0 rfl) ?_
  refine tg_X1_29 cx dX1_find_6 ?_
  refine tm_callV (n := 0) cx (cc_J3_size K l (tm_hst cx) 106 (by decide)) (lw_V q354 q355 q356 q100 q357) ⟨rfl, by decide +kernel, by decide +kernel, by decide +kernel⟩ rfl tm_cd_J3 (fun h => (tm_hC_106 h).1) ⟨Nat.le_of_ble_eq_true rfl, Nat.le_of_ble_eq_true rfl⟩ rfl (Nat.le_of_ble_eq_true rfl) hl.1.1 dX1_find_9 (fun u9 σ9 q9 => ?_)
  show tm_J p l e R s m args below meth c K tm_xC 2 _ _ (F0 m 12 ls [tm_iv u9, tm_iv v4])
  refine tm_icmp_ge (tgt := 55) cx g4 q9 dX1_find_12 (by decide) (fun c12 => ?_) (fun c12 => ?_)
  · refine tm_aload_n cx dX1_find_15 (tm_has_at hl 0 rfl) ?_
    refine tg_X1_29 cx dX1_find_16 ?_
    refine tm_iload cx dX1_find_19 (tm_has_at hl 4 rfl) ?_
    refine tm_callV (n := 1) cx (cc_J3_get K l (tm_hst cx) 106 (by decide) v4 g4) (lw_V q371 q372 q373 q100 q374) ⟨rfl, by decide +kernel, by decide +kernel, by decide +kernel⟩ rfl tm_cd_J3 (fun h => (tm_hC_106 h).1) ⟨Nat.le_of_ble_eq_true rfl, Nat.le_of_ble_eq_true rfl⟩ rfl (Nat.le_of_ble_eq_true rfl) hl.1.1 dX1_find_21 (fun u21 σ21 q21 => ?_)
    show tm_J p l e R s m args below meth c K tm_xC 2 _ _ (F0 m 24 ls [tm_rv K u21])
    refine tm_gk_ (fun k24 => ?_)
    refine tm_castO cx tm_cd_X5 (fun _ => k24) q213 dX1_find_24 ?_
    refine tm_aload_n cx dX1_find_27 (tm_has_at hl 1 rfl) ?_
    refine tm_iload_n cx dX1_find_28 (tm_has_at hl 2 rfl) ?_
    refine tm_iload_n cx dX1_find_29 (tm_has_at hl 3 rfl) ?_
    refine tm_callV (n := 3) cx (cc_X5_is K l (tm_hst cx) u21 q21 v1 g1 v2 g2 v3 g3) (lw_V q592 q593 q594 q103 q595) ⟨rfl, by decide +kernel, by decide +kernel, by decide +kernel⟩ rfl tm_cd_X5 (fun _ => k24) ⟨Nat.le_of_ble_eq_true rfl, Nat.le_of_ble_eq_true rfl⟩ rfl (Nat.le_of_ble_eq_true rfl) hl.1.1 dX1_find_30 (fun u30 σ30 q30 => ?_)
    show tm_J p l e R s m args below meth c K tm_xC 2 _ _ (F0 m 33 ls [tm_iv u30])
    refine tm_if_eq (tgt := 49) cx q30 dX1_find_33 (by decide) (fun c33 => ?_) (fun c33 => ?_)
    · refine tm_iinc (lv' := [(4, tm_iv (v4 + 1)), (0, tm_rv K 0), (1, tm_rv K v1), (2, tm_iv v2), (3, tm_iv v3)]) cx dX1_find_49 hl (j := 4) rfl (by decide) (by decide) rfl (fun q49 ls hl => ?_)
      refine tm_goto (tgt := 3) cx dX1_find_52 (by decide) ?_
      exact h3 v1 v2 v3 (v4 + 1) _ _ g1 g2 g3 q49 (tm_has_sub hl [1, 2, 3, 4, 0] rfl)
    · refine tm_aload_n cx dX1_find_36 (tm_has_at hl 0 rfl) ?_
      refine tg_X1_29 cx dX1_find_37 ?_
      refine tm_iload cx dX1_find_40 (tm_has_at hl 4 rfl) ?_
      refine tm_callV (n := 1) cx (cc_J3_get K l (tm_hst cx) 106 (by decide) v4 g4) (lw_V q371 q372 q373 q100 q374) ⟨rfl, by decide +kernel, by decide +kernel, by decide +kernel⟩ rfl tm_cd_J3 (fun h => (tm_hC_106 h).1) ⟨Nat.le_of_ble_eq_true rfl, Nat.le_of_ble_eq_true rfl⟩ rfl (Nat.le_of_ble_eq_true rfl) hl.1.1 dX1_find_42 (fun u42 σ42 q42 => ?_)
      show tm_J p l e R s m args below meth c K tm_xC 2 _ _ (F0 m 45 ls [tm_rv K u42])
      refine tm_gk_ (fun k45 => ?_)
      refine tm_castO cx tm_cd_X5 (fun _ => k45) q213 dX1_find_45 ?_
      exact tm_areturn cx ⟨_, rfl, Or.inl ⟨_, rfl⟩⟩ q42 dX1_find_48
  · refine tm_null cx dX1_find_55 ?_
    exact tm_areturn cx ⟨_, rfl, Or.inl ⟨_, rfl⟩⟩ (by decide) dX1_find_56
def fc_find_L3 : Nat → Int → Int → Int → Int → tm_S → tm_R
  | 0, _, _, _, _, _ => none
  | n + 1, v1, v2, v3, v4, σ => fc_find_B3 (fc_find_L3 n) v1 v2 v3 v4 σ
theorem wc_find_L3 {p : Program} {l : Launch} {e : Env} {R : Room} {s : State} {m : MethodId} {args : Array Value} {below : List Frame} {meth : Method} {c : Code} {K : tm_K} (cx : tm_C p l R s m args meth c K cX1_find 5 RX1 "find" (some (.object "TokenMouth$Name")) 3 64) : ∀ (n : Nat) (v1 : Int) (v2 : Int) (v3 : Int) (v4 : Int) (σ : tm_S) (ls : Array Slot), tm_in v1 → tm_in v2 → tm_in v3 → tm_in v4 → tm_has 0 ls 5 [(0, tm_rv K 0), (1, tm_rv K v1), (2, tm_iv v2), (3, tm_iv v3), (4, tm_iv v4)] → tm_J p l e R s m args below meth c K tm_xC 2 (fc_find_L3 n v1 v2 v3 v4 σ) σ (F0 m 3 ls []) := by
  intro n
  induction n with
  | zero => intros; exact tm_none
  | succ n ih =>
    intro v1 v2 v3 v4 σ ls g1 g2 g3 g4 hl
    exact wc_find_B3 (r3 := fc_find_L3 n) cx ih v1 v2 v3 v4 σ ls g1 g2 g3 g4 hl
def fc_find (a1 : Int) (a2 : Int) (a3 : Int) (σ : tm_S) : tm_R :=
  fc_find_L3 tm_FU a1 a2 a3 0 σ
theorem tm_fits_X1_find (K : tm_K) (a1 : Int) (a2 : Int) (a3 : Int) : (lg_sl [tm_rv K 0, tm_rv K a1, tm_iv a2, tm_iv a3]).length ≤ 4 := (tm_sl_r _ _ _ _ (tm_sl_r _ _ _ _ (tm_sl_i _ _ _ (tm_sl_i _ _ _ (tm_sl_n _)))))
theorem cc_find (K : tm_K) (l : Launch) (hst : l.stackTraces = false) (a1 : Int) (g1 : tm_in a1) (a2 : Int) (g2 : tm_in a2) (a3 : Int) (g3 : tm_in a3) : tm_ct K tm_xC l yX1_find cX1_find 5 (some (.object "TokenMouth$Name")) 2 [tm_rv K 0, tm_rv K a1, tm_iv a2, tm_iv a3] (fc_find a1 a2 a3) 3 64 := by
  refine tm_ct_of hst (by decide +kernel) (Nat.le_trans (tm_fits_X1_find K a1 a2 a3) (Nat.le_of_ble_eq_true rfl)) ?_
  intro p e R s m args below meth c cx σ ls hl0
  have hl : tm_has 0 ls 5 [(0, tm_rv K 0), (1, tm_rv K a1), (2, tm_iv a2), (3, tm_iv a3)] := ⟨by
    have h9 := hl0
    simp only [tm_args_r, tm_args_r, tm_args_i, tm_args_i, tm_args_n, Nat.zero_add, Nat.reduceAdd] at h9
    exact h9, by
    intro q hq
    simp only [List.mem_cons, List.not_mem_nil, or_false] at hq
    rcases hq with rfl | rfl | rfl | rfl
    · exact Or.inl (tm_rv_cat K 0)
    · exact Or.inl (tm_rv_cat K a1)
    · exact Or.inl rfl
    · exact Or.inl rfl⟩
  clear hl0
  unfold fc_find
  refine tm_iconst cx dX1_find_0 ?_
  refine tm_istore (lv' := [(4, tm_iv 0), (0, tm_rv K 0), (1, tm_rv K a1), (2, tm_iv a2), (3, tm_iv a3)]) cx dX1_find_1 hl (by decide) (by decide) rfl (fun ls hl => ?_)
  exact wc_find_L3 cx tm_FU a1 a2 a3 0 _ _ g1 g2 g3 (by decide) (tm_has_sub hl [1, 2, 3, 4, 0] rfl)
def fc_tokenOf (a1 : Int) (σ : tm_S) : tm_R :=
  tm_gk (tm_k σ a1) 4 <|
  tm_gi (2 * (tm_f σ 194 a1)) <|
  tm_gi (4096 + (2 * (tm_f σ 194 a1))) <|
  tm_rt (4096 + (2 * (tm_f σ 194 a1))) σ
theorem tm_fits_X1_tokenOf (K : tm_K) (a1 : Int) : (lg_sl [tm_rv K a1]).length ≤ 1 := (tm_sl_r _ _ _ _ (tm_sl_n _))
theorem cc_tokenOf (K : tm_K) (l : Launch) (hst : l.stackTraces = false) (a1 : Int) (g1 : tm_in a1) : tm_ct K tm_xC l yX1_tokenOf cX1_tokenOf 1 (some .int) 1 [tm_rv K a1] (fc_tokenOf a1) 0 0 := by
  refine tm_ct_of hst (by decide +kernel) (Nat.le_trans (tm_fits_X1_tokenOf K a1) (Nat.le_of_ble_eq_true rfl)) ?_
  intro p e R s m args below meth c cx σ ls hl0
  have hl : tm_has 0 ls 1 [(0, tm_rv K a1)] := ⟨by
    have h9 := hl0
    simp only [tm_args_r, tm_args_n, Nat.zero_add, Nat.reduceAdd] at h9
    exact h9, by
    intro q hq
    simp only [List.mem_cons, List.not_mem_nil, or_false] at hq
    rcases hq with rfl
    · exact Or.inl (tm_rv_cat K a1)⟩
  clear hl0
  unfold fc_tokenOf
  refine tm_sipush cx dX1_tokenOf_0 (by decide) ?_
  refine tm_iconst cx dX1_tokenOf_3 ?_
  refine tm_aload_n cx dX1_tokenOf_4 (tm_has_at hl 0 rfl) ?_
  refine tm_gk_ (fun k5 => ?_)
  refine tg_X1_165 cx (fun _ => k5) dX1_tokenOf_5 (fun q5 => ?_)
  refine tm_imul cx dX1_tokenOf_8 (fun q8 => ?_)
  refine tm_iadd cx dX1_tokenOf_9 (fun q9 => ?_)
  exact tm_ireturn cx q9 dX1_tokenOf_10
def fc_X5_init (a0 : Int) (a1 : Int) (a2 : Int) (a3 : Int) (σ : tm_S) : tm_R :=
  tm_gk (tm_k σ a0) 4 <|
  tm_gk (tm_k (tm_wf σ 192 a0 a1) a0) 4 <|
  tm_gz a2 <|
  tm_gk (tm_k (tm_wf (tm_wf σ 192 a0 a1) 193 a0 a2) a0) 4 <|
  tm_ls (tm_wf (tm_wf (tm_wf σ 192 a0 a1) 193 a0 a2) 194 a0 a3) fun τ1 =>
  tm_rt 0 τ1
theorem tm_fits_X5_init (K : tm_K) (a0 : Int) (a1 : Int) (a2 : Int) (a3 : Int) : (lg_sl [tm_rv K a0, tm_rv K a1, tm_iv a2, tm_iv a3]).length ≤ 4 := (tm_sl_r _ _ _ _ (tm_sl_r _ _ _ _ (tm_sl_i _ _ _ (tm_sl_i _ _ _ (tm_sl_n _)))))
theorem cc_X5_init (K : tm_K) (l : Launch) (hst : l.stackTraces = false) (a0 : Int) (g0 : tm_in a0) (a1 : Int) (g1 : tm_in a1) (a2 : Int) (g2 : tm_in a2) (a3 : Int) (g3 : tm_in a3) : tm_ct K tm_xC l yX5_init cX5_init 4 none 0 [tm_rv K a0, tm_rv K a1, tm_iv a2, tm_iv a3] (fc_X5_init a0 a1 a2 a3) 1 28 := by
  refine tm_ct_of hst (by decide +kernel) (Nat.le_trans (tm_fits_X5_init K a0 a1 a2 a3) (Nat.le_of_ble_eq_true rfl)) ?_
  intro p e R s m args below meth c cx σ ls hl0
  have hl : tm_has 0 ls 4 [(0, tm_rv K a0), (1, tm_rv K a1), (2, tm_iv a2), (3, tm_iv a3)] := ⟨by
    have h9 := hl0
    simp only [tm_args_r, tm_args_r, tm_args_i, tm_args_i, tm_args_n, Nat.zero_add, Nat.reduceAdd] at h9
    exact h9, by
    intro q hq
    simp only [List.mem_cons, List.not_mem_nil, or_false] at hq
    rcases hq with rfl | rfl | rfl | rfl
    · exact Or.inl (tm_rv_cat K a0)
    · exact Or.inl (tm_rv_cat K a1)
    · exact Or.inl rfl
    · exact Or.inl rfl⟩
  clear hl0
  unfold fc_X5_init
  refine tm_aload_n cx dX5_init_0 (tm_has_at hl 0 rfl) ?_
  refine tm_gk_ (fun k1 => ?_)
  refine tm_objInit cx (fun _ => by rw [k1]; decide) q269 q130 q131 ⟨by decide, by decide⟩ (Nat.le_of_ble_eq_true rfl) hl.1.1 dX5_init_1 ?_
  refine tm_aload_n cx dX5_init_4 (tm_has_at hl 0 rfl) ?_
  refine tm_aload_n cx dX5_init_5 (tm_has_at hl 1 rfl) ?_
  refine tq_X5_7 cx (fun _ => k1) g1 dX5_init_6 ?_
  refine tm_aload_n cx dX5_init_9 (tm_has_at hl 0 rfl) ?_
  refine tm_iload_n cx dX5_init_10 (tm_has_at hl 2 rfl) ?_
  refine tm_gk_ (fun k11 => ?_)
  refine tm_gz_ (fun z11 => ?_)
  refine tq_X5_13 cx (fun _ => k11) z11 g2 dX5_init_11 ?_
  refine tm_aload_n cx dX5_init_14 (tm_has_at hl 0 rfl) ?_
  refine tm_iload_n cx dX5_init_15 (tm_has_at hl 3 rfl) ?_
  refine tm_gk_ (fun k16 => ?_)
  refine tq_X5_17 cx (fun _ => k16) g3 dX5_init_16 ?_
  refine tm_ls_ (fun τ1 => ?_)
  exact tm_vreturn cx dX5_init_19
def fc_known_B51 (r51 : Int → Int → Int → Int → Int → tm_S → tm_R) (v1 : Int) (v2 : Int) (v3 : Int) (v5 : Int) (v6 : Int) (σ : tm_S) : tm_R :=
  if v6 < v2 then
    tm_gk (tm_k σ v1) 20 <|
    tm_gx v6 (tm_n σ v1) <|
    tm_gk (tm_k σ v5) 20 <|
    tm_gx v6 (tm_n σ v5) <|
    tm_gb (tm_a σ v1 v6) <|
    tm_gi (v6 + 1) <|
    r51 v1 v2 v3 v5 (v6 + 1) (tm_wa σ v5 v6 (tm_a σ v1 v6))
  else
    tm_gn σ 4 <|
    tm_lt (1000 + (tm_c σ : Int)) fun n72 =>
    tm_ls (tm_ne σ 4 0 4) fun τ4 =>
    tm_bd (fc_J3_size 106 τ4) fun u83 σ83 =>
    tm_gk (tm_k σ83 n72) 4 <|
    tm_bd (fc_X5_init n72 v5 v3 u83 σ83) fun u86 σ86 =>
    tm_bd (fc_J3_add 106 n72 σ86) fun u97 σ97 =>
    tm_bd (fc_tokenOf n72 σ97) fun u103 σ103 =>
    tm_rt u103 σ103
theorem wc_known_B51 {p : Program} {l : Launch} {e : Env} {R : Room} {s : State} {m : MethodId} {args : Array Value} {below : List Frame} {meth : Method} {c : Code} {K : tm_K} {r51 : Int → Int → Int → Int → Int → tm_S → tm_R} (cx : tm_C p l R s m args meth c K cX1_known 7 RX1 "known" (some .int) 8 208) (h51 : ∀ (v1 : Int) (v2 : Int) (v3 : Int) (v5 : Int) (v6 : Int) (τ : tm_S) (ls : Array Slot), tm_in v1 → tm_in v2 → tm_in v3 → tm_in v5 → tm_in v6 → tm_has 0 ls 7 [(0, tm_rv K 0), (1, tm_rv K v1), (2, tm_iv v2), (3, tm_iv v3), (5, tm_rv K v5), (6, tm_iv v6)] → tm_J p l e R s m args below meth c K tm_xC 1 (r51 v1 v2 v3 v5 v6 τ) τ (F0 m 51 ls [])) (v1 : Int) (v2 : Int) (v3 : Int) (v5 : Int) (v6 : Int) (σ : tm_S) (ls : Array Slot) (g1 : tm_in v1) (g2 : tm_in v2) (g3 : tm_in v3) (g5 : tm_in v5) (g6 : tm_in v6) (hl : tm_has 0 ls 7 [(0, tm_rv K 0), (1, tm_rv K v1), (2, tm_iv v2), (3, tm_iv v3), (5, tm_rv K v5), (6, tm_iv v6)]) : tm_J p l e R s m args below meth c K tm_xC 1 (fc_known_B51 r51 v1 v2 v3 v5 v6 σ) σ (F0 m 51 ls []) := by
  unfold fc_known_B51
  refine tm_iload cx dX1_known_51 (tm_has_at hl 5 rfl) ?_
  refine tm_iload_n cx dX1_known_53 (tm_has_at hl 2 rfl) ?_
  refine tm_icmp_ge (tgt := 72) cx g6 g2 dX1_known_54 (by decide) (fun c54 => ?_) (fun c54 => ?_)
  · refine tm_aload cx dX1_known_57 (tm_has_at hl 4 rfl) ?_
    refine tm_iload cx dX1_known_59 (tm_has_at hl 5 rfl) ?_
    refine tm_aload_n cx dX1_known_61 (tm_has_at hl 1 rfl) ?_
    refine tm_iload cx dX1_known_62 (tm_has_at hl 5 rfl) ?_
    refine tm_gk_ (fun k64 => ?_)
    refine tm_bald cx (fun _ => ⟨k64, rfl⟩) g6 dX1_known_64 (fun i64 q64 => ?_)
    refine tm_gk_ (fun k65 => ?_)
    refine tm_bast cx tm_famC (fun _ => ⟨k65, rfl⟩) g6 q64 dX1_known_65 ?_
    refine tm_iinc (lv' := [(6, tm_iv (v6 + 1)), (0, tm_rv K 0), (1, tm_rv K v1), (2, tm_iv v2), (3, tm_iv v3), (5, tm_rv K v5)]) cx dX1_known_66 hl (j := 5) rfl (by decide) (by decide) rfl (fun q66 ls hl => ?_)
    refine tm_goto (tgt := 51) cx dX1_known_69 (by decide) ?_
    exact h51 v1 v2 v3 v5 (v6 + 1) _ _ g1 g2 g3 g5 q66 (tm_has_sub hl [1, 2, 3, 4, 5, 0] rfl)
  · refine tm_mk cx tm_cd_X5 tm_famC q213 q214 q103 (tm_df5 K) dX1_known_72 (fun q72 => ?_)
    refine tm_ltr_ q72 (fun n72 p72 => ?_)
    refine tm_ls_ (fun τ4 => ?_)
    refine tm_dup_r cx dX1_known_75 ?_
    refine tm_aload cx dX1_known_76 (tm_has_at hl 4 rfl) ?_
    refine tm_iload_n cx dX1_known_78 (tm_has_at hl 3 rfl) ?_
    refine tm_aload_n cx dX1_known_79 (tm_has_at hl 0 rfl) ?_
    refine tg_X1_29 cx dX1_known_80 ?_
    refine tm_callV (n := 0) cx (cc_J3_size K l (tm_hst cx) 106 (by decide)) (lw_V q354 q355 q356 q100 q357) ⟨rfl, by decide +kernel, by decide +kernel, by decide +kernel⟩ rfl tm_cd_J3 (fun h => (tm_hC_106 h).1) ⟨Nat.le_of_ble_eq_true rfl, Nat.le_of_ble_eq_true rfl⟩ rfl (Nat.le_of_ble_eq_true rfl) hl.1.1 dX1_known_83 (fun u83 σ83 q83 => ?_)
    show tm_J p l e R s m args below meth c K tm_xC 1 _ _ (F0 m 86 ls [tm_iv u83, tm_iv v3, tm_rv K v5, tm_rv K n72, tm_rv K n72])
    refine tm_gk_ (fun k86 => ?_)
    refine tm_callI (n := 3) cx (cc_X5_init K l (tm_hst cx) n72 p72 v5 g5 v3 g3 u83 q83) q268 q103 q266 q267 rfl ⟨by decide +kernel, by decide +kernel, by decide +kernel⟩ rfl (fun h => by rw [(fun _ => k86) h]; decide) ⟨Nat.le_of_ble_eq_true rfl, Nat.le_of_ble_eq_true rfl⟩ rfl (Nat.le_of_ble_eq_true rfl) hl.1.1 dX1_known_86 (fun u86 σ86 q86 => ?_)
    show tm_J p l e R s m args below meth c K tm_xC 1 _ _ (F0 m 89 ls [tm_rv K n72])
    refine tm_astore (lv' := [(6, tm_rv K n72), (0, tm_rv K 0), (1, tm_rv K v1), (2, tm_iv v2), (3, tm_iv v3), (5, tm_rv K v5)]) cx dX1_known_89 hl (by decide) (by decide) rfl (fun ls hl => ?_)
    refine tm_aload_n cx dX1_known_91 (tm_has_at hl 1 rfl) ?_
    refine tg_X1_29 cx dX1_known_92 ?_
    refine tm_aload cx dX1_known_95 (tm_has_at hl 0 rfl) ?_
    refine tm_callV (n := 1) cx (cc_J3_add K l (tm_hst cx) 106 (by decide) n72 p72) (lw_V q286 q287 q288 q100 q289) ⟨rfl, by decide +kernel, by decide +kernel, by decide +kernel⟩ rfl tm_cd_J3 (fun h => (tm_hC_106 h).1) ⟨Nat.le_of_ble_eq_true rfl, Nat.le_of_ble_eq_true rfl⟩ rfl (Nat.le_of_ble_eq_true rfl) hl.1.1 dX1_known_97 (fun u97 σ97 q97 => ?_)
    show tm_J p l e R s m args below meth c K tm_xC 1 _ _ (F0 m 100 ls [tm_iv u97])
    refine tm_pop_i cx dX1_known_100 ?_
    refine tm_aload cx dX1_known_101 (tm_has_at hl 0 rfl) ?_
    refine tm_callS (n := 1) cx (cc_tokenOf K l (tm_hst cx) n72 p72) (lw_S q596 q597 q95 q598) ⟨by decide +kernel, by decide +kernel, by decide +kernel⟩ rfl ⟨Nat.le_of_ble_eq_true rfl, Nat.le_of_ble_eq_true rfl⟩ rfl (Nat.le_of_ble_eq_true rfl) hl.1.1 dX1_known_103 (fun u103 σ103 q103 => ?_)
    show tm_J p l e R s m args below meth c K tm_xC 1 _ _ (F0 m 106 ls [tm_iv u103])
    exact tm_ireturn cx q103 dX1_known_106
def fc_known_L51 : Nat → Int → Int → Int → Int → Int → tm_S → tm_R
  | 0, _, _, _, _, _, _ => none
  | n + 1, v1, v2, v3, v5, v6, σ => fc_known_B51 (fc_known_L51 n) v1 v2 v3 v5 v6 σ
theorem wc_known_L51 {p : Program} {l : Launch} {e : Env} {R : Room} {s : State} {m : MethodId} {args : Array Value} {below : List Frame} {meth : Method} {c : Code} {K : tm_K} (cx : tm_C p l R s m args meth c K cX1_known 7 RX1 "known" (some .int) 8 208) : ∀ (n : Nat) (v1 : Int) (v2 : Int) (v3 : Int) (v5 : Int) (v6 : Int) (σ : tm_S) (ls : Array Slot), tm_in v1 → tm_in v2 → tm_in v3 → tm_in v5 → tm_in v6 → tm_has 0 ls 7 [(0, tm_rv K 0), (1, tm_rv K v1), (2, tm_iv v2), (3, tm_iv v3), (5, tm_rv K v5), (6, tm_iv v6)] → tm_J p l e R s m args below meth c K tm_xC 1 (fc_known_L51 n v1 v2 v3 v5 v6 σ) σ (F0 m 51 ls []) := by
  intro n
  induction n with
  | zero => intros; exact tm_none
  | succ n ih =>
    intro v1 v2 v3 v5 v6 σ ls g1 g2 g3 g5 g6 hl
    exact wc_known_B51 (r51 := fc_known_L51 n) cx ih v1 v2 v3 v5 v6 σ ls g1 g2 g3 g5 g6 hl
def fc_known_J43 (v1 : Int) (v2 : Int) (v3 : Int) (σ : tm_S) : tm_R :=
  tm_gx v2 1000000 <|
  tm_gn σ (Int.toNat v2) <|
  tm_lt (1000 + (tm_c σ : Int)) fun n44 =>
  tm_ls (tm_ne σ 20 v2 (Int.toNat v2)) fun τ3 =>
  fc_known_L51 tm_FU v1 v2 v3 n44 0 τ3
theorem wc_known_J43 {p : Program} {l : Launch} {e : Env} {R : Room} {s : State} {m : MethodId} {args : Array Value} {below : List Frame} {meth : Method} {c : Code} {K : tm_K} (cx : tm_C p l R s m args meth c K cX1_known 7 RX1 "known" (some .int) 8 208) (v1 : Int) (v2 : Int) (v3 : Int) (σ : tm_S) (ls : Array Slot) (g1 : tm_in v1) (g2 : tm_in v2) (g3 : tm_in v3) (hl : tm_has 0 ls 7 [(0, tm_rv K 0), (1, tm_rv K v1), (2, tm_iv v2), (3, tm_iv v3)]) : tm_J p l e R s m args below meth c K tm_xC 1 (fc_known_J43 v1 v2 v3 σ) σ (F0 m 43 ls []) := by
  unfold fc_known_J43
  refine tm_iload_n cx dX1_known_43 (tm_has_at hl 2 rfl) ?_
  refine tm_newarray_byte cx tm_famC g2 dX1_known_44 (fun q44 => ?_)
  refine tm_ltr_ q44 (fun n44 p44 => ?_)
  refine tm_ls_ (fun τ3 => ?_)
  refine tm_astore (lv' := [(5, tm_rv K n44), (0, tm_rv K 0), (1, tm_rv K v1), (2, tm_iv v2), (3, tm_iv v3)]) cx dX1_known_46 hl (by decide) (by decide) rfl (fun ls hl => ?_)
  refine tm_iconst cx dX1_known_48 ?_
  refine tm_istore (lv' := [(6, tm_iv 0), (5, tm_rv K n44), (0, tm_rv K 0), (1, tm_rv K v1), (2, tm_iv v2), (3, tm_iv v3)]) cx dX1_known_49 hl (by decide) (by decide) rfl (fun ls hl => ?_)
  exact wc_known_L51 cx tm_FU v1 v2 v3 n44 0 _ _ g1 g2 g3 p44 (by decide) (tm_has_sub hl [2, 3, 4, 5, 1, 0] rfl)
def fc_known (a1 : Int) (a2 : Int) (a3 : Int) (σ : tm_S) : tm_R :=
  tm_bd (fc_find a1 a2 a3 σ) fun u4 σ4 =>
  if u4 < 0 then
    tm_bd (fc_J3_size 106 σ4) fun u24 σ24 =>
    tm_gi (18 + 100) <|
    if u24 = (18 + 100) then
      tm_bd (fc_fail 5 σ24) fun _ _ => none
    else
      fc_known_J43 a1 a2 a3 σ24
  else
    tm_bd (fc_tokenOf u4 σ4) fun u16 σ16 =>
    tm_rt u16 σ16
theorem tm_fits_X1_known (K : tm_K) (a1 : Int) (a2 : Int) (a3 : Int) : (lg_sl [tm_rv K 0, tm_rv K a1, tm_iv a2, tm_iv a3]).length ≤ 4 := (tm_sl_r _ _ _ _ (tm_sl_r _ _ _ _ (tm_sl_i _ _ _ (tm_sl_i _ _ _ (tm_sl_n _)))))
theorem cc_known (K : tm_K) (l : Launch) (hst : l.stackTraces = false) (a1 : Int) (g1 : tm_in a1) (a2 : Int) (g2 : tm_in a2) (a3 : Int) (g3 : tm_in a3) : tm_ct K tm_xC l yX1_known cX1_known 7 (some .int) 1 [tm_rv K 0, tm_rv K a1, tm_iv a2, tm_iv a3] (fc_known a1 a2 a3) 8 208 := by
  refine tm_ct_of hst (by decide +kernel) (Nat.le_trans (tm_fits_X1_known K a1 a2 a3) (Nat.le_of_ble_eq_true rfl)) ?_
  intro p e R s m args below meth c cx σ ls hl0
  have hl : tm_has 0 ls 7 [(0, tm_rv K 0), (1, tm_rv K a1), (2, tm_iv a2), (3, tm_iv a3)] := ⟨by
    have h9 := hl0
    simp only [tm_args_r, tm_args_r, tm_args_i, tm_args_i, tm_args_n, Nat.zero_add, Nat.reduceAdd] at h9
    exact h9, by
    intro q hq
    simp only [List.mem_cons, List.not_mem_nil, or_false] at hq
    rcases hq with rfl | rfl | rfl | rfl
    · exact Or.inl (tm_rv_cat K 0)
    · exact Or.inl (tm_rv_cat K a1)
    · exact Or.inl rfl
    · exact Or.inl rfl⟩
  clear hl0
  unfold fc_known
  refine tm_aload_n cx dX1_known_0 (tm_has_at hl 0 rfl) ?_
  refine tm_aload_n cx dX1_known_1 (tm_has_at hl 1 rfl) ?_
  refine tm_iload_n cx dX1_known_2 (tm_has_at hl 2 rfl) ?_
  refine tm_iload_n cx dX1_known_3 (tm_has_at hl 3 rfl) ?_
  refine tm_callV (n := 3) cx (cc_find K l (tm_hst cx) a1 g1 a2 g2 a3 g3) (lw_V q588 q590 qs12 q95 q591) ⟨rfl, by decide +kernel, by decide +kernel, by decide +kernel⟩ rfl tm_cd_X1 (fun h => (tm_hC_0 h).1) ⟨Nat.le_of_ble_eq_true rfl, Nat.le_of_ble_eq_true rfl⟩ rfl (Nat.le_of_ble_eq_true rfl) hl.1.1 dX1_known_4 (fun u4 σ4 q4 => ?_)
  show tm_J p l e R s m args below meth c K tm_xC 1 _ _ (F0 m 7 ls [tm_rv K u4])
  refine tm_astore (lv' := [(4, tm_rv K u4), (0, tm_rv K 0), (1, tm_rv K a1), (2, tm_iv a2), (3, tm_iv a3)]) cx dX1_known_7 hl (by decide) (by decide) rfl (fun ls hl => ?_)
  refine tm_aload cx dX1_known_9 (tm_has_at hl 0 rfl) ?_
  refine tm_ifnull (tgt := 20) cx dX1_known_11 (by decide) (fun c11 => ?_) (fun c11 => ?_)
  · refine tm_aload_n cx dX1_known_20 (tm_has_at hl 1 rfl) ?_
    refine tg_X1_29 cx dX1_known_21 ?_
    refine tm_callV (n := 0) cx (cc_J3_size K l (tm_hst cx) 106 (by decide)) (lw_V q354 q355 q356 q100 q357) ⟨rfl, by decide +kernel, by decide +kernel, by decide +kernel⟩ rfl tm_cd_J3 (fun h => (tm_hC_106 h).1) ⟨Nat.le_of_ble_eq_true rfl, Nat.le_of_ble_eq_true rfl⟩ rfl (Nat.le_of_ble_eq_true rfl) hl.1.1 dX1_known_24 (fun u24 σ24 q24 => ?_)
    show tm_J p l e R s m args below meth c K tm_xC 1 _ _ (F0 m 27 ls [tm_iv u24])
    refine tm_aload_n cx dX1_known_27 (tm_has_at hl 1 rfl) ?_
    refine tg_X1_22 cx dX1_known_28 ?_
    refine tm_alen cx tm_hC_105 (by decide) dX1_known_31 (fun q31 => ?_)
    refine tm_bipush cx dX1_known_32 (by decide) ?_
    refine tm_iadd cx dX1_known_34 (fun q34 => ?_)
    refine tm_icmp_ne (tgt := 43) cx q24 q34 dX1_known_35 (by decide) (fun c35 => ?_) (fun c35 => ?_)
    · refine tm_aload_n cx dX1_known_38 (tm_has_at hl 1 rfl) ?_
      refine tm_iconst cx dX1_known_39 ?_
      refine tm_callV (n := 1) cx (cc_fail K l (tm_hst cx) 5 (by decide)) (lw_V q580 q582 qs10 q95 q583) ⟨rfl, by decide +kernel, by decide +kernel, by decide +kernel⟩ rfl tm_cd_X1 (fun h => (tm_hC_0 h).1) ⟨Nat.le_of_ble_eq_true rfl, Nat.le_of_ble_eq_true rfl⟩ rfl (Nat.le_of_ble_eq_true rfl) hl.1.1 dX1_known_40 (fun _ _ _ => ?_)
      exact tm_none
    · exact wc_known_J43 cx a1 a2 a3 _ _ g1 g2 g3 (tm_has_sub hl [1, 2, 3, 4] rfl)
  · refine tm_aload cx dX1_known_14 (tm_has_at hl 0 rfl) ?_
    refine tm_callS (n := 1) cx (cc_tokenOf K l (tm_hst cx) u4 q4) (lw_S q596 q597 q95 q598) ⟨by decide +kernel, by decide +kernel, by decide +kernel⟩ rfl ⟨Nat.le_of_ble_eq_true rfl, Nat.le_of_ble_eq_true rfl⟩ rfl (Nat.le_of_ble_eq_true rfl) hl.1.1 dX1_known_16 (fun u16 σ16 q16 => ?_)
    show tm_J p l e R s m args below meth c K tm_xC 1 _ _ (F0 m 19 ls [tm_iv u16])
    exact tm_ireturn cx q16 dX1_known_19
