set_option maxRecDepth 100000
def fm_command_B14 (r14 : Int → Int → tm_S → tm_R) (v3 : Int) (v5 : Int) (σ : tm_S) : tm_R :=
  tm_gx (tm_f σ 459 0) 120 <|
  if v5 < (tm_a σ 113 (tm_f σ 459 0)) then
    tm_gi (11 * (tm_f σ 459 0)) <|
    tm_gi ((11 * (tm_f σ 459 0)) + v5) <|
    tm_gi (5 * v5) <|
    tm_gx (5 * v5) 64 <|
    tm_gi ((tm_by v3 (5 * v5) 32) + 96) <|
    tm_gx ((11 * (tm_f σ 459 0)) + v5) 1320 <|
    tm_gi (v5 + 1) <|
    r14 v3 (v5 + 1) (tm_wa σ 112 ((11 * (tm_f σ 459 0)) + v5) ((tm_by v3 (5 * v5) 32) + 96))
  else
    tm_gi ((tm_f σ 459 0) + 1) <|
    tm_rt 0 (tm_wf σ 459 0 ((tm_f σ 459 0) + 1))
theorem wm_command_B14 {p : Program} {l : Launch} {e : Env} {R : Room} {s : State} {m : MethodId} {args : Array Value} {below : List Frame} {meth : Method} {c : Code} {K : tm_K} {r14 : Int → Int → tm_S → tm_R} (cx : tm_C p l R s m args meth c K cX6_command 6 RX6 "command" none 0 0) (h14 : ∀ (v3 : Int) (v5 : Int) (τ : tm_S) (ls : Array Slot), tm_inl v3 → tm_in v5 → tm_has 2 ls 6 [(0, tm_rv K 0), (3, tm_lv v3), (5, tm_iv v5)] → tm_J p l e R s m args below meth c K tm_xM 0 (r14 v3 v5 τ) τ (F0 m 14 ls [])) (v3 : Int) (v5 : Int) (σ : tm_S) (ls : Array Slot) (g3 : tm_inl v3) (g5 : tm_in v5) (hl : tm_has 2 ls 6 [(0, tm_rv K 0), (3, tm_lv v3), (5, tm_iv v5)]) : tm_J p l e R s m args below meth c K tm_xM 0 (fm_command_B14 r14 v3 v5 σ) σ (F0 m 14 ls []) := by
  unfold fm_command_B14
  refine tm_iload cx dX6_command_14 (tm_has_at hl 2 rfl) ?_
  refine tm_aload_n cx dX6_command_16 (tm_has_at hl 0 rfl) ?_
  refine tg_X6_22 cx dX6_command_17 ?_
  refine tm_aload_n cx dX6_command_20 (tm_has_at hl 0 rfl) ?_
  refine tg_X6_147 cx dX6_command_21 (fun q21 => ?_)
  refine tm_iald cx tm_hM_113 q21 dX6_command_24 (fun i24 q24 => ?_)
  refine tm_icmp_ge (tgt := 63) cx g5 q24 dX6_command_25 (by decide) (fun c25 => ?_) (fun c25 => ?_)
  · refine tm_aload_n cx dX6_command_28 (tm_has_at hl 0 rfl) ?_
    refine tg_X6_19 cx dX6_command_29 ?_
    refine tm_bipush cx dX6_command_32 (by decide) ?_
    refine tm_aload_n cx dX6_command_34 (tm_has_at hl 0 rfl) ?_
    refine tg_X6_147 cx dX6_command_35 (fun q35 => ?_)
    refine tm_imul cx dX6_command_38 (fun q38 => ?_)
    refine tm_iload cx dX6_command_39 (tm_has_at hl 2 rfl) ?_
    refine tm_iadd cx dX6_command_41 (fun q41 => ?_)
    refine tm_lload_n cx dX6_command_42 (tm_has_at hl 1 rfl) ?_
    refine tm_iconst cx dX6_command_43 ?_
    refine tm_iload cx dX6_command_44 (tm_has_at hl 2 rfl) ?_
    refine tm_imul cx dX6_command_46 (fun q46 => ?_)
    refine tm_by31 cx g3 q46 q1075 dX6_command_47 dX6_command_48 dX6_command_51 dX6_command_52 (fun q47 => ?_)
    refine tm_bipush cx dX6_command_53 (by decide) ?_
    refine tm_iadd cx dX6_command_55 (fun q55 => ?_)
    refine tm_iast cx tm_famM tm_hM_112 q41 q55 dX6_command_56 ?_
    refine tm_iinc (lv' := [(5, tm_iv (v5 + 1)), (0, tm_rv K 0), (3, tm_lv v3)]) cx dX6_command_57 hl (j := 2) rfl (by decide) (by decide) rfl (fun q57 ls hl => ?_)
    refine tm_goto (tgt := 14) cx dX6_command_60 (by decide) ?_
    exact h14 v3 (v5 + 1) _ _ g3 q57 (tm_has_sub hl [1, 2, 0] rfl)
  · refine tm_aload_n cx dX6_command_63 (tm_has_at hl 0 rfl) ?_
    refine tm_dup_r cx dX6_command_64 ?_
    refine tg_X6_147 cx dX6_command_65 (fun q65 => ?_)
    refine tm_iconst cx dX6_command_68 ?_
    refine tm_iadd cx dX6_command_69 (fun q69 => ?_)
    refine tp_X6_147 cx q69 dX6_command_70 ?_
    exact tm_vreturn cx dX6_command_73
def fm_command_L14 : Nat → Int → Int → tm_S → tm_R
  | 0, _, _, _ => none
  | n + 1, v3, v5, σ => fm_command_B14 (fm_command_L14 n) v3 v5 σ
theorem wm_command_L14 {p : Program} {l : Launch} {e : Env} {R : Room} {s : State} {m : MethodId} {args : Array Value} {below : List Frame} {meth : Method} {c : Code} {K : tm_K} (cx : tm_C p l R s m args meth c K cX6_command 6 RX6 "command" none 0 0) : ∀ (n : Nat) (v3 : Int) (v5 : Int) (σ : tm_S) (ls : Array Slot), tm_inl v3 → tm_in v5 → tm_has 2 ls 6 [(0, tm_rv K 0), (3, tm_lv v3), (5, tm_iv v5)] → tm_J p l e R s m args below meth c K tm_xM 0 (fm_command_L14 n v3 v5 σ) σ (F0 m 14 ls []) := by
  intro n
  induction n with
  | zero => intros; exact tm_none
  | succ n ih =>
    intro v3 v5 σ ls g3 g5 hl
    exact wm_command_B14 (r14 := fm_command_L14 n) cx ih v3 v5 σ ls g3 g5 hl
def fm_command (a1 : Int) (a2 : Int) (σ : tm_S) : tm_R :=
  tm_gi a1 <|
  tm_gx (tm_f σ 459 0) 120 <|
  fm_command_L14 tm_FU a2 0 (tm_wa σ 113 (tm_f σ 459 0) a1)
theorem tm_fits_X6_command (K : tm_K) (a1 : Int) (a2 : Int) : (lg_sl [tm_rv K 0, tm_lv a1, tm_lv a2]).length ≤ 5 := (tm_sl_r _ _ _ _ (tm_sl_l _ _ _ (tm_sl_l _ _ _ (tm_sl_n _))))
theorem cm_command (K : tm_K) (l : Launch) (hst : l.stackTraces = false) (a1 : Int) (g1 : tm_inl a1) (a2 : Int) (g2 : tm_inl a2) : tm_ct K tm_xM l yX6_command cX6_command 6 none 0 [tm_rv K 0, tm_lv a1, tm_lv a2] (fm_command a1 a2) 0 0 := by
  refine tm_ct_of hst (by decide +kernel) (Nat.le_trans (tm_fits_X6_command K a1 a2) (Nat.le_of_ble_eq_true rfl)) ?_
  intro p e R s m args below meth c cx σ ls hl0
  have hl : tm_has 2 ls 6 [(0, tm_rv K 0), (1, tm_lv a1), (3, tm_lv a2)] := ⟨by
    have h9 := hl0
    simp only [tm_args_r, tm_args_l, tm_args_l, tm_args_n, Nat.zero_add, Nat.reduceAdd] at h9
    exact h9, by
    intro q hq
    simp only [List.mem_cons, List.not_mem_nil, or_false] at hq
    rcases hq with rfl | rfl | rfl
    · exact Or.inl (tm_rv_cat K 0)
    · exact Or.inr (Or.inl ⟨by decide, rfl⟩)
    · exact Or.inr (Or.inr ⟨by decide, rfl⟩)⟩
  clear hl0
  unfold fm_command
  refine tm_aload_n cx dX6_command_0 (tm_has_at hl 0 rfl) ?_
  refine tg_X6_22 cx dX6_command_1 ?_
  refine tm_aload_n cx dX6_command_4 (tm_has_at hl 0 rfl) ?_
  refine tg_X6_147 cx dX6_command_5 (fun q5 => ?_)
  refine tm_lload_n cx dX6_command_8 (tm_has_at hl 1 rfl) ?_
  refine tm_l2i cx dX6_command_9 (fun q9 => ?_)
  refine tm_iast cx tm_famM tm_hM_113 q5 q9 dX6_command_10 ?_
  refine tm_iconst cx dX6_command_11 ?_
  refine tm_istore (lv' := [(5, tm_iv 0), (0, tm_rv K 0), (1, tm_lv a1), (3, tm_lv a2)]) cx dX6_command_12 hl (by decide) (by decide) rfl (fun ls hl => ?_)
  exact wm_command_L14 cx tm_FU a2 0 _ _ g2 (by decide) (tm_has_sub hl [1, 3, 0] rfl)
def fm_start_J120 (r96 : Int → tm_S → tm_R) (v1 : Int) (vs1 : Int) (σ : tm_S) : tm_R :=
  if v1 < 65 then
    tm_gx vs1 128 <|
    tm_gi (v1 + 1) <|
    r96 (v1 + 1) (tm_wa σ 108 vs1 12)
  else
    if 90 < v1 then
      tm_gx vs1 128 <|
      tm_gi (v1 + 1) <|
      r96 (v1 + 1) (tm_wa σ 108 vs1 12)
    else
      tm_gx vs1 128 <|
      tm_gi (v1 + 1) <|
      r96 (v1 + 1) (tm_wa σ 108 vs1 11)
theorem wm_start_J120 {p : Program} {l : Launch} {e : Env} {R : Room} {s : State} {m : MethodId} {args : Array Value} {below : List Frame} {meth : Method} {c : Code} {K : tm_K} {r96 : Int → tm_S → tm_R} (cx : tm_C p l R s m args meth c K cX6_start 2 RX6 "start" none 0 0) (h96 : ∀ (v1 : Int) (τ : tm_S) (ls : Array Slot), tm_in v1 → tm_has 0 ls 2 [(0, tm_rv K 0), (1, tm_iv v1)] → tm_J p l e R s m args below meth c K tm_xM 0 (r96 v1 τ) τ (F0 m 96 ls [])) (v1 : Int) (vs1 : Int) (σ : tm_S) (ls : Array Slot) (g1 : tm_in v1) (gs1 : tm_in vs1) (hl : tm_has 0 ls 2 [(0, tm_rv K 0), (1, tm_iv v1)]) : tm_J p l e R s m args below meth c K tm_xM 0 (fm_start_J120 r96 v1 vs1 σ) σ (F0 m 120 ls [tm_iv vs1, tm_rv K 108]) := by
  unfold fm_start_J120
  refine tm_iload_n cx dX6_start_120 (tm_has_at hl 1 rfl) ?_
  refine tm_bipush cx dX6_start_121 (by decide) ?_
  refine tm_icmp_lt (tgt := 137) cx g1 (by decide) dX6_start_123 (by decide) (fun c123 => ?_) (fun c123 => ?_)
  · refine tm_bipush cx dX6_start_137 (by decide) ?_
    refine tm_iast cx tm_famM tm_hM_108 gs1 (by decide) dX6_start_139 ?_
    refine tm_iinc (lv' := [(1, tm_iv (v1 + 1)), (0, tm_rv K 0)]) cx dX6_start_140 hl (j := 1) rfl (by decide) (by decide) rfl (fun q140 ls hl => ?_)
    refine tm_goto (tgt := 96) cx dX6_start_143 (by decide) ?_
    exact h96 (v1 + 1) _ _ q140 (tm_has_sub hl [1, 0] rfl)
  · refine tm_iload_n cx dX6_start_126 (tm_has_at hl 1 rfl) ?_
    refine tm_bipush cx dX6_start_127 (by decide) ?_
    refine tm_icmp_gt (tgt := 137) cx g1 (by decide) dX6_start_129 (by decide) (fun c129 => ?_) (fun c129 => ?_)
    · refine tm_bipush cx dX6_start_137 (by decide) ?_
      refine tm_iast cx tm_famM tm_hM_108 gs1 (by decide) dX6_start_139 ?_
      refine tm_iinc (lv' := [(1, tm_iv (v1 + 1)), (0, tm_rv K 0)]) cx dX6_start_140 hl (j := 1) rfl (by decide) (by decide) rfl (fun q140 ls hl => ?_)
      refine tm_goto (tgt := 96) cx dX6_start_143 (by decide) ?_
      exact h96 (v1 + 1) _ _ q140 (tm_has_sub hl [1, 0] rfl)
    · refine tm_bipush cx dX6_start_132 (by decide) ?_
      refine tm_goto (tgt := 139) cx dX6_start_134 (by decide) ?_
      refine tm_iast cx tm_famM tm_hM_108 gs1 (by decide) dX6_start_139 ?_
      refine tm_iinc (lv' := [(1, tm_iv (v1 + 1)), (0, tm_rv K 0)]) cx dX6_start_140 hl (j := 1) rfl (by decide) (by decide) rfl (fun q140 ls hl => ?_)
      refine tm_goto (tgt := 96) cx dX6_start_143 (by decide) ?_
      exact h96 (v1 + 1) _ _ q140 (tm_has_sub hl [1, 0] rfl)
def fm_start_B96 (r96 : Int → tm_S → tm_R) (v1 : Int) (σ : tm_S) : tm_R :=
  if v1 < 128 then
    if v1 < 97 then
      fm_start_J120 r96 v1 v1 σ
    else
      if 122 < v1 then
        fm_start_J120 r96 v1 v1 σ
      else
        tm_gx v1 128 <|
        tm_gi (v1 + 1) <|
        r96 (v1 + 1) (tm_wa σ 108 v1 11)
  else
    tm_gx 92 128 <|
    tm_gx 123 128 <|
    tm_gx 125 128 <|
    tm_ls (tm_wa (tm_wa (tm_wa σ 108 92 0) 108 123 1) 108 125 2) fun τ5 =>
    tm_gx 36 128 <|
    tm_gx 38 128 <|
    tm_gx 10 128 <|
    tm_ls (tm_wa (tm_wa (tm_wa τ5 108 36 3) 108 38 4) 108 10 5) fun τ6 =>
    tm_gx 35 128 <|
    tm_gx 94 128 <|
    tm_gx 95 128 <|
    tm_ls (tm_wa (tm_wa (tm_wa τ6 108 35 6) 108 94 7) 108 95 8) fun τ7 =>
    tm_gx 32 128 <|
    tm_gx 126 128 <|
    tm_gx 37 128 <|
    tm_ls (tm_wa (tm_wa (tm_wa τ7 108 32 10) 108 126 13) 108 37 14) fun τ8 =>
    tm_rt 0 τ8
theorem wm_start_B96 {p : Program} {l : Launch} {e : Env} {R : Room} {s : State} {m : MethodId} {args : Array Value} {below : List Frame} {meth : Method} {c : Code} {K : tm_K} {r96 : Int → tm_S → tm_R} (cx : tm_C p l R s m args meth c K cX6_start 2 RX6 "start" none 0 0) (h96 : ∀ (v1 : Int) (τ : tm_S) (ls : Array Slot), tm_in v1 → tm_has 0 ls 2 [(0, tm_rv K 0), (1, tm_iv v1)] → tm_J p l e R s m args below meth c K tm_xM 0 (r96 v1 τ) τ (F0 m 96 ls [])) (v1 : Int) (σ : tm_S) (ls : Array Slot) (g1 : tm_in v1) (hl : tm_has 0 ls 2 [(0, tm_rv K 0), (1, tm_iv v1)]) : tm_J p l e R s m args below meth c K tm_xM 0 (fm_start_B96 r96 v1 σ) σ (F0 m 96 ls []) := by
  unfold fm_start_B96
  refine tm_iload_n cx dX6_start_96 (tm_has_at hl 1 rfl) ?_
  refine tm_sipush cx dX6_start_97 (by decide) ?_
  refine tm_icmp_ge (tgt := 146) cx g1 (by decide) dX6_start_100 (by decide) (fun c100 => ?_) (fun c100 => ?_)
  · refine tm_aload_n cx dX6_start_103 (tm_has_at hl 0 rfl) ?_
    refine tg_X6_13 cx dX6_start_104 ?_
    refine tm_iload_n cx dX6_start_107 (tm_has_at hl 1 rfl) ?_
    refine tm_iload_n cx dX6_start_108 (tm_has_at hl 1 rfl) ?_
    refine tm_bipush cx dX6_start_109 (by decide) ?_
    refine tm_icmp_lt (tgt := 120) cx g1 (by decide) dX6_start_111 (by decide) (fun c111 => ?_) (fun c111 => ?_)
    · exact wm_start_J120 cx h96 v1 v1 _ _ g1 g1 (tm_has_sub hl [0, 1] rfl)
    · refine tm_iload_n cx dX6_start_114 (tm_has_at hl 1 rfl) ?_
      refine tm_bipush cx dX6_start_115 (by decide) ?_
      refine tm_icmp_le (tgt := 132) cx g1 (by decide) dX6_start_117 (by decide) (fun c117 => ?_) (fun c117 => ?_)
      · exact wm_start_J120 cx h96 v1 v1 _ _ g1 g1 (tm_has_sub hl [0, 1] rfl)
      · refine tm_bipush cx dX6_start_132 (by decide) ?_
        refine tm_goto (tgt := 139) cx dX6_start_134 (by decide) ?_
        refine tm_iast cx tm_famM tm_hM_108 g1 (by decide) dX6_start_139 ?_
        refine tm_iinc (lv' := [(1, tm_iv (v1 + 1)), (0, tm_rv K 0)]) cx dX6_start_140 hl (j := 1) rfl (by decide) (by decide) rfl (fun q140 ls hl => ?_)
        refine tm_goto (tgt := 96) cx dX6_start_143 (by decide) ?_
        exact h96 (v1 + 1) _ _ q140 (tm_has_sub hl [1, 0] rfl)
  · refine tm_aload_n cx dX6_start_146 (tm_has_at hl 0 rfl) ?_
    refine tg_X6_13 cx dX6_start_147 ?_
    refine tm_bipush cx dX6_start_150 (by decide) ?_
    refine tm_iconst cx dX6_start_152 ?_
    refine tm_iast cx tm_famM tm_hM_108 (by decide) (by decide) dX6_start_153 ?_
    refine tm_aload_n cx dX6_start_154 (tm_has_at hl 0 rfl) ?_
    refine tg_X6_13 cx dX6_start_155 ?_
    refine tm_bipush cx dX6_start_158 (by decide) ?_
    refine tm_iconst cx dX6_start_160 ?_
    refine tm_iast cx tm_famM tm_hM_108 (by decide) (by decide) dX6_start_161 ?_
    refine tm_aload_n cx dX6_start_162 (tm_has_at hl 0 rfl) ?_
    refine tg_X6_13 cx dX6_start_163 ?_
    refine tm_bipush cx dX6_start_166 (by decide) ?_
    refine tm_iconst cx dX6_start_168 ?_
    refine tm_iast cx tm_famM tm_hM_108 (by decide) (by decide) dX6_start_169 ?_
    refine tm_ls_ (fun τ5 => ?_)
    refine tm_aload_n cx dX6_start_170 (tm_has_at hl 0 rfl) ?_
    refine tg_X6_13 cx dX6_start_171 ?_
    refine tm_bipush cx dX6_start_174 (by decide) ?_
    refine tm_iconst cx dX6_start_176 ?_
    refine tm_iast cx tm_famM tm_hM_108 (by decide) (by decide) dX6_start_177 ?_
    refine tm_aload_n cx dX6_start_178 (tm_has_at hl 0 rfl) ?_
    refine tg_X6_13 cx dX6_start_179 ?_
    refine tm_bipush cx dX6_start_182 (by decide) ?_
    refine tm_iconst cx dX6_start_184 ?_
    refine tm_iast cx tm_famM tm_hM_108 (by decide) (by decide) dX6_start_185 ?_
    refine tm_aload_n cx dX6_start_186 (tm_has_at hl 0 rfl) ?_
    refine tg_X6_13 cx dX6_start_187 ?_
    refine tm_bipush cx dX6_start_190 (by decide) ?_
    refine tm_iconst cx dX6_start_192 ?_
    refine tm_iast cx tm_famM tm_hM_108 (by decide) (by decide) dX6_start_193 ?_
    refine tm_ls_ (fun τ6 => ?_)
    refine tm_aload_n cx dX6_start_194 (tm_has_at hl 0 rfl) ?_
    refine tg_X6_13 cx dX6_start_195 ?_
    refine tm_bipush cx dX6_start_198 (by decide) ?_
    refine tm_bipush cx dX6_start_200 (by decide) ?_
    refine tm_iast cx tm_famM tm_hM_108 (by decide) (by decide) dX6_start_202 ?_
    refine tm_aload_n cx dX6_start_203 (tm_has_at hl 0 rfl) ?_
    refine tg_X6_13 cx dX6_start_204 ?_
    refine tm_bipush cx dX6_start_207 (by decide) ?_
    refine tm_bipush cx dX6_start_209 (by decide) ?_
    refine tm_iast cx tm_famM tm_hM_108 (by decide) (by decide) dX6_start_211 ?_
    refine tm_aload_n cx dX6_start_212 (tm_has_at hl 0 rfl) ?_
    refine tg_X6_13 cx dX6_start_213 ?_
    refine tm_bipush cx dX6_start_216 (by decide) ?_
    refine tm_bipush cx dX6_start_218 (by decide) ?_
    refine tm_iast cx tm_famM tm_hM_108 (by decide) (by decide) dX6_start_220 ?_
    refine tm_ls_ (fun τ7 => ?_)
    refine tm_aload_n cx dX6_start_221 (tm_has_at hl 0 rfl) ?_
    refine tg_X6_13 cx dX6_start_222 ?_
    refine tm_bipush cx dX6_start_225 (by decide) ?_
    refine tm_bipush cx dX6_start_227 (by decide) ?_
    refine tm_iast cx tm_famM tm_hM_108 (by decide) (by decide) dX6_start_229 ?_
    refine tm_aload_n cx dX6_start_230 (tm_has_at hl 0 rfl) ?_
    refine tg_X6_13 cx dX6_start_231 ?_
    refine tm_bipush cx dX6_start_234 (by decide) ?_
    refine tm_bipush cx dX6_start_236 (by decide) ?_
    refine tm_iast cx tm_famM tm_hM_108 (by decide) (by decide) dX6_start_238 ?_
    refine tm_aload_n cx dX6_start_239 (tm_has_at hl 0 rfl) ?_
    refine tg_X6_13 cx dX6_start_240 ?_
    refine tm_bipush cx dX6_start_243 (by decide) ?_
    refine tm_bipush cx dX6_start_245 (by decide) ?_
    refine tm_iast cx tm_famM tm_hM_108 (by decide) (by decide) dX6_start_247 ?_
    refine tm_ls_ (fun τ8 => ?_)
    exact tm_vreturn cx dX6_start_248
def fm_start_L96 : Nat → Int → tm_S → tm_R
  | 0, _, _ => none
  | n + 1, v1, σ => fm_start_B96 (fm_start_L96 n) v1 σ
theorem wm_start_L96 {p : Program} {l : Launch} {e : Env} {R : Room} {s : State} {m : MethodId} {args : Array Value} {below : List Frame} {meth : Method} {c : Code} {K : tm_K} (cx : tm_C p l R s m args meth c K cX6_start 2 RX6 "start" none 0 0) : ∀ (n : Nat) (v1 : Int) (σ : tm_S) (ls : Array Slot), tm_in v1 → tm_has 0 ls 2 [(0, tm_rv K 0), (1, tm_iv v1)] → tm_J p l e R s m args below meth c K tm_xM 0 (fm_start_L96 n v1 σ) σ (F0 m 96 ls []) := by
  intro n
  induction n with
  | zero => intros; exact tm_none
  | succ n ih =>
    intro v1 σ ls g1 hl
    exact wm_start_B96 (r96 := fm_start_L96 n) cx ih v1 σ ls g1 hl
def fm_start_B63 (r63 : Int → tm_S → tm_R) (v1 : Int) (σ : tm_S) : tm_R :=
  if v1 < 120 then
    if v1 < 18 then
      tm_gi (v1 + 1) <|
      tm_gx v1 120 <|
      tm_gi (v1 + 1) <|
      r63 (v1 + 1) (tm_wa σ 115 v1 (v1 + 1))
    else
      tm_gx v1 120 <|
      tm_gi (v1 + 1) <|
      r63 (v1 + 1) (tm_wa σ 115 v1 0)
  else
    fm_start_L96 tm_FU 0 σ
theorem wm_start_B63 {p : Program} {l : Launch} {e : Env} {R : Room} {s : State} {m : MethodId} {args : Array Value} {below : List Frame} {meth : Method} {c : Code} {K : tm_K} {r63 : Int → tm_S → tm_R} (cx : tm_C p l R s m args meth c K cX6_start 2 RX6 "start" none 0 0) (h63 : ∀ (v1 : Int) (τ : tm_S) (ls : Array Slot), tm_in v1 → tm_has 0 ls 2 [(0, tm_rv K 0), (1, tm_iv v1)] → tm_J p l e R s m args below meth c K tm_xM 0 (r63 v1 τ) τ (F0 m 63 ls [])) (v1 : Int) (σ : tm_S) (ls : Array Slot) (g1 : tm_in v1) (hl : tm_has 0 ls 2 [(0, tm_rv K 0), (1, tm_iv v1)]) : tm_J p l e R s m args below meth c K tm_xM 0 (fm_start_B63 r63 v1 σ) σ (F0 m 63 ls []) := by
  unfold fm_start_B63
  refine tm_iload_n cx dX6_start_63 (tm_has_at hl 1 rfl) ?_
  refine tm_bipush cx dX6_start_64 (by decide) ?_
  refine tm_icmp_ge (tgt := 94) cx g1 (by decide) dX6_start_66 (by decide) (fun c66 => ?_) (fun c66 => ?_)
  · refine tm_aload_n cx dX6_start_69 (tm_has_at hl 0 rfl) ?_
    refine tg_X6_29 cx dX6_start_70 ?_
    refine tm_iload_n cx dX6_start_73 (tm_has_at hl 1 rfl) ?_
    refine tm_iload_n cx dX6_start_74 (tm_has_at hl 1 rfl) ?_
    refine tm_bipush cx dX6_start_75 (by decide) ?_
    refine tm_icmp_ge (tgt := 86) cx g1 (by decide) dX6_start_77 (by decide) (fun c77 => ?_) (fun c77 => ?_)
    · refine tm_iload_n cx dX6_start_80 (tm_has_at hl 1 rfl) ?_
      refine tm_iconst cx dX6_start_81 ?_
      refine tm_iadd cx dX6_start_82 (fun q82 => ?_)
      refine tm_goto (tgt := 87) cx dX6_start_83 (by decide) ?_
      refine tm_iast cx tm_famM tm_hM_115 g1 q82 dX6_start_87 ?_
      refine tm_iinc (lv' := [(1, tm_iv (v1 + 1)), (0, tm_rv K 0)]) cx dX6_start_88 hl (j := 1) rfl (by decide) (by decide) rfl (fun q88 ls hl => ?_)
      refine tm_goto (tgt := 63) cx dX6_start_91 (by decide) ?_
      exact h63 (v1 + 1) _ _ q88 (tm_has_sub hl [1, 0] rfl)
    · refine tm_iconst cx dX6_start_86 ?_
      refine tm_iast cx tm_famM tm_hM_115 g1 (by decide) dX6_start_87 ?_
      refine tm_iinc (lv' := [(1, tm_iv (v1 + 1)), (0, tm_rv K 0)]) cx dX6_start_88 hl (j := 1) rfl (by decide) (by decide) rfl (fun q88 ls hl => ?_)
      refine tm_goto (tgt := 63) cx dX6_start_91 (by decide) ?_
      exact h63 (v1 + 1) _ _ q88 (tm_has_sub hl [1, 0] rfl)
  · refine tm_iconst cx dX6_start_94 ?_
    refine tm_istore_n (lv' := [(1, tm_iv 0), (0, tm_rv K 0)]) cx dX6_start_95 hl (by decide) (by decide) rfl (fun ls hl => ?_)
    exact wm_start_L96 cx tm_FU 0 _ _ (by decide) (tm_has_sub hl [1, 0] rfl)
def fm_start_L63 : Nat → Int → tm_S → tm_R
  | 0, _, _ => none
  | n + 1, v1, σ => fm_start_B63 (fm_start_L63 n) v1 σ
theorem wm_start_L63 {p : Program} {l : Launch} {e : Env} {R : Room} {s : State} {m : MethodId} {args : Array Value} {below : List Frame} {meth : Method} {c : Code} {K : tm_K} (cx : tm_C p l R s m args meth c K cX6_start 2 RX6 "start" none 0 0) : ∀ (n : Nat) (v1 : Int) (σ : tm_S) (ls : Array Slot), tm_in v1 → tm_has 0 ls 2 [(0, tm_rv K 0), (1, tm_iv v1)] → tm_J p l e R s m args below meth c K tm_xM 0 (fm_start_L63 n v1 σ) σ (F0 m 63 ls []) := by
  intro n
  induction n with
  | zero => intros; exact tm_none
  | succ n ih =>
    intro v1 σ ls g1 hl
    exact wm_start_B63 (r63 := fm_start_L63 n) cx ih v1 σ ls g1 hl
def fm_start (σ : tm_S) : tm_R :=
  tm_ls (tm_wf (tm_wf (tm_wf σ 451 0 0) 452 0 0) 453 0 0) fun τ1 =>
  tm_ls (tm_wf (tm_wf (tm_wf τ1 454 0 0) 457 0 0) 466 0 0) fun τ2 =>
  tm_ls (tm_wf (tm_wf (tm_wf τ2 467 0 0) 471 0 0) 477 0 0) fun τ3 =>
  tm_ls (tm_wf (tm_wf (tm_wf τ3 479 0 0) 485 0 0) 459 0 18) fun τ4 =>
  fm_start_L63 tm_FU 0 τ4
theorem tm_fits_X6_start (K : tm_K) : (lg_sl [tm_rv K 0]).length ≤ 1 := (tm_sl_r _ _ _ _ (tm_sl_n _))
theorem cm_start (K : tm_K) (l : Launch) (hst : l.stackTraces = false) : tm_ct K tm_xM l yX6_start cX6_start 2 none 0 [tm_rv K 0] (fm_start) 0 0 := by
  refine tm_ct_of hst (by decide +kernel) (Nat.le_trans (tm_fits_X6_start K) (Nat.le_of_ble_eq_true rfl)) ?_
  intro p e R s m args below meth c cx σ ls hl0
  have hl : tm_has 0 ls 2 [(0, tm_rv K 0)] := ⟨by
    have h9 := hl0
    simp only [tm_args_r, tm_args_n, Nat.zero_add, Nat.reduceAdd] at h9
    exact h9, by
    intro q hq
    simp only [List.mem_cons, List.not_mem_nil, or_false] at hq
    rcases hq with rfl
    · exact Or.inl (tm_rv_cat K 0)⟩
  clear hl0
  unfold fm_start
  refine tm_aload_n cx dX6_start_0 (tm_has_at hl 0 rfl) ?_
  refine tm_iconst cx dX6_start_1 ?_
  refine tp_X6_153 cx (by decide) dX6_start_2 ?_
  refine tm_aload_n cx dX6_start_5 (tm_has_at hl 0 rfl) ?_
  refine tm_iconst cx dX6_start_6 ?_
  refine tp_X6_156 cx (by decide) dX6_start_7 ?_
  refine tm_aload_n cx dX6_start_10 (tm_has_at hl 0 rfl) ?_
  refine tm_iconst cx dX6_start_11 ?_
  refine tp_X6_159 cx (by decide) dX6_start_12 ?_
  refine tm_ls_ (fun τ1 => ?_)
  refine tm_aload_n cx dX6_start_15 (tm_has_at hl 0 rfl) ?_
  refine tm_iconst cx dX6_start_16 ?_
  refine tp_X6_162 cx (by decide) dX6_start_17 ?_
  refine tm_aload_n cx dX6_start_20 (tm_has_at hl 0 rfl) ?_
  refine tm_iconst cx dX6_start_21 ?_
  refine tp_X6_165 cx (by decide) dX6_start_22 ?_
  refine tm_aload_n cx dX6_start_25 (tm_has_at hl 0 rfl) ?_
  refine tm_iconst cx dX6_start_26 ?_
  refine tp_X6_168 cx (by decide) dX6_start_27 ?_
  refine tm_ls_ (fun τ2 => ?_)
  refine tm_aload_n cx dX6_start_30 (tm_has_at hl 0 rfl) ?_
  refine tm_iconst cx dX6_start_31 ?_
  refine tp_X6_171 cx (by decide) dX6_start_32 ?_
  refine tm_aload_n cx dX6_start_35 (tm_has_at hl 0 rfl) ?_
  refine tm_iconst cx dX6_start_36 ?_
  refine tp_X6_174 cx (by decide) dX6_start_37 ?_
  refine tm_aload_n cx dX6_start_40 (tm_has_at hl 0 rfl) ?_
  refine tm_iconst cx dX6_start_41 ?_
  refine tp_X6_177 cx (by decide) dX6_start_42 ?_
  refine tm_ls_ (fun τ3 => ?_)
  refine tm_aload_n cx dX6_start_45 (tm_has_at hl 0 rfl) ?_
  refine tm_iconst cx dX6_start_46 ?_
  refine tp_X6_180 cx (by decide) dX6_start_47 ?_
  refine tm_aload_n cx dX6_start_50 (tm_has_at hl 0 rfl) ?_
  refine tm_iconst cx dX6_start_51 ?_
  refine tp_X6_183 cx (by decide) dX6_start_52 ?_
  refine tm_aload_n cx dX6_start_55 (tm_has_at hl 0 rfl) ?_
  refine tm_bipush cx dX6_start_56 (by decide) ?_
  refine tp_X6_147 cx (by decide) dX6_start_58 ?_
  refine tm_ls_ (fun τ4 => ?_)
  refine tm_iconst cx dX6_start_61 ?_
  refine tm_istore_n (lv' := [(1, tm_iv 0), (0, tm_rv K 0)]) cx dX6_start_62 hl (by decide) (by decide) rfl (fun ls hl => ?_)
  exact wm_start_L63 cx tm_FU 0 _ _ (by decide) (tm_has_sub hl [1, 0] rfl)
def fm_thrown (σ : tm_S) : tm_R :=
  tm_rt (tm_f σ 448 0) σ
theorem tm_fits_X6_thrown (K : tm_K) : (lg_sl [tm_rv K 0]).length ≤ 1 := (tm_sl_r _ _ _ _ (tm_sl_n _))
theorem cm_thrown (K : tm_K) (l : Launch) (hst : l.stackTraces = false) : tm_ct K tm_xM l yX6_thrown cX6_thrown 1 (some .int) 1 [tm_rv K 0] (fm_thrown) 0 0 := by
  refine tm_ct_of hst (by decide +kernel) (Nat.le_trans (tm_fits_X6_thrown K) (Nat.le_of_ble_eq_true rfl)) ?_
  intro p e R s m args below meth c cx σ ls hl0
  have hl : tm_has 0 ls 1 [(0, tm_rv K 0)] := ⟨by
    have h9 := hl0
    simp only [tm_args_r, tm_args_n, Nat.zero_add, Nat.reduceAdd] at h9
    exact h9, by
    intro q hq
    simp only [List.mem_cons, List.not_mem_nil, or_false] at hq
    rcases hq with rfl
    · exact Or.inl (tm_rv_cat K 0)⟩
  clear hl0
  unfold fm_thrown
  refine tm_aload_n cx dX6_thrown_0 (tm_has_at hl 0 rfl) ?_
  refine tg_X6_186 cx dX6_thrown_1 (fun q1 => ?_)
  exact tm_ireturn cx q1 dX6_thrown_4
def fm_isCode (a1 : Int) (σ : tm_S) : tm_R :=
  if a1 = 10 then
    tm_rt 1 σ
  else
    if 31 < a1 then
      if a1 < 127 then
        tm_rt 1 σ
      else
        tm_rt 0 σ
    else
      tm_rt 0 σ
theorem tm_fits_X6_isCode (K : tm_K) (a1 : Int) : (lg_sl [tm_iv a1]).length ≤ 1 := (tm_sl_i _ _ _ (tm_sl_n _))
theorem cm_isCode (K : tm_K) (l : Launch) (hst : l.stackTraces = false) (a1 : Int) (g1 : tm_in a1) : tm_ct K tm_xM l yX6_isCode cX6_isCode 1 (some .boolean) 1 [tm_iv a1] (fm_isCode a1) 0 0 := by
  refine tm_ct_of hst (by decide +kernel) (Nat.le_trans (tm_fits_X6_isCode K a1) (Nat.le_of_ble_eq_true rfl)) ?_
  intro p e R s m args below meth c cx σ ls hl0
  have hl : tm_has 0 ls 1 [(0, tm_iv a1)] := ⟨by
    have h9 := hl0
    simp only [tm_args_i, tm_args_n, Nat.zero_add, Nat.reduceAdd] at h9
    exact h9, by
    intro q hq
    simp only [List.mem_cons, List.not_mem_nil, or_false] at hq
    rcases hq with rfl
    · exact Or.inl rfl⟩
  clear hl0
  unfold fm_isCode
  refine tm_iload_n cx dX6_isCode_0 (tm_has_at hl 0 rfl) ?_
  refine tm_bipush cx dX6_isCode_1 (by decide) ?_
  refine tm_icmp_eq (tgt := 18) cx g1 (by decide) dX6_isCode_3 (by decide) (fun c3 => ?_) (fun c3 => ?_)
  · refine tm_iconst cx dX6_isCode_18 ?_
    refine tm_goto (tgt := 23) cx dX6_isCode_19 (by decide) ?_
    exact tm_zreturn cx (by decide) dX6_isCode_23
  · refine tm_iload_n cx dX6_isCode_6 (tm_has_at hl 0 rfl) ?_
    refine tm_bipush cx dX6_isCode_7 (by decide) ?_
    refine tm_icmp_le (tgt := 22) cx g1 (by decide) dX6_isCode_9 (by decide) (fun c9 => ?_) (fun c9 => ?_)
    · refine tm_iload_n cx dX6_isCode_12 (tm_has_at hl 0 rfl) ?_
      refine tm_bipush cx dX6_isCode_13 (by decide) ?_
      refine tm_icmp_ge (tgt := 22) cx g1 (by decide) dX6_isCode_15 (by decide) (fun c15 => ?_) (fun c15 => ?_)
      · refine tm_iconst cx dX6_isCode_18 ?_
        refine tm_goto (tgt := 23) cx dX6_isCode_19 (by decide) ?_
        exact tm_zreturn cx (by decide) dX6_isCode_23
      · refine tm_iconst cx dX6_isCode_22 ?_
        exact tm_zreturn cx (by decide) dX6_isCode_23
    · refine tm_iconst cx dX6_isCode_22 ?_
      exact tm_zreturn cx (by decide) dX6_isCode_23
def fm_type_J68 (r24 : Int → Int → Int → Int → tm_S → tm_R) (v1 : Int) (v3 : Int) (v5 : Int) (v6 : Int) (vs0 : Int) (σ : tm_S) : tm_R :=
  if v6 = 0 then
    tm_gi (v3 + 0) <|
    tm_lt (v3 + 0) fun x82 =>
    tm_gi (v5 + 1) <|
    r24 v1 x82 vs0 (v5 + 1) σ
  else
    tm_gi (v3 + 1) <|
    tm_lt (v3 + 1) fun x82 =>
    tm_gi (v5 + 1) <|
    r24 v1 x82 vs0 (v5 + 1) σ
theorem wm_type_J68 {p : Program} {l : Launch} {e : Env} {R : Room} {s : State} {m : MethodId} {args : Array Value} {below : List Frame} {meth : Method} {c : Code} {K : tm_K} {r24 : Int → Int → Int → Int → tm_S → tm_R} (cx : tm_C p l R s m args meth c K cX6_type 7 RX6 "type" (some .boolean) 1 20) (h24 : ∀ (v1 : Int) (v3 : Int) (v4 : Int) (v5 : Int) (τ : tm_S) (ls : Array Slot), tm_inl v1 → tm_in v3 → tm_in v4 → tm_in v5 → tm_has 1 ls 7 [(0, tm_rv K 0), (1, tm_lv v1), (3, tm_iv v3), (4, tm_iv v4), (5, tm_iv v5)] → tm_J p l e R s m args below meth c K tm_xM 1 (r24 v1 v3 v4 v5 τ) τ (F0 m 24 ls [])) (v1 : Int) (v3 : Int) (v5 : Int) (v6 : Int) (vs0 : Int) (σ : tm_S) (ls : Array Slot) (g1 : tm_inl v1) (g3 : tm_in v3) (g5 : tm_in v5) (g6 : tm_in v6) (gs0 : tm_in vs0) (hl : tm_has 1 ls 7 [(0, tm_rv K 0), (1, tm_lv v1), (3, tm_iv v3), (5, tm_iv v5), (6, tm_iv v6)]) : tm_J p l e R s m args below meth c K tm_xM 1 (fm_type_J68 r24 v1 v3 v5 v6 vs0 σ) σ (F0 m 68 ls [tm_iv vs0]) := by
  unfold fm_type_J68
  refine tm_istore (lv' := [(4, tm_iv vs0), (0, tm_rv K 0), (1, tm_lv v1), (3, tm_iv v3), (5, tm_iv v5), (6, tm_iv v6)]) cx dX6_type_68 hl (by decide) (by decide) rfl (fun ls hl => ?_)
  refine tm_iload_n cx dX6_type_70 (tm_has_at hl 3 rfl) ?_
  refine tm_iload cx dX6_type_71 (tm_has_at hl 5 rfl) ?_
  refine tm_if_ne (tgt := 80) cx g6 dX6_type_73 (by decide) (fun c73 => ?_) (fun c73 => ?_)
  · refine tm_iconst cx dX6_type_76 ?_
    refine tm_goto (tgt := 81) cx dX6_type_77 (by decide) ?_
    refine tm_iadd cx dX6_type_81 (fun q81 => ?_)
    refine tm_lt_ q81 (fun x82 q82 => ?_)
    refine tm_istore_n (lv' := [(3, tm_iv x82), (4, tm_iv vs0), (0, tm_rv K 0), (1, tm_lv v1), (5, tm_iv v5), (6, tm_iv v6)]) cx dX6_type_82 hl (by decide) (by decide) rfl (fun ls hl => ?_)
    refine tm_iinc (lv' := [(5, tm_iv (v5 + 1)), (3, tm_iv x82), (4, tm_iv vs0), (0, tm_rv K 0), (1, tm_lv v1), (6, tm_iv v6)]) cx dX6_type_83 hl (j := 4) rfl (by decide) (by decide) rfl (fun q83 ls hl => ?_)
    refine tm_goto (tgt := 24) cx dX6_type_86 (by decide) ?_
    exact h24 v1 x82 vs0 (v5 + 1) _ _ g1 q82 gs0 q83 (tm_has_sub hl [3, 4, 1, 2, 0] rfl)
  · refine tm_iconst cx dX6_type_80 ?_
    refine tm_iadd cx dX6_type_81 (fun q81 => ?_)
    refine tm_lt_ q81 (fun x82 q82 => ?_)
    refine tm_istore_n (lv' := [(3, tm_iv x82), (4, tm_iv vs0), (0, tm_rv K 0), (1, tm_lv v1), (5, tm_iv v5), (6, tm_iv v6)]) cx dX6_type_82 hl (by decide) (by decide) rfl (fun ls hl => ?_)
    refine tm_iinc (lv' := [(5, tm_iv (v5 + 1)), (3, tm_iv x82), (4, tm_iv vs0), (0, tm_rv K 0), (1, tm_lv v1), (6, tm_iv v6)]) cx dX6_type_83 hl (j := 4) rfl (by decide) (by decide) rfl (fun q83 ls hl => ?_)
    refine tm_goto (tgt := 24) cx dX6_type_86 (by decide) ?_
    exact h24 v1 x82 vs0 (v5 + 1) _ _ g1 q82 gs0 q83 (tm_has_sub hl [3, 4, 1, 2, 0] rfl)
def fm_type_B112 (r112 : Int → Int → tm_S → tm_R) (v1 : Int) (v5 : Int) (σ : tm_S) : tm_R :=
  if v5 < 0 then
    tm_rt 1 σ
  else
    tm_gi (8 * v5) <|
    tm_gx (8 * v5) 64 <|
    tm_lt (tm_by v1 (8 * v5) 256) fun x129 =>
    if 0 < x129 then
      tm_gx (tm_f σ 449 0) 160 <|
      tm_gi ((tm_f (tm_wa σ 102 (tm_f σ 449 0) x129) 449 0) + 1) <|
      tm_gi (v5 + (-1)) <|
      r112 v1 (v5 + (-1)) (tm_wf (tm_wa σ 102 (tm_f σ 449 0) x129) 449 0 ((tm_f (tm_wa σ 102 (tm_f σ 449 0) x129) 449 0) + 1))
    else
      tm_gi (v5 + (-1)) <|
      r112 v1 (v5 + (-1)) σ
theorem wm_type_B112 {p : Program} {l : Launch} {e : Env} {R : Room} {s : State} {m : MethodId} {args : Array Value} {below : List Frame} {meth : Method} {c : Code} {K : tm_K} {r112 : Int → Int → tm_S → tm_R} (cx : tm_C p l R s m args meth c K cX6_type 7 RX6 "type" (some .boolean) 1 20) (h112 : ∀ (v1 : Int) (v5 : Int) (τ : tm_S) (ls : Array Slot), tm_inl v1 → tm_in v5 → tm_has 1 ls 7 [(0, tm_rv K 0), (1, tm_lv v1), (5, tm_iv v5)] → tm_J p l e R s m args below meth c K tm_xM 1 (r112 v1 v5 τ) τ (F0 m 112 ls [])) (v1 : Int) (v5 : Int) (σ : tm_S) (ls : Array Slot) (g1 : tm_inl v1) (g5 : tm_in v5) (hl : tm_has 1 ls 7 [(0, tm_rv K 0), (1, tm_lv v1), (5, tm_iv v5)]) : tm_J p l e R s m args below meth c K tm_xM 1 (fm_type_B112 r112 v1 v5 σ) σ (F0 m 112 ls []) := by
  unfold fm_type_B112
  refine tm_iload cx dX6_type_112 (tm_has_at hl 2 rfl) ?_
  refine tm_if_lt (tgt := 163) cx g5 dX6_type_114 (by decide) (fun c114 => ?_) (fun c114 => ?_)
  · refine tm_iconst cx dX6_type_163 ?_
    exact tm_zreturn cx (by decide) dX6_type_164
  · refine tm_lload_n cx dX6_type_117 (tm_has_at hl 1 rfl) ?_
    refine tm_bipush cx dX6_type_118 (by decide) ?_
    refine tm_iload cx dX6_type_120 (tm_has_at hl 2 rfl) ?_
    refine tm_imul cx dX6_type_122 (fun q122 => ?_)
    refine tm_by255 cx g1 q122 q1239 dX6_type_123 dX6_type_124 dX6_type_127 dX6_type_128 (fun q123 => ?_)
    refine tm_lt_ q123 (fun x129 q129 => ?_)
    refine tm_istore (lv' := [(6, tm_iv x129), (0, tm_rv K 0), (1, tm_lv v1), (5, tm_iv v5)]) cx dX6_type_129 hl (by decide) (by decide) rfl (fun ls hl => ?_)
    refine tm_iload cx dX6_type_131 (tm_has_at hl 0 rfl) ?_
    refine tm_if_le (tgt := 157) cx q129 dX6_type_133 (by decide) (fun c133 => ?_) (fun c133 => ?_)
    · refine tm_aload_n cx dX6_type_136 (tm_has_at hl 1 rfl) ?_
      refine tg_X6_7 cx dX6_type_137 ?_
      refine tm_aload_n cx dX6_type_140 (tm_has_at hl 1 rfl) ?_
      refine tg_X6_195 cx dX6_type_141 (fun q141 => ?_)
      refine tm_iload cx dX6_type_144 (tm_has_at hl 0 rfl) ?_
      refine tm_iast cx tm_famM tm_hM_102 q141 q129 dX6_type_146 ?_
      refine tm_aload_n cx dX6_type_147 (tm_has_at hl 1 rfl) ?_
      refine tm_dup_r cx dX6_type_148 ?_
      refine tg_X6_195 cx dX6_type_149 (fun q149 => ?_)
      refine tm_iconst cx dX6_type_152 ?_
      refine tm_iadd cx dX6_type_153 (fun q153 => ?_)
      refine tp_X6_195 cx q153 dX6_type_154 ?_
      refine tm_iinc (lv' := [(5, tm_iv (v5 + (-1))), (6, tm_iv x129), (0, tm_rv K 0), (1, tm_lv v1)]) cx dX6_type_157 hl (j := 3) rfl (by decide) (by decide) rfl (fun q157 ls hl => ?_)
      refine tm_goto (tgt := 112) cx dX6_type_160 (by decide) ?_
      exact h112 v1 (v5 + (-1)) _ _ g1 q157 (tm_has_sub hl [2, 3, 0] rfl)
    · refine tm_iinc (lv' := [(5, tm_iv (v5 + (-1))), (6, tm_iv x129), (0, tm_rv K 0), (1, tm_lv v1)]) cx dX6_type_157 hl (j := 3) rfl (by decide) (by decide) rfl (fun q157 ls hl => ?_)
      refine tm_goto (tgt := 112) cx dX6_type_160 (by decide) ?_
      exact h112 v1 (v5 + (-1)) _ _ g1 q157 (tm_has_sub hl [2, 3, 0] rfl)
def fm_type_L112 : Nat → Int → Int → tm_S → tm_R
  | 0, _, _, _ => none
  | n + 1, v1, v5, σ => fm_type_B112 (fm_type_L112 n) v1 v5 σ
theorem wm_type_L112 {p : Program} {l : Launch} {e : Env} {R : Room} {s : State} {m : MethodId} {args : Array Value} {below : List Frame} {meth : Method} {c : Code} {K : tm_K} (cx : tm_C p l R s m args meth c K cX6_type 7 RX6 "type" (some .boolean) 1 20) : ∀ (n : Nat) (v1 : Int) (v5 : Int) (σ : tm_S) (ls : Array Slot), tm_inl v1 → tm_in v5 → tm_has 1 ls 7 [(0, tm_rv K 0), (1, tm_lv v1), (5, tm_iv v5)] → tm_J p l e R s m args below meth c K tm_xM 1 (fm_type_L112 n v1 v5 σ) σ (F0 m 112 ls []) := by
  intro n
  induction n with
  | zero => intros; exact tm_none
  | succ n ih =>
    intro v1 v5 σ ls g1 g5 hl
    exact wm_type_B112 (r112 := fm_type_L112 n) cx ih v1 v5 σ ls g1 g5 hl
def fm_type_B24 (r24 : Int → Int → Int → Int → tm_S → tm_R) (v1 : Int) (v3 : Int) (v4 : Int) (v5 : Int) (σ : tm_S) : tm_R :=
  if v5 < 8 then
    tm_gi (8 * v5) <|
    tm_gx (8 * v5) 64 <|
    tm_lt (tm_by v1 (8 * v5) 256) fun x43 =>
    if v4 = 0 then
      fm_type_J68 r24 v1 v3 v5 x43 0 σ
    else
      if x43 = 0 then
        fm_type_J68 r24 v1 v3 v5 x43 1 σ
      else
        tm_bd (fm_isCode x43 σ) fun u57 σ57 =>
        if u57 = 0 then
          fm_type_J68 r24 v1 v3 v5 x43 0 σ57
        else
          fm_type_J68 r24 v1 v3 v5 x43 1 σ57
  else
    if v4 = 0 then
      tm_rt 0 σ
    else
      tm_gi ((tm_f σ 449 0) + v3) <|
      if 160 < ((tm_f σ 449 0) + v3) then
        tm_rt 0 σ
      else
        fm_type_L112 tm_FU v1 7 σ
theorem wm_type_B24 {p : Program} {l : Launch} {e : Env} {R : Room} {s : State} {m : MethodId} {args : Array Value} {below : List Frame} {meth : Method} {c : Code} {K : tm_K} {r24 : Int → Int → Int → Int → tm_S → tm_R} (cx : tm_C p l R s m args meth c K cX6_type 7 RX6 "type" (some .boolean) 1 20) (h24 : ∀ (v1 : Int) (v3 : Int) (v4 : Int) (v5 : Int) (τ : tm_S) (ls : Array Slot), tm_inl v1 → tm_in v3 → tm_in v4 → tm_in v5 → tm_has 1 ls 7 [(0, tm_rv K 0), (1, tm_lv v1), (3, tm_iv v3), (4, tm_iv v4), (5, tm_iv v5)] → tm_J p l e R s m args below meth c K tm_xM 1 (r24 v1 v3 v4 v5 τ) τ (F0 m 24 ls [])) (v1 : Int) (v3 : Int) (v4 : Int) (v5 : Int) (σ : tm_S) (ls : Array Slot) (g1 : tm_inl v1) (g3 : tm_in v3) (g4 : tm_in v4) (g5 : tm_in v5) (hl : tm_has 1 ls 7 [(0, tm_rv K 0), (1, tm_lv v1), (3, tm_iv v3), (4, tm_iv v4), (5, tm_iv v5)]) : tm_J p l e R s m args below meth c K tm_xM 1 (fm_type_B24 r24 v1 v3 v4 v5 σ) σ (F0 m 24 ls []) := by
  unfold fm_type_B24
  refine tm_iload cx dX6_type_24 (tm_has_at hl 4 rfl) ?_
  refine tm_bipush cx dX6_type_26 (by decide) ?_
  refine tm_icmp_ge (tgt := 89) cx g5 (by decide) dX6_type_28 (by decide) (fun c28 => ?_) (fun c28 => ?_)
  · refine tm_lload_n cx dX6_type_31 (tm_has_at hl 1 rfl) ?_
    refine tm_bipush cx dX6_type_32 (by decide) ?_
    refine tm_iload cx dX6_type_34 (tm_has_at hl 4 rfl) ?_
    refine tm_imul cx dX6_type_36 (fun q36 => ?_)
    refine tm_by255 cx g1 q36 q1239 dX6_type_37 dX6_type_38 dX6_type_41 dX6_type_42 (fun q37 => ?_)
    refine tm_lt_ q37 (fun x43 q43 => ?_)
    refine tm_istore (lv' := [(6, tm_iv x43), (0, tm_rv K 0), (1, tm_lv v1), (3, tm_iv v3), (4, tm_iv v4), (5, tm_iv v5)]) cx dX6_type_43 hl (by decide) (by decide) rfl (fun ls hl => ?_)
    refine tm_iload cx dX6_type_45 (tm_has_at hl 4 rfl) ?_
    refine tm_if_eq (tgt := 67) cx g4 dX6_type_47 (by decide) (fun c47 => ?_) (fun c47 => ?_)
    · refine tm_iconst cx dX6_type_67 ?_
      exact wm_type_J68 cx h24 v1 v3 v5 x43 0 _ _ g1 g3 g5 q43 (by decide) (tm_has_sub hl [1, 2, 3, 5, 0] rfl)
    · refine tm_iload cx dX6_type_50 (tm_has_at hl 0 rfl) ?_
      refine tm_if_eq (tgt := 63) cx q43 dX6_type_52 (by decide) (fun c52 => ?_) (fun c52 => ?_)
      · refine tm_iconst cx dX6_type_63 ?_
        refine tm_goto (tgt := 68) cx dX6_type_64 (by decide) ?_
        exact wm_type_J68 cx h24 v1 v3 v5 x43 1 _ _ g1 g3 g5 q43 (by decide) (tm_has_sub hl [1, 2, 3, 5, 0] rfl)
      · refine tm_iload cx dX6_type_55 (tm_has_at hl 0 rfl) ?_
        refine tm_callS (n := 1) cx (cm_isCode K l (tm_hst cx) x43 q43) (lw_S q1240 q1241 q113 q1242) ⟨by decide +kernel, by decide +kernel, by decide +kernel⟩ rfl ⟨Nat.le_of_ble_eq_true rfl, Nat.le_of_ble_eq_true rfl⟩ rfl (Nat.le_of_ble_eq_true rfl) hl.1.1 dX6_type_57 (fun u57 σ57 q57 => ?_)
        show tm_J p l e R s m args below meth c K tm_xM 1 _ _ (F0 m 60 ls [tm_iv u57])
        refine tm_if_eq (tgt := 67) cx q57 dX6_type_60 (by decide) (fun c60 => ?_) (fun c60 => ?_)
        · refine tm_iconst cx dX6_type_67 ?_
          exact wm_type_J68 cx h24 v1 v3 v5 x43 0 _ _ g1 g3 g5 q43 (by decide) (tm_has_sub hl [1, 2, 3, 5, 0] rfl)
        · refine tm_iconst cx dX6_type_63 ?_
          refine tm_goto (tgt := 68) cx dX6_type_64 (by decide) ?_
          exact wm_type_J68 cx h24 v1 v3 v5 x43 1 _ _ g1 g3 g5 q43 (by decide) (tm_has_sub hl [1, 2, 3, 5, 0] rfl)
  · refine tm_iload cx dX6_type_89 (tm_has_at hl 3 rfl) ?_
    refine tm_if_eq (tgt := 106) cx g4 dX6_type_91 (by decide) (fun c91 => ?_) (fun c91 => ?_)
    · refine tm_iconst cx dX6_type_106 ?_
      exact tm_zreturn cx (by decide) dX6_type_107
    · refine tm_aload_n cx dX6_type_94 (tm_has_at hl 0 rfl) ?_
      refine tg_X6_195 cx dX6_type_95 (fun q95 => ?_)
      refine tm_iload_n cx dX6_type_98 (tm_has_at hl 2 rfl) ?_
      refine tm_iadd cx dX6_type_99 (fun q99 => ?_)
      refine tm_sipush cx dX6_type_100 (by decide) ?_
      refine tm_icmp_le (tgt := 108) cx q99 (by decide) dX6_type_103 (by decide) (fun c103 => ?_) (fun c103 => ?_)
      · refine tm_iconst cx dX6_type_106 ?_
        exact tm_zreturn cx (by decide) dX6_type_107
      · refine tm_bipush cx dX6_type_108 (by decide) ?_
        refine tm_istore (lv' := [(5, tm_iv 7), (0, tm_rv K 0), (1, tm_lv v1), (3, tm_iv v3), (4, tm_iv v4)]) cx dX6_type_110 hl (by decide) (by decide) rfl (fun ls hl => ?_)
        exact wm_type_L112 cx tm_FU v1 7 _ _ g1 (by decide) (tm_has_sub hl [1, 2, 0] rfl)
def fm_type_L24 : Nat → Int → Int → Int → Int → tm_S → tm_R
  | 0, _, _, _, _, _ => none
  | n + 1, v1, v3, v4, v5, σ => fm_type_B24 (fm_type_L24 n) v1 v3 v4 v5 σ
theorem wm_type_L24 {p : Program} {l : Launch} {e : Env} {R : Room} {s : State} {m : MethodId} {args : Array Value} {below : List Frame} {meth : Method} {c : Code} {K : tm_K} (cx : tm_C p l R s m args meth c K cX6_type 7 RX6 "type" (some .boolean) 1 20) : ∀ (n : Nat) (v1 : Int) (v3 : Int) (v4 : Int) (v5 : Int) (σ : tm_S) (ls : Array Slot), tm_inl v1 → tm_in v3 → tm_in v4 → tm_in v5 → tm_has 1 ls 7 [(0, tm_rv K 0), (1, tm_lv v1), (3, tm_iv v3), (4, tm_iv v4), (5, tm_iv v5)] → tm_J p l e R s m args below meth c K tm_xM 1 (fm_type_L24 n v1 v3 v4 v5 σ) σ (F0 m 24 ls []) := by
  intro n
  induction n with
  | zero => intros; exact tm_none
  | succ n ih =>
    intro v1 v3 v4 v5 σ ls g1 g3 g4 g5 hl
    exact wm_type_B24 (r24 := fm_type_L24 n) cx ih v1 v3 v4 v5 σ ls g1 g3 g4 g5 hl
def fm_type (a1 : Int) (σ : tm_S) : tm_R :=
  if (tm_f (tm_wf σ 448 0 0) 454 0) = 0 then
    fm_type_L24 tm_FU a1 0 1 0 (tm_wf σ 448 0 0)
  else
    fm_type_L24 tm_FU a1 0 0 0 (tm_wf σ 448 0 0)
theorem tm_fits_X6_type (K : tm_K) (a1 : Int) : (lg_sl [tm_rv K 0, tm_lv a1]).length ≤ 3 := (tm_sl_r _ _ _ _ (tm_sl_l _ _ _ (tm_sl_n _)))
theorem cm_type (K : tm_K) (l : Launch) (hst : l.stackTraces = false) (a1 : Int) (g1 : tm_inl a1) : tm_ct K tm_xM l yX6_type cX6_type 7 (some .boolean) 1 [tm_rv K 0, tm_lv a1] (fm_type a1) 1 20 := by
  refine tm_ct_of hst (by decide +kernel) (Nat.le_trans (tm_fits_X6_type K a1) (Nat.le_of_ble_eq_true rfl)) ?_
  intro p e R s m args below meth c cx σ ls hl0
  have hl : tm_has 1 ls 7 [(0, tm_rv K 0), (1, tm_lv a1)] := ⟨by
    have h9 := hl0
    simp only [tm_args_r, tm_args_l, tm_args_n, Nat.zero_add, Nat.reduceAdd] at h9
    exact h9, by
    intro q hq
    simp only [List.mem_cons, List.not_mem_nil, or_false] at hq
    rcases hq with rfl | rfl
    · exact Or.inl (tm_rv_cat K 0)
    · exact Or.inr (Or.inl ⟨by decide, rfl⟩)⟩
  clear hl0
  unfold fm_type
  refine tm_aload_n cx dX6_type_0 (tm_has_at hl 0 rfl) ?_
  refine tm_iconst cx dX6_type_1 ?_
  refine tp_X6_186 cx (by decide) dX6_type_2 ?_
  refine tm_iconst cx dX6_type_5 ?_
  refine tm_istore_n (lv' := [(3, tm_iv 0), (0, tm_rv K 0), (1, tm_lv a1)]) cx dX6_type_6 hl (by decide) (by decide) rfl (fun ls hl => ?_)
  refine tm_aload_n cx dX6_type_7 (tm_has_at hl 1 rfl) ?_
  refine tg_X6_162 cx dX6_type_8 (fun q8 => ?_)
  refine tm_if_ne (tgt := 18) cx q8 dX6_type_11 (by decide) (fun c11 => ?_) (fun c11 => ?_)
  · refine tm_iconst cx dX6_type_14 ?_
    refine tm_goto (tgt := 19) cx dX6_type_15 (by decide) ?_
    refine tm_istore (lv' := [(4, tm_iv 1), (3, tm_iv 0), (0, tm_rv K 0), (1, tm_lv a1)]) cx dX6_type_19 hl (by decide) (by decide) rfl (fun ls hl => ?_)
    refine tm_iconst cx dX6_type_21 ?_
    refine tm_istore (lv' := [(5, tm_iv 0), (4, tm_iv 1), (3, tm_iv 0), (0, tm_rv K 0), (1, tm_lv a1)]) cx dX6_type_22 hl (by decide) (by decide) rfl (fun ls hl => ?_)
    exact wm_type_L24 cx tm_FU a1 0 1 0 _ _ g1 (by decide) (by decide) (by decide) (tm_has_sub hl [3, 4, 2, 1, 0] rfl)
  · refine tm_iconst cx dX6_type_18 ?_
    refine tm_istore (lv' := [(4, tm_iv 0), (3, tm_iv 0), (0, tm_rv K 0), (1, tm_lv a1)]) cx dX6_type_19 hl (by decide) (by decide) rfl (fun ls hl => ?_)
    refine tm_iconst cx dX6_type_21 ?_
    refine tm_istore (lv' := [(5, tm_iv 0), (4, tm_iv 0), (3, tm_iv 0), (0, tm_rv K 0), (1, tm_lv a1)]) cx dX6_type_22 hl (by decide) (by decide) rfl (fun ls hl => ?_)
    exact wm_type_L24 cx tm_FU a1 0 0 0 _ _ g1 (by decide) (by decide) (by decide) (tm_has_sub hl [3, 4, 2, 1, 0] rfl)
def fm_wipe (σ : tm_S) : tm_R :=
  tm_bd (fm_start (tm_wf (tm_wf σ 448 0 0) 449 0 0)) fun u11 σ11 =>
  tm_rt 0 σ11
theorem tm_fits_X6_wipe (K : tm_K) : (lg_sl [tm_rv K 0]).length ≤ 1 := (tm_sl_r _ _ _ _ (tm_sl_n _))
theorem cm_wipe (K : tm_K) (l : Launch) (hst : l.stackTraces = false) : tm_ct K tm_xM l yX6_wipe cX6_wipe 1 none 0 [tm_rv K 0] (fm_wipe) 1 21 := by
  refine tm_ct_of hst (by decide +kernel) (Nat.le_trans (tm_fits_X6_wipe K) (Nat.le_of_ble_eq_true rfl)) ?_
  intro p e R s m args below meth c cx σ ls hl0
  have hl : tm_has 0 ls 1 [(0, tm_rv K 0)] := ⟨by
    have h9 := hl0
    simp only [tm_args_r, tm_args_n, Nat.zero_add, Nat.reduceAdd] at h9
    exact h9, by
    intro q hq
    simp only [List.mem_cons, List.not_mem_nil, or_false] at hq
    rcases hq with rfl
    · exact Or.inl (tm_rv_cat K 0)⟩
  clear hl0
  unfold fm_wipe
  refine tm_aload_n cx dX6_wipe_0 (tm_has_at hl 0 rfl) ?_
  refine tm_iconst cx dX6_wipe_1 ?_
  refine tp_X6_186 cx (by decide) dX6_wipe_2 ?_
  refine tm_aload_n cx dX6_wipe_5 (tm_has_at hl 0 rfl) ?_
  refine tm_iconst cx dX6_wipe_6 ?_
  refine tp_X6_195 cx (by decide) dX6_wipe_7 ?_
  refine tm_aload_n cx dX6_wipe_10 (tm_has_at hl 0 rfl) ?_
  refine tm_callV (n := 0) cx (cm_start K l (tm_hst cx)) (lw_V q1101 q1103 qs50 q113 q1104) ⟨rfl, by decide +kernel, by decide +kernel, by decide +kernel⟩ rfl tm_cd_X6 (fun h => (tm_hM_0 h).1) ⟨Nat.le_of_ble_eq_true rfl, Nat.le_of_ble_eq_true rfl⟩ rfl (Nat.le_of_ble_eq_true rfl) hl.1.1 dX6_wipe_11 (fun u11 σ11 q11 => ?_)
  show tm_J p l e R s m args below meth c K tm_xM 0 _ _ (F0 m 14 ls [])
  exact tm_vreturn cx dX6_wipe_14
def fm_again (σ : tm_S) : tm_R :=
  tm_bd (fm_start (tm_wf σ 448 0 0)) fun u6 σ6 =>
  tm_rt 0 σ6
theorem tm_fits_X6_again (K : tm_K) : (lg_sl [tm_rv K 0]).length ≤ 1 := (tm_sl_r _ _ _ _ (tm_sl_n _))
theorem cm_again (K : tm_K) (l : Launch) (hst : l.stackTraces = false) : tm_ct K tm_xM l yX6_again cX6_again 1 none 0 [tm_rv K 0] (fm_again) 1 21 := by
  refine tm_ct_of hst (by decide +kernel) (Nat.le_trans (tm_fits_X6_again K) (Nat.le_of_ble_eq_true rfl)) ?_
  intro p e R s m args below meth c cx σ ls hl0
  have hl : tm_has 0 ls 1 [(0, tm_rv K 0)] := ⟨by
    have h9 := hl0
    simp only [tm_args_r, tm_args_n, Nat.zero_add, Nat.reduceAdd] at h9
    exact h9, by
    intro q hq
    simp only [List.mem_cons, List.not_mem_nil, or_false] at hq
    rcases hq with rfl
    · exact Or.inl (tm_rv_cat K 0)⟩
  clear hl0
  unfold fm_again
  refine tm_aload_n cx dX6_again_0 (tm_has_at hl 0 rfl) ?_
  refine tm_iconst cx dX6_again_1 ?_
  refine tp_X6_186 cx (by decide) dX6_again_2 ?_
  refine tm_aload_n cx dX6_again_5 (tm_has_at hl 0 rfl) ?_
  refine tm_callV (n := 0) cx (cm_start K l (tm_hst cx)) (lw_V q1101 q1103 qs50 q113 q1104) ⟨rfl, by decide +kernel, by decide +kernel, by decide +kernel⟩ rfl tm_cd_X6 (fun h => (tm_hM_0 h).1) ⟨Nat.le_of_ble_eq_true rfl, Nat.le_of_ble_eq_true rfl⟩ rfl (Nat.le_of_ble_eq_true rfl) hl.1.1 dX6_again_6 (fun u6 σ6 q6 => ?_)
  show tm_J p l e R s m args below meth c K tm_xM 0 _ _ (F0 m 9 ls [])
  exact tm_vreturn cx dX6_again_9
def fm_stop (a1 : Int) (σ : tm_S) : tm_R :=
  if (tm_f σ 453 0) = 0 then
    tm_rt (-1) (tm_wf σ 453 0 a1)
  else
    tm_rt (-1) (tm_wf σ 453 0 (tm_f σ 453 0))
theorem tm_fits_X6_stop (K : tm_K) (a1 : Int) : (lg_sl [tm_rv K 0, tm_iv a1]).length ≤ 2 := (tm_sl_r _ _ _ _ (tm_sl_i _ _ _ (tm_sl_n _)))
theorem cm_stop (K : tm_K) (l : Launch) (hst : l.stackTraces = false) (a1 : Int) (g1 : tm_in a1) : tm_ct K tm_xM l yX6_stop cX6_stop 2 (some .int) 1 [tm_rv K 0, tm_iv a1] (fm_stop a1) 0 0 := by
  refine tm_ct_of hst (by decide +kernel) (Nat.le_trans (tm_fits_X6_stop K a1) (Nat.le_of_ble_eq_true rfl)) ?_
  intro p e R s m args below meth c cx σ ls hl0
  have hl : tm_has 0 ls 2 [(0, tm_rv K 0), (1, tm_iv a1)] := ⟨by
    have h9 := hl0
    simp only [tm_args_r, tm_args_i, tm_args_n, Nat.zero_add, Nat.reduceAdd] at h9
    exact h9, by
    intro q hq
    simp only [List.mem_cons, List.not_mem_nil, or_false] at hq
    rcases hq with rfl | rfl
    · exact Or.inl (tm_rv_cat K 0)
    · exact Or.inl rfl⟩
  clear hl0
  unfold fm_stop
  refine tm_aload_n cx dX6_stop_0 (tm_has_at hl 0 rfl) ?_
  refine tm_aload_n cx dX6_stop_1 (tm_has_at hl 0 rfl) ?_
  refine tg_X6_159 cx dX6_stop_2 (fun q2 => ?_)
  refine tm_if_ne (tgt := 12) cx q2 dX6_stop_5 (by decide) (fun c5 => ?_) (fun c5 => ?_)
  · refine tm_iload_n cx dX6_stop_8 (tm_has_at hl 1 rfl) ?_
    refine tm_goto (tgt := 16) cx dX6_stop_9 (by decide) ?_
    refine tp_X6_159 cx g1 dX6_stop_16 ?_
    refine tm_iconst cx dX6_stop_19 ?_
    exact tm_ireturn cx (by decide) dX6_stop_20
  · refine tm_aload_n cx dX6_stop_12 (tm_has_at hl 0 rfl) ?_
    refine tg_X6_159 cx dX6_stop_13 (fun q13 => ?_)
    refine tp_X6_159 cx q13 dX6_stop_16 ?_
    refine tm_iconst cx dX6_stop_19 ?_
    exact tm_ireturn cx (by decide) dX6_stop_20
def fm_say (a1 : Int) (σ : tm_S) : tm_R :=
  if (tm_f σ 464 0) < 12 then
    tm_gx (tm_f σ 464 0) 12 <|
    tm_gi ((tm_f (tm_wa σ 117 (tm_f σ 464 0) a1) 464 0) + 1) <|
    tm_rt 0 (tm_wf (tm_wa σ 117 (tm_f σ 464 0) a1) 464 0 ((tm_f (tm_wa σ 117 (tm_f σ 464 0) a1) 464 0) + 1))
  else
    tm_gi ((tm_f σ 464 0) + 1) <|
    tm_rt 0 (tm_wf σ 464 0 ((tm_f σ 464 0) + 1))
theorem tm_fits_X6_say (K : tm_K) (a1 : Int) : (lg_sl [tm_rv K 0, tm_iv a1]).length ≤ 2 := (tm_sl_r _ _ _ _ (tm_sl_i _ _ _ (tm_sl_n _)))
theorem cm_say (K : tm_K) (l : Launch) (hst : l.stackTraces = false) (a1 : Int) (g1 : tm_in a1) : tm_ct K tm_xM l yX6_say cX6_say 2 none 0 [tm_rv K 0, tm_iv a1] (fm_say a1) 0 0 := by
  refine tm_ct_of hst (by decide +kernel) (Nat.le_trans (tm_fits_X6_say K a1) (Nat.le_of_ble_eq_true rfl)) ?_
  intro p e R s m args below meth c cx σ ls hl0
  have hl : tm_has 0 ls 2 [(0, tm_rv K 0), (1, tm_iv a1)] := ⟨by
    have h9 := hl0
    simp only [tm_args_r, tm_args_i, tm_args_n, Nat.zero_add, Nat.reduceAdd] at h9
    exact h9, by
    intro q hq
    simp only [List.mem_cons, List.not_mem_nil, or_false] at hq
    rcases hq with rfl | rfl
    · exact Or.inl (tm_rv_cat K 0)
    · exact Or.inl rfl⟩
  clear hl0
  unfold fm_say
  refine tm_aload_n cx dX6_say_0 (tm_has_at hl 0 rfl) ?_
  refine tg_X6_198 cx dX6_say_1 (fun q1 => ?_)
  refine tm_bipush cx dX6_say_4 (by decide) ?_
  refine tm_icmp_ge (tgt := 19) cx q1 (by decide) dX6_say_6 (by decide) (fun c6 => ?_) (fun c6 => ?_)
  · refine tm_aload_n cx dX6_say_9 (tm_has_at hl 0 rfl) ?_
    refine tg_X6_32 cx dX6_say_10 ?_
    refine tm_aload_n cx dX6_say_13 (tm_has_at hl 0 rfl) ?_
    refine tg_X6_198 cx dX6_say_14 (fun q14 => ?_)
    refine tm_iload_n cx dX6_say_17 (tm_has_at hl 1 rfl) ?_
    refine tm_iast cx tm_famM tm_hM_117 q14 g1 dX6_say_18 ?_
    refine tm_aload_n cx dX6_say_19 (tm_has_at hl 0 rfl) ?_
    refine tm_dup_r cx dX6_say_20 ?_
    refine tg_X6_198 cx dX6_say_21 (fun q21 => ?_)
    refine tm_iconst cx dX6_say_24 ?_
    refine tm_iadd cx dX6_say_25 (fun q25 => ?_)
    refine tp_X6_198 cx q25 dX6_say_26 ?_
    exact tm_vreturn cx dX6_say_29
  · refine tm_aload_n cx dX6_say_19 (tm_has_at hl 0 rfl) ?_
    refine tm_dup_r cx dX6_say_20 ?_
    refine tg_X6_198 cx dX6_say_21 (fun q21 => ?_)
    refine tm_iconst cx dX6_say_24 ?_
    refine tm_iadd cx dX6_say_25 (fun q25 => ?_)
    refine tp_X6_198 cx q25 dX6_say_26 ?_
    exact tm_vreturn cx dX6_say_29
def fm_known_J89 (r2 : Int → Int → tm_S → tm_R) (v1 : Int) (v2 : Int) (v3 : Int) (σ : tm_S) : tm_R :=
  if v3 = 0 then
    tm_gi (v2 + 1) <|
    r2 v1 (v2 + 1) σ
  else
    tm_rt v2 σ
theorem wm_known_J89 {p : Program} {l : Launch} {e : Env} {R : Room} {s : State} {m : MethodId} {args : Array Value} {below : List Frame} {meth : Method} {c : Code} {K : tm_K} {r2 : Int → Int → tm_S → tm_R} (cx : tm_C p l R s m args meth c K cX6_known 5 RX6 "known" (some .int) 0 0) (h2 : ∀ (v1 : Int) (v2 : Int) (τ : tm_S) (ls : Array Slot), tm_in v1 → tm_in v2 → tm_has 0 ls 5 [(0, tm_rv K 0), (1, tm_iv v1), (2, tm_iv v2)] → tm_J p l e R s m args below meth c K tm_xM 1 (r2 v1 v2 τ) τ (F0 m 2 ls [])) (v1 : Int) (v2 : Int) (v3 : Int) (σ : tm_S) (ls : Array Slot) (g1 : tm_in v1) (g2 : tm_in v2) (g3 : tm_in v3) (hl : tm_has 0 ls 5 [(0, tm_rv K 0), (1, tm_iv v1), (2, tm_iv v2), (3, tm_iv v3)]) : tm_J p l e R s m args below meth c K tm_xM 1 (fm_known_J89 r2 v1 v2 v3 σ) σ (F0 m 89 ls []) := by
  unfold fm_known_J89
  refine tm_iload_n cx dX6_known_89 (tm_has_at hl 3 rfl) ?_
  refine tm_if_eq (tgt := 95) cx g3 dX6_known_90 (by decide) (fun c90 => ?_) (fun c90 => ?_)
  · refine tm_iinc (lv' := [(2, tm_iv (v2 + 1)), (0, tm_rv K 0), (1, tm_iv v1), (3, tm_iv v3)]) cx dX6_known_95 hl (j := 2) rfl (by decide) (by decide) rfl (fun q95 ls hl => ?_)
    refine tm_goto (tgt := 2) cx dX6_known_98 (by decide) ?_
    exact h2 v1 (v2 + 1) _ _ g1 q95 (tm_has_sub hl [1, 2, 0] rfl)
  · refine tm_iload_n cx dX6_known_93 (tm_has_at hl 2 rfl) ?_
    exact tm_ireturn cx g2 dX6_known_94
def fm_known_B42 (r2 : Int → Int → tm_S → tm_R) (r42 : Int → Int → Int → Int → tm_S → tm_R) (v1 : Int) (v2 : Int) (v3 : Int) (v4 : Int) (σ : tm_S) : tm_R :=
  if v4 < (tm_f σ 464 0) then
    if v3 = 0 then
      fm_known_J89 r2 v1 v2 v3 σ
    else
      tm_gi (11 * v2) <|
      tm_gi ((11 * v2) + v4) <|
      tm_gx ((11 * v2) + v4) 1320 <|
      tm_gx v4 12 <|
      if (tm_a σ 112 ((11 * v2) + v4)) = (tm_a σ 117 v4) then
        tm_gi (v4 + 1) <|
        r42 v1 v2 1 (v4 + 1) σ
      else
        tm_gi (v4 + 1) <|
        r42 v1 v2 0 (v4 + 1) σ
  else
    fm_known_J89 r2 v1 v2 v3 σ
theorem wm_known_B42 {p : Program} {l : Launch} {e : Env} {R : Room} {s : State} {m : MethodId} {args : Array Value} {below : List Frame} {meth : Method} {c : Code} {K : tm_K} {r2 : Int → Int → tm_S → tm_R} {r42 : Int → Int → Int → Int → tm_S → tm_R} (cx : tm_C p l R s m args meth c K cX6_known 5 RX6 "known" (some .int) 0 0) (h2 : ∀ (v1 : Int) (v2 : Int) (τ : tm_S) (ls : Array Slot), tm_in v1 → tm_in v2 → tm_has 0 ls 5 [(0, tm_rv K 0), (1, tm_iv v1), (2, tm_iv v2)] → tm_J p l e R s m args below meth c K tm_xM 1 (r2 v1 v2 τ) τ (F0 m 2 ls [])) (h42 : ∀ (v1 : Int) (v2 : Int) (v3 : Int) (v4 : Int) (τ : tm_S) (ls : Array Slot), tm_in v1 → tm_in v2 → tm_in v3 → tm_in v4 → tm_has 0 ls 5 [(0, tm_rv K 0), (1, tm_iv v1), (2, tm_iv v2), (3, tm_iv v3), (4, tm_iv v4)] → tm_J p l e R s m args below meth c K tm_xM 1 (r42 v1 v2 v3 v4 τ) τ (F0 m 42 ls [])) (v1 : Int) (v2 : Int) (v3 : Int) (v4 : Int) (σ : tm_S) (ls : Array Slot) (g1 : tm_in v1) (g2 : tm_in v2) (g3 : tm_in v3) (g4 : tm_in v4) (hl : tm_has 0 ls 5 [(0, tm_rv K 0), (1, tm_iv v1), (2, tm_iv v2), (3, tm_iv v3), (4, tm_iv v4)]) : tm_J p l e R s m args below meth c K tm_xM 1 (fm_known_B42 r2 r42 v1 v2 v3 v4 σ) σ (F0 m 42 ls []) := by
  unfold fm_known_B42
  refine tm_iload cx dX6_known_42 (tm_has_at hl 4 rfl) ?_
  refine tm_aload_n cx dX6_known_44 (tm_has_at hl 0 rfl) ?_
  refine tg_X6_198 cx dX6_known_45 (fun q45 => ?_)
  refine tm_icmp_ge (tgt := 89) cx g4 q45 dX6_known_48 (by decide) (fun c48 => ?_) (fun c48 => ?_)
  · refine tm_iload_n cx dX6_known_51 (tm_has_at hl 3 rfl) ?_
    refine tm_if_eq (tgt := 89) cx g3 dX6_known_52 (by decide) (fun c52 => ?_) (fun c52 => ?_)
    · exact wm_known_J89 cx h2 v1 v2 v3 _ _ g1 g2 g3 (tm_has_sub hl [0, 1, 2, 3] rfl)
    · refine tm_aload_n cx dX6_known_55 (tm_has_at hl 0 rfl) ?_
      refine tg_X6_19 cx dX6_known_56 ?_
      refine tm_bipush cx dX6_known_59 (by decide) ?_
      refine tm_iload_n cx dX6_known_61 (tm_has_at hl 2 rfl) ?_
      refine tm_imul cx dX6_known_62 (fun q62 => ?_)
      refine tm_iload cx dX6_known_63 (tm_has_at hl 4 rfl) ?_
      refine tm_iadd cx dX6_known_65 (fun q65 => ?_)
      refine tm_iald cx tm_hM_112 q65 dX6_known_66 (fun i66 q66 => ?_)
      refine tm_aload_n cx dX6_known_67 (tm_has_at hl 0 rfl) ?_
      refine tg_X6_32 cx dX6_known_68 ?_
      refine tm_iload cx dX6_known_71 (tm_has_at hl 4 rfl) ?_
      refine tm_iald cx tm_hM_117 g4 dX6_known_73 (fun i73 q73 => ?_)
      refine tm_icmp_ne (tgt := 81) cx q66 q73 dX6_known_74 (by decide) (fun c74 => ?_) (fun c74 => ?_)
      · refine tm_iconst cx dX6_known_77 ?_
        refine tm_goto (tgt := 82) cx dX6_known_78 (by decide) ?_
        refine tm_istore_n (lv' := [(3, tm_iv 1), (0, tm_rv K 0), (1, tm_iv v1), (2, tm_iv v2), (4, tm_iv v4)]) cx dX6_known_82 hl (by decide) (by decide) rfl (fun ls hl => ?_)
        refine tm_iinc (lv' := [(4, tm_iv (v4 + 1)), (3, tm_iv 1), (0, tm_rv K 0), (1, tm_iv v1), (2, tm_iv v2)]) cx dX6_known_83 hl (j := 4) rfl (by decide) (by decide) rfl (fun q83 ls hl => ?_)
        refine tm_goto (tgt := 42) cx dX6_known_86 (by decide) ?_
        exact h42 v1 v2 1 (v4 + 1) _ _ g1 g2 (by decide) q83 (tm_has_sub hl [2, 3, 4, 1, 0] rfl)
      · refine tm_iconst cx dX6_known_81 ?_
        refine tm_istore_n (lv' := [(3, tm_iv 0), (0, tm_rv K 0), (1, tm_iv v1), (2, tm_iv v2), (4, tm_iv v4)]) cx dX6_known_82 hl (by decide) (by decide) rfl (fun ls hl => ?_)
        refine tm_iinc (lv' := [(4, tm_iv (v4 + 1)), (3, tm_iv 0), (0, tm_rv K 0), (1, tm_iv v1), (2, tm_iv v2)]) cx dX6_known_83 hl (j := 4) rfl (by decide) (by decide) rfl (fun q83 ls hl => ?_)
        refine tm_goto (tgt := 42) cx dX6_known_86 (by decide) ?_
        exact h42 v1 v2 0 (v4 + 1) _ _ g1 g2 (by decide) q83 (tm_has_sub hl [2, 3, 4, 1, 0] rfl)
  · exact wm_known_J89 cx h2 v1 v2 v3 _ _ g1 g2 g3 (tm_has_sub hl [0, 1, 2, 3] rfl)
def fm_known_L42 (r2 : Int → Int → tm_S → tm_R) : Nat → Int → Int → Int → Int → tm_S → tm_R
  | 0, _, _, _, _, _ => none
  | n + 1, v1, v2, v3, v4, σ => fm_known_B42 r2 (fm_known_L42 r2 n) v1 v2 v3 v4 σ
theorem wm_known_L42 {p : Program} {l : Launch} {e : Env} {R : Room} {s : State} {m : MethodId} {args : Array Value} {below : List Frame} {meth : Method} {c : Code} {K : tm_K} {r2 : Int → Int → tm_S → tm_R} (cx : tm_C p l R s m args meth c K cX6_known 5 RX6 "known" (some .int) 0 0) (h2 : ∀ (v1 : Int) (v2 : Int) (τ : tm_S) (ls : Array Slot), tm_in v1 → tm_in v2 → tm_has 0 ls 5 [(0, tm_rv K 0), (1, tm_iv v1), (2, tm_iv v2)] → tm_J p l e R s m args below meth c K tm_xM 1 (r2 v1 v2 τ) τ (F0 m 2 ls [])) : ∀ (n : Nat) (v1 : Int) (v2 : Int) (v3 : Int) (v4 : Int) (σ : tm_S) (ls : Array Slot), tm_in v1 → tm_in v2 → tm_in v3 → tm_in v4 → tm_has 0 ls 5 [(0, tm_rv K 0), (1, tm_iv v1), (2, tm_iv v2), (3, tm_iv v3), (4, tm_iv v4)] → tm_J p l e R s m args below meth c K tm_xM 1 (fm_known_L42 r2 n v1 v2 v3 v4 σ) σ (F0 m 42 ls []) := by
  intro n
  induction n with
  | zero => intros; exact tm_none
  | succ n ih =>
    intro v1 v2 v3 v4 σ ls g1 g2 g3 g4 hl
    exact wm_known_B42 (r42 := fm_known_L42 r2 n) cx h2 ih v1 v2 v3 v4 σ ls g1 g2 g3 g4 hl
def fm_known_B2 (r2 : Int → Int → tm_S → tm_R) (v1 : Int) (v2 : Int) (σ : tm_S) : tm_R :=
  if v2 < (tm_f σ 459 0) then
    tm_gx v2 120 <|
    if (tm_a σ 113 v2) = (tm_f σ 464 0) then
      tm_gx v2 120 <|
      if (tm_a σ 114 v2) = v1 then
        fm_known_L42 r2 tm_FU v1 v2 1 0 σ
      else
        fm_known_L42 r2 tm_FU v1 v2 0 0 σ
    else
      fm_known_L42 r2 tm_FU v1 v2 0 0 σ
  else
    tm_rt (-1) σ
theorem wm_known_B2 {p : Program} {l : Launch} {e : Env} {R : Room} {s : State} {m : MethodId} {args : Array Value} {below : List Frame} {meth : Method} {c : Code} {K : tm_K} {r2 : Int → Int → tm_S → tm_R} (cx : tm_C p l R s m args meth c K cX6_known 5 RX6 "known" (some .int) 0 0) (h2 : ∀ (v1 : Int) (v2 : Int) (τ : tm_S) (ls : Array Slot), tm_in v1 → tm_in v2 → tm_has 0 ls 5 [(0, tm_rv K 0), (1, tm_iv v1), (2, tm_iv v2)] → tm_J p l e R s m args below meth c K tm_xM 1 (r2 v1 v2 τ) τ (F0 m 2 ls [])) (v1 : Int) (v2 : Int) (σ : tm_S) (ls : Array Slot) (g1 : tm_in v1) (g2 : tm_in v2) (hl : tm_has 0 ls 5 [(0, tm_rv K 0), (1, tm_iv v1), (2, tm_iv v2)]) : tm_J p l e R s m args below meth c K tm_xM 1 (fm_known_B2 r2 v1 v2 σ) σ (F0 m 2 ls []) := by
  unfold fm_known_B2
  refine tm_iload_n cx dX6_known_2 (tm_has_at hl 2 rfl) ?_
  refine tm_aload_n cx dX6_known_3 (tm_has_at hl 0 rfl) ?_
  refine tg_X6_147 cx dX6_known_4 (fun q4 => ?_)
  refine tm_icmp_ge (tgt := 101) cx g2 q4 dX6_known_7 (by decide) (fun c7 => ?_) (fun c7 => ?_)
  · refine tm_aload_n cx dX6_known_10 (tm_has_at hl 0 rfl) ?_
    refine tg_X6_22 cx dX6_known_11 ?_
    refine tm_iload_n cx dX6_known_14 (tm_has_at hl 2 rfl) ?_
    refine tm_iald cx tm_hM_113 g2 dX6_known_15 (fun i15 q15 => ?_)
    refine tm_aload_n cx dX6_known_16 (tm_has_at hl 0 rfl) ?_
    refine tg_X6_198 cx dX6_known_17 (fun q17 => ?_)
    refine tm_icmp_ne (tgt := 37) cx q15 q17 dX6_known_20 (by decide) (fun c20 => ?_) (fun c20 => ?_)
    · refine tm_aload_n cx dX6_known_23 (tm_has_at hl 0 rfl) ?_
      refine tg_X6_25 cx dX6_known_24 ?_
      refine tm_iload_n cx dX6_known_27 (tm_has_at hl 2 rfl) ?_
      refine tm_zald cx tm_hM_114 g2 dX6_known_28 (fun i28 q28 => ?_)
      refine tm_iload_n cx dX6_known_29 (tm_has_at hl 1 rfl) ?_
      refine tm_icmp_ne (tgt := 37) cx q28 g1 dX6_known_30 (by decide) (fun c30 => ?_) (fun c30 => ?_)
      · refine tm_iconst cx dX6_known_33 ?_
        refine tm_goto (tgt := 38) cx dX6_known_34 (by decide) ?_
        refine tm_istore_n (lv' := [(3, tm_iv 1), (0, tm_rv K 0), (1, tm_iv v1), (2, tm_iv v2)]) cx dX6_known_38 hl (by decide) (by decide) rfl (fun ls hl => ?_)
        refine tm_iconst cx dX6_known_39 ?_
        refine tm_istore (lv' := [(4, tm_iv 0), (3, tm_iv 1), (0, tm_rv K 0), (1, tm_iv v1), (2, tm_iv v2)]) cx dX6_known_40 hl (by decide) (by decide) rfl (fun ls hl => ?_)
        exact wm_known_L42 cx h2 tm_FU v1 v2 1 0 _ _ g1 g2 (by decide) (by decide) (tm_has_sub hl [2, 3, 4, 1, 0] rfl)
      · refine tm_iconst cx dX6_known_37 ?_
        refine tm_istore_n (lv' := [(3, tm_iv 0), (0, tm_rv K 0), (1, tm_iv v1), (2, tm_iv v2)]) cx dX6_known_38 hl (by decide) (by decide) rfl (fun ls hl => ?_)
        refine tm_iconst cx dX6_known_39 ?_
        refine tm_istore (lv' := [(4, tm_iv 0), (3, tm_iv 0), (0, tm_rv K 0), (1, tm_iv v1), (2, tm_iv v2)]) cx dX6_known_40 hl (by decide) (by decide) rfl (fun ls hl => ?_)
        exact wm_known_L42 cx h2 tm_FU v1 v2 0 0 _ _ g1 g2 (by decide) (by decide) (tm_has_sub hl [2, 3, 4, 1, 0] rfl)
    · refine tm_iconst cx dX6_known_37 ?_
      refine tm_istore_n (lv' := [(3, tm_iv 0), (0, tm_rv K 0), (1, tm_iv v1), (2, tm_iv v2)]) cx dX6_known_38 hl (by decide) (by decide) rfl (fun ls hl => ?_)
      refine tm_iconst cx dX6_known_39 ?_
      refine tm_istore (lv' := [(4, tm_iv 0), (3, tm_iv 0), (0, tm_rv K 0), (1, tm_iv v1), (2, tm_iv v2)]) cx dX6_known_40 hl (by decide) (by decide) rfl (fun ls hl => ?_)
      exact wm_known_L42 cx h2 tm_FU v1 v2 0 0 _ _ g1 g2 (by decide) (by decide) (tm_has_sub hl [2, 3, 4, 1, 0] rfl)
  · refine tm_iconst cx dX6_known_101 ?_
    exact tm_ireturn cx (by decide) dX6_known_102
def fm_known_L2 : Nat → Int → Int → tm_S → tm_R
  | 0, _, _, _ => none
  | n + 1, v1, v2, σ => fm_known_B2 (fm_known_L2 n) v1 v2 σ
theorem wm_known_L2 {p : Program} {l : Launch} {e : Env} {R : Room} {s : State} {m : MethodId} {args : Array Value} {below : List Frame} {meth : Method} {c : Code} {K : tm_K} (cx : tm_C p l R s m args meth c K cX6_known 5 RX6 "known" (some .int) 0 0) : ∀ (n : Nat) (v1 : Int) (v2 : Int) (σ : tm_S) (ls : Array Slot), tm_in v1 → tm_in v2 → tm_has 0 ls 5 [(0, tm_rv K 0), (1, tm_iv v1), (2, tm_iv v2)] → tm_J p l e R s m args below meth c K tm_xM 1 (fm_known_L2 n v1 v2 σ) σ (F0 m 2 ls []) := by
  intro n
  induction n with
  | zero => intros; exact tm_none
  | succ n ih =>
    intro v1 v2 σ ls g1 g2 hl
    exact wm_known_B2 (r2 := fm_known_L2 n) cx ih v1 v2 σ ls g1 g2 hl
def fm_known (a1 : Int) (σ : tm_S) : tm_R :=
  fm_known_L2 tm_FU a1 0 σ
theorem tm_fits_X6_known (K : tm_K) (a1 : Int) : (lg_sl [tm_rv K 0, tm_iv a1]).length ≤ 2 := (tm_sl_r _ _ _ _ (tm_sl_i _ _ _ (tm_sl_n _)))
theorem cm_known (K : tm_K) (l : Launch) (hst : l.stackTraces = false) (a1 : Int) (g1 : tm_in a1) : tm_ct K tm_xM l yX6_known cX6_known 5 (some .int) 1 [tm_rv K 0, tm_iv a1] (fm_known a1) 0 0 := by
  refine tm_ct_of hst (by decide +kernel) (Nat.le_trans (tm_fits_X6_known K a1) (Nat.le_of_ble_eq_true rfl)) ?_
  intro p e R s m args below meth c cx σ ls hl0
  have hl : tm_has 0 ls 5 [(0, tm_rv K 0), (1, tm_iv a1)] := ⟨by
    have h9 := hl0
    simp only [tm_args_r, tm_args_i, tm_args_n, Nat.zero_add, Nat.reduceAdd] at h9
    exact h9, by
    intro q hq
    simp only [List.mem_cons, List.not_mem_nil, or_false] at hq
    rcases hq with rfl | rfl
    · exact Or.inl (tm_rv_cat K 0)
    · exact Or.inl rfl⟩
  clear hl0
  unfold fm_known
  refine tm_iconst cx dX6_known_0 ?_
  refine tm_istore_n (lv' := [(2, tm_iv 0), (0, tm_rv K 0), (1, tm_iv a1)]) cx dX6_known_1 hl (by decide) (by decide) rfl (fun ls hl => ?_)
  exact wm_known_L2 cx tm_FU a1 0 _ _ g1 (by decide) (tm_has_sub hl [1, 2, 0] rfl)
