set_option maxRecDepth 100000
def fc_escape_J134 (r75 : Int → Int → tm_S → tm_R) (v1 : Int) (v2 : Int) (σ : tm_S) : tm_R :=
  tm_gi ((tm_f σ 2 0) - 1) <|
  tm_gx ((tm_f σ 2 0) - 1) 160 <|
  tm_gx v1 11 <|
  tm_gb (tm_a σ 100 ((tm_f σ 2 0) - 1)) <|
  tm_gi (v1 + 1) <|
  r75 (v1 + 1) v2 (tm_wa σ 107 v1 (tm_a σ 100 ((tm_f σ 2 0) - 1)))
theorem wc_escape_J134 {p : Program} {l : Launch} {e : Env} {R : Room} {s : State} {m : MethodId} {args : Array Value} {below : List Frame} {meth : Method} {c : Code} {K : tm_K} {r75 : Int → Int → tm_S → tm_R} (cx : tm_C p l R s m args meth c K cX1_escape 3 RX1 "escape" (some .int) 9 234) (h75 : ∀ (v1 : Int) (v2 : Int) (τ : tm_S) (ls : Array Slot), tm_in v1 → tm_in v2 → tm_has 0 ls 3 [(0, tm_rv K 0), (1, tm_iv v1), (2, tm_iv v2)] → tm_J p l e R s m args below meth c K tm_xC 1 (r75 v1 v2 τ) τ (F0 m 75 ls [])) (v1 : Int) (v2 : Int) (σ : tm_S) (ls : Array Slot) (g1 : tm_in v1) (g2 : tm_in v2) (hl : tm_has 0 ls 3 [(0, tm_rv K 0), (1, tm_iv v1), (2, tm_iv v2)]) : tm_J p l e R s m args below meth c K tm_xC 1 (fc_escape_J134 r75 v1 v2 σ) σ (F0 m 134 ls []) := by
  unfold fc_escape_J134
  refine tm_aload_n cx dX1_escape_134 (tm_has_at hl 0 rfl) ?_
  refine tg_X1_33 cx dX1_escape_135 ?_
  refine tm_iload_n cx dX1_escape_138 (tm_has_at hl 1 rfl) ?_
  refine tm_aload_n cx dX1_escape_139 (tm_has_at hl 0 rfl) ?_
  refine tg_X1_9 cx dX1_escape_140 ?_
  refine tm_aload_n cx dX1_escape_143 (tm_has_at hl 0 rfl) ?_
  refine tg_X1_92 cx dX1_escape_144 (fun q144 => ?_)
  refine tm_iconst cx dX1_escape_147 ?_
  refine tm_isub cx dX1_escape_148 (fun q148 => ?_)
  refine tm_bald cx tm_hC_100 q148 dX1_escape_149 (fun i149 q149 => ?_)
  refine tm_bast cx tm_famC tm_hC_107 g1 q149 dX1_escape_150 ?_
  refine tm_iinc (lv' := [(1, tm_iv (v1 + 1)), (0, tm_rv K 0), (2, tm_iv v2)]) cx dX1_escape_151 hl (j := 1) rfl (by decide) (by decide) rfl (fun q151 ls hl => ?_)
  refine tm_goto (tgt := 75) cx dX1_escape_154 (by decide) ?_
  exact h75 (v1 + 1) v2 _ _ q151 g2 (tm_has_sub hl [1, 0, 2] rfl)
def fc_escape_J113 (r75 : Int → Int → tm_S → tm_R) (v1 : Int) (v2 : Int) (σ : tm_S) : tm_R :=
  tm_gi ((tm_f σ 2 0) + 1) <|
  if v1 = 11 then
    tm_bd (fc_fail 5 (tm_wf σ 2 0 ((tm_f σ 2 0) + 1))) fun _ _ => none
  else
    fc_escape_J134 r75 v1 v2 (tm_wf σ 2 0 ((tm_f σ 2 0) + 1))
theorem wc_escape_J113 {p : Program} {l : Launch} {e : Env} {R : Room} {s : State} {m : MethodId} {args : Array Value} {below : List Frame} {meth : Method} {c : Code} {K : tm_K} {r75 : Int → Int → tm_S → tm_R} (cx : tm_C p l R s m args meth c K cX1_escape 3 RX1 "escape" (some .int) 9 234) (h75 : ∀ (v1 : Int) (v2 : Int) (τ : tm_S) (ls : Array Slot), tm_in v1 → tm_in v2 → tm_has 0 ls 3 [(0, tm_rv K 0), (1, tm_iv v1), (2, tm_iv v2)] → tm_J p l e R s m args below meth c K tm_xC 1 (r75 v1 v2 τ) τ (F0 m 75 ls [])) (v1 : Int) (v2 : Int) (σ : tm_S) (ls : Array Slot) (g1 : tm_in v1) (g2 : tm_in v2) (hl : tm_has 0 ls 3 [(0, tm_rv K 0), (1, tm_iv v1), (2, tm_iv v2)]) : tm_J p l e R s m args below meth c K tm_xC 1 (fc_escape_J113 r75 v1 v2 σ) σ (F0 m 113 ls []) := by
  unfold fc_escape_J113
  refine tm_aload_n cx dX1_escape_113 (tm_has_at hl 0 rfl) ?_
  refine tm_dup_r cx dX1_escape_114 ?_
  refine tg_X1_92 cx dX1_escape_115 (fun q115 => ?_)
  refine tm_iconst cx dX1_escape_118 ?_
  refine tm_iadd cx dX1_escape_119 (fun q119 => ?_)
  refine tp_X1_92 cx q119 dX1_escape_120 ?_
  refine tm_iload_n cx dX1_escape_123 (tm_has_at hl 1 rfl) ?_
  refine tm_bipush cx dX1_escape_124 (by decide) ?_
  refine tm_icmp_ne (tgt := 134) cx g1 (by decide) dX1_escape_126 (by decide) (fun c126 => ?_) (fun c126 => ?_)
  · refine tm_aload_n cx dX1_escape_129 (tm_has_at hl 0 rfl) ?_
    refine tm_iconst cx dX1_escape_130 ?_
    refine tm_callV (n := 1) cx (cc_fail K l (tm_hst cx) 5 (by decide)) (lw_V q580 q582 qs10 q95 q583) ⟨rfl, by decide +kernel, by decide +kernel, by decide +kernel⟩ rfl tm_cd_X1 (fun h => (tm_hC_0 h).1) ⟨Nat.le_of_ble_eq_true rfl, Nat.le_of_ble_eq_true rfl⟩ rfl (Nat.le_of_ble_eq_true rfl) hl.1.1 dX1_escape_131 (fun _ _ _ => ?_)
    exact tm_none
  · exact wc_escape_J134 cx h75 v1 v2 _ _ g1 g2 (tm_has_sub hl [0, 1, 2] rfl)
def fc_escape_J157 (v1 : Int) (σ : tm_S) : tm_R :=
  tm_bd (fc_known 107 v1 0 σ) fun u164 σ164 =>
  tm_rt u164 σ164
theorem wc_escape_J157 {p : Program} {l : Launch} {e : Env} {R : Room} {s : State} {m : MethodId} {args : Array Value} {below : List Frame} {meth : Method} {c : Code} {K : tm_K} (cx : tm_C p l R s m args meth c K cX1_escape 3 RX1 "escape" (some .int) 9 234) (v1 : Int) (σ : tm_S) (ls : Array Slot) (g1 : tm_in v1) (hl : tm_has 0 ls 3 [(0, tm_rv K 0), (1, tm_iv v1)]) : tm_J p l e R s m args below meth c K tm_xC 1 (fc_escape_J157 v1 σ) σ (F0 m 157 ls []) := by
  unfold fc_escape_J157
  refine tm_aload_n cx dX1_escape_157 (tm_has_at hl 0 rfl) ?_
  refine tm_aload_n cx dX1_escape_158 (tm_has_at hl 0 rfl) ?_
  refine tg_X1_33 cx dX1_escape_159 ?_
  refine tm_iload_n cx dX1_escape_162 (tm_has_at hl 1 rfl) ?_
  refine tm_iconst cx dX1_escape_163 ?_
  refine tm_callV (n := 3) cx (cc_known K l (tm_hst cx) 107 (by decide) v1 g1 0 (by decide)) (lw_V q584 q586 qs11 q95 q587) ⟨rfl, by decide +kernel, by decide +kernel, by decide +kernel⟩ rfl tm_cd_X1 (fun h => (tm_hC_0 h).1) ⟨Nat.le_of_ble_eq_true rfl, Nat.le_of_ble_eq_true rfl⟩ rfl (Nat.le_of_ble_eq_true rfl) hl.1.1 dX1_escape_164 (fun u164 σ164 q164 => ?_)
  show tm_J p l e R s m args below meth c K tm_xC 1 _ _ (F0 m 167 ls [tm_iv u164])
  exact tm_ireturn cx q164 dX1_escape_167
def fc_escape_B75 (r75 : Int → Int → tm_S → tm_R) (v1 : Int) (v2 : Int) (σ : tm_S) : tm_R :=
  if (tm_f σ 2 0) < (tm_f σ 1 0) then
    if v1 = 0 then
      fc_escape_J113 r75 v1 v2 σ
    else
      if v2 = 0 then
        fc_escape_J157 v1 σ
      else
        tm_gx (tm_f σ 2 0) 160 <|
        tm_gx (tm_a σ 100 (tm_f σ 2 0)) 128 <|
        if (tm_a σ 104 (tm_a σ 100 (tm_f σ 2 0))) = 11 then
          fc_escape_J113 r75 v1 v2 σ
        else
          fc_escape_J157 v1 σ
  else
    fc_escape_J157 v1 σ
theorem wc_escape_B75 {p : Program} {l : Launch} {e : Env} {R : Room} {s : State} {m : MethodId} {args : Array Value} {below : List Frame} {meth : Method} {c : Code} {K : tm_K} {r75 : Int → Int → tm_S → tm_R} (cx : tm_C p l R s m args meth c K cX1_escape 3 RX1 "escape" (some .int) 9 234) (h75 : ∀ (v1 : Int) (v2 : Int) (τ : tm_S) (ls : Array Slot), tm_in v1 → tm_in v2 → tm_has 0 ls 3 [(0, tm_rv K 0), (1, tm_iv v1), (2, tm_iv v2)] → tm_J p l e R s m args below meth c K tm_xC 1 (r75 v1 v2 τ) τ (F0 m 75 ls [])) (v1 : Int) (v2 : Int) (σ : tm_S) (ls : Array Slot) (g1 : tm_in v1) (g2 : tm_in v2) (hl : tm_has 0 ls 3 [(0, tm_rv K 0), (1, tm_iv v1), (2, tm_iv v2)]) : tm_J p l e R s m args below meth c K tm_xC 1 (fc_escape_B75 r75 v1 v2 σ) σ (F0 m 75 ls []) := by
  unfold fc_escape_B75
  refine tm_aload_n cx dX1_escape_75 (tm_has_at hl 0 rfl) ?_
  refine tg_X1_92 cx dX1_escape_76 (fun q76 => ?_)
  refine tm_aload_n cx dX1_escape_79 (tm_has_at hl 0 rfl) ?_
  refine tg_X1_207 cx dX1_escape_80 (fun q80 => ?_)
  refine tm_icmp_ge (tgt := 157) cx q76 q80 dX1_escape_83 (by decide) (fun c83 => ?_) (fun c83 => ?_)
  · refine tm_iload_n cx dX1_escape_86 (tm_has_at hl 1 rfl) ?_
    refine tm_if_eq (tgt := 113) cx g1 dX1_escape_87 (by decide) (fun c87 => ?_) (fun c87 => ?_)
    · exact wc_escape_J113 cx h75 v1 v2 _ _ g1 g2 (tm_has_sub hl [0, 1, 2] rfl)
    · refine tm_iload_n cx dX1_escape_90 (tm_has_at hl 2 rfl) ?_
      refine tm_if_eq (tgt := 157) cx g2 dX1_escape_91 (by decide) (fun c91 => ?_) (fun c91 => ?_)
      · exact wc_escape_J157 cx v1 _ _ g1 (tm_has_sub hl [0, 1] rfl)
      · refine tm_aload_n cx dX1_escape_94 (tm_has_at hl 0 rfl) ?_
        refine tg_X1_13 cx dX1_escape_95 ?_
        refine tm_aload_n cx dX1_escape_98 (tm_has_at hl 0 rfl) ?_
        refine tg_X1_9 cx dX1_escape_99 ?_
        refine tm_aload_n cx dX1_escape_102 (tm_has_at hl 0 rfl) ?_
        refine tg_X1_92 cx dX1_escape_103 (fun q103 => ?_)
        refine tm_bald cx tm_hC_100 q103 dX1_escape_106 (fun i106 q106 => ?_)
        refine tm_bald cx tm_hC_104 q106 dX1_escape_107 (fun i107 q107 => ?_)
        refine tm_bipush cx dX1_escape_108 (by decide) ?_
        refine tm_icmp_ne (tgt := 157) cx q107 (by decide) dX1_escape_110 (by decide) (fun c110 => ?_) (fun c110 => ?_)
        · exact wc_escape_J113 cx h75 v1 v2 _ _ g1 g2 (tm_has_sub hl [0, 1, 2] rfl)
        · exact wc_escape_J157 cx v1 _ _ g1 (tm_has_sub hl [0, 1] rfl)
  · exact wc_escape_J157 cx v1 _ _ g1 (tm_has_sub hl [0, 1] rfl)
def fc_escape_L75 : Nat → Int → Int → tm_S → tm_R
  | 0, _, _, _ => none
  | n + 1, v1, v2, σ => fc_escape_B75 (fc_escape_L75 n) v1 v2 σ
theorem wc_escape_L75 {p : Program} {l : Launch} {e : Env} {R : Room} {s : State} {m : MethodId} {args : Array Value} {below : List Frame} {meth : Method} {c : Code} {K : tm_K} (cx : tm_C p l R s m args meth c K cX1_escape 3 RX1 "escape" (some .int) 9 234) : ∀ (n : Nat) (v1 : Int) (v2 : Int) (σ : tm_S) (ls : Array Slot), tm_in v1 → tm_in v2 → tm_has 0 ls 3 [(0, tm_rv K 0), (1, tm_iv v1), (2, tm_iv v2)] → tm_J p l e R s m args below meth c K tm_xC 1 (fc_escape_L75 n v1 v2 σ) σ (F0 m 75 ls []) := by
  intro n
  induction n with
  | zero => intros; exact tm_none
  | succ n ih =>
    intro v1 v2 σ ls g1 g2 hl
    exact wc_escape_B75 (r75 := fc_escape_L75 n) cx ih v1 v2 σ ls g1 g2 hl
def fc_escape_J42 (v1 : Int) (vs0 : Int) (σ : tm_S) : tm_R :=
  if vs0 = 0 then
    tm_gx (tm_f σ 2 0) 160 <|
    tm_gx (tm_a σ 100 (tm_f σ 2 0)) 128 <|
    if (tm_a σ 104 (tm_a σ 100 (tm_f σ 2 0))) = 10 then
      fc_escape_L75 tm_FU v1 vs0 (tm_wf σ 3 0 2)
    else
      fc_escape_L75 tm_FU v1 vs0 (tm_wf σ 3 0 1)
  else
    fc_escape_L75 tm_FU v1 vs0 (tm_wf σ 3 0 2)
theorem wc_escape_J42 {p : Program} {l : Launch} {e : Env} {R : Room} {s : State} {m : MethodId} {args : Array Value} {below : List Frame} {meth : Method} {c : Code} {K : tm_K} (cx : tm_C p l R s m args meth c K cX1_escape 3 RX1 "escape" (some .int) 9 234) (v1 : Int) (vs0 : Int) (σ : tm_S) (ls : Array Slot) (g1 : tm_in v1) (gs0 : tm_in vs0) (hl : tm_has 0 ls 3 [(0, tm_rv K 0), (1, tm_iv v1)]) : tm_J p l e R s m args below meth c K tm_xC 1 (fc_escape_J42 v1 vs0 σ) σ (F0 m 42 ls [tm_iv vs0]) := by
  unfold fc_escape_J42
  refine tm_istore_n (lv' := [(2, tm_iv vs0), (0, tm_rv K 0), (1, tm_iv v1)]) cx dX1_escape_42 hl (by decide) (by decide) rfl (fun ls hl => ?_)
  refine tm_aload_n cx dX1_escape_43 (tm_has_at hl 1 rfl) ?_
  refine tm_iload_n cx dX1_escape_44 (tm_has_at hl 0 rfl) ?_
  refine tm_if_ne (tgt := 67) cx gs0 dX1_escape_45 (by decide) (fun c45 => ?_) (fun c45 => ?_)
  · refine tm_aload_n cx dX1_escape_48 (tm_has_at hl 1 rfl) ?_
    refine tg_X1_13 cx dX1_escape_49 ?_
    refine tm_aload_n cx dX1_escape_52 (tm_has_at hl 1 rfl) ?_
    refine tg_X1_9 cx dX1_escape_53 ?_
    refine tm_aload_n cx dX1_escape_56 (tm_has_at hl 1 rfl) ?_
    refine tg_X1_92 cx dX1_escape_57 (fun q57 => ?_)
    refine tm_bald cx tm_hC_100 q57 dX1_escape_60 (fun i60 q60 => ?_)
    refine tm_bald cx tm_hC_104 q60 dX1_escape_61 (fun i61 q61 => ?_)
    refine tm_bipush cx dX1_escape_62 (by decide) ?_
    refine tm_icmp_ne (tgt := 71) cx q61 (by decide) dX1_escape_64 (by decide) (fun c64 => ?_) (fun c64 => ?_)
    · refine tm_iconst cx dX1_escape_67 ?_
      refine tm_goto (tgt := 72) cx dX1_escape_68 (by decide) ?_
      refine tp_X1_96 cx (by decide) dX1_escape_72 ?_
      exact wc_escape_L75 cx tm_FU v1 vs0 _ _ g1 gs0 (tm_has_sub hl [1, 2, 0] rfl)
    · refine tm_iconst cx dX1_escape_71 ?_
      refine tp_X1_96 cx (by decide) dX1_escape_72 ?_
      exact wc_escape_L75 cx tm_FU v1 vs0 _ _ g1 gs0 (tm_has_sub hl [1, 2, 0] rfl)
  · refine tm_iconst cx dX1_escape_67 ?_
    refine tm_goto (tgt := 72) cx dX1_escape_68 (by decide) ?_
    refine tp_X1_96 cx (by decide) dX1_escape_72 ?_
    exact wc_escape_L75 cx tm_FU v1 vs0 _ _ g1 gs0 (tm_has_sub hl [1, 2, 0] rfl)
def fc_escape_J16 (σ : tm_S) : tm_R :=
  tm_gx (tm_f σ 2 0) 160 <|
  tm_gx (tm_a σ 100 (tm_f σ 2 0)) 128 <|
  if (tm_a σ 104 (tm_a σ 100 (tm_f σ 2 0))) = 11 then
    fc_escape_J42 0 1 σ
  else
    fc_escape_J42 0 0 σ
theorem wc_escape_J16 {p : Program} {l : Launch} {e : Env} {R : Room} {s : State} {m : MethodId} {args : Array Value} {below : List Frame} {meth : Method} {c : Code} {K : tm_K} (cx : tm_C p l R s m args meth c K cX1_escape 3 RX1 "escape" (some .int) 9 234) (σ : tm_S) (ls : Array Slot) (hl : tm_has 0 ls 3 [(0, tm_rv K 0)]) : tm_J p l e R s m args below meth c K tm_xC 1 (fc_escape_J16 σ) σ (F0 m 16 ls []) := by
  unfold fc_escape_J16
  refine tm_iconst cx dX1_escape_16 ?_
  refine tm_istore_n (lv' := [(1, tm_iv 0), (0, tm_rv K 0)]) cx dX1_escape_17 hl (by decide) (by decide) rfl (fun ls hl => ?_)
  refine tm_aload_n cx dX1_escape_18 (tm_has_at hl 1 rfl) ?_
  refine tg_X1_13 cx dX1_escape_19 ?_
  refine tm_aload_n cx dX1_escape_22 (tm_has_at hl 1 rfl) ?_
  refine tg_X1_9 cx dX1_escape_23 ?_
  refine tm_aload_n cx dX1_escape_26 (tm_has_at hl 1 rfl) ?_
  refine tg_X1_92 cx dX1_escape_27 (fun q27 => ?_)
  refine tm_bald cx tm_hC_100 q27 dX1_escape_30 (fun i30 q30 => ?_)
  refine tm_bald cx tm_hC_104 q30 dX1_escape_31 (fun i31 q31 => ?_)
  refine tm_bipush cx dX1_escape_32 (by decide) ?_
  refine tm_icmp_ne (tgt := 41) cx q31 (by decide) dX1_escape_34 (by decide) (fun c34 => ?_) (fun c34 => ?_)
  · refine tm_iconst cx dX1_escape_37 ?_
    refine tm_goto (tgt := 42) cx dX1_escape_38 (by decide) ?_
    exact wc_escape_J42 cx 0 1 _ _ (by decide) (by decide) (tm_has_sub hl [1, 0] rfl)
  · refine tm_iconst cx dX1_escape_41 ?_
    exact wc_escape_J42 cx 0 0 _ _ (by decide) (by decide) (tm_has_sub hl [1, 0] rfl)
def fc_escape (σ : tm_S) : tm_R :=
  if (tm_f σ 2 0) = (tm_f σ 1 0) then
    tm_bd (fc_fail 3 σ) fun _ _ => none
  else
    fc_escape_J16 σ
theorem tm_fits_X1_escape (K : tm_K) : (lg_sl [tm_rv K 0]).length ≤ 1 := (tm_sl_r _ _ _ _ (tm_sl_n _))
theorem cc_escape (K : tm_K) (l : Launch) (hst : l.stackTraces = false) : tm_ct K tm_xC l yX1_escape cX1_escape 3 (some .int) 1 [tm_rv K 0] (fc_escape) 9 234 := by
  refine tm_ct_of hst (by decide +kernel) (Nat.le_trans (tm_fits_X1_escape K) (Nat.le_of_ble_eq_true rfl)) ?_
  intro p e R s m args below meth c cx σ ls hl0
  have hl : tm_has 0 ls 3 [(0, tm_rv K 0)] := ⟨by
    have h9 := hl0
    simp only [tm_args_r, tm_args_n, Nat.zero_add, Nat.reduceAdd] at h9
    exact h9, by
    intro q hq
    simp only [List.mem_cons, List.not_mem_nil, or_false] at hq
    rcases hq with rfl
    · exact Or.inl (tm_rv_cat K 0)⟩
  clear hl0
  unfold fc_escape
  refine tm_aload_n cx dX1_escape_0 (tm_has_at hl 0 rfl) ?_
  refine tg_X1_92 cx dX1_escape_1 (fun q1 => ?_)
  refine tm_aload_n cx dX1_escape_4 (tm_has_at hl 0 rfl) ?_
  refine tg_X1_207 cx dX1_escape_5 (fun q5 => ?_)
  refine tm_icmp_ne (tgt := 16) cx q1 q5 dX1_escape_8 (by decide) (fun c8 => ?_) (fun c8 => ?_)
  · refine tm_aload_n cx dX1_escape_11 (tm_has_at hl 0 rfl) ?_
    refine tm_iconst cx dX1_escape_12 ?_
    refine tm_callV (n := 1) cx (cc_fail K l (tm_hst cx) 3 (by decide)) (lw_V q580 q582 qs10 q95 q583) ⟨rfl, by decide +kernel, by decide +kernel, by decide +kernel⟩ rfl tm_cd_X1 (fun h => (tm_hC_0 h).1) ⟨Nat.le_of_ble_eq_true rfl, Nat.le_of_ble_eq_true rfl⟩ rfl (Nat.le_of_ble_eq_true rfl) hl.1.1 dX1_escape_13 (fun _ _ _ => ?_)
    exact tm_none
  · exact wc_escape_J16 cx _ _ (tm_has_sub hl [0] rfl)
def fc_passLine_J50 (σ : tm_S) : tm_R :=
  if (tm_f σ 2 0) < (tm_f σ 1 0) then
    tm_gi ((tm_f σ 2 0) + 1) <|
    tm_rt 0 (tm_wf σ 2 0 ((tm_f σ 2 0) + 1))
  else
    tm_rt 0 (tm_wf σ 2 0 (tm_f σ 2 0))
theorem wc_passLine_J50 {p : Program} {l : Launch} {e : Env} {R : Room} {s : State} {m : MethodId} {args : Array Value} {below : List Frame} {meth : Method} {c : Code} {K : tm_K} (cx : tm_C p l R s m args meth c K cX1_passLine 2 RX1 "passLine" none 0 0) (σ : tm_S) (ls : Array Slot) (hl : tm_has 0 ls 2 [(0, tm_rv K 0)]) : tm_J p l e R s m args below meth c K tm_xC 0 (fc_passLine_J50 σ) σ (F0 m 50 ls []) := by
  unfold fc_passLine_J50
  refine tm_aload_n cx dX1_passLine_50 (tm_has_at hl 0 rfl) ?_
  refine tm_aload_n cx dX1_passLine_51 (tm_has_at hl 0 rfl) ?_
  refine tg_X1_92 cx dX1_passLine_52 (fun q52 => ?_)
  refine tm_aload_n cx dX1_passLine_55 (tm_has_at hl 0 rfl) ?_
  refine tg_X1_207 cx dX1_passLine_56 (fun q56 => ?_)
  refine tm_icmp_ge (tgt := 71) cx q52 q56 dX1_passLine_59 (by decide) (fun c59 => ?_) (fun c59 => ?_)
  · refine tm_aload_n cx dX1_passLine_62 (tm_has_at hl 0 rfl) ?_
    refine tg_X1_92 cx dX1_passLine_63 (fun q63 => ?_)
    refine tm_iconst cx dX1_passLine_66 ?_
    refine tm_iadd cx dX1_passLine_67 (fun q67 => ?_)
    refine tm_goto (tgt := 75) cx dX1_passLine_68 (by decide) ?_
    refine tp_X1_92 cx q67 dX1_passLine_75 ?_
    exact tm_vreturn cx dX1_passLine_78
  · refine tm_aload_n cx dX1_passLine_71 (tm_has_at hl 0 rfl) ?_
    refine tg_X1_92 cx dX1_passLine_72 (fun q72 => ?_)
    refine tp_X1_92 cx q72 dX1_passLine_75 ?_
    exact tm_vreturn cx dX1_passLine_78
def fc_passLine_B12 (r12 : tm_S → tm_R) (σ : tm_S) : tm_R :=
  if (tm_f σ 2 0) < (tm_f σ 1 0) then
    tm_gx (tm_f σ 2 0) 160 <|
    if (tm_a σ 100 (tm_f σ 2 0)) = 10 then
      fc_passLine_J50 σ
    else
      tm_gi ((tm_f σ 2 0) + 1) <|
      r12 (tm_wf σ 2 0 ((tm_f σ 2 0) + 1))
  else
    fc_passLine_J50 σ
theorem wc_passLine_B12 {p : Program} {l : Launch} {e : Env} {R : Room} {s : State} {m : MethodId} {args : Array Value} {below : List Frame} {meth : Method} {c : Code} {K : tm_K} {r12 : tm_S → tm_R} (cx : tm_C p l R s m args meth c K cX1_passLine 2 RX1 "passLine" none 0 0) (h12 : ∀  (τ : tm_S) (ls : Array Slot), tm_has 0 ls 2 [(0, tm_rv K 0)] → tm_J p l e R s m args below meth c K tm_xC 0 (r12 τ) τ (F0 m 12 ls [])) (σ : tm_S) (ls : Array Slot) (hl : tm_has 0 ls 2 [(0, tm_rv K 0)]) : tm_J p l e R s m args below meth c K tm_xC 0 (fc_passLine_B12 r12 σ) σ (F0 m 12 ls []) := by
  unfold fc_passLine_B12
  refine tm_aload_n cx dX1_passLine_12 (tm_has_at hl 0 rfl) ?_
  refine tg_X1_92 cx dX1_passLine_13 (fun q13 => ?_)
  refine tm_aload_n cx dX1_passLine_16 (tm_has_at hl 0 rfl) ?_
  refine tg_X1_207 cx dX1_passLine_17 (fun q17 => ?_)
  refine tm_icmp_ge (tgt := 50) cx q13 q17 dX1_passLine_20 (by decide) (fun c20 => ?_) (fun c20 => ?_)
  · refine tm_aload_n cx dX1_passLine_23 (tm_has_at hl 0 rfl) ?_
    refine tg_X1_9 cx dX1_passLine_24 ?_
    refine tm_aload_n cx dX1_passLine_27 (tm_has_at hl 0 rfl) ?_
    refine tg_X1_92 cx dX1_passLine_28 (fun q28 => ?_)
    refine tm_bald cx tm_hC_100 q28 dX1_passLine_31 (fun i31 q31 => ?_)
    refine tm_bipush cx dX1_passLine_32 (by decide) ?_
    refine tm_icmp_eq (tgt := 50) cx q31 (by decide) dX1_passLine_34 (by decide) (fun c34 => ?_) (fun c34 => ?_)
    · exact wc_passLine_J50 cx _ _ (tm_has_sub hl [0] rfl)
    · refine tm_aload_n cx dX1_passLine_37 (tm_has_at hl 0 rfl) ?_
      refine tm_dup_r cx dX1_passLine_38 ?_
      refine tg_X1_92 cx dX1_passLine_39 (fun q39 => ?_)
      refine tm_iconst cx dX1_passLine_42 ?_
      refine tm_iadd cx dX1_passLine_43 (fun q43 => ?_)
      refine tp_X1_92 cx q43 dX1_passLine_44 ?_
      refine tm_goto (tgt := 12) cx dX1_passLine_47 (by decide) ?_
      exact h12 _ _ (tm_has_sub hl [0] rfl)
  · exact wc_passLine_J50 cx _ _ (tm_has_sub hl [0] rfl)
def fc_passLine_L12 : Nat → tm_S → tm_R
  | 0, _ => none
  | n + 1, σ => fc_passLine_B12 (fc_passLine_L12 n) σ
theorem wc_passLine_L12 {p : Program} {l : Launch} {e : Env} {R : Room} {s : State} {m : MethodId} {args : Array Value} {below : List Frame} {meth : Method} {c : Code} {K : tm_K} (cx : tm_C p l R s m args meth c K cX1_passLine 2 RX1 "passLine" none 0 0) : ∀ (n : Nat) (σ : tm_S) (ls : Array Slot), tm_has 0 ls 2 [(0, tm_rv K 0)] → tm_J p l e R s m args below meth c K tm_xC 0 (fc_passLine_L12 n σ) σ (F0 m 12 ls []) := by
  intro n
  induction n with
  | zero => intros; exact tm_none
  | succ n ih =>
    intro σ ls hl
    exact wc_passLine_B12 (r12 := fc_passLine_L12 n) cx ih σ ls hl
def fc_passLine (a1 : Int) (σ : tm_S) : tm_R :=
  if a1 = 10 then
    tm_rt 0 (tm_wf σ 3 0 0)
  else
    fc_passLine_L12 tm_FU (tm_wf σ 3 0 0)
theorem tm_fits_X1_passLine (K : tm_K) (a1 : Int) : (lg_sl [tm_rv K 0, tm_iv a1]).length ≤ 2 := (tm_sl_r _ _ _ _ (tm_sl_i _ _ _ (tm_sl_n _)))
theorem cc_passLine (K : tm_K) (l : Launch) (hst : l.stackTraces = false) (a1 : Int) (g1 : tm_in a1) : tm_ct K tm_xC l yX1_passLine cX1_passLine 2 none 0 [tm_rv K 0, tm_iv a1] (fc_passLine a1) 0 0 := by
  refine tm_ct_of hst (by decide +kernel) (Nat.le_trans (tm_fits_X1_passLine K a1) (Nat.le_of_ble_eq_true rfl)) ?_
  intro p e R s m args below meth c cx σ ls hl0
  have hl : tm_has 0 ls 2 [(0, tm_rv K 0), (1, tm_iv a1)] := ⟨by
    have h9 := hl0
    simp only [tm_args_r, tm_args_i, tm_args_n, Nat.zero_add, Nat.reduceAdd] at h9
    exact h9, by
    intro q hq
    simp only [List.mem_cons, List.not_mem_nil, or_false] at hq
    rcases hq with rfl | rfl
    · exact Or.inl (tm_rv_cat K 0)
    · exact Or.inl rfl⟩
  clear hl0
  unfold fc_passLine
  refine tm_aload_n cx dX1_passLine_0 (tm_has_at hl 0 rfl) ?_
  refine tm_iconst cx dX1_passLine_1 ?_
  refine tp_X1_96 cx (by decide) dX1_passLine_2 ?_
  refine tm_iload_n cx dX1_passLine_5 (tm_has_at hl 1 rfl) ?_
  refine tm_bipush cx dX1_passLine_6 (by decide) ?_
  refine tm_icmp_ne (tgt := 12) cx g1 (by decide) dX1_passLine_8 (by decide) (fun c8 => ?_) (fun c8 => ?_)
  · exact tm_vreturn cx dX1_passLine_11
  · exact wc_passLine_L12 cx tm_FU _ _ (tm_has_sub hl [0] rfl)
def fc_read_B0 (r0 : tm_S → tm_R) (σ : tm_S) : tm_R :=
  if (tm_f σ 2 0) < (tm_f σ 1 0) then
    tm_gx (tm_f σ 2 0) 160 <|
    tm_lt (tm_a σ 100 (tm_f σ 2 0)) fun x20 =>
    tm_gx x20 128 <|
    tm_lt (tm_a σ 104 x20) fun x27 =>
    tm_gi ((tm_f σ 2 0) + 1) <|
    if x27 = 0 then
      tm_bd (fc_escape (tm_wf σ 2 0 ((tm_f σ 2 0) + 1))) fun u117 σ117 =>
      tm_rt u117 σ117
    else
      if x27 = 5 then
        tm_lt (tm_f (tm_wf σ 2 0 ((tm_f σ 2 0) + 1)) 3 0) fun x125 =>
        tm_bd (fc_passLine x20 (tm_wf σ 2 0 ((tm_f σ 2 0) + 1))) fun u128 σ128 =>
        if x27 = 5 then
          if x125 = 2 then
            r0 σ128
          else
            if x125 = 1 then
              tm_rt 2592 σ128
            else
              tm_bd (fc_J3_get 106 0 σ128) fun u157 σ157 =>
              tm_gk (tm_k σ157 u157) 4 <|
              tm_bd (fc_tokenOf u157 σ157) fun u163 σ163 =>
              tm_rt u163 σ163
        else
          r0 σ128
      else
        if x27 = 9 then
          r0 (tm_wf σ 2 0 ((tm_f σ 2 0) + 1))
        else
          if x27 = 10 then
            if (tm_f (tm_wf σ 2 0 ((tm_f σ 2 0) + 1)) 3 0) = 1 then
              tm_rt 2592 (tm_wf (tm_wf σ 2 0 ((tm_f σ 2 0) + 1)) 3 0 2)
            else
              r0 (tm_wf σ 2 0 ((tm_f σ 2 0) + 1))
          else
            if x27 = 13 then
              tm_gb x20 <|
              tm_gx 0 11 <|
              tm_gb x20 <|
              tm_ls (tm_wa (tm_wf (tm_wf σ 2 0 ((tm_f σ 2 0) + 1)) 3 0 1) 107 0 x20) fun τ5 =>
              tm_bd (fc_known 107 1 1 τ5) fun u207 σ207 =>
              tm_rt u207 σ207
            else
              if x27 = 14 then
                tm_lt (tm_f (tm_wf σ 2 0 ((tm_f σ 2 0) + 1)) 3 0) fun x125 =>
                tm_bd (fc_passLine x20 (tm_wf σ 2 0 ((tm_f σ 2 0) + 1))) fun u128 σ128 =>
                if x27 = 5 then
                  if x125 = 2 then
                    r0 σ128
                  else
                    if x125 = 1 then
                      tm_rt 2592 σ128
                    else
                      tm_bd (fc_J3_get 106 0 σ128) fun u157 σ157 =>
                      tm_gk (tm_k σ157 u157) 4 <|
                      tm_bd (fc_tokenOf u157 σ157) fun u163 σ163 =>
                      tm_rt u163 σ163
                else
                  r0 σ128
              else
                if x27 = 15 then
                  tm_bd (fc_fail 8 (tm_wf σ 2 0 ((tm_f σ 2 0) + 1))) fun _ _ => none
                else
                  tm_gi (256 * x27) <|
                  tm_gi (x20 + (256 * x27)) <|
                  tm_rt (x20 + (256 * x27)) (tm_wf (tm_wf σ 2 0 ((tm_f σ 2 0) + 1)) 3 0 1)
  else
    tm_rt (-1) σ
theorem wc_read_B0 {p : Program} {l : Launch} {e : Env} {R : Room} {s : State} {m : MethodId} {args : Array Value} {below : List Frame} {meth : Method} {c : Code} {K : tm_K} {r0 : tm_S → tm_R} (cx : tm_C p l R s m args meth c K cX1_read 4 RX1 "read" (some .int) 10 256) (h0 : ∀  (τ : tm_S) (ls : Array Slot), tm_has 0 ls 4 [(0, tm_rv K 0)] → tm_J p l e R s m args below meth c K tm_xC 1 (r0 τ) τ (F0 m 0 ls [])) (σ : tm_S) (ls : Array Slot) (hl : tm_has 0 ls 4 [(0, tm_rv K 0)]) : tm_J p l e R s m args below meth c K tm_xC 1 (fc_read_B0 r0 σ) σ (F0 m 0 ls []) := by
  unfold fc_read_B0
  refine tm_aload_n cx dX1_read_0 (tm_has_at hl 0 rfl) ?_
  refine tg_X1_92 cx dX1_read_1 (fun q1 => ?_)
  refine tm_aload_n cx dX1_read_4 (tm_has_at hl 0 rfl) ?_
  refine tg_X1_207 cx dX1_read_5 (fun q5 => ?_)
  refine tm_icmp_ge (tgt := 236) cx q1 q5 dX1_read_8 (by decide) (fun c8 => ?_) (fun c8 => ?_)
  · refine tm_aload_n cx dX1_read_11 (tm_has_at hl 0 rfl) ?_
    refine tg_X1_9 cx dX1_read_12 ?_
    refine tm_aload_n cx dX1_read_15 (tm_has_at hl 0 rfl) ?_
    refine tg_X1_92 cx dX1_read_16 (fun q16 => ?_)
    refine tm_bald cx tm_hC_100 q16 dX1_read_19 (fun i19 q19 => ?_)
    refine tm_lt_ q19 (fun x20 q20 => ?_)
    refine tm_istore_n (lv' := [(1, tm_iv x20), (0, tm_rv K 0)]) cx dX1_read_20 hl (by decide) (by decide) rfl (fun ls hl => ?_)
    refine tm_aload_n cx dX1_read_21 (tm_has_at hl 1 rfl) ?_
    refine tg_X1_13 cx dX1_read_22 ?_
    refine tm_iload_n cx dX1_read_25 (tm_has_at hl 0 rfl) ?_
    refine tm_bald cx tm_hC_104 q20 dX1_read_26 (fun i26 q26 => ?_)
    refine tm_lt_ q26 (fun x27 q27 => ?_)
    refine tm_istore_n (lv' := [(2, tm_iv x27), (1, tm_iv x20), (0, tm_rv K 0)]) cx dX1_read_27 hl (by decide) (by decide) rfl (fun ls hl => ?_)
    refine tm_aload_n cx dX1_read_28 (tm_has_at hl 2 rfl) ?_
    refine tm_dup_r cx dX1_read_29 ?_
    refine tg_X1_92 cx dX1_read_30 (fun q30 => ?_)
    refine tm_iconst cx dX1_read_33 ?_
    refine tm_iadd cx dX1_read_34 (fun q34 => ?_)
    refine tp_X1_92 cx q34 dX1_read_35 ?_
    refine tm_iload_n cx dX1_read_38 (tm_has_at hl 0 rfl) ?_
    refine tm_fork (fun c39 => ?_) (fun c39_0 => ?_)
    · refine tm_swIn (tgt := 116) cx q27 dX1_read_39 (by omega) (by rw [c39]; rfl) (by decide) ?_
      refine tm_aload_n cx dX1_read_116 (tm_has_at hl 2 rfl) ?_
      refine tm_callV (n := 0) cx (cc_escape K l (tm_hst cx)) (lw_V q576 q578 qs9 q95 q579) ⟨rfl, by decide +kernel, by decide +kernel, by decide +kernel⟩ rfl tm_cd_X1 (fun h => (tm_hC_0 h).1) ⟨Nat.le_of_ble_eq_true rfl, Nat.le_of_ble_eq_true rfl⟩ rfl (Nat.le_of_ble_eq_true rfl) hl.1.1 dX1_read_117 (fun u117 σ117 q117 => ?_)
      show tm_J p l e R s m args below meth c K tm_xC 1 _ _ (F0 m 120 ls [tm_iv u117])
      exact tm_ireturn cx q117 dX1_read_120
    · refine tm_fork (fun c39 => ?_) (fun c39_5 => ?_)
      · refine tm_swIn (tgt := 121) cx q27 dX1_read_39 (by omega) (by rw [c39]; rfl) (by decide) ?_
        refine tm_aload_n cx dX1_read_121 (tm_has_at hl 2 rfl) ?_
        refine tg_X1_96 cx dX1_read_122 (fun q122 => ?_)
        refine tm_lt_ q122 (fun x125 q125 => ?_)
        refine tm_istore_n (lv' := [(3, tm_iv x125), (2, tm_iv x27), (1, tm_iv x20), (0, tm_rv K 0)]) cx dX1_read_125 hl (by decide) (by decide) rfl (fun ls hl => ?_)
        refine tm_aload_n cx dX1_read_126 (tm_has_at hl 3 rfl) ?_
        refine tm_iload_n cx dX1_read_127 (tm_has_at hl 2 rfl) ?_
        refine tm_callV (n := 1) cx (cc_passLine K l (tm_hst cx) x20 q20) (lw_V q599 q601 qs13 q95 q602) ⟨rfl, by decide +kernel, by decide +kernel, by decide +kernel⟩ rfl tm_cd_X1 (fun h => (tm_hC_0 h).1) ⟨Nat.le_of_ble_eq_true rfl, Nat.le_of_ble_eq_true rfl⟩ rfl (Nat.le_of_ble_eq_true rfl) hl.1.1 dX1_read_128 (fun u128 σ128 q128 => ?_)
        show tm_J p l e R s m args below meth c K tm_xC 1 _ _ (F0 m 131 ls [])
        refine tm_iload_n cx dX1_read_131 (tm_has_at hl 1 rfl) ?_
        refine tm_iconst cx dX1_read_132 ?_
        refine tm_icmp_ne (tgt := 233) cx q27 (by decide) dX1_read_133 (by decide) (fun c133 => ?_) (fun c133 => ?_)
        · refine tm_iload_n cx dX1_read_136 (tm_has_at hl 0 rfl) ?_
          refine tm_iconst cx dX1_read_137 ?_
          refine tm_icmp_eq (tgt := 233) cx q125 (by decide) dX1_read_138 (by decide) (fun c138 => ?_) (fun c138 => ?_)
          · refine tm_goto (tgt := 0) cx dX1_read_233 (by decide) ?_
            exact h0 _ _ (tm_has_sub hl [3] rfl)
          · refine tm_iload_n cx dX1_read_141 (tm_has_at hl 0 rfl) ?_
            refine tm_iconst cx dX1_read_142 ?_
            refine tm_icmp_ne (tgt := 152) cx q125 (by decide) dX1_read_143 (by decide) (fun c143 => ?_) (fun c143 => ?_)
            · refine tm_sipush cx dX1_read_146 (by decide) ?_
              refine tm_goto (tgt := 166) cx dX1_read_149 (by decide) ?_
              exact tm_ireturn cx (by decide) dX1_read_166
            · refine tm_aload_n cx dX1_read_152 (tm_has_at hl 3 rfl) ?_
              refine tg_X1_29 cx dX1_read_153 ?_
              refine tm_iconst cx dX1_read_156 ?_
              refine tm_callV (n := 1) cx (cc_J3_get K l (tm_hst cx) 106 (by decide) 0 (by decide)) (lw_V q371 q372 q373 q100 q374) ⟨rfl, by decide +kernel, by decide +kernel, by decide +kernel⟩ rfl tm_cd_J3 (fun h => (tm_hC_106 h).1) ⟨Nat.le_of_ble_eq_true rfl, Nat.le_of_ble_eq_true rfl⟩ rfl (Nat.le_of_ble_eq_true rfl) hl.1.1 dX1_read_157 (fun u157 σ157 q157 => ?_)
              show tm_J p l e R s m args below meth c K tm_xC 1 _ _ (F0 m 160 ls [tm_rv K u157])
              refine tm_gk_ (fun k160 => ?_)
              refine tm_castO cx tm_cd_X5 (fun _ => k160) q213 dX1_read_160 ?_
              refine tm_callS (n := 1) cx (cc_tokenOf K l (tm_hst cx) u157 q157) (lw_S q596 q597 q95 q598) ⟨by decide +kernel, by decide +kernel, by decide +kernel⟩ rfl ⟨Nat.le_of_ble_eq_true rfl, Nat.le_of_ble_eq_true rfl⟩ rfl (Nat.le_of_ble_eq_true rfl) hl.1.1 dX1_read_163 (fun u163 σ163 q163 => ?_)
              show tm_J p l e R s m args below meth c K tm_xC 1 _ _ (F0 m 166 ls [tm_iv u163])
              exact tm_ireturn cx q163 dX1_read_166
        · refine tm_goto (tgt := 0) cx dX1_read_233 (by decide) ?_
          exact h0 _ _ (tm_has_sub hl [3] rfl)
      · refine tm_fork (fun c39 => ?_) (fun c39_9 => ?_)
        · refine tm_swIn (tgt := 167) cx q27 dX1_read_39 (by omega) (by rw [c39]; rfl) (by decide) ?_
          refine tm_goto (tgt := 233) cx dX1_read_167 (by decide) ?_
          refine tm_goto (tgt := 0) cx dX1_read_233 (by decide) ?_
          exact h0 _ _ (tm_has_sub hl [2] rfl)
        · refine tm_fork (fun c39 => ?_) (fun c39_10 => ?_)
          · refine tm_swIn (tgt := 170) cx q27 dX1_read_39 (by omega) (by rw [c39]; rfl) (by decide) ?_
            refine tm_aload_n cx dX1_read_170 (tm_has_at hl 2 rfl) ?_
            refine tg_X1_96 cx dX1_read_171 (fun q171 => ?_)
            refine tm_iconst cx dX1_read_174 ?_
            refine tm_icmp_ne (tgt := 233) cx q171 (by decide) dX1_read_175 (by decide) (fun c175 => ?_) (fun c175 => ?_)
            · refine tm_aload_n cx dX1_read_178 (tm_has_at hl 2 rfl) ?_
              refine tm_iconst cx dX1_read_179 ?_
              refine tp_X1_96 cx (by decide) dX1_read_180 ?_
              refine tm_sipush cx dX1_read_183 (by decide) ?_
              exact tm_ireturn cx (by decide) dX1_read_186
            · refine tm_goto (tgt := 0) cx dX1_read_233 (by decide) ?_
              exact h0 _ _ (tm_has_sub hl [2] rfl)
          · refine tm_fork (fun c39 => ?_) (fun c39_13 => ?_)
            · refine tm_swIn (tgt := 187) cx q27 dX1_read_39 (by omega) (by rw [c39]; rfl) (by decide) ?_
              refine tm_aload_n cx dX1_read_187 (tm_has_at hl 2 rfl) ?_
              refine tm_iconst cx dX1_read_188 ?_
              refine tp_X1_96 cx (by decide) dX1_read_189 ?_
              refine tm_aload_n cx dX1_read_192 (tm_has_at hl 2 rfl) ?_
              refine tg_X1_33 cx dX1_read_193 ?_
              refine tm_iconst cx dX1_read_196 ?_
              refine tm_iload_n cx dX1_read_197 (tm_has_at hl 1 rfl) ?_
              refine tm_i2b cx dX1_read_198 ?_
              refine tm_bast cx tm_famC tm_hC_107 (by decide) q20 dX1_read_199 ?_
              refine tm_ls_ (fun τ5 => ?_)
              refine tm_aload_n cx dX1_read_200 (tm_has_at hl 2 rfl) ?_
              refine tm_aload_n cx dX1_read_201 (tm_has_at hl 2 rfl) ?_
              refine tg_X1_33 cx dX1_read_202 ?_
              refine tm_iconst cx dX1_read_205 ?_
              refine tm_iconst cx dX1_read_206 ?_
              refine tm_callV (n := 3) cx (cc_known K l (tm_hst cx) 107 (by decide) 1 (by decide) 1 (by decide)) (lw_V q584 q586 qs11 q95 q587) ⟨rfl, by decide +kernel, by decide +kernel, by decide +kernel⟩ rfl tm_cd_X1 (fun h => (tm_hC_0 h).1) ⟨Nat.le_of_ble_eq_true rfl, Nat.le_of_ble_eq_true rfl⟩ rfl (Nat.le_of_ble_eq_true rfl) hl.1.1 dX1_read_207 (fun u207 σ207 q207 => ?_)
              show tm_J p l e R s m args below meth c K tm_xC 1 _ _ (F0 m 210 ls [tm_iv u207])
              exact tm_ireturn cx q207 dX1_read_210
            · refine tm_fork (fun c39 => ?_) (fun c39_14 => ?_)
              · refine tm_swIn (tgt := 121) cx q27 dX1_read_39 (by omega) (by rw [c39]; rfl) (by decide) ?_
                refine tm_aload_n cx dX1_read_121 (tm_has_at hl 2 rfl) ?_
                refine tg_X1_96 cx dX1_read_122 (fun q122 => ?_)
                refine tm_lt_ q122 (fun x125 q125 => ?_)
                refine tm_istore_n (lv' := [(3, tm_iv x125), (2, tm_iv x27), (1, tm_iv x20), (0, tm_rv K 0)]) cx dX1_read_125 hl (by decide) (by decide) rfl (fun ls hl => ?_)
                refine tm_aload_n cx dX1_read_126 (tm_has_at hl 3 rfl) ?_
                refine tm_iload_n cx dX1_read_127 (tm_has_at hl 2 rfl) ?_
                refine tm_callV (n := 1) cx (cc_passLine K l (tm_hst cx) x20 q20) (lw_V q599 q601 qs13 q95 q602) ⟨rfl, by decide +kernel, by decide +kernel, by decide +kernel⟩ rfl tm_cd_X1 (fun h => (tm_hC_0 h).1) ⟨Nat.le_of_ble_eq_true rfl, Nat.le_of_ble_eq_true rfl⟩ rfl (Nat.le_of_ble_eq_true rfl) hl.1.1 dX1_read_128 (fun u128 σ128 q128 => ?_)
                show tm_J p l e R s m args below meth c K tm_xC 1 _ _ (F0 m 131 ls [])
                refine tm_iload_n cx dX1_read_131 (tm_has_at hl 1 rfl) ?_
                refine tm_iconst cx dX1_read_132 ?_
                refine tm_icmp_ne (tgt := 233) cx q27 (by decide) dX1_read_133 (by decide) (fun c133 => ?_) (fun c133 => ?_)
                · refine tm_iload_n cx dX1_read_136 (tm_has_at hl 0 rfl) ?_
                  refine tm_iconst cx dX1_read_137 ?_
                  refine tm_icmp_eq (tgt := 233) cx q125 (by decide) dX1_read_138 (by decide) (fun c138 => ?_) (fun c138 => ?_)
                  · refine tm_goto (tgt := 0) cx dX1_read_233 (by decide) ?_
                    exact h0 _ _ (tm_has_sub hl [3] rfl)
                  · refine tm_iload_n cx dX1_read_141 (tm_has_at hl 0 rfl) ?_
                    refine tm_iconst cx dX1_read_142 ?_
                    refine tm_icmp_ne (tgt := 152) cx q125 (by decide) dX1_read_143 (by decide) (fun c143 => ?_) (fun c143 => ?_)
                    · refine tm_sipush cx dX1_read_146 (by decide) ?_
                      refine tm_goto (tgt := 166) cx dX1_read_149 (by decide) ?_
                      exact tm_ireturn cx (by decide) dX1_read_166
                    · refine tm_aload_n cx dX1_read_152 (tm_has_at hl 3 rfl) ?_
                      refine tg_X1_29 cx dX1_read_153 ?_
                      refine tm_iconst cx dX1_read_156 ?_
                      refine tm_callV (n := 1) cx (cc_J3_get K l (tm_hst cx) 106 (by decide) 0 (by decide)) (lw_V q371 q372 q373 q100 q374) ⟨rfl, by decide +kernel, by decide +kernel, by decide +kernel⟩ rfl tm_cd_J3 (fun h => (tm_hC_106 h).1) ⟨Nat.le_of_ble_eq_true rfl, Nat.le_of_ble_eq_true rfl⟩ rfl (Nat.le_of_ble_eq_true rfl) hl.1.1 dX1_read_157 (fun u157 σ157 q157 => ?_)
                      show tm_J p l e R s m args below meth c K tm_xC 1 _ _ (F0 m 160 ls [tm_rv K u157])
                      refine tm_gk_ (fun k160 => ?_)
                      refine tm_castO cx tm_cd_X5 (fun _ => k160) q213 dX1_read_160 ?_
                      refine tm_callS (n := 1) cx (cc_tokenOf K l (tm_hst cx) u157 q157) (lw_S q596 q597 q95 q598) ⟨by decide +kernel, by decide +kernel, by decide +kernel⟩ rfl ⟨Nat.le_of_ble_eq_true rfl, Nat.le_of_ble_eq_true rfl⟩ rfl (Nat.le_of_ble_eq_true rfl) hl.1.1 dX1_read_163 (fun u163 σ163 q163 => ?_)
                      show tm_J p l e R s m args below meth c K tm_xC 1 _ _ (F0 m 166 ls [tm_iv u163])
                      exact tm_ireturn cx q163 dX1_read_166
                · refine tm_goto (tgt := 0) cx dX1_read_233 (by decide) ?_
                  exact h0 _ _ (tm_has_sub hl [3] rfl)
              · refine tm_fork (fun c39 => ?_) (fun c39_15 => ?_)
                · refine tm_swIn (tgt := 211) cx q27 dX1_read_39 (by omega) (by rw [c39]; rfl) (by decide) ?_
                  refine tm_aload_n cx dX1_read_211 (tm_has_at hl 2 rfl) ?_
                  refine tm_bipush cx dX1_read_212 (by decide) ?_
                  refine tm_callV (n := 1) cx (cc_fail K l (tm_hst cx) 8 (by decide)) (lw_V q580 q582 qs10 q95 q583) ⟨rfl, by decide +kernel, by decide +kernel, by decide +kernel⟩ rfl tm_cd_X1 (fun h => (tm_hC_0 h).1) ⟨Nat.le_of_ble_eq_true rfl, Nat.le_of_ble_eq_true rfl⟩ rfl (Nat.le_of_ble_eq_true rfl) hl.1.1 dX1_read_214 (fun _ _ _ => ?_)
                  exact tm_none
                · refine tm_swOut (tgt := 220) cx q27 dX1_read_39 (by
                      have h9 : x27 < 0 ∨ 15 < x27 ∨ x27 = 1 ∨ x27 = 2 ∨ x27 = 3 ∨ x27 = 4 ∨ x27 = 6 ∨ x27 = 7 ∨ x27 = 8 ∨ x27 = 11 ∨ x27 = 12 := by omega
                      rcases h9 with h | h | h | h | h | h | h | h | h | h | h
                      · exact Or.inl h
                      · exact Or.inr (Or.inl h)
                      · rw [h]; exact Or.inr (Or.inr rfl)
                      · rw [h]; exact Or.inr (Or.inr rfl)
                      · rw [h]; exact Or.inr (Or.inr rfl)
                      · rw [h]; exact Or.inr (Or.inr rfl)
                      · rw [h]; exact Or.inr (Or.inr rfl)
                      · rw [h]; exact Or.inr (Or.inr rfl)
                      · rw [h]; exact Or.inr (Or.inr rfl)
                      · rw [h]; exact Or.inr (Or.inr rfl)
                      · rw [h]; exact Or.inr (Or.inr rfl)) (by decide) ?_
                  refine tm_aload_n cx dX1_read_220 (tm_has_at hl 2 rfl) ?_
                  refine tm_iconst cx dX1_read_221 ?_
                  refine tp_X1_96 cx (by decide) dX1_read_222 ?_
                  refine tm_iload_n cx dX1_read_225 (tm_has_at hl 1 rfl) ?_
                  refine tm_sipush cx dX1_read_226 (by decide) ?_
                  refine tm_iload_n cx dX1_read_229 (tm_has_at hl 0 rfl) ?_
                  refine tm_imul cx dX1_read_230 (fun q230 => ?_)
                  refine tm_iadd cx dX1_read_231 (fun q231 => ?_)
                  exact tm_ireturn cx q231 dX1_read_232
  · refine tm_iconst cx dX1_read_236 ?_
    exact tm_ireturn cx (by decide) dX1_read_237
def fc_read_L0 : Nat → tm_S → tm_R
  | 0, _ => none
  | n + 1, σ => fc_read_B0 (fc_read_L0 n) σ
theorem wc_read_L0 {p : Program} {l : Launch} {e : Env} {R : Room} {s : State} {m : MethodId} {args : Array Value} {below : List Frame} {meth : Method} {c : Code} {K : tm_K} (cx : tm_C p l R s m args meth c K cX1_read 4 RX1 "read" (some .int) 10 256) : ∀ (n : Nat) (σ : tm_S) (ls : Array Slot), tm_has 0 ls 4 [(0, tm_rv K 0)] → tm_J p l e R s m args below meth c K tm_xC 1 (fc_read_L0 n σ) σ (F0 m 0 ls []) := by
  intro n
  induction n with
  | zero => intros; exact tm_none
  | succ n ih =>
    intro σ ls hl
    exact wc_read_B0 (r0 := fc_read_L0 n) cx ih σ ls hl
def fc_read (σ : tm_S) : tm_R :=
  fc_read_L0 tm_FU σ
theorem tm_fits_X1_read (K : tm_K) : (lg_sl [tm_rv K 0]).length ≤ 1 := (tm_sl_r _ _ _ _ (tm_sl_n _))
theorem cc_read (K : tm_K) (l : Launch) (hst : l.stackTraces = false) : tm_ct K tm_xC l yX1_read cX1_read 4 (some .int) 1 [tm_rv K 0] (fc_read) 10 256 := by
  refine tm_ct_of hst (by decide +kernel) (Nat.le_trans (tm_fits_X1_read K) (Nat.le_of_ble_eq_true rfl)) ?_
  intro p e R s m args below meth c cx σ ls hl0
  have hl : tm_has 0 ls 4 [(0, tm_rv K 0)] := ⟨by
    have h9 := hl0
    simp only [tm_args_r, tm_args_n, Nat.zero_add, Nat.reduceAdd] at h9
    exact h9, by
    intro q hq
    simp only [List.mem_cons, List.not_mem_nil, or_false] at hq
    rcases hq with rfl
    · exact Or.inl (tm_rv_cat K 0)⟩
  clear hl0
  unfold fc_read
  exact wc_read_L0 cx tm_FU _ _ (tm_has_sub hl [0] rfl)
def fc_get (σ : tm_S) : tm_R :=
  if (tm_f σ 10 0) = 0 then
    tm_bd (fc_read σ) fun u8 σ8 =>
    tm_rt u8 σ8
  else
    tm_gi ((tm_f σ 10 0) - 1) <|
    tm_gx (tm_f (tm_wf σ 10 0 ((tm_f σ 10 0) - 1)) 10 0) 300 <|
    tm_rt (tm_a (tm_wf σ 10 0 ((tm_f σ 10 0) - 1)) 109 (tm_f (tm_wf σ 10 0 ((tm_f σ 10 0) - 1)) 10 0)) (tm_wf σ 10 0 ((tm_f σ 10 0) - 1))
theorem tm_fits_X1_get (K : tm_K) : (lg_sl [tm_rv K 0]).length ≤ 1 := (tm_sl_r _ _ _ _ (tm_sl_n _))
theorem cc_get (K : tm_K) (l : Launch) (hst : l.stackTraces = false) : tm_ct K tm_xC l yX1_get cX1_get 1 (some .int) 1 [tm_rv K 0] (fc_get) 11 279 := by
  refine tm_ct_of hst (by decide +kernel) (Nat.le_trans (tm_fits_X1_get K) (Nat.le_of_ble_eq_true rfl)) ?_
  intro p e R s m args below meth c cx σ ls hl0
  have hl : tm_has 0 ls 1 [(0, tm_rv K 0)] := ⟨by
    have h9 := hl0
    simp only [tm_args_r, tm_args_n, Nat.zero_add, Nat.reduceAdd] at h9
    exact h9, by
    intro q hq
    simp only [List.mem_cons, List.not_mem_nil, or_false] at hq
    rcases hq with rfl
    · exact Or.inl (tm_rv_cat K 0)⟩
  clear hl0
  unfold fc_get
  refine tm_aload_n cx dX1_get_0 (tm_has_at hl 0 rfl) ?_
  refine tg_X1_118 cx dX1_get_1 (fun q1 => ?_)
  refine tm_if_ne (tgt := 12) cx q1 dX1_get_4 (by decide) (fun c4 => ?_) (fun c4 => ?_)
  · refine tm_aload_n cx dX1_get_7 (tm_has_at hl 0 rfl) ?_
    refine tm_callV (n := 0) cx (cc_read K l (tm_hst cx)) (lw_V q572 q574 qs8 q95 q575) ⟨rfl, by decide +kernel, by decide +kernel, by decide +kernel⟩ rfl tm_cd_X1 (fun h => (tm_hC_0 h).1) ⟨Nat.le_of_ble_eq_true rfl, Nat.le_of_ble_eq_true rfl⟩ rfl (Nat.le_of_ble_eq_true rfl) hl.1.1 dX1_get_8 (fun u8 σ8 q8 => ?_)
    show tm_J p l e R s m args below meth c K tm_xC 1 _ _ (F0 m 11 ls [tm_iv u8])
    exact tm_ireturn cx q8 dX1_get_11
  · refine tm_aload_n cx dX1_get_12 (tm_has_at hl 0 rfl) ?_
    refine tm_dup_r cx dX1_get_13 ?_
    refine tg_X1_118 cx dX1_get_14 (fun q14 => ?_)
    refine tm_iconst cx dX1_get_17 ?_
    refine tm_isub cx dX1_get_18 (fun q18 => ?_)
    refine tp_X1_118 cx q18 dX1_get_19 ?_
    refine tm_aload_n cx dX1_get_22 (tm_has_at hl 0 rfl) ?_
    refine tg_X1_41 cx dX1_get_23 ?_
    refine tm_aload_n cx dX1_get_26 (tm_has_at hl 0 rfl) ?_
    refine tg_X1_118 cx dX1_get_27 (fun q27 => ?_)
    refine tm_sald cx tm_hC_109 q27 dX1_get_30 (fun i30 q30 => ?_)
    exact tm_ireturn cx q30 dX1_get_31
def fc_nameOf (a1 : Int) (σ : tm_S) : tm_R :=
  tm_gi (a1 - 4096) <|
  tm_bd (fc_J3_get 106 ((a1 - 4096) / 2) σ) fun u11 σ11 =>
  tm_gk (tm_k σ11 u11) 4 <|
  tm_rt u11 σ11
theorem tm_fits_X1_nameOf (K : tm_K) (a1 : Int) : (lg_sl [tm_rv K 0, tm_iv a1]).length ≤ 2 := (tm_sl_r _ _ _ _ (tm_sl_i _ _ _ (tm_sl_n _)))
theorem cc_nameOf (K : tm_K) (l : Launch) (hst : l.stackTraces = false) (a1 : Int) (g1 : tm_in a1) : tm_ct K tm_xC l yX1_nameOf cX1_nameOf 2 (some (.object "TokenMouth$Name")) 2 [tm_rv K 0, tm_iv a1] (fc_nameOf a1) 3 64 := by
  refine tm_ct_of hst (by decide +kernel) (Nat.le_trans (tm_fits_X1_nameOf K a1) (Nat.le_of_ble_eq_true rfl)) ?_
  intro p e R s m args below meth c cx σ ls hl0
  have hl : tm_has 0 ls 2 [(0, tm_rv K 0), (1, tm_iv a1)] := ⟨by
    have h9 := hl0
    simp only [tm_args_r, tm_args_i, tm_args_n, Nat.zero_add, Nat.reduceAdd] at h9
    exact h9, by
    intro q hq
    simp only [List.mem_cons, List.not_mem_nil, or_false] at hq
    rcases hq with rfl | rfl
    · exact Or.inl (tm_rv_cat K 0)
    · exact Or.inl rfl⟩
  clear hl0
  unfold fc_nameOf
  refine tm_aload_n cx dX1_nameOf_0 (tm_has_at hl 0 rfl) ?_
  refine tg_X1_29 cx dX1_nameOf_1 ?_
  refine tm_iload_n cx dX1_nameOf_4 (tm_has_at hl 1 rfl) ?_
  refine tm_sipush cx dX1_nameOf_5 (by decide) ?_
  refine tm_isub cx dX1_nameOf_8 (fun q8 => ?_)
  refine tm_iconst cx dX1_nameOf_9 ?_
  refine tm_ishr1 cx q8 dX1_nameOf_10 (fun q10 => ?_)
  refine tm_callV (n := 1) cx (cc_J3_get K l (tm_hst cx) 106 (by decide) ((a1 - 4096) / 2) q10) (lw_V q371 q372 q373 q100 q374) ⟨rfl, by decide +kernel, by decide +kernel, by decide +kernel⟩ rfl tm_cd_J3 (fun h => (tm_hC_106 h).1) ⟨Nat.le_of_ble_eq_true rfl, Nat.le_of_ble_eq_true rfl⟩ rfl (Nat.le_of_ble_eq_true rfl) hl.1.1 dX1_nameOf_11 (fun u11 σ11 q11 => ?_)
  show tm_J p l e R s m args below meth c K tm_xC 2 _ _ (F0 m 14 ls [tm_rv K u11])
  refine tm_gk_ (fun k14 => ?_)
  refine tm_castO cx tm_cd_X5 (fun _ => k14) q213 dX1_nameOf_14 ?_
  exact tm_areturn cx ⟨_, rfl, Or.inl ⟨_, rfl⟩⟩ q11 dX1_nameOf_17
def fc_meaningOf (a1 : Int) (σ : tm_S) : tm_R :=
  if a1 < 4096 then
    tm_rt (-1) σ
  else
    if (a1 % 2) = 1 then
      tm_rt 401 σ
    else
      tm_bd (fc_nameOf a1 σ) fun u26 σ26 =>
      tm_gk (tm_k σ26 u26) 4 <|
      tm_rt (tm_f σ26 195 u26) σ26
theorem tm_fits_X1_meaningOf (K : tm_K) (a1 : Int) : (lg_sl [tm_rv K 0, tm_iv a1]).length ≤ 2 := (tm_sl_r _ _ _ _ (tm_sl_i _ _ _ (tm_sl_n _)))
theorem cc_meaningOf (K : tm_K) (l : Launch) (hst : l.stackTraces = false) (a1 : Int) (g1 : tm_in a1) : tm_ct K tm_xC l yX1_meaningOf cX1_meaningOf 2 (some (.object "TokenMouth$Meaning")) 2 [tm_rv K 0, tm_iv a1] (fc_meaningOf a1) 4 85 := by
  refine tm_ct_of hst (by decide +kernel) (Nat.le_trans (tm_fits_X1_meaningOf K a1) (Nat.le_of_ble_eq_true rfl)) ?_
  intro p e R s m args below meth c cx σ ls hl0
  have hl : tm_has 0 ls 2 [(0, tm_rv K 0), (1, tm_iv a1)] := ⟨by
    have h9 := hl0
    simp only [tm_args_r, tm_args_i, tm_args_n, Nat.zero_add, Nat.reduceAdd] at h9
    exact h9, by
    intro q hq
    simp only [List.mem_cons, List.not_mem_nil, or_false] at hq
    rcases hq with rfl | rfl
    · exact Or.inl (tm_rv_cat K 0)
    · exact Or.inl rfl⟩
  clear hl0
  unfold fc_meaningOf
  refine tm_iload_n cx dX1_meaningOf_0 (tm_has_at hl 1 rfl) ?_
  refine tm_sipush cx dX1_meaningOf_1 (by decide) ?_
  refine tm_icmp_ge (tgt := 11) cx g1 (by decide) dX1_meaningOf_4 (by decide) (fun c4 => ?_) (fun c4 => ?_)
  · refine tm_null cx dX1_meaningOf_7 ?_
    refine tm_goto (tgt := 32) cx dX1_meaningOf_8 (by decide) ?_
    exact tm_areturn cx ⟨_, rfl, Or.inl ⟨_, rfl⟩⟩ (by decide) dX1_meaningOf_32
  · refine tm_iload_n cx dX1_meaningOf_11 (tm_has_at hl 1 rfl) ?_
    refine tm_iconst cx dX1_meaningOf_12 ?_
    refine tm_iand1 cx g1 dX1_meaningOf_13 (fun q13 => ?_)
    refine tm_iconst cx dX1_meaningOf_14 ?_
    refine tm_icmp_ne (tgt := 24) cx q13 (by decide) dX1_meaningOf_15 (by decide) (fun c15 => ?_) (fun c15 => ?_)
    · refine tm_getc cx (k := 1) (by decide) rfl (x := 401) rfl q611 dX1_meaningOf_18 ?_
      refine tm_goto (tgt := 32) cx dX1_meaningOf_21 (by decide) ?_
      exact tm_areturn cx ⟨_, rfl, Or.inl ⟨_, rfl⟩⟩ (by decide) dX1_meaningOf_32
    · refine tm_aload_n cx dX1_meaningOf_24 (tm_has_at hl 0 rfl) ?_
      refine tm_iload_n cx dX1_meaningOf_25 (tm_has_at hl 1 rfl) ?_
      refine tm_callV (n := 1) cx (cc_nameOf K l (tm_hst cx) a1 g1) (lw_V q613 q615 qs16 q95 q616) ⟨rfl, by decide +kernel, by decide +kernel, by decide +kernel⟩ rfl tm_cd_X1 (fun h => (tm_hC_0 h).1) ⟨Nat.le_of_ble_eq_true rfl, Nat.le_of_ble_eq_true rfl⟩ rfl (Nat.le_of_ble_eq_true rfl) hl.1.1 dX1_meaningOf_26 (fun u26 σ26 q26 => ?_)
      show tm_J p l e R s m args below meth c K tm_xC 2 _ _ (F0 m 29 ls [tm_rv K u26])
      refine tm_gk_ (fun k29 => ?_)
      refine tg_X1_114 cx (fun _ => k29) dX1_meaningOf_29 (fun q29 => ?_)
      exact tm_areturn cx ⟨_, rfl, Or.inl ⟨_, rfl⟩⟩ q29 dX1_meaningOf_32
def fc_X2_opens (a0 : Int) (σ : tm_S) : tm_R :=
  tm_gq σ a0 <|
  if a0 = 412 then
    tm_rt 1 σ
  else
    tm_gq σ a0 <|
    if a0 = 413 then
      tm_rt 1 σ
    else
      tm_gq σ a0 <|
      if a0 = 414 then
        tm_rt 1 σ
      else
        tm_gq σ a0 <|
        if a0 = 415 then
          tm_rt 1 σ
        else
          tm_rt 0 σ
theorem tm_fits_X2_opens (K : tm_K) (a0 : Int) : (lg_sl [tm_rv K a0]).length ≤ 1 := (tm_sl_r _ _ _ _ (tm_sl_n _))
theorem cc_X2_opens (K : tm_K) (l : Launch) (hst : l.stackTraces = false) (a0 : Int) (g0 : tm_in a0) : tm_ct K tm_xC l yX2_opens cX2_opens 1 (some .boolean) 1 [tm_rv K a0] (fc_X2_opens a0) 0 0 := by
  refine tm_ct_of hst (by decide +kernel) (Nat.le_trans (tm_fits_X2_opens K a0) (Nat.le_of_ble_eq_true rfl)) ?_
  intro p e R s m args below meth c cx σ ls hl0
  have hl : tm_has 0 ls 1 [(0, tm_rv K a0)] := ⟨by
    have h9 := hl0
    simp only [tm_args_r, tm_args_n, Nat.zero_add, Nat.reduceAdd] at h9
    exact h9, by
    intro q hq
    simp only [List.mem_cons, List.not_mem_nil, or_false] at hq
    rcases hq with rfl
    · exact Or.inl (tm_rv_cat K a0)⟩
  clear hl0
  unfold fc_X2_opens
  refine tm_aload_n cx dX2_opens_0 (tm_has_at hl 0 rfl) ?_
  refine tm_getc cx (k := 12) (by decide) rfl (x := 412) rfl q631 dX2_opens_1 ?_
  refine tm_gq_ (fun r4x => ?_)
  refine tm_acmp_eq (tgt := 28) cx (fun _ => r4x) (fun h => Or.inr (by rw [(tm_hC_412 h).1]; decide)) dX2_opens_4 (by decide) (fun c4 => ?_) (fun c4 => ?_)
  · refine tm_iconst cx dX2_opens_28 ?_
    refine tm_goto (tgt := 33) cx dX2_opens_29 (by decide) ?_
    exact tm_zreturn cx (by decide) dX2_opens_33
  · refine tm_aload_n cx dX2_opens_7 (tm_has_at hl 0 rfl) ?_
    refine tm_getc cx (k := 13) (by decide) rfl (x := 413) rfl q633 dX2_opens_8 ?_
    refine tm_gq_ (fun r11x => ?_)
    refine tm_acmp_eq (tgt := 28) cx (fun _ => r11x) (fun h => Or.inr (by rw [(tm_hC_413 h).1]; decide)) dX2_opens_11 (by decide) (fun c11 => ?_) (fun c11 => ?_)
    · refine tm_iconst cx dX2_opens_28 ?_
      refine tm_goto (tgt := 33) cx dX2_opens_29 (by decide) ?_
      exact tm_zreturn cx (by decide) dX2_opens_33
    · refine tm_aload_n cx dX2_opens_14 (tm_has_at hl 0 rfl) ?_
      refine tm_getc cx (k := 14) (by decide) rfl (x := 414) rfl q635 dX2_opens_15 ?_
      refine tm_gq_ (fun r18x => ?_)
      refine tm_acmp_eq (tgt := 28) cx (fun _ => r18x) (fun h => Or.inr (by rw [(tm_hC_414 h).1]; decide)) dX2_opens_18 (by decide) (fun c18 => ?_) (fun c18 => ?_)
      · refine tm_iconst cx dX2_opens_28 ?_
        refine tm_goto (tgt := 33) cx dX2_opens_29 (by decide) ?_
        exact tm_zreturn cx (by decide) dX2_opens_33
      · refine tm_aload_n cx dX2_opens_21 (tm_has_at hl 0 rfl) ?_
        refine tm_getc cx (k := 15) (by decide) rfl (x := 415) rfl q637 dX2_opens_22 ?_
        refine tm_gq_ (fun r25x => ?_)
        refine tm_acmp_ne (tgt := 32) cx (fun _ => r25x) (fun h => Or.inr (by rw [(tm_hC_415 h).1]; decide)) dX2_opens_25 (by decide) (fun c25 => ?_) (fun c25 => ?_)
        · refine tm_iconst cx dX2_opens_28 ?_
          refine tm_goto (tgt := 33) cx dX2_opens_29 (by decide) ?_
          exact tm_zreturn cx (by decide) dX2_opens_33
        · refine tm_iconst cx dX2_opens_32 ?_
          exact tm_zreturn cx (by decide) dX2_opens_33
def fc_X2_isExpandable (a0 : Int) (σ : tm_S) : tm_R :=
  tm_gk (tm_k σ a0) 39 <|
  tm_bd (fc_X2_opens a0 σ) fun u1 σ1 =>
  if u1 = 0 then
    tm_gq σ1 a0 <|
    if a0 = 407 then
      tm_rt 1 σ1
    else
      tm_gq σ1 a0 <|
      if a0 = 408 then
        tm_rt 1 σ1
      else
        tm_gq σ1 a0 <|
        if a0 = 409 then
          tm_rt 1 σ1
        else
          tm_gq σ1 a0 <|
          if a0 = 411 then
            tm_rt 1 σ1
          else
            tm_gq σ1 a0 <|
            if a0 = 416 then
              tm_rt 1 σ1
            else
              tm_gq σ1 a0 <|
              if a0 = 417 then
                tm_rt 1 σ1
              else
                tm_rt 0 σ1
  else
    tm_rt 1 σ1
theorem tm_fits_X2_isExpandable (K : tm_K) (a0 : Int) : (lg_sl [tm_rv K a0]).length ≤ 1 := (tm_sl_r _ _ _ _ (tm_sl_n _))
theorem cc_X2_isExpandable (K : tm_K) (l : Launch) (hst : l.stackTraces = false) (a0 : Int) (g0 : tm_in a0) : tm_ct K tm_xC l yX2_isExpandable cX2_isExpandable 1 (some .boolean) 1 [tm_rv K a0] (fc_X2_isExpandable a0) 1 20 := by
  refine tm_ct_of hst (by decide +kernel) (Nat.le_trans (tm_fits_X2_isExpandable K a0) (Nat.le_of_ble_eq_true rfl)) ?_
  intro p e R s m args below meth c cx σ ls hl0
  have hl : tm_has 0 ls 1 [(0, tm_rv K a0)] := ⟨by
    have h9 := hl0
    simp only [tm_args_r, tm_args_n, Nat.zero_add, Nat.reduceAdd] at h9
    exact h9, by
    intro q hq
    simp only [List.mem_cons, List.not_mem_nil, or_false] at hq
    rcases hq with rfl
    · exact Or.inl (tm_rv_cat K a0)⟩
  clear hl0
  unfold fc_X2_isExpandable
  refine tm_aload_n cx dX2_isExpandable_0 (tm_has_at hl 0 rfl) ?_
  refine tm_gk_ (fun k1 => ?_)
  refine tm_callC (n := 0) cx (cc_X2_opens K l (tm_hst cx) a0 g0) (lw_V q627 q628 q629 q97 q630) ⟨rfl, by decide +kernel, by decide +kernel, by decide +kernel⟩ rfl k1 ⟨Nat.le_of_ble_eq_true rfl, Nat.le_of_ble_eq_true rfl⟩ rfl (Nat.le_of_ble_eq_true rfl) hl.1.1 dX2_isExpandable_1 (fun u1 σ1 q1 => ?_)
  show tm_J p l e R s m args below meth c K tm_xC 1 _ _ (F0 m 4 ls [tm_iv u1])
  refine tm_if_ne (tgt := 49) cx q1 dX2_isExpandable_4 (by decide) (fun c4 => ?_) (fun c4 => ?_)
  · refine tm_aload_n cx dX2_isExpandable_7 (tm_has_at hl 0 rfl) ?_
    refine tm_getc cx (k := 7) (by decide) rfl (x := 407) rfl q639 dX2_isExpandable_8 ?_
    refine tm_gq_ (fun r11x => ?_)
    refine tm_acmp_eq (tgt := 49) cx (fun _ => r11x) (fun h => Or.inr (by rw [(tm_hC_407 h).1]; decide)) dX2_isExpandable_11 (by decide) (fun c11 => ?_) (fun c11 => ?_)
    · refine tm_iconst cx dX2_isExpandable_49 ?_
      refine tm_goto (tgt := 54) cx dX2_isExpandable_50 (by decide) ?_
      exact tm_zreturn cx (by decide) dX2_isExpandable_54
    · refine tm_aload_n cx dX2_isExpandable_14 (tm_has_at hl 0 rfl) ?_
      refine tm_getc cx (k := 8) (by decide) rfl (x := 408) rfl q641 dX2_isExpandable_15 ?_
      refine tm_gq_ (fun r18x => ?_)
      refine tm_acmp_eq (tgt := 49) cx (fun _ => r18x) (fun h => Or.inr (by rw [(tm_hC_408 h).1]; decide)) dX2_isExpandable_18 (by decide) (fun c18 => ?_) (fun c18 => ?_)
      · refine tm_iconst cx dX2_isExpandable_49 ?_
        refine tm_goto (tgt := 54) cx dX2_isExpandable_50 (by decide) ?_
        exact tm_zreturn cx (by decide) dX2_isExpandable_54
      · refine tm_aload_n cx dX2_isExpandable_21 (tm_has_at hl 0 rfl) ?_
        refine tm_getc cx (k := 9) (by decide) rfl (x := 409) rfl q643 dX2_isExpandable_22 ?_
        refine tm_gq_ (fun r25x => ?_)
        refine tm_acmp_eq (tgt := 49) cx (fun _ => r25x) (fun h => Or.inr (by rw [(tm_hC_409 h).1]; decide)) dX2_isExpandable_25 (by decide) (fun c25 => ?_) (fun c25 => ?_)
        · refine tm_iconst cx dX2_isExpandable_49 ?_
          refine tm_goto (tgt := 54) cx dX2_isExpandable_50 (by decide) ?_
          exact tm_zreturn cx (by decide) dX2_isExpandable_54
        · refine tm_aload_n cx dX2_isExpandable_28 (tm_has_at hl 0 rfl) ?_
          refine tm_getc cx (k := 11) (by decide) rfl (x := 411) rfl q645 dX2_isExpandable_29 ?_
          refine tm_gq_ (fun r32x => ?_)
          refine tm_acmp_eq (tgt := 49) cx (fun _ => r32x) (fun h => Or.inr (by rw [(tm_hC_411 h).1]; decide)) dX2_isExpandable_32 (by decide) (fun c32 => ?_) (fun c32 => ?_)
          · refine tm_iconst cx dX2_isExpandable_49 ?_
            refine tm_goto (tgt := 54) cx dX2_isExpandable_50 (by decide) ?_
            exact tm_zreturn cx (by decide) dX2_isExpandable_54
          · refine tm_aload_n cx dX2_isExpandable_35 (tm_has_at hl 0 rfl) ?_
            refine tm_getc cx (k := 16) (by decide) rfl (x := 416) rfl q647 dX2_isExpandable_36 ?_
            refine tm_gq_ (fun r39x => ?_)
            refine tm_acmp_eq (tgt := 49) cx (fun _ => r39x) (fun h => Or.inr (by rw [(tm_hC_416 h).1]; decide)) dX2_isExpandable_39 (by decide) (fun c39 => ?_) (fun c39 => ?_)
            · refine tm_iconst cx dX2_isExpandable_49 ?_
              refine tm_goto (tgt := 54) cx dX2_isExpandable_50 (by decide) ?_
              exact tm_zreturn cx (by decide) dX2_isExpandable_54
            · refine tm_aload_n cx dX2_isExpandable_42 (tm_has_at hl 0 rfl) ?_
              refine tm_getc cx (k := 17) (by decide) rfl (x := 417) rfl q649 dX2_isExpandable_43 ?_
              refine tm_gq_ (fun r46x => ?_)
              refine tm_acmp_ne (tgt := 53) cx (fun _ => r46x) (fun h => Or.inr (by rw [(tm_hC_417 h).1]; decide)) dX2_isExpandable_46 (by decide) (fun c46 => ?_) (fun c46 => ?_)
              · refine tm_iconst cx dX2_isExpandable_49 ?_
                refine tm_goto (tgt := 54) cx dX2_isExpandable_50 (by decide) ?_
                exact tm_zreturn cx (by decide) dX2_isExpandable_54
              · refine tm_iconst cx dX2_isExpandable_53 ?_
                exact tm_zreturn cx (by decide) dX2_isExpandable_54
  · refine tm_iconst cx dX2_isExpandable_49 ?_
    refine tm_goto (tgt := 54) cx dX2_isExpandable_50 (by decide) ?_
    exact tm_zreturn cx (by decide) dX2_isExpandable_54
def fc_X8_isExpandable (a0 : Int) (σ : tm_S) : tm_R :=
  tm_rt 0 σ
theorem tm_fits_X8_isExpandable (K : tm_K) (a0 : Int) : (lg_sl [tm_rv K a0]).length ≤ 1 := (tm_sl_r _ _ _ _ (tm_sl_n _))
theorem cc_X8_isExpandable (K : tm_K) (l : Launch) (hst : l.stackTraces = false) (a0 : Int) (g0 : tm_in a0) : tm_ct K tm_xC l yX8_isExpandable cX8_isExpandable 1 (some .boolean) 1 [tm_rv K a0] (fc_X8_isExpandable a0) 0 0 := by
  refine tm_ct_of hst (by decide +kernel) (Nat.le_trans (tm_fits_X8_isExpandable K a0) (Nat.le_of_ble_eq_true rfl)) ?_
  intro p e R s m args below meth c cx σ ls hl0
  have hl : tm_has 0 ls 1 [(0, tm_rv K a0)] := ⟨by
    have h9 := hl0
    simp only [tm_args_r, tm_args_n, Nat.zero_add, Nat.reduceAdd] at h9
    exact h9, by
    intro q hq
    simp only [List.mem_cons, List.not_mem_nil, or_false] at hq
    rcases hq with rfl
    · exact Or.inl (tm_rv_cat K a0)⟩
  clear hl0
  unfold fc_X8_isExpandable
  refine tm_iconst cx dX8_isExpandable_0 ?_
  exact tm_zreturn cx (by decide) dX8_isExpandable_1
def fc_X7_isExpandable (a0 : Int) (σ : tm_S) : tm_R :=
  tm_rt 1 σ
theorem tm_fits_X7_isExpandable (K : tm_K) (a0 : Int) : (lg_sl [tm_rv K a0]).length ≤ 1 := (tm_sl_r _ _ _ _ (tm_sl_n _))
theorem cc_X7_isExpandable (K : tm_K) (l : Launch) (hst : l.stackTraces = false) (a0 : Int) (g0 : tm_in a0) : tm_ct K tm_xC l yX7_isExpandable cX7_isExpandable 1 (some .boolean) 1 [tm_rv K a0] (fc_X7_isExpandable a0) 0 0 := by
  refine tm_ct_of hst (by decide +kernel) (Nat.le_trans (tm_fits_X7_isExpandable K a0) (Nat.le_of_ble_eq_true rfl)) ?_
  intro p e R s m args below meth c cx σ ls hl0
  have hl : tm_has 0 ls 1 [(0, tm_rv K a0)] := ⟨by
    have h9 := hl0
    simp only [tm_args_r, tm_args_n, Nat.zero_add, Nat.reduceAdd] at h9
    exact h9, by
    intro q hq
    simp only [List.mem_cons, List.not_mem_nil, or_false] at hq
    rcases hq with rfl
    · exact Or.inl (tm_rv_cat K a0)⟩
  clear hl0
  unfold fc_X7_isExpandable
  refine tm_iconst cx dX7_isExpandable_0 ?_
  exact tm_zreturn cx (by decide) dX7_isExpandable_1
def fc_isExpandable (a1 : Int) (σ : tm_S) : tm_R :=
  tm_bd (fc_meaningOf a1 σ) fun u2 σ2 =>
  if u2 < 0 then
    tm_rt 0 σ2
  else
    tm_bd (tm_m3 (tm_k σ2 u2) (fc_X2_isExpandable u2 σ2) (fc_X8_isExpandable u2 σ2) (fc_X7_isExpandable u2 σ2)) fun u11 σ11 =>
    if u11 = 0 then
      tm_rt 0 σ11
    else
      tm_rt 1 σ11
theorem tm_fits_X1_isExpandable (K : tm_K) (a1 : Int) : (lg_sl [tm_rv K 0, tm_iv a1]).length ≤ 2 := (tm_sl_r _ _ _ _ (tm_sl_i _ _ _ (tm_sl_n _)))
theorem cc_isExpandable (K : tm_K) (l : Launch) (hst : l.stackTraces = false) (a1 : Int) (g1 : tm_in a1) : tm_ct K tm_xC l yX1_isExpandable cX1_isExpandable 3 (some .boolean) 1 [tm_rv K 0, tm_iv a1] (fc_isExpandable a1) 5 106 := by
  refine tm_ct_of hst (by decide +kernel) (Nat.le_trans (tm_fits_X1_isExpandable K a1) (Nat.le_of_ble_eq_true rfl)) ?_
  intro p e R s m args below meth c cx σ ls hl0
  have hl : tm_has 0 ls 3 [(0, tm_rv K 0), (1, tm_iv a1)] := ⟨by
    have h9 := hl0
    simp only [tm_args_r, tm_args_i, tm_args_n, Nat.zero_add, Nat.reduceAdd] at h9
    exact h9, by
    intro q hq
    simp only [List.mem_cons, List.not_mem_nil, or_false] at hq
    rcases hq with rfl | rfl
    · exact Or.inl (tm_rv_cat K 0)
    · exact Or.inl rfl⟩
  clear hl0
  unfold fc_isExpandable
  refine tm_aload_n cx dX1_isExpandable_0 (tm_has_at hl 0 rfl) ?_
  refine tm_iload_n cx dX1_isExpandable_1 (tm_has_at hl 1 rfl) ?_
  refine tm_callV (n := 1) cx (cc_meaningOf K l (tm_hst cx) a1 g1) (lw_V q607 q609 qs15 q95 q610) ⟨rfl, by decide +kernel, by decide +kernel, by decide +kernel⟩ rfl tm_cd_X1 (fun h => (tm_hC_0 h).1) ⟨Nat.le_of_ble_eq_true rfl, Nat.le_of_ble_eq_true rfl⟩ rfl (Nat.le_of_ble_eq_true rfl) hl.1.1 dX1_isExpandable_2 (fun u2 σ2 q2 => ?_)
  show tm_J p l e R s m args below meth c K tm_xC 1 _ _ (F0 m 5 ls [tm_rv K u2])
  refine tm_astore_n (lv' := [(2, tm_rv K u2), (0, tm_rv K 0), (1, tm_iv a1)]) cx dX1_isExpandable_5 hl (by decide) (by decide) rfl (fun ls hl => ?_)
  refine tm_aload_n cx dX1_isExpandable_6 (tm_has_at hl 0 rfl) ?_
  refine tm_ifnull (tgt := 23) cx dX1_isExpandable_7 (by decide) (fun c7 => ?_) (fun c7 => ?_)
  · refine tm_iconst cx dX1_isExpandable_23 ?_
    exact tm_zreturn cx (by decide) dX1_isExpandable_24
  · refine tm_aload_n cx dX1_isExpandable_10 (tm_has_at hl 0 rfl) ?_
    refine tm_callF (n := 0) cx (cc_X2_isExpandable K l (tm_hst cx) u2 q2) (cc_X8_isExpandable K l (tm_hst cx) u2 q2) (cc_X7_isExpandable K l (tm_hst cx) u2 q2) (tm_lwF q618 q622 q624 q97 q626) (tm_lwF q618 q658 q660 q120 q662) (tm_lwF q618 q652 q654 q119 q656) (List.mem_of_getElem? (i := 0) rfl) (List.mem_of_getElem? (i := 4) rfl) (List.mem_of_getElem? (i := 8) rfl) ⟨by decide +kernel, by decide +kernel, by decide +kernel⟩ rfl ⟨Nat.le_of_ble_eq_true rfl, Nat.le_of_ble_eq_true rfl⟩ ⟨Nat.le_of_ble_eq_true rfl, Nat.le_of_ble_eq_true rfl⟩ ⟨Nat.le_of_ble_eq_true rfl, Nat.le_of_ble_eq_true rfl⟩ rfl (Nat.le_of_ble_eq_true rfl) hl.1.1 dX1_isExpandable_11 (fun u11 σ11 q11 => ?_)
    show tm_J p l e R s m args below meth c K tm_xC 1 _ _ (F0 m 16 ls [tm_iv u11])
    refine tm_if_eq (tgt := 23) cx q11 dX1_isExpandable_16 (by decide) (fun c16 => ?_) (fun c16 => ?_)
    · refine tm_iconst cx dX1_isExpandable_23 ?_
      exact tm_zreturn cx (by decide) dX1_isExpandable_24
    · refine tm_iconst cx dX1_isExpandable_19 ?_
      refine tm_goto (tgt := 24) cx dX1_isExpandable_20 (by decide) ?_
      exact tm_zreturn cx (by decide) dX1_isExpandable_24
def fc_isCharacter (a1 : Int) (σ : tm_S) : tm_R :=
  if a1 < 0 then
    tm_rt 0 σ
  else
    if a1 < 4096 then
      tm_rt 1 σ
    else
      tm_rt 0 σ
theorem tm_fits_X1_isCharacter (K : tm_K) (a1 : Int) : (lg_sl [tm_iv a1]).length ≤ 1 := (tm_sl_i _ _ _ (tm_sl_n _))
theorem cc_isCharacter (K : tm_K) (l : Launch) (hst : l.stackTraces = false) (a1 : Int) (g1 : tm_in a1) : tm_ct K tm_xC l yX1_isCharacter cX1_isCharacter 1 (some .boolean) 1 [tm_iv a1] (fc_isCharacter a1) 0 0 := by
  refine tm_ct_of hst (by decide +kernel) (Nat.le_trans (tm_fits_X1_isCharacter K a1) (Nat.le_of_ble_eq_true rfl)) ?_
  intro p e R s m args below meth c cx σ ls hl0
  have hl : tm_has 0 ls 1 [(0, tm_iv a1)] := ⟨by
    have h9 := hl0
    simp only [tm_args_i, tm_args_n, Nat.zero_add, Nat.reduceAdd] at h9
    exact h9, by
    intro q hq
    simp only [List.mem_cons, List.not_mem_nil, or_false] at hq
    rcases hq with rfl
    · exact Or.inl rfl⟩
  clear hl0
  unfold fc_isCharacter
  refine tm_iload_n cx dX1_isCharacter_0 (tm_has_at hl 0 rfl) ?_
  refine tm_if_lt (tgt := 15) cx g1 dX1_isCharacter_1 (by decide) (fun c1 => ?_) (fun c1 => ?_)
  · refine tm_iconst cx dX1_isCharacter_15 ?_
    exact tm_zreturn cx (by decide) dX1_isCharacter_16
  · refine tm_iload_n cx dX1_isCharacter_4 (tm_has_at hl 0 rfl) ?_
    refine tm_sipush cx dX1_isCharacter_5 (by decide) ?_
    refine tm_icmp_ge (tgt := 15) cx g1 (by decide) dX1_isCharacter_8 (by decide) (fun c8 => ?_) (fun c8 => ?_)
    · refine tm_iconst cx dX1_isCharacter_11 ?_
      refine tm_goto (tgt := 16) cx dX1_isCharacter_12 (by decide) ?_
      exact tm_zreturn cx (by decide) dX1_isCharacter_16
    · refine tm_iconst cx dX1_isCharacter_15 ?_
      exact tm_zreturn cx (by decide) dX1_isCharacter_16
