set_option maxRecDepth 100000
def fc_X3_copy_B9 (r9 : Int → Int → Int → tm_S → tm_R) (v0 : Int) (v1 : Int) (v2 : Int) (σ : tm_S) : tm_R :=
  tm_gk (tm_k σ v0) 3 <|
  if v2 < (tm_f σ 129 v0) then
    tm_gk (tm_k σ (tm_f σ 128 v0)) 21 <|
    tm_gx v2 (tm_n σ (tm_f σ 128 v0)) <|
    tm_gk (tm_k σ v1) 21 <|
    tm_gx v2 (tm_n σ v1) <|
    tm_gs (tm_a σ (tm_f σ 128 v0) v2) <|
    tm_gi (v2 + 1) <|
    r9 v0 v1 (v2 + 1) (tm_wa σ v1 v2 (tm_a σ (tm_f σ 128 v0) v2))
  else
    tm_rt v1 σ
theorem wc_X3_copy_B9 {p : Program} {l : Launch} {e : Env} {R : Room} {s : State} {m : MethodId} {args : Array Value} {below : List Frame} {meth : Method} {c : Code} {K : tm_K} {r9 : Int → Int → Int → tm_S → tm_R} (cx : tm_C p l R s m args meth c K cX3_copy 3 RX3 "copy" (some (.array .short)) 0 0) (h9 : ∀ (v0 : Int) (v1 : Int) (v2 : Int) (τ : tm_S) (ls : Array Slot), tm_in v0 → tm_in v1 → tm_in v2 → tm_has 0 ls 3 [(0, tm_rv K v0), (1, tm_rv K v1), (2, tm_iv v2)] → tm_J p l e R s m args below meth c K tm_xC 2 (r9 v0 v1 v2 τ) τ (F0 m 9 ls [])) (v0 : Int) (v1 : Int) (v2 : Int) (σ : tm_S) (ls : Array Slot) (g0 : tm_in v0) (g1 : tm_in v1) (g2 : tm_in v2) (hl : tm_has 0 ls 3 [(0, tm_rv K v0), (1, tm_rv K v1), (2, tm_iv v2)]) : tm_J p l e R s m args below meth c K tm_xC 2 (fc_X3_copy_B9 r9 v0 v1 v2 σ) σ (F0 m 9 ls []) := by
  unfold fc_X3_copy_B9
  refine tm_iload_n cx dX3_copy_9 (tm_has_at hl 2 rfl) ?_
  refine tm_aload_n cx dX3_copy_10 (tm_has_at hl 0 rfl) ?_
  refine tm_gk_ (fun k11 => ?_)
  refine tg_X3_13 cx (fun _ => k11) dX3_copy_11 (fun q11 => ?_)
  refine tm_icmp_ge (tgt := 32) cx g2 q11 dX3_copy_14 (by decide) (fun c14 => ?_) (fun c14 => ?_)
  · refine tm_aload_n cx dX3_copy_17 (tm_has_at hl 1 rfl) ?_
    refine tm_iload_n cx dX3_copy_18 (tm_has_at hl 2 rfl) ?_
    refine tm_aload_n cx dX3_copy_19 (tm_has_at hl 0 rfl) ?_
    refine tg_X3_7 cx (fun _ => k11) dX3_copy_20 (fun q20 => ?_)
    refine tm_iload_n cx dX3_copy_23 (tm_has_at hl 2 rfl) ?_
    refine tm_gk_ (fun k24 => ?_)
    refine tm_sald cx (fun _ => ⟨k24, rfl⟩) g2 dX3_copy_24 (fun i24 q24 => ?_)
    refine tm_gk_ (fun k25 => ?_)
    refine tm_sast cx tm_famC (fun _ => ⟨k25, rfl⟩) g2 q24 dX3_copy_25 ?_
    refine tm_iinc (lv' := [(2, tm_iv (v2 + 1)), (0, tm_rv K v0), (1, tm_rv K v1)]) cx dX3_copy_26 hl (j := 2) rfl (by decide) (by decide) rfl (fun q26 ls hl => ?_)
    refine tm_goto (tgt := 9) cx dX3_copy_29 (by decide) ?_
    exact h9 v0 v1 (v2 + 1) _ _ g0 g1 q26 (tm_has_sub hl [1, 2, 0] rfl)
  · refine tm_aload_n cx dX3_copy_32 (tm_has_at hl 1 rfl) ?_
    exact tm_areturn cx ⟨_, rfl, Or.inr ⟨_, rfl⟩⟩ g1 dX3_copy_33
def fc_X3_copy_L9 : Nat → Int → Int → Int → tm_S → tm_R
  | 0, _, _, _, _ => none
  | n + 1, v0, v1, v2, σ => fc_X3_copy_B9 (fc_X3_copy_L9 n) v0 v1 v2 σ
theorem wc_X3_copy_L9 {p : Program} {l : Launch} {e : Env} {R : Room} {s : State} {m : MethodId} {args : Array Value} {below : List Frame} {meth : Method} {c : Code} {K : tm_K} (cx : tm_C p l R s m args meth c K cX3_copy 3 RX3 "copy" (some (.array .short)) 0 0) : ∀ (n : Nat) (v0 : Int) (v1 : Int) (v2 : Int) (σ : tm_S) (ls : Array Slot), tm_in v0 → tm_in v1 → tm_in v2 → tm_has 0 ls 3 [(0, tm_rv K v0), (1, tm_rv K v1), (2, tm_iv v2)] → tm_J p l e R s m args below meth c K tm_xC 2 (fc_X3_copy_L9 n v0 v1 v2 σ) σ (F0 m 9 ls []) := by
  intro n
  induction n with
  | zero => intros; exact tm_none
  | succ n ih =>
    intro v0 v1 v2 σ ls g0 g1 g2 hl
    exact wc_X3_copy_B9 (r9 := fc_X3_copy_L9 n) cx ih v0 v1 v2 σ ls g0 g1 g2 hl
def fc_X3_copy (a0 : Int) (σ : tm_S) : tm_R :=
  tm_gk (tm_k σ a0) 3 <|
  tm_gx (tm_f σ 129 a0) 1000000 <|
  tm_gn σ (Int.toNat (tm_f σ 129 a0)) <|
  tm_lt (1000 + (tm_c σ : Int)) fun n4 =>
  tm_ls (tm_ne σ 21 (tm_f σ 129 a0) (Int.toNat (tm_f σ 129 a0))) fun τ1 =>
  fc_X3_copy_L9 tm_FU a0 n4 0 τ1
theorem tm_fits_X3_copy (K : tm_K) (a0 : Int) : (lg_sl [tm_rv K a0]).length ≤ 1 := (tm_sl_r _ _ _ _ (tm_sl_n _))
theorem cc_X3_copy (K : tm_K) (l : Launch) (hst : l.stackTraces = false) (a0 : Int) (g0 : tm_in a0) : tm_ct K tm_xC l yX3_copy cX3_copy 3 (some (.array .short)) 2 [tm_rv K a0] (fc_X3_copy a0) 0 0 := by
  refine tm_ct_of hst (by decide +kernel) (Nat.le_trans (tm_fits_X3_copy K a0) (Nat.le_of_ble_eq_true rfl)) ?_
  intro p e R s m args below meth c cx σ ls hl0
  have hl : tm_has 0 ls 3 [(0, tm_rv K a0)] := ⟨by
    have h9 := hl0
    simp only [tm_args_r, tm_args_n, Nat.zero_add, Nat.reduceAdd] at h9
    exact h9, by
    intro q hq
    simp only [List.mem_cons, List.not_mem_nil, or_false] at hq
    rcases hq with rfl
    · exact Or.inl (tm_rv_cat K a0)⟩
  clear hl0
  unfold fc_X3_copy
  refine tm_aload_n cx dX3_copy_0 (tm_has_at hl 0 rfl) ?_
  refine tm_gk_ (fun k1 => ?_)
  refine tg_X3_13 cx (fun _ => k1) dX3_copy_1 (fun q1 => ?_)
  refine tm_newarray_short cx tm_famC q1 dX3_copy_4 (fun q4 => ?_)
  refine tm_ltr_ q4 (fun n4 p4 => ?_)
  refine tm_ls_ (fun τ1 => ?_)
  refine tm_astore_n (lv' := [(1, tm_rv K n4), (0, tm_rv K a0)]) cx dX3_copy_6 hl (by decide) (by decide) rfl (fun ls hl => ?_)
  refine tm_iconst cx dX3_copy_7 ?_
  refine tm_istore_n (lv' := [(2, tm_iv 0), (1, tm_rv K n4), (0, tm_rv K a0)]) cx dX3_copy_8 hl (by decide) (by decide) rfl (fun ls hl => ?_)
  exact wc_X3_copy_L9 cx tm_FU a0 n4 0 _ _ g0 p4 (by decide) (tm_has_sub hl [2, 1, 0] rfl)
def fc_X7_init (a0 : Int) (a1 : Int) (a2 : Int) (a3 : Int) (σ : tm_S) : tm_R :=
  tm_gk (tm_k σ a0) 6 <|
  tm_gk (tm_k σ a1) 3 <|
  tm_bd (fc_X3_copy a1 σ) fun u6 σ6 =>
  tm_gk (tm_k σ6 a0) 6 <|
  tm_gk (tm_k (tm_wf σ6 320 a0 u6) a2) 3 <|
  tm_bd (fc_X3_copy a2 (tm_wf σ6 320 a0 u6)) fun u14 σ14 =>
  tm_gk (tm_k σ14 a0) 6 <|
  tm_gk (tm_k (tm_wf σ14 321 a0 u14) a0) 6 <|
  tm_rt 0 (tm_wf (tm_wf σ14 321 a0 u14) 322 a0 a3)
theorem tm_fits_X7_init (K : tm_K) (a0 : Int) (a1 : Int) (a2 : Int) (a3 : Int) : (lg_sl [tm_rv K a0, tm_rv K a1, tm_rv K a2, tm_iv a3]).length ≤ 4 := (tm_sl_r _ _ _ _ (tm_sl_r _ _ _ _ (tm_sl_r _ _ _ _ (tm_sl_i _ _ _ (tm_sl_n _)))))
theorem cc_X7_init (K : tm_K) (l : Launch) (hst : l.stackTraces = false) (a0 : Int) (g0 : tm_in a0) (a1 : Int) (g1 : tm_in a1) (a2 : Int) (g2 : tm_in a2) (a3 : Int) (g3 : tm_in a3) : tm_ct K tm_xC l yX7_init cX7_init 4 none 0 [tm_rv K a0, tm_rv K a1, tm_rv K a2, tm_iv a3] (fc_X7_init a0 a1 a2 a3) 1 28 := by
  refine tm_ct_of hst (by decide +kernel) (Nat.le_trans (tm_fits_X7_init K a0 a1 a2 a3) (Nat.le_of_ble_eq_true rfl)) ?_
  intro p e R s m args below meth c cx σ ls hl0
  have hl : tm_has 0 ls 4 [(0, tm_rv K a0), (1, tm_rv K a1), (2, tm_rv K a2), (3, tm_iv a3)] := ⟨by
    have h9 := hl0
    simp only [tm_args_r, tm_args_r, tm_args_r, tm_args_i, tm_args_n, Nat.zero_add, Nat.reduceAdd] at h9
    exact h9, by
    intro q hq
    simp only [List.mem_cons, List.not_mem_nil, or_false] at hq
    rcases hq with rfl | rfl | rfl | rfl
    · exact Or.inl (tm_rv_cat K a0)
    · exact Or.inl (tm_rv_cat K a1)
    · exact Or.inl (tm_rv_cat K a2)
    · exact Or.inl rfl⟩
  clear hl0
  unfold fc_X7_init
  refine tm_aload_n cx dX7_init_0 (tm_has_at hl 0 rfl) ?_
  refine tm_gk_ (fun k1 => ?_)
  refine tm_objInit cx (fun _ => by rw [k1]; decide) q891 q130 q131 ⟨by decide, by decide⟩ (Nat.le_of_ble_eq_true rfl) hl.1.1 dX7_init_1 ?_
  refine tm_aload_n cx dX7_init_4 (tm_has_at hl 0 rfl) ?_
  refine tm_aload_n cx dX7_init_5 (tm_has_at hl 1 rfl) ?_
  refine tm_gk_ (fun k6 => ?_)
  refine tm_callV (n := 0) cx (cc_X3_copy K l (tm_hst cx) a1 g1) (lw_V q892 q893 q894 q101 q895) ⟨rfl, by decide +kernel, by decide +kernel, by decide +kernel⟩ rfl tm_cd_X3 (fun _ => k6) ⟨Nat.le_of_ble_eq_true rfl, Nat.le_of_ble_eq_true rfl⟩ rfl (Nat.le_of_ble_eq_true rfl) hl.1.1 dX7_init_6 (fun u6 σ6 q6 => ?_)
  show tm_J p l e R s m args below meth c K tm_xC 0 _ _ (F0 m 9 ls [tm_rv K u6, tm_rv K a0])
  refine tm_gk_ (fun k9 => ?_)
  refine tq_X7_15 cx (fun _ => k9) q6 dX7_init_9 ?_
  refine tm_aload_n cx dX7_init_12 (tm_has_at hl 0 rfl) ?_
  refine tm_aload_n cx dX7_init_13 (tm_has_at hl 2 rfl) ?_
  refine tm_gk_ (fun k14 => ?_)
  refine tm_callV (n := 0) cx (cc_X3_copy K l (tm_hst cx) a2 g2) (lw_V q892 q893 q894 q101 q895) ⟨rfl, by decide +kernel, by decide +kernel, by decide +kernel⟩ rfl tm_cd_X3 (fun _ => k14) ⟨Nat.le_of_ble_eq_true rfl, Nat.le_of_ble_eq_true rfl⟩ rfl (Nat.le_of_ble_eq_true rfl) hl.1.1 dX7_init_14 (fun u14 σ14 q14 => ?_)
  show tm_J p l e R s m args below meth c K tm_xC 0 _ _ (F0 m 17 ls [tm_rv K u14, tm_rv K a0])
  refine tm_gk_ (fun k17 => ?_)
  refine tq_X7_21 cx (fun _ => k17) q14 dX7_init_17 ?_
  refine tm_aload_n cx dX7_init_20 (tm_has_at hl 0 rfl) ?_
  refine tm_iload_n cx dX7_init_21 (tm_has_at hl 3 rfl) ?_
  refine tm_gk_ (fun k22 => ?_)
  refine tq_X7_24 cx (fun _ => k22) g3 dX7_init_22 ?_
  exact tm_vreturn cx dX7_init_25
def fc_keep_J110 (v2 : Int) (v3 : Int) (vs0 : Int) (vs1 : Int) (σ : tm_S) : tm_R :=
  tm_gk (tm_k σ vs0) 2 <|
  tm_gk (tm_k (tm_wf σ 65 vs0 vs1) v3) 2 <|
  tm_gx v2 128 <|
  tm_gk (tm_k (tm_wf (tm_wf σ 65 vs0 vs1) 66 v3 v2) v3) 2 <|
  tm_ls (tm_wf (tm_wf (tm_wf σ 65 vs0 vs1) 66 v3 v2) 67 v3 (tm_a (tm_wf (tm_wf σ 65 vs0 vs1) 66 v3 v2) 104 v2)) fun τ1 =>
  tm_gk (tm_k τ1 v3) 2 <|
  tm_gi ((tm_f (tm_wf τ1 68 v3 (tm_f τ1 14 0)) 22 0) + 1) <|
  tm_rt 0 (tm_wf (tm_wf τ1 68 v3 (tm_f τ1 14 0)) 22 0 ((tm_f (tm_wf τ1 68 v3 (tm_f τ1 14 0)) 22 0) + 1))
theorem wc_keep_J110 {p : Program} {l : Launch} {e : Env} {R : Room} {s : State} {m : MethodId} {args : Array Value} {below : List Frame} {meth : Method} {c : Code} {K : tm_K} (cx : tm_C p l R s m args meth c K cX1_keep 4 RX1 "keep" none 7 121) (v2 : Int) (v3 : Int) (vs0 : Int) (vs1 : Int) (σ : tm_S) (ls : Array Slot) (g2 : tm_in v2) (g3 : tm_in v3) (gs0 : tm_in vs0) (gs1 : tm_in vs1) (hl : tm_has 0 ls 4 [(0, tm_rv K 0), (2, tm_iv v2), (3, tm_rv K v3)]) : tm_J p l e R s m args below meth c K tm_xC 0 (fc_keep_J110 v2 v3 vs0 vs1 σ) σ (F0 m 110 ls [tm_rv K vs1, tm_rv K vs0]) := by
  unfold fc_keep_J110
  refine tm_gk_ (fun k110 => ?_)
  refine tp_X1_368 cx (fun _ => k110) gs1 dX1_keep_110 ?_
  refine tm_aload_n cx dX1_keep_113 (tm_has_at hl 2 rfl) ?_
  refine tm_iload_n cx dX1_keep_114 (tm_has_at hl 1 rfl) ?_
  refine tm_gk_ (fun k115 => ?_)
  refine tp_X1_385 cx (fun _ => k115) g2 dX1_keep_115 ?_
  refine tm_aload_n cx dX1_keep_118 (tm_has_at hl 2 rfl) ?_
  refine tm_aload_n cx dX1_keep_119 (tm_has_at hl 0 rfl) ?_
  refine tg_X1_13 cx dX1_keep_120 ?_
  refine tm_iload_n cx dX1_keep_123 (tm_has_at hl 1 rfl) ?_
  refine tm_bald cx tm_hC_104 g2 dX1_keep_124 (fun i124 q124 => ?_)
  refine tm_gk_ (fun k125 => ?_)
  refine tp_X1_388 cx (fun _ => k125) q124 dX1_keep_125 ?_
  refine tm_ls_ (fun τ1 => ?_)
  refine tm_aload_n cx dX1_keep_128 (tm_has_at hl 2 rfl) ?_
  refine tm_aload_n cx dX1_keep_129 (tm_has_at hl 0 rfl) ?_
  refine tg_X1_127 cx dX1_keep_130 (fun q130 => ?_)
  refine tm_gk_ (fun k133 => ?_)
  refine tp_X1_382 cx (fun _ => k133) q130 dX1_keep_133 ?_
  refine tm_aload_n cx dX1_keep_136 (tm_has_at hl 0 rfl) ?_
  refine tm_dup_r cx dX1_keep_137 ?_
  refine tg_X1_139 cx dX1_keep_138 (fun q138 => ?_)
  refine tm_iconst cx dX1_keep_141 ?_
  refine tm_iadd cx dX1_keep_142 (fun q142 => ?_)
  refine tp_X1_139 cx q142 dX1_keep_143 ?_
  exact tm_vreturn cx dX1_keep_146
def fc_keep_J82 (v1 : Int) (v2 : Int) (σ : tm_S) : tm_R :=
  tm_gx (tm_f σ 22 0) 60 <|
  tm_lt (200 + (tm_f σ 22 0)) fun x91 =>
  tm_gk (tm_k σ x91) 2 <|
  if v1 < 0 then
    fc_keep_J110 v2 x91 x91 (-1) (tm_wf σ 64 x91 v1)
  else
    tm_gk (tm_k (tm_wf σ 64 x91 v1) v1) 4 <|
    fc_keep_J110 v2 x91 x91 (tm_f (tm_wf σ 64 x91 v1) 195 v1) (tm_wf σ 64 x91 v1)
theorem wc_keep_J82 {p : Program} {l : Launch} {e : Env} {R : Room} {s : State} {m : MethodId} {args : Array Value} {below : List Frame} {meth : Method} {c : Code} {K : tm_K} (cx : tm_C p l R s m args meth c K cX1_keep 4 RX1 "keep" none 7 121) (v1 : Int) (v2 : Int) (σ : tm_S) (ls : Array Slot) (g1 : tm_in v1) (g2 : tm_in v2) (hl : tm_has 0 ls 4 [(0, tm_rv K 0), (1, tm_rv K v1), (2, tm_iv v2)]) : tm_J p l e R s m args below meth c K tm_xC 0 (fc_keep_J82 v1 v2 σ) σ (F0 m 82 ls []) := by
  unfold fc_keep_J82
  refine tm_aload_n cx dX1_keep_82 (tm_has_at hl 0 rfl) ?_
  refine tg_X1_53 cx dX1_keep_83 ?_
  refine tm_aload_n cx dX1_keep_86 (tm_has_at hl 0 rfl) ?_
  refine tg_X1_139 cx dX1_keep_87 (fun q87 => ?_)
  refine tm_aald cx (by decide) tm_hC_121 q87 dX1_keep_90 (fun i90 q90 f90 => ?_)
  rw [tm_aC_121 f90 _ i90] at q90 ⊢
  refine tm_ltr_ q90 (fun x91 q91 => ?_)
  refine tm_astore_n (lv' := [(3, tm_rv K x91), (0, tm_rv K 0), (1, tm_rv K v1), (2, tm_iv v2)]) cx dX1_keep_91 hl (by decide) (by decide) rfl (fun ls hl => ?_)
  refine tm_aload_n cx dX1_keep_92 (tm_has_at hl 0 rfl) ?_
  refine tm_aload_n cx dX1_keep_93 (tm_has_at hl 2 rfl) ?_
  refine tm_gk_ (fun k94 => ?_)
  refine tp_X1_364 cx (fun _ => k94) g1 dX1_keep_94 ?_
  refine tm_aload_n cx dX1_keep_97 (tm_has_at hl 0 rfl) ?_
  refine tm_aload_n cx dX1_keep_98 (tm_has_at hl 2 rfl) ?_
  refine tm_ifnonnull (tgt := 106) cx dX1_keep_99 (by decide) (fun c99 => ?_) (fun c99 => ?_)
  · refine tm_null cx dX1_keep_102 ?_
    refine tm_goto (tgt := 110) cx dX1_keep_103 (by decide) ?_
    exact wc_keep_J110 cx v2 x91 x91 (-1) _ _ g2 q91 q91 (by decide) (tm_has_sub hl [1, 3, 0] rfl)
  · refine tm_aload_n cx dX1_keep_106 (tm_has_at hl 2 rfl) ?_
    refine tm_gk_ (fun k107 => ?_)
    refine tg_X1_114 cx (fun _ => k107) dX1_keep_107 (fun q107 => ?_)
    exact wc_keep_J110 cx v2 x91 x91 (tm_f (tm_wf σ 64 x91 v1) 195 v1) _ _ g2 q91 q91 q107 (tm_has_sub hl [1, 3, 0] rfl)
def fc_keep_J68 (v1 : Int) (v2 : Int) (σ : tm_S) : tm_R :=
  if (tm_f σ 22 0) = 60 then
    tm_bd (fc_fail 5 σ) fun _ _ => none
  else
    fc_keep_J82 v1 v2 σ
theorem wc_keep_J68 {p : Program} {l : Launch} {e : Env} {R : Room} {s : State} {m : MethodId} {args : Array Value} {below : List Frame} {meth : Method} {c : Code} {K : tm_K} (cx : tm_C p l R s m args meth c K cX1_keep 4 RX1 "keep" none 7 121) (v1 : Int) (v2 : Int) (σ : tm_S) (ls : Array Slot) (g1 : tm_in v1) (g2 : tm_in v2) (hl : tm_has 0 ls 4 [(0, tm_rv K 0), (1, tm_rv K v1), (2, tm_iv v2)]) : tm_J p l e R s m args below meth c K tm_xC 0 (fc_keep_J68 v1 v2 σ) σ (F0 m 68 ls []) := by
  unfold fc_keep_J68
  refine tm_aload_n cx dX1_keep_68 (tm_has_at hl 0 rfl) ?_
  refine tg_X1_139 cx dX1_keep_69 (fun q69 => ?_)
  refine tm_bipush cx dX1_keep_72 (by decide) ?_
  refine tm_icmp_ne (tgt := 82) cx q69 (by decide) dX1_keep_74 (by decide) (fun c74 => ?_) (fun c74 => ?_)
  · refine tm_aload_n cx dX1_keep_77 (tm_has_at hl 0 rfl) ?_
    refine tm_iconst cx dX1_keep_78 ?_
    refine tm_callV (n := 1) cx (cc_fail K l (tm_hst cx) 5 (by decide)) (lw_V q580 q582 qs10 q95 q583) ⟨rfl, by decide +kernel, by decide +kernel, by decide +kernel⟩ rfl tm_cd_X1 (fun h => (tm_hC_0 h).1) ⟨Nat.le_of_ble_eq_true rfl, Nat.le_of_ble_eq_true rfl⟩ rfl (Nat.le_of_ble_eq_true rfl) hl.1.1 dX1_keep_79 (fun _ _ _ => ?_)
    exact tm_none
  · exact wc_keep_J82 cx v1 v2 _ _ g1 g2 (tm_has_sub hl [0, 1, 2] rfl)
def fc_keep_B15 (r15 : Int → Int → Int → tm_S → tm_R) (v1 : Int) (v2 : Int) (v3 : Int) (σ : tm_S) : tm_R :=
  if v3 < 0 then
    fc_keep_J68 v1 v2 σ
  else
    tm_gx v3 60 <|
    tm_gk (tm_k σ (200 + v3)) 2 <|
    if (tm_f σ 68 (200 + v3)) = (tm_f σ 14 0) then
      tm_gx v3 60 <|
      tm_gq σ (tm_f σ 64 (200 + v3)) <|
      tm_gq σ v1 <|
      if (tm_f σ 64 (200 + v3)) = v1 then
        tm_gx v3 60 <|
        if (tm_f σ 66 (200 + v3)) = v2 then
          tm_rt 0 σ
        else
          tm_gi (v3 + (-1)) <|
          r15 v1 v2 (v3 + (-1)) σ
      else
        tm_gi (v3 + (-1)) <|
        r15 v1 v2 (v3 + (-1)) σ
    else
      fc_keep_J68 v1 v2 σ
theorem wc_keep_B15 {p : Program} {l : Launch} {e : Env} {R : Room} {s : State} {m : MethodId} {args : Array Value} {below : List Frame} {meth : Method} {c : Code} {K : tm_K} {r15 : Int → Int → Int → tm_S → tm_R} (cx : tm_C p l R s m args meth c K cX1_keep 4 RX1 "keep" none 7 121) (h15 : ∀ (v1 : Int) (v2 : Int) (v3 : Int) (τ : tm_S) (ls : Array Slot), tm_in v1 → tm_in v2 → tm_in v3 → tm_has 0 ls 4 [(0, tm_rv K 0), (1, tm_rv K v1), (2, tm_iv v2), (3, tm_iv v3)] → tm_J p l e R s m args below meth c K tm_xC 0 (r15 v1 v2 v3 τ) τ (F0 m 15 ls [])) (v1 : Int) (v2 : Int) (v3 : Int) (σ : tm_S) (ls : Array Slot) (g1 : tm_in v1) (g2 : tm_in v2) (g3 : tm_in v3) (hl : tm_has 0 ls 4 [(0, tm_rv K 0), (1, tm_rv K v1), (2, tm_iv v2), (3, tm_iv v3)]) : tm_J p l e R s m args below meth c K tm_xC 0 (fc_keep_B15 r15 v1 v2 v3 σ) σ (F0 m 15 ls []) := by
  unfold fc_keep_B15
  refine tm_iload_n cx dX1_keep_15 (tm_has_at hl 3 rfl) ?_
  refine tm_if_lt (tgt := 68) cx g3 dX1_keep_16 (by decide) (fun c16 => ?_) (fun c16 => ?_)
  · exact wc_keep_J68 cx v1 v2 _ _ g1 g2 (tm_has_sub hl [0, 1, 2] rfl)
  · refine tm_aload_n cx dX1_keep_19 (tm_has_at hl 0 rfl) ?_
    refine tg_X1_53 cx dX1_keep_20 ?_
    refine tm_iload_n cx dX1_keep_23 (tm_has_at hl 3 rfl) ?_
    refine tm_aald cx (by decide) tm_hC_121 g3 dX1_keep_24 (fun i24 q24 f24 => ?_)
    rw [tm_aC_121 f24 _ i24] at q24 ⊢
    refine tm_gk_ (fun k25 => ?_)
    refine tg_X1_382 cx (fun _ => k25) dX1_keep_25 (fun q25 => ?_)
    refine tm_aload_n cx dX1_keep_28 (tm_has_at hl 0 rfl) ?_
    refine tg_X1_127 cx dX1_keep_29 (fun q29 => ?_)
    refine tm_icmp_ne (tgt := 68) cx q25 q29 dX1_keep_32 (by decide) (fun c32 => ?_) (fun c32 => ?_)
    · refine tm_aload_n cx dX1_keep_35 (tm_has_at hl 0 rfl) ?_
      refine tg_X1_53 cx dX1_keep_36 ?_
      refine tm_iload_n cx dX1_keep_39 (tm_has_at hl 3 rfl) ?_
      refine tm_aald cx (by decide) tm_hC_121 g3 dX1_keep_40 (fun i40 q40 f40 => ?_)
      rw [tm_aC_121 f40 _ i40] at q40 ⊢
      refine tg_X1_364 cx (fun _ => k25) dX1_keep_41 (fun q41 => ?_)
      refine tm_aload_n cx dX1_keep_44 (tm_has_at hl 1 rfl) ?_
      refine tm_gq_ (fun r45x => ?_)
      refine tm_gq_ (fun r45y => ?_)
      refine tm_acmp_ne (tgt := 62) cx (fun _ => r45x) (fun _ => r45y) dX1_keep_45 (by decide) (fun c45 => ?_) (fun c45 => ?_)
      · refine tm_aload_n cx dX1_keep_48 (tm_has_at hl 0 rfl) ?_
        refine tg_X1_53 cx dX1_keep_49 ?_
        refine tm_iload_n cx dX1_keep_52 (tm_has_at hl 3 rfl) ?_
        refine tm_aald cx (by decide) tm_hC_121 g3 dX1_keep_53 (fun i53 q53 f53 => ?_)
        rw [tm_aC_121 f53 _ i53] at q53 ⊢
        refine tg_X1_385 cx (fun _ => k25) dX1_keep_54 (fun q54 => ?_)
        refine tm_iload_n cx dX1_keep_57 (tm_has_at hl 2 rfl) ?_
        refine tm_icmp_ne (tgt := 62) cx q54 g2 dX1_keep_58 (by decide) (fun c58 => ?_) (fun c58 => ?_)
        · exact tm_vreturn cx dX1_keep_61
        · refine tm_iinc (lv' := [(3, tm_iv (v3 + (-1))), (0, tm_rv K 0), (1, tm_rv K v1), (2, tm_iv v2)]) cx dX1_keep_62 hl (j := 3) rfl (by decide) (by decide) rfl (fun q62 ls hl => ?_)
          refine tm_goto (tgt := 15) cx dX1_keep_65 (by decide) ?_
          exact h15 v1 v2 (v3 + (-1)) _ _ g1 g2 q62 (tm_has_sub hl [1, 2, 3, 0] rfl)
      · refine tm_iinc (lv' := [(3, tm_iv (v3 + (-1))), (0, tm_rv K 0), (1, tm_rv K v1), (2, tm_iv v2)]) cx dX1_keep_62 hl (j := 3) rfl (by decide) (by decide) rfl (fun q62 ls hl => ?_)
        refine tm_goto (tgt := 15) cx dX1_keep_65 (by decide) ?_
        exact h15 v1 v2 (v3 + (-1)) _ _ g1 g2 q62 (tm_has_sub hl [1, 2, 3, 0] rfl)
    · exact wc_keep_J68 cx v1 v2 _ _ g1 g2 (tm_has_sub hl [0, 1, 2] rfl)
def fc_keep_L15 : Nat → Int → Int → Int → tm_S → tm_R
  | 0, _, _, _, _ => none
  | n + 1, v1, v2, v3, σ => fc_keep_B15 (fc_keep_L15 n) v1 v2 v3 σ
theorem wc_keep_L15 {p : Program} {l : Launch} {e : Env} {R : Room} {s : State} {m : MethodId} {args : Array Value} {below : List Frame} {meth : Method} {c : Code} {K : tm_K} (cx : tm_C p l R s m args meth c K cX1_keep 4 RX1 "keep" none 7 121) : ∀ (n : Nat) (v1 : Int) (v2 : Int) (v3 : Int) (σ : tm_S) (ls : Array Slot), tm_in v1 → tm_in v2 → tm_in v3 → tm_has 0 ls 4 [(0, tm_rv K 0), (1, tm_rv K v1), (2, tm_iv v2), (3, tm_iv v3)] → tm_J p l e R s m args below meth c K tm_xC 0 (fc_keep_L15 n v1 v2 v3 σ) σ (F0 m 15 ls []) := by
  intro n
  induction n with
  | zero => intros; exact tm_none
  | succ n ih =>
    intro v1 v2 v3 σ ls g1 g2 g3 hl
    exact wc_keep_B15 (r15 := fc_keep_L15 n) cx ih v1 v2 v3 σ ls g1 g2 g3 hl
def fc_keep (a1 : Int) (a2 : Int) (σ : tm_S) : tm_R :=
  if (tm_f σ 14 0) = 0 then
    tm_rt 0 σ
  else
    tm_gi ((tm_f σ 22 0) - 1) <|
    tm_lt ((tm_f σ 22 0) - 1) fun x14 =>
    fc_keep_L15 tm_FU a1 a2 x14 σ
theorem tm_fits_X1_keep (K : tm_K) (a1 : Int) (a2 : Int) : (lg_sl [tm_rv K 0, tm_rv K a1, tm_iv a2]).length ≤ 3 := (tm_sl_r _ _ _ _ (tm_sl_r _ _ _ _ (tm_sl_i _ _ _ (tm_sl_n _))))
theorem cc_keep (K : tm_K) (l : Launch) (hst : l.stackTraces = false) (a1 : Int) (g1 : tm_in a1) (a2 : Int) (g2 : tm_in a2) : tm_ct K tm_xC l yX1_keep cX1_keep 4 none 0 [tm_rv K 0, tm_rv K a1, tm_iv a2] (fc_keep a1 a2) 7 121 := by
  refine tm_ct_of hst (by decide +kernel) (Nat.le_trans (tm_fits_X1_keep K a1 a2) (Nat.le_of_ble_eq_true rfl)) ?_
  intro p e R s m args below meth c cx σ ls hl0
  have hl : tm_has 0 ls 4 [(0, tm_rv K 0), (1, tm_rv K a1), (2, tm_iv a2)] := ⟨by
    have h9 := hl0
    simp only [tm_args_r, tm_args_r, tm_args_i, tm_args_n, Nat.zero_add, Nat.reduceAdd] at h9
    exact h9, by
    intro q hq
    simp only [List.mem_cons, List.not_mem_nil, or_false] at hq
    rcases hq with rfl | rfl | rfl
    · exact Or.inl (tm_rv_cat K 0)
    · exact Or.inl (tm_rv_cat K a1)
    · exact Or.inl rfl⟩
  clear hl0
  unfold fc_keep
  refine tm_aload_n cx dX1_keep_0 (tm_has_at hl 0 rfl) ?_
  refine tg_X1_127 cx dX1_keep_1 (fun q1 => ?_)
  refine tm_if_ne (tgt := 8) cx q1 dX1_keep_4 (by decide) (fun c4 => ?_) (fun c4 => ?_)
  · exact tm_vreturn cx dX1_keep_7
  · refine tm_aload_n cx dX1_keep_8 (tm_has_at hl 0 rfl) ?_
    refine tg_X1_139 cx dX1_keep_9 (fun q9 => ?_)
    refine tm_iconst cx dX1_keep_12 ?_
    refine tm_isub cx dX1_keep_13 (fun q13 => ?_)
    refine tm_lt_ q13 (fun x14 q14 => ?_)
    refine tm_istore_n (lv' := [(3, tm_iv x14), (0, tm_rv K 0), (1, tm_rv K a1), (2, tm_iv a2)]) cx dX1_keep_14 hl (by decide) (by decide) rfl (fun ls hl => ?_)
    exact wc_keep_L15 cx tm_FU a1 a2 x14 _ _ g1 g2 q14 (tm_has_sub hl [1, 2, 3, 0] rfl)
def fc_change (a1 : Int) (a2 : Int) (σ : tm_S) : tm_R :=
  tm_bd (fc_keep a1 0 σ) fun u3 σ3 =>
  tm_gk (tm_k σ3 a1) 4 <|
  tm_rt 0 (tm_wf σ3 195 a1 a2)
theorem tm_fits_X1_change (K : tm_K) (a1 : Int) (a2 : Int) : (lg_sl [tm_rv K 0, tm_rv K a1, tm_rv K a2]).length ≤ 3 := (tm_sl_r _ _ _ _ (tm_sl_r _ _ _ _ (tm_sl_r _ _ _ _ (tm_sl_n _))))
theorem cc_change (K : tm_K) (l : Launch) (hst : l.stackTraces = false) (a1 : Int) (g1 : tm_in a1) (a2 : Int) (g2 : tm_in a2) : tm_ct K tm_xC l yX1_change cX1_change 3 none 0 [tm_rv K 0, tm_rv K a1, tm_rv K a2] (fc_change a1 a2) 8 144 := by
  refine tm_ct_of hst (by decide +kernel) (Nat.le_trans (tm_fits_X1_change K a1 a2) (Nat.le_of_ble_eq_true rfl)) ?_
  intro p e R s m args below meth c cx σ ls hl0
  have hl : tm_has 0 ls 3 [(0, tm_rv K 0), (1, tm_rv K a1), (2, tm_rv K a2)] := ⟨by
    have h9 := hl0
    simp only [tm_args_r, tm_args_r, tm_args_r, tm_args_n, Nat.zero_add, Nat.reduceAdd] at h9
    exact h9, by
    intro q hq
    simp only [List.mem_cons, List.not_mem_nil, or_false] at hq
    rcases hq with rfl | rfl | rfl
    · exact Or.inl (tm_rv_cat K 0)
    · exact Or.inl (tm_rv_cat K a1)
    · exact Or.inl (tm_rv_cat K a2)⟩
  clear hl0
  unfold fc_change
  refine tm_aload_n cx dX1_change_0 (tm_has_at hl 0 rfl) ?_
  refine tm_aload_n cx dX1_change_1 (tm_has_at hl 1 rfl) ?_
  refine tm_iconst cx dX1_change_2 ?_
  refine tm_callV (n := 2) cx (cc_keep K l (tm_hst cx) a1 g1 0 (by decide)) (lw_V q715 q717 qs25 q95 q718) ⟨rfl, by decide +kernel, by decide +kernel, by decide +kernel⟩ rfl tm_cd_X1 (fun h => (tm_hC_0 h).1) ⟨Nat.le_of_ble_eq_true rfl, Nat.le_of_ble_eq_true rfl⟩ rfl (Nat.le_of_ble_eq_true rfl) hl.1.1 dX1_change_3 (fun u3 σ3 q3 => ?_)
  show tm_J p l e R s m args below meth c K tm_xC 0 _ _ (F0 m 6 ls [])
  refine tm_aload_n cx dX1_change_6 (tm_has_at hl 1 rfl) ?_
  refine tm_aload_n cx dX1_change_7 (tm_has_at hl 2 rfl) ?_
  refine tm_gk_ (fun k8 => ?_)
  refine tp_X1_114 cx (fun _ => k8) g2 dX1_change_8 ?_
  exact tm_vreturn cx dX1_change_11
def fc_X8_init (a0 : Int) (a1 : Int) (σ : tm_S) : tm_R :=
  tm_gk (tm_k σ a0) 5 <|
  tm_rt 0 (tm_wf σ 256 a0 a1)
theorem tm_fits_X8_init (K : tm_K) (a0 : Int) (a1 : Int) : (lg_sl [tm_rv K a0, tm_iv a1]).length ≤ 2 := (tm_sl_r _ _ _ _ (tm_sl_i _ _ _ (tm_sl_n _)))
theorem cc_X8_init (K : tm_K) (l : Launch) (hst : l.stackTraces = false) (a0 : Int) (g0 : tm_in a0) (a1 : Int) (g1 : tm_in a1) : tm_ct K tm_xC l yX8_init cX8_init 2 none 0 [tm_rv K a0, tm_iv a1] (fc_X8_init a0 a1) 1 28 := by
  refine tm_ct_of hst (by decide +kernel) (Nat.le_trans (tm_fits_X8_init K a0 a1) (Nat.le_of_ble_eq_true rfl)) ?_
  intro p e R s m args below meth c cx σ ls hl0
  have hl : tm_has 0 ls 2 [(0, tm_rv K a0), (1, tm_iv a1)] := ⟨by
    have h9 := hl0
    simp only [tm_args_r, tm_args_i, tm_args_n, Nat.zero_add, Nat.reduceAdd] at h9
    exact h9, by
    intro q hq
    simp only [List.mem_cons, List.not_mem_nil, or_false] at hq
    rcases hq with rfl | rfl
    · exact Or.inl (tm_rv_cat K a0)
    · exact Or.inl rfl⟩
  clear hl0
  unfold fc_X8_init
  refine tm_aload_n cx dX8_init_0 (tm_has_at hl 0 rfl) ?_
  refine tm_gk_ (fun k1 => ?_)
  refine tm_objInit cx (fun _ => by rw [k1]; decide) q919 q130 q131 ⟨by decide, by decide⟩ (Nat.le_of_ble_eq_true rfl) hl.1.1 dX8_init_1 ?_
  refine tm_aload_n cx dX8_init_4 (tm_has_at hl 0 rfl) ?_
  refine tm_iload_n cx dX8_init_5 (tm_has_at hl 1 rfl) ?_
  refine tq_X8_7 cx (fun _ => k1) g1 dX8_init_6 ?_
  exact tm_vreturn cx dX8_init_9
def fc_let_J47 (vs1 : Int) (vs2 : Int) (σ : tm_S) : tm_R :=
  tm_bd (fc_change vs1 vs2 σ) fun u47 σ47 =>
  tm_rt 0 σ47
theorem wc_let_J47 {p : Program} {l : Launch} {e : Env} {R : Room} {s : State} {m : MethodId} {args : Array Value} {below : List Frame} {meth : Method} {c : Code} {K : tm_K} (cx : tm_C p l R s m args meth c K cX1_let 3 RX1 "let" none 14 341) (vs1 : Int) (vs2 : Int) (σ : tm_S) (ls : Array Slot) (gs1 : tm_in vs1) (gs2 : tm_in vs2) (hl : tm_has 0 ls 3 []) : tm_J p l e R s m args below meth c K tm_xC 0 (fc_let_J47 vs1 vs2 σ) σ (F0 m 47 ls [tm_rv K vs2, tm_rv K vs1, tm_rv K 0]) := by
  unfold fc_let_J47
  refine tm_callV (n := 2) cx (cc_change K l (tm_hst cx) vs1 gs1 vs2 gs2) (lw_V q711 q713 qs24 q95 q714) ⟨rfl, by decide +kernel, by decide +kernel, by decide +kernel⟩ rfl tm_cd_X1 (fun h => (tm_hC_0 h).1) ⟨Nat.le_of_ble_eq_true rfl, Nat.le_of_ble_eq_true rfl⟩ rfl (Nat.le_of_ble_eq_true rfl) hl.1.1 dX1_let_47 (fun u47 σ47 q47 => ?_)
  show tm_J p l e R s m args below meth c K tm_xC 0 _ _ (F0 m 50 ls [])
  exact tm_vreturn cx dX1_let_50
def fc_let_J22 (v1 : Int) (v2 : Int) (σ : tm_S) : tm_R :=
  tm_bd (fc_isCharacter v2 σ) fun u25 σ25 =>
  if u25 = 0 then
    tm_bd (fc_meaningOf v2 σ25) fun u44 σ44 =>
    fc_let_J47 v1 u44 σ44
  else
    tm_gn σ25 1 <|
    tm_lt (1000 + (tm_c σ25 : Int)) fun n31 =>
    tm_ls (tm_ne σ25 5 0 1) fun τ7 =>
    tm_gk (tm_k τ7 n31) 5 <|
    tm_bd (fc_X8_init n31 v2 τ7) fun u36 σ36 =>
    fc_let_J47 v1 n31 σ36
theorem wc_let_J22 {p : Program} {l : Launch} {e : Env} {R : Room} {s : State} {m : MethodId} {args : Array Value} {below : List Frame} {meth : Method} {c : Code} {K : tm_K} (cx : tm_C p l R s m args meth c K cX1_let 3 RX1 "let" none 14 341) (v1 : Int) (v2 : Int) (σ : tm_S) (ls : Array Slot) (g1 : tm_in v1) (g2 : tm_in v2) (hl : tm_has 0 ls 3 [(0, tm_rv K 0), (1, tm_rv K v1), (2, tm_iv v2)]) : tm_J p l e R s m args below meth c K tm_xC 0 (fc_let_J22 v1 v2 σ) σ (F0 m 22 ls []) := by
  unfold fc_let_J22
  refine tm_aload_n cx dX1_let_22 (tm_has_at hl 0 rfl) ?_
  refine tm_aload_n cx dX1_let_23 (tm_has_at hl 1 rfl) ?_
  refine tm_iload_n cx dX1_let_24 (tm_has_at hl 2 rfl) ?_
  refine tm_callS (n := 1) cx (cc_isCharacter K l (tm_hst cx) v2 g2) (lw_S q708 q709 q95 q710) ⟨by decide +kernel, by decide +kernel, by decide +kernel⟩ rfl ⟨Nat.le_of_ble_eq_true rfl, Nat.le_of_ble_eq_true rfl⟩ rfl (Nat.le_of_ble_eq_true rfl) hl.1.1 dX1_let_25 (fun u25 σ25 q25 => ?_)
  show tm_J p l e R s m args below meth c K tm_xC 0 _ _ (F0 m 28 ls [tm_iv u25, tm_rv K v1, tm_rv K 0])
  refine tm_if_eq (tgt := 42) cx q25 dX1_let_28 (by decide) (fun c28 => ?_) (fun c28 => ?_)
  · refine tm_aload_n cx dX1_let_42 (tm_has_at hl 0 rfl) ?_
    refine tm_iload_n cx dX1_let_43 (tm_has_at hl 2 rfl) ?_
    refine tm_callV (n := 1) cx (cc_meaningOf K l (tm_hst cx) v2 g2) (lw_V q607 q609 qs15 q95 q610) ⟨rfl, by decide +kernel, by decide +kernel, by decide +kernel⟩ rfl tm_cd_X1 (fun h => (tm_hC_0 h).1) ⟨Nat.le_of_ble_eq_true rfl, Nat.le_of_ble_eq_true rfl⟩ rfl (Nat.le_of_ble_eq_true rfl) hl.1.1 dX1_let_44 (fun u44 σ44 q44 => ?_)
    show tm_J p l e R s m args below meth c K tm_xC 0 _ _ (F0 m 47 ls [tm_rv K u44, tm_rv K v1, tm_rv K 0])
    exact wc_let_J47 cx v1 u44 _ _ g1 q44 (tm_has_sub hl [] rfl)
  · refine tm_mk cx tm_cd_X8 tm_famC q756 q915 q120 (tm_df8 K) dX1_let_31 (fun q31 => ?_)
    refine tm_ltr_ q31 (fun n31 p31 => ?_)
    refine tm_ls_ (fun τ7 => ?_)
    refine tm_dup_r cx dX1_let_34 ?_
    refine tm_iload_n cx dX1_let_35 (tm_has_at hl 2 rfl) ?_
    refine tm_gk_ (fun k36 => ?_)
    refine tm_callI (n := 1) cx (cc_X8_init K l (tm_hst cx) n31 p31 v2 g2) q918 q120 q916 q917 rfl ⟨by decide +kernel, by decide +kernel, by decide +kernel⟩ rfl (fun h => by rw [(fun _ => k36) h]; decide) ⟨Nat.le_of_ble_eq_true rfl, Nat.le_of_ble_eq_true rfl⟩ rfl (Nat.le_of_ble_eq_true rfl) hl.1.1 dX1_let_36 (fun u36 σ36 q36 => ?_)
    show tm_J p l e R s m args below meth c K tm_xC 0 _ _ (F0 m 39 ls [tm_rv K n31, tm_rv K v1, tm_rv K 0])
    refine tm_goto (tgt := 47) cx dX1_let_39 (by decide) ?_
    exact wc_let_J47 cx v1 n31 _ _ g1 p31 (tm_has_sub hl [] rfl)
def fc_let (σ : tm_S) : tm_R :=
  tm_bd (fc_neededName σ) fun u1 σ1 =>
  tm_bd (fc_need σ1) fun u6 σ6 =>
  if u6 = 3133 then
    tm_bd (fc_need σ6) fun u18 σ18 =>
    fc_let_J22 u1 u18 σ18
  else
    fc_let_J22 u1 u6 σ6
theorem tm_fits_X1_let (K : tm_K) : (lg_sl [tm_rv K 0]).length ≤ 1 := (tm_sl_r _ _ _ _ (tm_sl_n _))
theorem cc_let (K : tm_K) (l : Launch) (hst : l.stackTraces = false) : tm_ct K tm_xC l yX1_let cX1_let 3 none 0 [tm_rv K 0] (fc_let) 14 341 := by
  refine tm_ct_of hst (by decide +kernel) (Nat.le_trans (tm_fits_X1_let K) (Nat.le_of_ble_eq_true rfl)) ?_
  intro p e R s m args below meth c cx σ ls hl0
  have hl : tm_has 0 ls 3 [(0, tm_rv K 0)] := ⟨by
    have h9 := hl0
    simp only [tm_args_r, tm_args_n, Nat.zero_add, Nat.reduceAdd] at h9
    exact h9, by
    intro q hq
    simp only [List.mem_cons, List.not_mem_nil, or_false] at hq
    rcases hq with rfl
    · exact Or.inl (tm_rv_cat K 0)⟩
  clear hl0
  unfold fc_let
  refine tm_aload_n cx dX1_let_0 (tm_has_at hl 0 rfl) ?_
  refine tm_callV (n := 0) cx (cc_neededName K l (tm_hst cx)) (lw_V q868 q870 qs42 q95 q871) ⟨rfl, by decide +kernel, by decide +kernel, by decide +kernel⟩ rfl tm_cd_X1 (fun h => (tm_hC_0 h).1) ⟨Nat.le_of_ble_eq_true rfl, Nat.le_of_ble_eq_true rfl⟩ rfl (Nat.le_of_ble_eq_true rfl) hl.1.1 dX1_let_1 (fun u1 σ1 q1 => ?_)
  show tm_J p l e R s m args below meth c K tm_xC 0 _ _ (F0 m 4 ls [tm_rv K u1])
  refine tm_astore_n (lv' := [(1, tm_rv K u1), (0, tm_rv K 0)]) cx dX1_let_4 hl (by decide) (by decide) rfl (fun ls hl => ?_)
  refine tm_aload_n cx dX1_let_5 (tm_has_at hl 1 rfl) ?_
  refine tm_callV (n := 0) cx (cc_need K l (tm_hst cx)) (lw_V q686 q688 qs19 q95 q689) ⟨rfl, by decide +kernel, by decide +kernel, by decide +kernel⟩ rfl tm_cd_X1 (fun h => (tm_hC_0 h).1) ⟨Nat.le_of_ble_eq_true rfl, Nat.le_of_ble_eq_true rfl⟩ rfl (Nat.le_of_ble_eq_true rfl) hl.1.1 dX1_let_6 (fun u6 σ6 q6 => ?_)
  show tm_J p l e R s m args below meth c K tm_xC 0 _ _ (F0 m 9 ls [tm_iv u6])
  refine tm_istore_n (lv' := [(2, tm_iv u6), (1, tm_rv K u1), (0, tm_rv K 0)]) cx dX1_let_9 hl (by decide) (by decide) rfl (fun ls hl => ?_)
  refine tm_iload_n cx dX1_let_10 (tm_has_at hl 0 rfl) ?_
  refine tm_sipush cx dX1_let_11 (by decide) ?_
  refine tm_icmp_ne (tgt := 22) cx q6 (by decide) dX1_let_14 (by decide) (fun c14 => ?_) (fun c14 => ?_)
  · refine tm_aload_n cx dX1_let_17 (tm_has_at hl 2 rfl) ?_
    refine tm_callV (n := 0) cx (cc_need K l (tm_hst cx)) (lw_V q686 q688 qs19 q95 q689) ⟨rfl, by decide +kernel, by decide +kernel, by decide +kernel⟩ rfl tm_cd_X1 (fun h => (tm_hC_0 h).1) ⟨Nat.le_of_ble_eq_true rfl, Nat.le_of_ble_eq_true rfl⟩ rfl (Nat.le_of_ble_eq_true rfl) hl.1.1 dX1_let_18 (fun u18 σ18 q18 => ?_)
    show tm_J p l e R s m args below meth c K tm_xC 0 _ _ (F0 m 21 ls [tm_iv u18])
    refine tm_istore_n (lv' := [(2, tm_iv u18), (1, tm_rv K u1), (0, tm_rv K 0)]) cx dX1_let_21 hl (by decide) (by decide) rfl (fun ls hl => ?_)
    exact wc_let_J22 cx u1 u18 _ _ q1 q18 (tm_has_sub hl [2, 1, 0] rfl)
  · exact wc_let_J22 cx u1 u6 _ _ q1 q6 (tm_has_sub hl [2, 1, 0] rfl)
def fc_isDigit (a1 : Int) (σ : tm_S) : tm_R :=
  tm_bd (fc_isOf a1 12 σ) fun u3 σ3 =>
  if u3 = 0 then
    tm_rt 0 σ3
  else
    if (a1 % 256) < 48 then
      tm_rt 0 σ3
    else
      if 57 < (a1 % 256) then
        tm_rt 0 σ3
      else
        tm_rt 1 σ3
theorem tm_fits_X1_isDigit (K : tm_K) (a1 : Int) : (lg_sl [tm_iv a1]).length ≤ 1 := (tm_sl_i _ _ _ (tm_sl_n _))
theorem cc_isDigit (K : tm_K) (l : Launch) (hst : l.stackTraces = false) (a1 : Int) (g1 : tm_in a1) : tm_ct K tm_xC l yX1_isDigit cX1_isDigit 1 (some .boolean) 1 [tm_iv a1] (fc_isDigit a1) 2 41 := by
  refine tm_ct_of hst (by decide +kernel) (Nat.le_trans (tm_fits_X1_isDigit K a1) (Nat.le_of_ble_eq_true rfl)) ?_
  intro p e R s m args below meth c cx σ ls hl0
  have hl : tm_has 0 ls 1 [(0, tm_iv a1)] := ⟨by
    have h9 := hl0
    simp only [tm_args_i, tm_args_n, Nat.zero_add, Nat.reduceAdd] at h9
    exact h9, by
    intro q hq
    simp only [List.mem_cons, List.not_mem_nil, or_false] at hq
    rcases hq with rfl
    · exact Or.inl rfl⟩
  clear hl0
  unfold fc_isDigit
  refine tm_iload_n cx dX1_isDigit_0 (tm_has_at hl 0 rfl) ?_
  refine tm_bipush cx dX1_isDigit_1 (by decide) ?_
  refine tm_callS (n := 2) cx (cc_isOf K l (tm_hst cx) a1 g1 12 (by decide)) (lw_S q811 q812 q95 q813) ⟨by decide +kernel, by decide +kernel, by decide +kernel⟩ rfl ⟨Nat.le_of_ble_eq_true rfl, Nat.le_of_ble_eq_true rfl⟩ rfl (Nat.le_of_ble_eq_true rfl) hl.1.1 dX1_isDigit_3 (fun u3 σ3 q3 => ?_)
  show tm_J p l e R s m args below meth c K tm_xC 1 _ _ (F0 m 6 ls [tm_iv u3])
  refine tm_if_eq (tgt := 33) cx q3 dX1_isDigit_6 (by decide) (fun c6 => ?_) (fun c6 => ?_)
  · refine tm_iconst cx dX1_isDigit_33 ?_
    exact tm_zreturn cx (by decide) dX1_isDigit_34
  · refine tm_iload_n cx dX1_isDigit_9 (tm_has_at hl 0 rfl) ?_
    refine tm_sipush cx dX1_isDigit_10 (by decide) ?_
    refine tm_iand255 cx g1 dX1_isDigit_13 (fun q13 => ?_)
    refine tm_bipush cx dX1_isDigit_14 (by decide) ?_
    refine tm_icmp_lt (tgt := 33) cx q13 (by decide) dX1_isDigit_16 (by decide) (fun c16 => ?_) (fun c16 => ?_)
    · refine tm_iconst cx dX1_isDigit_33 ?_
      exact tm_zreturn cx (by decide) dX1_isDigit_34
    · refine tm_iload_n cx dX1_isDigit_19 (tm_has_at hl 0 rfl) ?_
      refine tm_sipush cx dX1_isDigit_20 (by decide) ?_
      refine tm_iand255 cx g1 dX1_isDigit_23 (fun q23 => ?_)
      refine tm_bipush cx dX1_isDigit_24 (by decide) ?_
      refine tm_icmp_gt (tgt := 33) cx q23 (by decide) dX1_isDigit_26 (by decide) (fun c26 => ?_) (fun c26 => ?_)
      · refine tm_iconst cx dX1_isDigit_33 ?_
        exact tm_zreturn cx (by decide) dX1_isDigit_34
      · refine tm_iconst cx dX1_isDigit_29 ?_
        refine tm_goto (tgt := 34) cx dX1_isDigit_30 (by decide) ?_
        exact tm_zreturn cx (by decide) dX1_isDigit_34
def fc_back_J15 (v1 : Int) (σ : tm_S) : tm_R :=
  tm_gs v1 <|
  tm_gx (tm_f σ 10 0) 300 <|
  tm_gs v1 <|
  tm_gi ((tm_f (tm_wa σ 109 (tm_f σ 10 0) v1) 10 0) + 1) <|
  tm_rt 0 (tm_wf (tm_wa σ 109 (tm_f σ 10 0) v1) 10 0 ((tm_f (tm_wa σ 109 (tm_f σ 10 0) v1) 10 0) + 1))
theorem wc_back_J15 {p : Program} {l : Launch} {e : Env} {R : Room} {s : State} {m : MethodId} {args : Array Value} {below : List Frame} {meth : Method} {c : Code} {K : tm_K} (cx : tm_C p l R s m args meth c K cX1_back 2 RX1 "back" none 7 121) (v1 : Int) (σ : tm_S) (ls : Array Slot) (g1 : tm_in v1) (hl : tm_has 0 ls 2 [(0, tm_rv K 0), (1, tm_iv v1)]) : tm_J p l e R s m args below meth c K tm_xC 0 (fc_back_J15 v1 σ) σ (F0 m 15 ls []) := by
  unfold fc_back_J15
  refine tm_aload_n cx dX1_back_15 (tm_has_at hl 0 rfl) ?_
  refine tg_X1_41 cx dX1_back_16 ?_
  refine tm_aload_n cx dX1_back_19 (tm_has_at hl 0 rfl) ?_
  refine tg_X1_118 cx dX1_back_20 (fun q20 => ?_)
  refine tm_iload_n cx dX1_back_23 (tm_has_at hl 1 rfl) ?_
  refine tm_i2s cx dX1_back_24 ?_
  refine tm_sast cx tm_famC tm_hC_109 q20 g1 dX1_back_25 ?_
  refine tm_aload_n cx dX1_back_26 (tm_has_at hl 0 rfl) ?_
  refine tm_dup_r cx dX1_back_27 ?_
  refine tg_X1_118 cx dX1_back_28 (fun q28 => ?_)
  refine tm_iconst cx dX1_back_31 ?_
  refine tm_iadd cx dX1_back_32 (fun q32 => ?_)
  refine tp_X1_118 cx q32 dX1_back_33 ?_
  exact tm_vreturn cx dX1_back_36
def fc_back (a1 : Int) (σ : tm_S) : tm_R :=
  if (tm_f σ 10 0) = 300 then
    tm_bd (fc_fail 5 σ) fun _ _ => none
  else
    fc_back_J15 a1 σ
theorem tm_fits_X1_back (K : tm_K) (a1 : Int) : (lg_sl [tm_rv K 0, tm_iv a1]).length ≤ 2 := (tm_sl_r _ _ _ _ (tm_sl_i _ _ _ (tm_sl_n _)))
theorem cc_back (K : tm_K) (l : Launch) (hst : l.stackTraces = false) (a1 : Int) (g1 : tm_in a1) : tm_ct K tm_xC l yX1_back cX1_back 2 none 0 [tm_rv K 0, tm_iv a1] (fc_back a1) 7 121 := by
  refine tm_ct_of hst (by decide +kernel) (Nat.le_trans (tm_fits_X1_back K a1) (Nat.le_of_ble_eq_true rfl)) ?_
  intro p e R s m args below meth c cx σ ls hl0
  have hl : tm_has 0 ls 2 [(0, tm_rv K 0), (1, tm_iv a1)] := ⟨by
    have h9 := hl0
    simp only [tm_args_r, tm_args_i, tm_args_n, Nat.zero_add, Nat.reduceAdd] at h9
    exact h9, by
    intro q hq
    simp only [List.mem_cons, List.not_mem_nil, or_false] at hq
    rcases hq with rfl | rfl
    · exact Or.inl (tm_rv_cat K 0)
    · exact Or.inl rfl⟩
  clear hl0
  unfold fc_back
  refine tm_aload_n cx dX1_back_0 (tm_has_at hl 0 rfl) ?_
  refine tg_X1_118 cx dX1_back_1 (fun q1 => ?_)
  refine tm_sipush cx dX1_back_4 (by decide) ?_
  refine tm_icmp_ne (tgt := 15) cx q1 (by decide) dX1_back_7 (by decide) (fun c7 => ?_) (fun c7 => ?_)
  · refine tm_aload_n cx dX1_back_10 (tm_has_at hl 0 rfl) ?_
    refine tm_iconst cx dX1_back_11 ?_
    refine tm_callV (n := 1) cx (cc_fail K l (tm_hst cx) 5 (by decide)) (lw_V q580 q582 qs10 q95 q583) ⟨rfl, by decide +kernel, by decide +kernel, by decide +kernel⟩ rfl tm_cd_X1 (fun h => (tm_hC_0 h).1) ⟨Nat.le_of_ble_eq_true rfl, Nat.le_of_ble_eq_true rfl⟩ rfl (Nat.le_of_ble_eq_true rfl) hl.1.1 dX1_back_12 (fun _ _ _ => ?_)
    exact tm_none
  · exact wc_back_J15 cx a1 _ _ g1 (tm_has_sub hl [0, 1] rfl)
def fc_catcode_J141 (v2 : Int) (v4 : Int) (σ : tm_S) : tm_R :=
  tm_bd (fc_keep (-1) v2 σ) fun u144 σ144 =>
  tm_gb v4 <|
  tm_gx v2 128 <|
  tm_gb v4 <|
  tm_rt 0 (tm_wa σ144 104 v2 v4)
theorem wc_catcode_J141 {p : Program} {l : Launch} {e : Env} {R : Room} {s : State} {m : MethodId} {args : Array Value} {below : List Frame} {meth : Method} {c : Code} {K : tm_K} (cx : tm_C p l R s m args meth c K cX1_catcode 6 RX1 "catcode" none 13 320) (v2 : Int) (v4 : Int) (σ : tm_S) (ls : Array Slot) (g2 : tm_in v2) (g4 : tm_in v4) (hl : tm_has 0 ls 6 [(0, tm_rv K 0), (2, tm_iv v2), (4, tm_iv v4)]) : tm_J p l e R s m args below meth c K tm_xC 0 (fc_catcode_J141 v2 v4 σ) σ (F0 m 141 ls []) := by
  unfold fc_catcode_J141
  refine tm_aload_n cx dX1_catcode_141 (tm_has_at hl 0 rfl) ?_
  refine tm_null cx dX1_catcode_142 ?_
  refine tm_iload_n cx dX1_catcode_143 (tm_has_at hl 1 rfl) ?_
  refine tm_callV (n := 2) cx (cc_keep K l (tm_hst cx) (-1) (by decide) v2 g2) (lw_V q715 q717 qs25 q95 q718) ⟨rfl, by decide +kernel, by decide +kernel, by decide +kernel⟩ rfl tm_cd_X1 (fun h => (tm_hC_0 h).1) ⟨Nat.le_of_ble_eq_true rfl, Nat.le_of_ble_eq_true rfl⟩ rfl (Nat.le_of_ble_eq_true rfl) hl.1.1 dX1_catcode_144 (fun u144 σ144 q144 => ?_)
  show tm_J p l e R s m args below meth c K tm_xC 0 _ _ (F0 m 147 ls [])
  refine tm_aload_n cx dX1_catcode_147 (tm_has_at hl 0 rfl) ?_
  refine tg_X1_13 cx dX1_catcode_148 ?_
  refine tm_iload_n cx dX1_catcode_151 (tm_has_at hl 1 rfl) ?_
  refine tm_iload cx dX1_catcode_152 (tm_has_at hl 2 rfl) ?_
  refine tm_i2b cx dX1_catcode_154 ?_
  refine tm_bast cx tm_famC tm_hC_104 g2 g4 dX1_catcode_155 ?_
  exact tm_vreturn cx dX1_catcode_156
def fc_catcode_J129 (v2 : Int) (v4 : Int) (σ : tm_S) : tm_R :=
  if 15 < v4 then
    tm_bd (fc_fail 4 σ) fun _ _ => none
  else
    fc_catcode_J141 v2 v4 σ
theorem wc_catcode_J129 {p : Program} {l : Launch} {e : Env} {R : Room} {s : State} {m : MethodId} {args : Array Value} {below : List Frame} {meth : Method} {c : Code} {K : tm_K} (cx : tm_C p l R s m args meth c K cX1_catcode 6 RX1 "catcode" none 13 320) (v2 : Int) (v4 : Int) (σ : tm_S) (ls : Array Slot) (g2 : tm_in v2) (g4 : tm_in v4) (hl : tm_has 0 ls 6 [(0, tm_rv K 0), (2, tm_iv v2), (4, tm_iv v4)]) : tm_J p l e R s m args below meth c K tm_xC 0 (fc_catcode_J129 v2 v4 σ) σ (F0 m 129 ls []) := by
  unfold fc_catcode_J129
  refine tm_iload cx dX1_catcode_129 (tm_has_at hl 2 rfl) ?_
  refine tm_bipush cx dX1_catcode_131 (by decide) ?_
  refine tm_icmp_le (tgt := 141) cx g4 (by decide) dX1_catcode_133 (by decide) (fun c133 => ?_) (fun c133 => ?_)
  · refine tm_aload_n cx dX1_catcode_136 (tm_has_at hl 0 rfl) ?_
    refine tm_iconst cx dX1_catcode_137 ?_
    refine tm_callV (n := 1) cx (cc_fail K l (tm_hst cx) 4 (by decide)) (lw_V q580 q582 qs10 q95 q583) ⟨rfl, by decide +kernel, by decide +kernel, by decide +kernel⟩ rfl tm_cd_X1 (fun h => (tm_hC_0 h).1) ⟨Nat.le_of_ble_eq_true rfl, Nat.le_of_ble_eq_true rfl⟩ rfl (Nat.le_of_ble_eq_true rfl) hl.1.1 dX1_catcode_138 (fun _ _ _ => ?_)
    exact tm_none
  · exact wc_catcode_J141 cx v2 v4 _ _ g2 g4 (tm_has_sub hl [0, 1, 2] rfl)
def fc_catcode_J73 (v2 : Int) (v3 : Int) (σ : tm_S) : tm_R :=
  tm_gi ((v3 % 256) - 48) <|
  tm_lt ((v3 % 256) - 48) fun x81 =>
  tm_bd (fc_get σ) fun u84 σ84 =>
  tm_bd (fc_isDigit u84 σ84) fun u91 σ91 =>
  if u91 = 0 then
    if u84 = (-1) then
      fc_catcode_J129 v2 x81 σ91
    else
      tm_bd (fc_back u84 σ91) fun u126 σ126 =>
      fc_catcode_J129 v2 x81 σ126
  else
    tm_gi (10 * x81) <|
    tm_gi ((10 * x81) + (u84 % 256)) <|
    tm_gi (((10 * x81) + (u84 % 256)) - 48) <|
    tm_lt (((10 * x81) + (u84 % 256)) - 48) fun x112 =>
    fc_catcode_J129 v2 x112 σ91
theorem wc_catcode_J73 {p : Program} {l : Launch} {e : Env} {R : Room} {s : State} {m : MethodId} {args : Array Value} {below : List Frame} {meth : Method} {c : Code} {K : tm_K} (cx : tm_C p l R s m args meth c K cX1_catcode 6 RX1 "catcode" none 13 320) (v2 : Int) (v3 : Int) (σ : tm_S) (ls : Array Slot) (g2 : tm_in v2) (g3 : tm_in v3) (hl : tm_has 0 ls 6 [(0, tm_rv K 0), (2, tm_iv v2), (3, tm_iv v3)]) : tm_J p l e R s m args below meth c K tm_xC 0 (fc_catcode_J73 v2 v3 σ) σ (F0 m 73 ls []) := by
  unfold fc_catcode_J73
  refine tm_iload_n cx dX1_catcode_73 (tm_has_at hl 2 rfl) ?_
  refine tm_sipush cx dX1_catcode_74 (by decide) ?_
  refine tm_iand255 cx g3 dX1_catcode_77 (fun q77 => ?_)
  refine tm_bipush cx dX1_catcode_78 (by decide) ?_
  refine tm_isub cx dX1_catcode_80 (fun q80 => ?_)
  refine tm_lt_ q80 (fun x81 q81 => ?_)
  refine tm_istore (lv' := [(4, tm_iv x81), (0, tm_rv K 0), (2, tm_iv v2), (3, tm_iv v3)]) cx dX1_catcode_81 hl (by decide) (by decide) rfl (fun ls hl => ?_)
  refine tm_aload_n cx dX1_catcode_83 (tm_has_at hl 1 rfl) ?_
  refine tm_callV (n := 0) cx (cc_get K l (tm_hst cx)) (lw_V q568 q570 qs7 q95 q571) ⟨rfl, by decide +kernel, by decide +kernel, by decide +kernel⟩ rfl tm_cd_X1 (fun h => (tm_hC_0 h).1) ⟨Nat.le_of_ble_eq_true rfl, Nat.le_of_ble_eq_true rfl⟩ rfl (Nat.le_of_ble_eq_true rfl) hl.1.1 dX1_catcode_84 (fun u84 σ84 q84 => ?_)
  show tm_J p l e R s m args below meth c K tm_xC 0 _ _ (F0 m 87 ls [tm_iv u84])
  refine tm_istore (lv' := [(5, tm_iv u84), (4, tm_iv x81), (0, tm_rv K 0), (2, tm_iv v2), (3, tm_iv v3)]) cx dX1_catcode_87 hl (by decide) (by decide) rfl (fun ls hl => ?_)
  refine tm_iload cx dX1_catcode_89 (tm_has_at hl 0 rfl) ?_
  refine tm_callS (n := 1) cx (cc_isDigit K l (tm_hst cx) u84 q84) (lw_S q929 q930 q95 q931) ⟨by decide +kernel, by decide +kernel, by decide +kernel⟩ rfl ⟨Nat.le_of_ble_eq_true rfl, Nat.le_of_ble_eq_true rfl⟩ rfl (Nat.le_of_ble_eq_true rfl) hl.1.1 dX1_catcode_91 (fun u91 σ91 q91 => ?_)
  show tm_J p l e R s m args below meth c K tm_xC 0 _ _ (F0 m 94 ls [tm_iv u91])
  refine tm_if_eq (tgt := 117) cx q91 dX1_catcode_94 (by decide) (fun c94 => ?_) (fun c94 => ?_)
  · refine tm_iload cx dX1_catcode_117 (tm_has_at hl 0 rfl) ?_
    refine tm_iconst cx dX1_catcode_119 ?_
    refine tm_icmp_eq (tgt := 129) cx q84 (by decide) dX1_catcode_120 (by decide) (fun c120 => ?_) (fun c120 => ?_)
    · exact wc_catcode_J129 cx v2 x81 _ _ g2 q81 (tm_has_sub hl [2, 3, 1] rfl)
    · refine tm_aload_n cx dX1_catcode_123 (tm_has_at hl 2 rfl) ?_
      refine tm_iload cx dX1_catcode_124 (tm_has_at hl 0 rfl) ?_
      refine tm_callV (n := 1) cx (cc_back K l (tm_hst cx) u84 q84) (lw_V q690 q692 qs20 q95 q693) ⟨rfl, by decide +kernel, by decide +kernel, by decide +kernel⟩ rfl tm_cd_X1 (fun h => (tm_hC_0 h).1) ⟨Nat.le_of_ble_eq_true rfl, Nat.le_of_ble_eq_true rfl⟩ rfl (Nat.le_of_ble_eq_true rfl) hl.1.1 dX1_catcode_126 (fun u126 σ126 q126 => ?_)
      show tm_J p l e R s m args below meth c K tm_xC 0 _ _ (F0 m 129 ls [])
      exact wc_catcode_J129 cx v2 x81 _ _ g2 q81 (tm_has_sub hl [2, 3, 1] rfl)
  · refine tm_bipush cx dX1_catcode_97 (by decide) ?_
    refine tm_iload cx dX1_catcode_99 (tm_has_at hl 1 rfl) ?_
    refine tm_imul cx dX1_catcode_101 (fun q101 => ?_)
    refine tm_iload cx dX1_catcode_102 (tm_has_at hl 0 rfl) ?_
    refine tm_sipush cx dX1_catcode_104 (by decide) ?_
    refine tm_iand255 cx q84 dX1_catcode_107 (fun q107 => ?_)
    refine tm_iadd cx dX1_catcode_108 (fun q108 => ?_)
    refine tm_bipush cx dX1_catcode_109 (by decide) ?_
    refine tm_isub cx dX1_catcode_111 (fun q111 => ?_)
    refine tm_lt_ q111 (fun x112 q112 => ?_)
    refine tm_istore (lv' := [(4, tm_iv x112), (5, tm_iv u84), (0, tm_rv K 0), (2, tm_iv v2), (3, tm_iv v3)]) cx dX1_catcode_112 hl (by decide) (by decide) rfl (fun ls hl => ?_)
    refine tm_goto (tgt := 129) cx dX1_catcode_114 (by decide) ?_
    exact wc_catcode_J129 cx v2 x112 _ _ g2 q112 (tm_has_sub hl [2, 3, 0] rfl)
def fc_catcode_J55 (vs0 : Int) (σ : tm_S) : tm_R :=
  tm_bd (fc_need σ) fun u57 σ57 =>
  tm_bd (fc_isDigit u57 σ57) fun u62 σ62 =>
  if u62 = 0 then
    tm_bd (fc_fail 4 σ62) fun _ _ => none
  else
    fc_catcode_J73 vs0 u57 σ62
theorem wc_catcode_J55 {p : Program} {l : Launch} {e : Env} {R : Room} {s : State} {m : MethodId} {args : Array Value} {below : List Frame} {meth : Method} {c : Code} {K : tm_K} (cx : tm_C p l R s m args meth c K cX1_catcode 6 RX1 "catcode" none 13 320) (vs0 : Int) (σ : tm_S) (ls : Array Slot) (gs0 : tm_in vs0) (hl : tm_has 0 ls 6 [(0, tm_rv K 0)]) : tm_J p l e R s m args below meth c K tm_xC 0 (fc_catcode_J55 vs0 σ) σ (F0 m 55 ls [tm_iv vs0]) := by
  unfold fc_catcode_J55
  refine tm_istore_n (lv' := [(2, tm_iv vs0), (0, tm_rv K 0)]) cx dX1_catcode_55 hl (by decide) (by decide) rfl (fun ls hl => ?_)
  refine tm_aload_n cx dX1_catcode_56 (tm_has_at hl 1 rfl) ?_
  refine tm_callV (n := 0) cx (cc_need K l (tm_hst cx)) (lw_V q686 q688 qs19 q95 q689) ⟨rfl, by decide +kernel, by decide +kernel, by decide +kernel⟩ rfl tm_cd_X1 (fun h => (tm_hC_0 h).1) ⟨Nat.le_of_ble_eq_true rfl, Nat.le_of_ble_eq_true rfl⟩ rfl (Nat.le_of_ble_eq_true rfl) hl.1.1 dX1_catcode_57 (fun u57 σ57 q57 => ?_)
  show tm_J p l e R s m args below meth c K tm_xC 0 _ _ (F0 m 60 ls [tm_iv u57])
  refine tm_istore_n (lv' := [(3, tm_iv u57), (2, tm_iv vs0), (0, tm_rv K 0)]) cx dX1_catcode_60 hl (by decide) (by decide) rfl (fun ls hl => ?_)
  refine tm_iload_n cx dX1_catcode_61 (tm_has_at hl 0 rfl) ?_
  refine tm_callS (n := 1) cx (cc_isDigit K l (tm_hst cx) u57 q57) (lw_S q929 q930 q95 q931) ⟨by decide +kernel, by decide +kernel, by decide +kernel⟩ rfl ⟨Nat.le_of_ble_eq_true rfl, Nat.le_of_ble_eq_true rfl⟩ rfl (Nat.le_of_ble_eq_true rfl) hl.1.1 dX1_catcode_62 (fun u62 σ62 q62 => ?_)
  show tm_J p l e R s m args below meth c K tm_xC 0 _ _ (F0 m 65 ls [tm_iv u62])
  refine tm_if_ne (tgt := 73) cx q62 dX1_catcode_65 (by decide) (fun c65 => ?_) (fun c65 => ?_)
  · refine tm_aload_n cx dX1_catcode_68 (tm_has_at hl 2 rfl) ?_
    refine tm_iconst cx dX1_catcode_69 ?_
    refine tm_callV (n := 1) cx (cc_fail K l (tm_hst cx) 4 (by decide)) (lw_V q580 q582 qs10 q95 q583) ⟨rfl, by decide +kernel, by decide +kernel, by decide +kernel⟩ rfl tm_cd_X1 (fun h => (tm_hC_0 h).1) ⟨Nat.le_of_ble_eq_true rfl, Nat.le_of_ble_eq_true rfl⟩ rfl (Nat.le_of_ble_eq_true rfl) hl.1.1 dX1_catcode_70 (fun _ _ _ => ?_)
    exact tm_none
  · exact wc_catcode_J73 cx vs0 u57 _ _ gs0 q57 (tm_has_sub hl [2, 1, 0] rfl)
def fc_catcode_J30 (v1 : Int) (σ : tm_S) : tm_R :=
  tm_bd (fc_isCharacter v1 σ) fun u31 σ31 =>
  if u31 = 0 then
    tm_bd (fc_nameOf v1 σ31) fun u47 σ47 =>
    tm_gk (tm_k σ47 u47) 4 <|
    tm_gk (tm_k σ47 (tm_f σ47 192 u47)) 20 <|
    tm_gx 0 (tm_n σ47 (tm_f σ47 192 u47)) <|
    fc_catcode_J55 (tm_a σ47 (tm_f σ47 192 u47) 0) σ47
  else
    fc_catcode_J55 (v1 % 256) σ31
theorem wc_catcode_J30 {p : Program} {l : Launch} {e : Env} {R : Room} {s : State} {m : MethodId} {args : Array Value} {below : List Frame} {meth : Method} {c : Code} {K : tm_K} (cx : tm_C p l R s m args meth c K cX1_catcode 6 RX1 "catcode" none 13 320) (v1 : Int) (σ : tm_S) (ls : Array Slot) (g1 : tm_in v1) (hl : tm_has 0 ls 6 [(0, tm_rv K 0), (1, tm_iv v1)]) : tm_J p l e R s m args below meth c K tm_xC 0 (fc_catcode_J30 v1 σ) σ (F0 m 30 ls []) := by
  unfold fc_catcode_J30
  refine tm_iload_n cx dX1_catcode_30 (tm_has_at hl 1 rfl) ?_
  refine tm_callS (n := 1) cx (cc_isCharacter K l (tm_hst cx) v1 g1) (lw_S q708 q709 q95 q710) ⟨by decide +kernel, by decide +kernel, by decide +kernel⟩ rfl ⟨Nat.le_of_ble_eq_true rfl, Nat.le_of_ble_eq_true rfl⟩ rfl (Nat.le_of_ble_eq_true rfl) hl.1.1 dX1_catcode_31 (fun u31 σ31 q31 => ?_)
  show tm_J p l e R s m args below meth c K tm_xC 0 _ _ (F0 m 34 ls [tm_iv u31])
  refine tm_if_eq (tgt := 45) cx q31 dX1_catcode_34 (by decide) (fun c34 => ?_) (fun c34 => ?_)
  · refine tm_aload_n cx dX1_catcode_45 (tm_has_at hl 0 rfl) ?_
    refine tm_iload_n cx dX1_catcode_46 (tm_has_at hl 1 rfl) ?_
    refine tm_callV (n := 1) cx (cc_nameOf K l (tm_hst cx) v1 g1) (lw_V q613 q615 qs16 q95 q616) ⟨rfl, by decide +kernel, by decide +kernel, by decide +kernel⟩ rfl tm_cd_X1 (fun h => (tm_hC_0 h).1) ⟨Nat.le_of_ble_eq_true rfl, Nat.le_of_ble_eq_true rfl⟩ rfl (Nat.le_of_ble_eq_true rfl) hl.1.1 dX1_catcode_47 (fun u47 σ47 q47 => ?_)
    show tm_J p l e R s m args below meth c K tm_xC 0 _ _ (F0 m 50 ls [tm_rv K u47])
    refine tm_gk_ (fun k50 => ?_)
    refine tg_X1_247 cx (fun _ => k50) dX1_catcode_50 (fun q50 => ?_)
    refine tm_iconst cx dX1_catcode_53 ?_
    refine tm_gk_ (fun k54 => ?_)
    refine tm_bald cx (fun _ => ⟨k54, rfl⟩) (by decide) dX1_catcode_54 (fun i54 q54 => ?_)
    exact wc_catcode_J55 cx (tm_a σ47 (tm_f σ47 192 u47) 0) _ _ q54 (tm_has_sub hl [0] rfl)
  · refine tm_iload_n cx dX1_catcode_37 (tm_has_at hl 1 rfl) ?_
    refine tm_sipush cx dX1_catcode_38 (by decide) ?_
    refine tm_iand255 cx g1 dX1_catcode_41 (fun q41 => ?_)
    refine tm_goto (tgt := 55) cx dX1_catcode_42 (by decide) ?_
    exact wc_catcode_J55 cx (v1 % 256) _ _ q41 (tm_has_sub hl [0] rfl)
def fc_catcode (σ : tm_S) : tm_R :=
  tm_bd (fc_need σ) fun u1 σ1 =>
  tm_bd (fc_isCharacter u1 σ1) fun u6 σ6 =>
  if u6 = 0 then
    tm_bd (fc_nameOf u1 σ6) fun u14 σ14 =>
    tm_gk (tm_k σ14 u14) 4 <|
    tm_gk (tm_k σ14 (tm_f σ14 192 u14)) 20 <|
    if 1 < (tm_n σ14 (tm_f σ14 192 u14)) then
      tm_bd (fc_fail 4 σ14) fun _ _ => none
    else
      fc_catcode_J30 u1 σ14
  else
    fc_catcode_J30 u1 σ6
theorem tm_fits_X1_catcode (K : tm_K) : (lg_sl [tm_rv K 0]).length ≤ 1 := (tm_sl_r _ _ _ _ (tm_sl_n _))
theorem cc_catcode (K : tm_K) (l : Launch) (hst : l.stackTraces = false) : tm_ct K tm_xC l yX1_catcode cX1_catcode 6 none 0 [tm_rv K 0] (fc_catcode) 13 320 := by
  refine tm_ct_of hst (by decide +kernel) (Nat.le_trans (tm_fits_X1_catcode K) (Nat.le_of_ble_eq_true rfl)) ?_
  intro p e R s m args below meth c cx σ ls hl0
  have hl : tm_has 0 ls 6 [(0, tm_rv K 0)] := ⟨by
    have h9 := hl0
    simp only [tm_args_r, tm_args_n, Nat.zero_add, Nat.reduceAdd] at h9
    exact h9, by
    intro q hq
    simp only [List.mem_cons, List.not_mem_nil, or_false] at hq
    rcases hq with rfl
    · exact Or.inl (tm_rv_cat K 0)⟩
  clear hl0
  unfold fc_catcode
  refine tm_aload_n cx dX1_catcode_0 (tm_has_at hl 0 rfl) ?_
  refine tm_callV (n := 0) cx (cc_need K l (tm_hst cx)) (lw_V q686 q688 qs19 q95 q689) ⟨rfl, by decide +kernel, by decide +kernel, by decide +kernel⟩ rfl tm_cd_X1 (fun h => (tm_hC_0 h).1) ⟨Nat.le_of_ble_eq_true rfl, Nat.le_of_ble_eq_true rfl⟩ rfl (Nat.le_of_ble_eq_true rfl) hl.1.1 dX1_catcode_1 (fun u1 σ1 q1 => ?_)
  show tm_J p l e R s m args below meth c K tm_xC 0 _ _ (F0 m 4 ls [tm_iv u1])
  refine tm_istore_n (lv' := [(1, tm_iv u1), (0, tm_rv K 0)]) cx dX1_catcode_4 hl (by decide) (by decide) rfl (fun ls hl => ?_)
  refine tm_iload_n cx dX1_catcode_5 (tm_has_at hl 0 rfl) ?_
  refine tm_callS (n := 1) cx (cc_isCharacter K l (tm_hst cx) u1 q1) (lw_S q708 q709 q95 q710) ⟨by decide +kernel, by decide +kernel, by decide +kernel⟩ rfl ⟨Nat.le_of_ble_eq_true rfl, Nat.le_of_ble_eq_true rfl⟩ rfl (Nat.le_of_ble_eq_true rfl) hl.1.1 dX1_catcode_6 (fun u6 σ6 q6 => ?_)
  show tm_J p l e R s m args below meth c K tm_xC 0 _ _ (F0 m 9 ls [tm_iv u6])
  refine tm_if_ne (tgt := 30) cx q6 dX1_catcode_9 (by decide) (fun c9 => ?_) (fun c9 => ?_)
  · refine tm_aload_n cx dX1_catcode_12 (tm_has_at hl 1 rfl) ?_
    refine tm_iload_n cx dX1_catcode_13 (tm_has_at hl 0 rfl) ?_
    refine tm_callV (n := 1) cx (cc_nameOf K l (tm_hst cx) u1 q1) (lw_V q613 q615 qs16 q95 q616) ⟨rfl, by decide +kernel, by decide +kernel, by decide +kernel⟩ rfl tm_cd_X1 (fun h => (tm_hC_0 h).1) ⟨Nat.le_of_ble_eq_true rfl, Nat.le_of_ble_eq_true rfl⟩ rfl (Nat.le_of_ble_eq_true rfl) hl.1.1 dX1_catcode_14 (fun u14 σ14 q14 => ?_)
    show tm_J p l e R s m args below meth c K tm_xC 0 _ _ (F0 m 17 ls [tm_rv K u14])
    refine tm_gk_ (fun k17 => ?_)
    refine tg_X1_247 cx (fun _ => k17) dX1_catcode_17 (fun q17 => ?_)
    refine tm_gk_ (fun k20 => ?_)
    refine tm_alen cx (fun _ => ⟨k20, rfl⟩) (by decide) dX1_catcode_20 (fun q20 => ?_)
    refine tm_iconst cx dX1_catcode_21 ?_
    refine tm_icmp_le (tgt := 30) cx (tm_in0 q20) (by decide) dX1_catcode_22 (by decide) (fun c22 => ?_) (fun c22 => ?_)
    · refine tm_aload_n cx dX1_catcode_25 (tm_has_at hl 1 rfl) ?_
      refine tm_iconst cx dX1_catcode_26 ?_
      refine tm_callV (n := 1) cx (cc_fail K l (tm_hst cx) 4 (by decide)) (lw_V q580 q582 qs10 q95 q583) ⟨rfl, by decide +kernel, by decide +kernel, by decide +kernel⟩ rfl tm_cd_X1 (fun h => (tm_hC_0 h).1) ⟨Nat.le_of_ble_eq_true rfl, Nat.le_of_ble_eq_true rfl⟩ rfl (Nat.le_of_ble_eq_true rfl) hl.1.1 dX1_catcode_27 (fun _ _ _ => ?_)
      exact tm_none
    · exact wc_catcode_J30 cx u1 _ _ q1 (tm_has_sub hl [1, 0] rfl)
  · exact wc_catcode_J30 cx u1 _ _ q1 (tm_has_sub hl [1, 0] rfl)
def fc_mark_J21 (vs1 : Int) (σ : tm_S) : tm_R :=
  tm_bd (fc_back vs1 σ) fun u21 σ21 =>
  tm_rt 0 σ21
theorem wc_mark_J21 {p : Program} {l : Launch} {e : Env} {R : Room} {s : State} {m : MethodId} {args : Array Value} {below : List Frame} {meth : Method} {c : Code} {K : tm_K} (cx : tm_C p l R s m args meth c K cX1_mark 2 RX1 "mark" none 13 320) (vs1 : Int) (σ : tm_S) (ls : Array Slot) (gs1 : tm_in vs1) (hl : tm_has 0 ls 2 []) : tm_J p l e R s m args below meth c K tm_xC 0 (fc_mark_J21 vs1 σ) σ (F0 m 21 ls [tm_iv vs1, tm_rv K 0]) := by
  unfold fc_mark_J21
  refine tm_callV (n := 1) cx (cc_back K l (tm_hst cx) vs1 gs1) (lw_V q690 q692 qs20 q95 q693) ⟨rfl, by decide +kernel, by decide +kernel, by decide +kernel⟩ rfl tm_cd_X1 (fun h => (tm_hC_0 h).1) ⟨Nat.le_of_ble_eq_true rfl, Nat.le_of_ble_eq_true rfl⟩ rfl (Nat.le_of_ble_eq_true rfl) hl.1.1 dX1_mark_21 (fun u21 σ21 q21 => ?_)
  show tm_J p l e R s m args below meth c K tm_xC 0 _ _ (F0 m 24 ls [])
  exact tm_vreturn cx dX1_mark_24
def fc_mark (σ : tm_S) : tm_R :=
  tm_bd (fc_need σ) fun u1 σ1 =>
  tm_bd (fc_isExpandable u1 σ1) fun u8 σ8 =>
  if u8 = 0 then
    fc_mark_J21 u1 σ8
  else
    fc_mark_J21 (u1 - u1 % 2 + 1) σ8
theorem tm_fits_X1_mark (K : tm_K) : (lg_sl [tm_rv K 0]).length ≤ 1 := (tm_sl_r _ _ _ _ (tm_sl_n _))
theorem cc_mark (K : tm_K) (l : Launch) (hst : l.stackTraces = false) : tm_ct K tm_xC l yX1_mark cX1_mark 2 none 0 [tm_rv K 0] (fc_mark) 13 320 := by
  refine tm_ct_of hst (by decide +kernel) (Nat.le_trans (tm_fits_X1_mark K) (Nat.le_of_ble_eq_true rfl)) ?_
  intro p e R s m args below meth c cx σ ls hl0
  have hl : tm_has 0 ls 2 [(0, tm_rv K 0)] := ⟨by
    have h9 := hl0
    simp only [tm_args_r, tm_args_n, Nat.zero_add, Nat.reduceAdd] at h9
    exact h9, by
    intro q hq
    simp only [List.mem_cons, List.not_mem_nil, or_false] at hq
    rcases hq with rfl
    · exact Or.inl (tm_rv_cat K 0)⟩
  clear hl0
  unfold fc_mark
  refine tm_aload_n cx dX1_mark_0 (tm_has_at hl 0 rfl) ?_
  refine tm_callV (n := 0) cx (cc_need K l (tm_hst cx)) (lw_V q686 q688 qs19 q95 q689) ⟨rfl, by decide +kernel, by decide +kernel, by decide +kernel⟩ rfl tm_cd_X1 (fun h => (tm_hC_0 h).1) ⟨Nat.le_of_ble_eq_true rfl, Nat.le_of_ble_eq_true rfl⟩ rfl (Nat.le_of_ble_eq_true rfl) hl.1.1 dX1_mark_1 (fun u1 σ1 q1 => ?_)
  show tm_J p l e R s m args below meth c K tm_xC 0 _ _ (F0 m 4 ls [tm_iv u1])
  refine tm_istore_n (lv' := [(1, tm_iv u1), (0, tm_rv K 0)]) cx dX1_mark_4 hl (by decide) (by decide) rfl (fun ls hl => ?_)
  refine tm_aload_n cx dX1_mark_5 (tm_has_at hl 1 rfl) ?_
  refine tm_aload_n cx dX1_mark_6 (tm_has_at hl 1 rfl) ?_
  refine tm_iload_n cx dX1_mark_7 (tm_has_at hl 0 rfl) ?_
  refine tm_callV (n := 1) cx (cc_isExpandable K l (tm_hst cx) u1 q1) (lw_V q603 q605 qs14 q95 q606) ⟨rfl, by decide +kernel, by decide +kernel, by decide +kernel⟩ rfl tm_cd_X1 (fun h => (tm_hC_0 h).1) ⟨Nat.le_of_ble_eq_true rfl, Nat.le_of_ble_eq_true rfl⟩ rfl (Nat.le_of_ble_eq_true rfl) hl.1.1 dX1_mark_8 (fun u8 σ8 q8 => ?_)
  show tm_J p l e R s m args below meth c K tm_xC 0 _ _ (F0 m 11 ls [tm_iv u8, tm_rv K 0])
  refine tm_if_eq (tgt := 20) cx q8 dX1_mark_11 (by decide) (fun c11 => ?_) (fun c11 => ?_)
  · refine tm_iload_n cx dX1_mark_20 (tm_has_at hl 0 rfl) ?_
    exact wc_mark_J21 cx u1 _ _ q1 (tm_has_sub hl [] rfl)
  · refine tm_iload_n cx dX1_mark_14 (tm_has_at hl 0 rfl) ?_
    refine tm_iconst cx dX1_mark_15 ?_
    refine tm_ior1 cx q1 dX1_mark_16 (fun q16 => ?_)
    refine tm_goto (tgt := 21) cx dX1_mark_17 (by decide) ?_
    exact wc_mark_J21 cx (u1 - u1 % 2 + 1) _ _ q16 (tm_has_sub hl [] rfl)
def fc_told (a1 : Int) (σ : tm_S) : tm_R :=
  if a1 = 32 then
    tm_rt 2592 σ
  else
    tm_gi (a1 + 3072) <|
    tm_rt (a1 + 3072) σ
theorem tm_fits_X1_told (K : tm_K) (a1 : Int) : (lg_sl [tm_iv a1]).length ≤ 1 := (tm_sl_i _ _ _ (tm_sl_n _))
theorem cc_told (K : tm_K) (l : Launch) (hst : l.stackTraces = false) (a1 : Int) (g1 : tm_in a1) : tm_ct K tm_xC l yX1_told cX1_told 1 (some .int) 1 [tm_iv a1] (fc_told a1) 0 0 := by
  refine tm_ct_of hst (by decide +kernel) (Nat.le_trans (tm_fits_X1_told K a1) (Nat.le_of_ble_eq_true rfl)) ?_
  intro p e R s m args below meth c cx σ ls hl0
  have hl : tm_has 0 ls 1 [(0, tm_iv a1)] := ⟨by
    have h9 := hl0
    simp only [tm_args_i, tm_args_n, Nat.zero_add, Nat.reduceAdd] at h9
    exact h9, by
    intro q hq
    simp only [List.mem_cons, List.not_mem_nil, or_false] at hq
    rcases hq with rfl
    · exact Or.inl rfl⟩
  clear hl0
  unfold fc_told
  refine tm_iload_n cx dX1_told_0 (tm_has_at hl 0 rfl) ?_
  refine tm_bipush cx dX1_told_1 (by decide) ?_
  refine tm_icmp_ne (tgt := 12) cx g1 (by decide) dX1_told_3 (by decide) (fun c3 => ?_) (fun c3 => ?_)
  · refine tm_sipush cx dX1_told_6 (by decide) ?_
    refine tm_goto (tgt := 17) cx dX1_told_9 (by decide) ?_
    exact tm_ireturn cx (by decide) dX1_told_17
  · refine tm_iload_n cx dX1_told_12 (tm_has_at hl 0 rfl) ?_
    refine tm_sipush cx dX1_told_13 (by decide) ?_
    refine tm_iadd cx dX1_told_16 (fun q16 => ?_)
    exact tm_ireturn cx q16 dX1_told_17
def fc_tell_B39 (r39 : Int → Int → tm_S → tm_R) (v2 : Int) (v3 : Int) (σ : tm_S) : tm_R :=
  if v3 < 0 then
    tm_gk (tm_k σ v2) 4 <|
    if (tm_f σ 193 v2) = 0 then
      tm_bd (fc_told 92 σ) fun u72 σ72 =>
      tm_bd (fc_back u72 σ72) fun u75 σ75 =>
      tm_rt 0 σ75
    else
      tm_rt 0 σ
  else
    tm_gk (tm_k σ v2) 4 <|
    tm_gk (tm_k σ (tm_f σ 192 v2)) 20 <|
    tm_gx v3 (tm_n σ (tm_f σ 192 v2)) <|
    tm_bd (fc_told (tm_a σ (tm_f σ 192 v2) v3) σ) fun u50 σ50 =>
    tm_bd (fc_back u50 σ50) fun u53 σ53 =>
    tm_gi (v3 + (-1)) <|
    r39 v2 (v3 + (-1)) σ53
theorem wc_tell_B39 {p : Program} {l : Launch} {e : Env} {R : Room} {s : State} {m : MethodId} {args : Array Value} {below : List Frame} {meth : Method} {c : Code} {K : tm_K} {r39 : Int → Int → tm_S → tm_R} (cx : tm_C p l R s m args meth c K cX1_tell 4 RX1 "tell" none 13 320) (h39 : ∀ (v2 : Int) (v3 : Int) (τ : tm_S) (ls : Array Slot), tm_in v2 → tm_in v3 → tm_has 0 ls 4 [(0, tm_rv K 0), (2, tm_rv K v2), (3, tm_iv v3)] → tm_J p l e R s m args below meth c K tm_xC 0 (r39 v2 v3 τ) τ (F0 m 39 ls [])) (v2 : Int) (v3 : Int) (σ : tm_S) (ls : Array Slot) (g2 : tm_in v2) (g3 : tm_in v3) (hl : tm_has 0 ls 4 [(0, tm_rv K 0), (2, tm_rv K v2), (3, tm_iv v3)]) : tm_J p l e R s m args below meth c K tm_xC 0 (fc_tell_B39 r39 v2 v3 σ) σ (F0 m 39 ls []) := by
  unfold fc_tell_B39
  refine tm_iload_n cx dX1_tell_39 (tm_has_at hl 2 rfl) ?_
  refine tm_if_lt (tgt := 62) cx g3 dX1_tell_40 (by decide) (fun c40 => ?_) (fun c40 => ?_)
  · refine tm_aload_n cx dX1_tell_62 (tm_has_at hl 1 rfl) ?_
    refine tm_gk_ (fun k63 => ?_)
    refine tg_X1_248 cx (fun _ => k63) dX1_tell_63 (fun q63 => ?_)
    refine tm_if_ne (tgt := 78) cx q63 dX1_tell_66 (by decide) (fun c66 => ?_) (fun c66 => ?_)
    · refine tm_aload_n cx dX1_tell_69 (tm_has_at hl 0 rfl) ?_
      refine tm_bipush cx dX1_tell_70 (by decide) ?_
      refine tm_callS (n := 1) cx (cc_told K l (tm_hst cx) 92 (by decide)) (lw_S q723 q724 q95 q725) ⟨by decide +kernel, by decide +kernel, by decide +kernel⟩ rfl ⟨Nat.le_of_ble_eq_true rfl, Nat.le_of_ble_eq_true rfl⟩ rfl (Nat.le_of_ble_eq_true rfl) hl.1.1 dX1_tell_72 (fun u72 σ72 q72 => ?_)
      show tm_J p l e R s m args below meth c K tm_xC 0 _ _ (F0 m 75 ls [tm_iv u72, tm_rv K 0])
      refine tm_callV (n := 1) cx (cc_back K l (tm_hst cx) u72 q72) (lw_V q690 q692 qs20 q95 q693) ⟨rfl, by decide +kernel, by decide +kernel, by decide +kernel⟩ rfl tm_cd_X1 (fun h => (tm_hC_0 h).1) ⟨Nat.le_of_ble_eq_true rfl, Nat.le_of_ble_eq_true rfl⟩ rfl (Nat.le_of_ble_eq_true rfl) hl.1.1 dX1_tell_75 (fun u75 σ75 q75 => ?_)
      show tm_J p l e R s m args below meth c K tm_xC 0 _ _ (F0 m 78 ls [])
      exact tm_vreturn cx dX1_tell_78
    · exact tm_vreturn cx dX1_tell_78
  · refine tm_aload_n cx dX1_tell_43 (tm_has_at hl 0 rfl) ?_
    refine tm_aload_n cx dX1_tell_44 (tm_has_at hl 1 rfl) ?_
    refine tm_gk_ (fun k45 => ?_)
    refine tg_X1_247 cx (fun _ => k45) dX1_tell_45 (fun q45 => ?_)
    refine tm_iload_n cx dX1_tell_48 (tm_has_at hl 2 rfl) ?_
    refine tm_gk_ (fun k49 => ?_)
    refine tm_bald cx (fun _ => ⟨k49, rfl⟩) g3 dX1_tell_49 (fun i49 q49 => ?_)
    refine tm_callS (n := 1) cx (cc_told K l (tm_hst cx) (tm_a σ (tm_f σ 192 v2) v3) q49) (lw_S q723 q724 q95 q725) ⟨by decide +kernel, by decide +kernel, by decide +kernel⟩ rfl ⟨Nat.le_of_ble_eq_true rfl, Nat.le_of_ble_eq_true rfl⟩ rfl (Nat.le_of_ble_eq_true rfl) hl.1.1 dX1_tell_50 (fun u50 σ50 q50 => ?_)
    show tm_J p l e R s m args below meth c K tm_xC 0 _ _ (F0 m 53 ls [tm_iv u50, tm_rv K 0])
    refine tm_callV (n := 1) cx (cc_back K l (tm_hst cx) u50 q50) (lw_V q690 q692 qs20 q95 q693) ⟨rfl, by decide +kernel, by decide +kernel, by decide +kernel⟩ rfl tm_cd_X1 (fun h => (tm_hC_0 h).1) ⟨Nat.le_of_ble_eq_true rfl, Nat.le_of_ble_eq_true rfl⟩ rfl (Nat.le_of_ble_eq_true rfl) hl.1.1 dX1_tell_53 (fun u53 σ53 q53 => ?_)
    show tm_J p l e R s m args below meth c K tm_xC 0 _ _ (F0 m 56 ls [])
    refine tm_iinc (lv' := [(3, tm_iv (v3 + (-1))), (0, tm_rv K 0), (2, tm_rv K v2)]) cx dX1_tell_56 hl (j := 2) rfl (by decide) (by decide) rfl (fun q56 ls hl => ?_)
    refine tm_goto (tgt := 39) cx dX1_tell_59 (by decide) ?_
    exact h39 v2 (v3 + (-1)) _ _ g2 q56 (tm_has_sub hl [1, 2, 0] rfl)
def fc_tell_L39 : Nat → Int → Int → tm_S → tm_R
  | 0, _, _, _ => none
  | n + 1, v2, v3, σ => fc_tell_B39 (fc_tell_L39 n) v2 v3 σ
theorem wc_tell_L39 {p : Program} {l : Launch} {e : Env} {R : Room} {s : State} {m : MethodId} {args : Array Value} {below : List Frame} {meth : Method} {c : Code} {K : tm_K} (cx : tm_C p l R s m args meth c K cX1_tell 4 RX1 "tell" none 13 320) : ∀ (n : Nat) (v2 : Int) (v3 : Int) (σ : tm_S) (ls : Array Slot), tm_in v2 → tm_in v3 → tm_has 0 ls 4 [(0, tm_rv K 0), (2, tm_rv K v2), (3, tm_iv v3)] → tm_J p l e R s m args below meth c K tm_xC 0 (fc_tell_L39 n v2 v3 σ) σ (F0 m 39 ls []) := by
  intro n
  induction n with
  | zero => intros; exact tm_none
  | succ n ih =>
    intro v2 v3 σ ls g2 g3 hl
    exact wc_tell_B39 (r39 := fc_tell_L39 n) cx ih v2 v3 σ ls g2 g3 hl
def fc_tell (σ : tm_S) : tm_R :=
  tm_bd (fc_need σ) fun u1 σ1 =>
  tm_bd (fc_isCharacter u1 σ1) fun u6 σ6 =>
  if u6 = 0 then
    tm_bd (fc_nameOf u1 σ6) fun u27 σ27 =>
    tm_gk (tm_k σ27 u27) 4 <|
    tm_gk (tm_k σ27 (tm_f σ27 192 u27)) 20 <|
    tm_gi ((tm_n σ27 (tm_f σ27 192 u27)) - 1) <|
    tm_lt ((tm_n σ27 (tm_f σ27 192 u27)) - 1) fun x38 =>
    fc_tell_L39 tm_FU u27 x38 σ27
  else
    tm_bd (fc_told (u1 % 256) σ6) fun u18 σ18 =>
    tm_bd (fc_back u18 σ18) fun u21 σ21 =>
    tm_rt 0 σ21
theorem tm_fits_X1_tell (K : tm_K) : (lg_sl [tm_rv K 0]).length ≤ 1 := (tm_sl_r _ _ _ _ (tm_sl_n _))
theorem cc_tell (K : tm_K) (l : Launch) (hst : l.stackTraces = false) : tm_ct K tm_xC l yX1_tell cX1_tell 4 none 0 [tm_rv K 0] (fc_tell) 13 320 := by
  refine tm_ct_of hst (by decide +kernel) (Nat.le_trans (tm_fits_X1_tell K) (Nat.le_of_ble_eq_true rfl)) ?_
  intro p e R s m args below meth c cx σ ls hl0
  have hl : tm_has 0 ls 4 [(0, tm_rv K 0)] := ⟨by
    have h9 := hl0
    simp only [tm_args_r, tm_args_n, Nat.zero_add, Nat.reduceAdd] at h9
    exact h9, by
    intro q hq
    simp only [List.mem_cons, List.not_mem_nil, or_false] at hq
    rcases hq with rfl
    · exact Or.inl (tm_rv_cat K 0)⟩
  clear hl0
  unfold fc_tell
  refine tm_aload_n cx dX1_tell_0 (tm_has_at hl 0 rfl) ?_
  refine tm_callV (n := 0) cx (cc_need K l (tm_hst cx)) (lw_V q686 q688 qs19 q95 q689) ⟨rfl, by decide +kernel, by decide +kernel, by decide +kernel⟩ rfl tm_cd_X1 (fun h => (tm_hC_0 h).1) ⟨Nat.le_of_ble_eq_true rfl, Nat.le_of_ble_eq_true rfl⟩ rfl (Nat.le_of_ble_eq_true rfl) hl.1.1 dX1_tell_1 (fun u1 σ1 q1 => ?_)
  show tm_J p l e R s m args below meth c K tm_xC 0 _ _ (F0 m 4 ls [tm_iv u1])
  refine tm_istore_n (lv' := [(1, tm_iv u1), (0, tm_rv K 0)]) cx dX1_tell_4 hl (by decide) (by decide) rfl (fun ls hl => ?_)
  refine tm_iload_n cx dX1_tell_5 (tm_has_at hl 0 rfl) ?_
  refine tm_callS (n := 1) cx (cc_isCharacter K l (tm_hst cx) u1 q1) (lw_S q708 q709 q95 q710) ⟨by decide +kernel, by decide +kernel, by decide +kernel⟩ rfl ⟨Nat.le_of_ble_eq_true rfl, Nat.le_of_ble_eq_true rfl⟩ rfl (Nat.le_of_ble_eq_true rfl) hl.1.1 dX1_tell_6 (fun u6 σ6 q6 => ?_)
  show tm_J p l e R s m args below meth c K tm_xC 0 _ _ (F0 m 9 ls [tm_iv u6])
  refine tm_if_eq (tgt := 25) cx q6 dX1_tell_9 (by decide) (fun c9 => ?_) (fun c9 => ?_)
  · refine tm_aload_n cx dX1_tell_25 (tm_has_at hl 1 rfl) ?_
    refine tm_iload_n cx dX1_tell_26 (tm_has_at hl 0 rfl) ?_
    refine tm_callV (n := 1) cx (cc_nameOf K l (tm_hst cx) u1 q1) (lw_V q613 q615 qs16 q95 q616) ⟨rfl, by decide +kernel, by decide +kernel, by decide +kernel⟩ rfl tm_cd_X1 (fun h => (tm_hC_0 h).1) ⟨Nat.le_of_ble_eq_true rfl, Nat.le_of_ble_eq_true rfl⟩ rfl (Nat.le_of_ble_eq_true rfl) hl.1.1 dX1_tell_27 (fun u27 σ27 q27 => ?_)
    show tm_J p l e R s m args below meth c K tm_xC 0 _ _ (F0 m 30 ls [tm_rv K u27])
    refine tm_astore_n (lv' := [(2, tm_rv K u27), (1, tm_iv u1), (0, tm_rv K 0)]) cx dX1_tell_30 hl (by decide) (by decide) rfl (fun ls hl => ?_)
    refine tm_aload_n cx dX1_tell_31 (tm_has_at hl 0 rfl) ?_
    refine tm_gk_ (fun k32 => ?_)
    refine tg_X1_247 cx (fun _ => k32) dX1_tell_32 (fun q32 => ?_)
    refine tm_gk_ (fun k35 => ?_)
    refine tm_alen cx (fun _ => ⟨k35, rfl⟩) (by decide) dX1_tell_35 (fun q35 => ?_)
    refine tm_iconst cx dX1_tell_36 ?_
    refine tm_isub cx dX1_tell_37 (fun q37 => ?_)
    refine tm_lt_ q37 (fun x38 q38 => ?_)
    refine tm_istore_n (lv' := [(3, tm_iv x38), (2, tm_rv K u27), (1, tm_iv u1), (0, tm_rv K 0)]) cx dX1_tell_38 hl (by decide) (by decide) rfl (fun ls hl => ?_)
    exact wc_tell_L39 cx tm_FU u27 x38 _ _ q27 q38 (tm_has_sub hl [3, 1, 0] rfl)
  · refine tm_aload_n cx dX1_tell_12 (tm_has_at hl 1 rfl) ?_
    refine tm_iload_n cx dX1_tell_13 (tm_has_at hl 0 rfl) ?_
    refine tm_sipush cx dX1_tell_14 (by decide) ?_
    refine tm_iand255 cx q1 dX1_tell_17 (fun q17 => ?_)
    refine tm_callS (n := 1) cx (cc_told K l (tm_hst cx) (u1 % 256) q17) (lw_S q723 q724 q95 q725) ⟨by decide +kernel, by decide +kernel, by decide +kernel⟩ rfl ⟨Nat.le_of_ble_eq_true rfl, Nat.le_of_ble_eq_true rfl⟩ rfl (Nat.le_of_ble_eq_true rfl) hl.1.1 dX1_tell_18 (fun u18 σ18 q18 => ?_)
    show tm_J p l e R s m args below meth c K tm_xC 0 _ _ (F0 m 21 ls [tm_iv u18, tm_rv K 0])
    refine tm_callV (n := 1) cx (cc_back K l (tm_hst cx) u18 q18) (lw_V q690 q692 qs20 q95 q693) ⟨rfl, by decide +kernel, by decide +kernel, by decide +kernel⟩ rfl tm_cd_X1 (fun h => (tm_hC_0 h).1) ⟨Nat.le_of_ble_eq_true rfl, Nat.le_of_ble_eq_true rfl⟩ rfl (Nat.le_of_ble_eq_true rfl) hl.1.1 dX1_tell_21 (fun u21 σ21 q21 => ?_)
    show tm_J p l e R s m args below meth c K tm_xC 0 _ _ (F0 m 24 ls [])
    exact tm_vreturn cx dX1_tell_24
