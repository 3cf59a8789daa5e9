set_option maxRecDepth 100000
def fm_named_B66 (r66 : Int → tm_S → tm_R) (v3 : Int) (σ : tm_S) : tm_R :=
  if v3 < (tm_f σ 464 0) then
    tm_gi (11 * (tm_f σ 459 0)) <|
    tm_gi ((11 * (tm_f σ 459 0)) + v3) <|
    tm_gx v3 12 <|
    tm_gx ((11 * (tm_f σ 459 0)) + v3) 1320 <|
    tm_gi (v3 + 1) <|
    r66 (v3 + 1) (tm_wa σ 112 ((11 * (tm_f σ 459 0)) + v3) (tm_a σ 117 v3))
  else
    tm_gi ((tm_f σ 459 0) + 1) <|
    tm_gi (4096 + (tm_f (tm_wf σ 459 0 ((tm_f σ 459 0) + 1)) 459 0)) <|
    tm_gi ((4096 + (tm_f (tm_wf σ 459 0 ((tm_f σ 459 0) + 1)) 459 0)) - 1) <|
    tm_rt ((4096 + (tm_f (tm_wf σ 459 0 ((tm_f σ 459 0) + 1)) 459 0)) - 1) (tm_wf σ 459 0 ((tm_f σ 459 0) + 1))
theorem wm_named_B66 {p : Program} {l : Launch} {e : Env} {R : Room} {s : State} {m : MethodId} {args : Array Value} {below : List Frame} {meth : Method} {c : Code} {K : tm_K} {r66 : Int → tm_S → tm_R} (cx : tm_C p l R s m args meth c K cX6_named 4 RX6 "named" (some .int) 1 24) (h66 : ∀ (v3 : Int) (τ : tm_S) (ls : Array Slot), tm_in v3 → tm_has 0 ls 4 [(0, tm_rv K 0), (3, tm_iv v3)] → tm_J p l e R s m args below meth c K tm_xM 1 (r66 v3 τ) τ (F0 m 66 ls [])) (v3 : Int) (σ : tm_S) (ls : Array Slot) (g3 : tm_in v3) (hl : tm_has 0 ls 4 [(0, tm_rv K 0), (3, tm_iv v3)]) : tm_J p l e R s m args below meth c K tm_xM 1 (fm_named_B66 r66 v3 σ) σ (F0 m 66 ls []) := by
  unfold fm_named_B66
  refine tm_iload_n cx dX6_named_66 (tm_has_at hl 1 rfl) ?_
  refine tm_aload_n cx dX6_named_67 (tm_has_at hl 0 rfl) ?_
  refine tg_X6_198 cx dX6_named_68 (fun q68 => ?_)
  refine tm_icmp_ge (tgt := 100) cx g3 q68 dX6_named_71 (by decide) (fun c71 => ?_) (fun c71 => ?_)
  · refine tm_aload_n cx dX6_named_74 (tm_has_at hl 0 rfl) ?_
    refine tg_X6_19 cx dX6_named_75 ?_
    refine tm_bipush cx dX6_named_78 (by decide) ?_
    refine tm_aload_n cx dX6_named_80 (tm_has_at hl 0 rfl) ?_
    refine tg_X6_147 cx dX6_named_81 (fun q81 => ?_)
    refine tm_imul cx dX6_named_84 (fun q84 => ?_)
    refine tm_iload_n cx dX6_named_85 (tm_has_at hl 1 rfl) ?_
    refine tm_iadd cx dX6_named_86 (fun q86 => ?_)
    refine tm_aload_n cx dX6_named_87 (tm_has_at hl 0 rfl) ?_
    refine tg_X6_32 cx dX6_named_88 ?_
    refine tm_iload_n cx dX6_named_91 (tm_has_at hl 1 rfl) ?_
    refine tm_iald cx tm_hM_117 g3 dX6_named_92 (fun i92 q92 => ?_)
    refine tm_iast cx tm_famM tm_hM_112 q86 q92 dX6_named_93 ?_
    refine tm_iinc (lv' := [(3, tm_iv (v3 + 1)), (0, tm_rv K 0)]) cx dX6_named_94 hl (j := 1) rfl (by decide) (by decide) rfl (fun q94 ls hl => ?_)
    refine tm_goto (tgt := 66) cx dX6_named_97 (by decide) ?_
    exact h66 (v3 + 1) _ _ q94 (tm_has_sub hl [1, 0] rfl)
  · refine tm_aload_n cx dX6_named_100 (tm_has_at hl 0 rfl) ?_
    refine tm_dup_r cx dX6_named_101 ?_
    refine tg_X6_147 cx dX6_named_102 (fun q102 => ?_)
    refine tm_iconst cx dX6_named_105 ?_
    refine tm_iadd cx dX6_named_106 (fun q106 => ?_)
    refine tp_X6_147 cx q106 dX6_named_107 ?_
    refine tm_sipush cx dX6_named_110 (by decide) ?_
    refine tm_aload_n cx dX6_named_113 (tm_has_at hl 0 rfl) ?_
    refine tg_X6_147 cx dX6_named_114 (fun q114 => ?_)
    refine tm_iadd cx dX6_named_117 (fun q117 => ?_)
    refine tm_iconst cx dX6_named_118 ?_
    refine tm_isub cx dX6_named_119 (fun q119 => ?_)
    exact tm_ireturn cx q119 dX6_named_120
def fm_named_L66 : Nat → Int → tm_S → tm_R
  | 0, _, _ => none
  | n + 1, v3, σ => fm_named_B66 (fm_named_L66 n) v3 σ
theorem wm_named_L66 {p : Program} {l : Launch} {e : Env} {R : Room} {s : State} {m : MethodId} {args : Array Value} {below : List Frame} {meth : Method} {c : Code} {K : tm_K} (cx : tm_C p l R s m args meth c K cX6_named 4 RX6 "named" (some .int) 1 24) : ∀ (n : Nat) (v3 : Int) (σ : tm_S) (ls : Array Slot), tm_in v3 → tm_has 0 ls 4 [(0, tm_rv K 0), (3, tm_iv v3)] → tm_J p l e R s m args below meth c K tm_xM 1 (fm_named_L66 n v3 σ) σ (F0 m 66 ls []) := by
  intro n
  induction n with
  | zero => intros; exact tm_none
  | succ n ih =>
    intro v3 σ ls g3 hl
    exact wm_named_B66 (r66 := fm_named_L66 n) cx ih v3 σ ls g3 hl
def fm_named (a1 : Int) (σ : tm_S) : tm_R :=
  tm_bd (fm_known a1 σ) fun u2 σ2 =>
  if u2 < 0 then
    if (tm_f σ2 459 0) = 118 then
      tm_bd (fm_stop 5 σ2) fun u27 σ27 =>
      tm_rt u27 σ27
    else
      tm_gx (tm_f σ2 459 0) 120 <|
      tm_gx (tm_f (tm_wa σ2 113 (tm_f σ2 459 0) (tm_f σ2 464 0)) 459 0) 120 <|
      tm_gz a1 <|
      tm_gx (tm_f (tm_wa (tm_wa σ2 113 (tm_f σ2 459 0) (tm_f σ2 464 0)) 114 (tm_f (tm_wa σ2 113 (tm_f σ2 459 0) (tm_f σ2 464 0)) 459 0) a1) 459 0) 120 <|
      tm_ls (tm_wa (tm_wa (tm_wa σ2 113 (tm_f σ2 459 0) (tm_f σ2 464 0)) 114 (tm_f (tm_wa σ2 113 (tm_f σ2 459 0) (tm_f σ2 464 0)) 459 0) a1) 115 (tm_f (tm_wa (tm_wa σ2 113 (tm_f σ2 459 0) (tm_f σ2 464 0)) 114 (tm_f (tm_wa σ2 113 (tm_f σ2 459 0) (tm_f σ2 464 0)) 459 0) a1) 459 0) 0) fun τ3 =>
      fm_named_L66 tm_FU 0 τ3
  else
    tm_gi (4096 + u2) <|
    tm_rt (4096 + u2) σ2
theorem tm_fits_X6_named (K : tm_K) (a1 : Int) : (lg_sl [tm_rv K 0, tm_iv a1]).length ≤ 2 := (tm_sl_r _ _ _ _ (tm_sl_i _ _ _ (tm_sl_n _)))
theorem cm_named (K : tm_K) (l : Launch) (hst : l.stackTraces = false) (a1 : Int) (g1 : tm_in a1) : tm_ct K tm_xM l yX6_named cX6_named 4 (some .int) 1 [tm_rv K 0, tm_iv a1] (fm_named a1) 1 24 := by
  refine tm_ct_of hst (by decide +kernel) (Nat.le_trans (tm_fits_X6_named K a1) (Nat.le_of_ble_eq_true rfl)) ?_
  intro p e R s m args below meth c cx σ ls hl0
  have hl : tm_has 0 ls 4 [(0, tm_rv K 0), (1, tm_iv a1)] := ⟨by
    have h9 := hl0
    simp only [tm_args_r, tm_args_i, tm_args_n, Nat.zero_add, Nat.reduceAdd] at h9
    exact h9, by
    intro q hq
    simp only [List.mem_cons, List.not_mem_nil, or_false] at hq
    rcases hq with rfl | rfl
    · exact Or.inl (tm_rv_cat K 0)
    · exact Or.inl rfl⟩
  clear hl0
  unfold fm_named
  refine tm_aload_n cx dX6_named_0 (tm_has_at hl 0 rfl) ?_
  refine tm_iload_n cx dX6_named_1 (tm_has_at hl 1 rfl) ?_
  refine tm_callV (n := 1) cx (cm_known K l (tm_hst cx) a1 g1) (lw_V q1283 q1285 qs58 q113 q1286) ⟨rfl, by decide +kernel, by decide +kernel, by decide +kernel⟩ rfl tm_cd_X6 (fun h => (tm_hM_0 h).1) ⟨Nat.le_of_ble_eq_true rfl, Nat.le_of_ble_eq_true rfl⟩ rfl (Nat.le_of_ble_eq_true rfl) hl.1.1 dX6_named_2 (fun u2 σ2 q2 => ?_)
  show tm_J p l e R s m args below meth c K tm_xM 1 _ _ (F0 m 5 ls [tm_iv u2])
  refine tm_istore_n (lv' := [(2, tm_iv u2), (0, tm_rv K 0), (1, tm_iv a1)]) cx dX6_named_5 hl (by decide) (by decide) rfl (fun ls hl => ?_)
  refine tm_iload_n cx dX6_named_6 (tm_has_at hl 0 rfl) ?_
  refine tm_if_lt (tgt := 16) cx q2 dX6_named_7 (by decide) (fun c7 => ?_) (fun c7 => ?_)
  · refine tm_aload_n cx dX6_named_16 (tm_has_at hl 1 rfl) ?_
    refine tg_X6_147 cx dX6_named_17 (fun q17 => ?_)
    refine tm_bipush cx dX6_named_20 (by decide) ?_
    refine tm_icmp_ne (tgt := 31) cx q17 (by decide) dX6_named_22 (by decide) (fun c22 => ?_) (fun c22 => ?_)
    · refine tm_aload_n cx dX6_named_25 (tm_has_at hl 1 rfl) ?_
      refine tm_iconst cx dX6_named_26 ?_
      refine tm_callV (n := 1) cx (cm_stop K l (tm_hst cx) 5 (by decide)) (lw_V q1271 q1273 qs55 q113 q1274) ⟨rfl, by decide +kernel, by decide +kernel, by decide +kernel⟩ rfl tm_cd_X6 (fun h => (tm_hM_0 h).1) ⟨Nat.le_of_ble_eq_true rfl, Nat.le_of_ble_eq_true rfl⟩ rfl (Nat.le_of_ble_eq_true rfl) hl.1.1 dX6_named_27 (fun u27 σ27 q27 => ?_)
      show tm_J p l e R s m args below meth c K tm_xM 1 _ _ (F0 m 30 ls [tm_iv u27])
      exact tm_ireturn cx q27 dX6_named_30
    · refine tm_aload_n cx dX6_named_31 (tm_has_at hl 1 rfl) ?_
      refine tg_X6_22 cx dX6_named_32 ?_
      refine tm_aload_n cx dX6_named_35 (tm_has_at hl 1 rfl) ?_
      refine tg_X6_147 cx dX6_named_36 (fun q36 => ?_)
      refine tm_aload_n cx dX6_named_39 (tm_has_at hl 1 rfl) ?_
      refine tg_X6_198 cx dX6_named_40 (fun q40 => ?_)
      refine tm_iast cx tm_famM tm_hM_113 q36 q40 dX6_named_43 ?_
      refine tm_aload_n cx dX6_named_44 (tm_has_at hl 1 rfl) ?_
      refine tg_X6_25 cx dX6_named_45 ?_
      refine tm_aload_n cx dX6_named_48 (tm_has_at hl 1 rfl) ?_
      refine tg_X6_147 cx dX6_named_49 (fun q49 => ?_)
      refine tm_iload_n cx dX6_named_52 (tm_has_at hl 2 rfl) ?_
      refine tm_zast cx tm_famM tm_hM_114 q49 g1 dX6_named_53 ?_
      refine tm_aload_n cx dX6_named_54 (tm_has_at hl 1 rfl) ?_
      refine tg_X6_29 cx dX6_named_55 ?_
      refine tm_aload_n cx dX6_named_58 (tm_has_at hl 1 rfl) ?_
      refine tg_X6_147 cx dX6_named_59 (fun q59 => ?_)
      refine tm_iconst cx dX6_named_62 ?_
      refine tm_iast cx tm_famM tm_hM_115 q59 (by decide) dX6_named_63 ?_
      refine tm_ls_ (fun τ3 => ?_)
      refine tm_iconst cx dX6_named_64 ?_
      refine tm_istore_n (lv' := [(3, tm_iv 0), (2, tm_iv u2), (0, tm_rv K 0), (1, tm_iv a1)]) cx dX6_named_65 hl (by decide) (by decide) rfl (fun ls hl => ?_)
      exact wm_named_L66 cx tm_FU 0 _ _ (by decide) (tm_has_sub hl [2, 0] rfl)
  · refine tm_sipush cx dX6_named_10 (by decide) ?_
    refine tm_iload_n cx dX6_named_13 (tm_has_at hl 0 rfl) ?_
    refine tm_iadd cx dX6_named_14 (fun q14 => ?_)
    exact tm_ireturn cx q14 dX6_named_15
def fm_readName_J152 (vs1 : Int) (σ : tm_S) : tm_R :=
  tm_bd (fm_named 0 (tm_wf σ 452 0 vs1)) fun u157 σ157 =>
  tm_rt u157 σ157
theorem wm_readName_J152 {p : Program} {l : Launch} {e : Env} {R : Room} {s : State} {m : MethodId} {args : Array Value} {below : List Frame} {meth : Method} {c : Code} {K : tm_K} (cx : tm_C p l R s m args meth c K cX6_readName 2 RX6 "readName" (some .int) 2 47) (vs1 : Int) (σ : tm_S) (ls : Array Slot) (gs1 : tm_in vs1) (hl : tm_has 0 ls 2 [(0, tm_rv K 0)]) : tm_J p l e R s m args below meth c K tm_xM 1 (fm_readName_J152 vs1 σ) σ (F0 m 152 ls [tm_iv vs1, tm_rv K 0]) := by
  unfold fm_readName_J152
  refine tp_X6_156 cx gs1 dX6_readName_152 ?_
  refine tm_aload_n cx dX6_readName_155 (tm_has_at hl 0 rfl) ?_
  refine tm_iconst cx dX6_readName_156 ?_
  refine tm_callV (n := 1) cx (cm_named K l (tm_hst cx) 0 (by decide)) (lw_V q1279 q1281 qs57 q113 q1282) ⟨rfl, by decide +kernel, by decide +kernel, by decide +kernel⟩ rfl tm_cd_X6 (fun h => (tm_hM_0 h).1) ⟨Nat.le_of_ble_eq_true rfl, Nat.le_of_ble_eq_true rfl⟩ rfl (Nat.le_of_ble_eq_true rfl) hl.1.1 dX6_readName_157 (fun u157 σ157 q157 => ?_)
  show tm_J p l e R s m args below meth c K tm_xM 1 _ _ (F0 m 160 ls [tm_iv u157])
  exact tm_ireturn cx q157 dX6_readName_160
def fm_readName_J134 (v1 : Int) (σ : tm_S) : tm_R :=
  if v1 = 11 then
    fm_readName_J152 2 σ
  else
    if v1 = 10 then
      fm_readName_J152 2 σ
    else
      fm_readName_J152 1 σ
theorem wm_readName_J134 {p : Program} {l : Launch} {e : Env} {R : Room} {s : State} {m : MethodId} {args : Array Value} {below : List Frame} {meth : Method} {c : Code} {K : tm_K} (cx : tm_C p l R s m args meth c K cX6_readName 2 RX6 "readName" (some .int) 2 47) (v1 : Int) (σ : tm_S) (ls : Array Slot) (g1 : tm_in v1) (hl : tm_has 0 ls 2 [(0, tm_rv K 0), (1, tm_iv v1)]) : tm_J p l e R s m args below meth c K tm_xM 1 (fm_readName_J134 v1 σ) σ (F0 m 134 ls []) := by
  unfold fm_readName_J134
  refine tm_aload_n cx dX6_readName_134 (tm_has_at hl 0 rfl) ?_
  refine tm_iload_n cx dX6_readName_135 (tm_has_at hl 1 rfl) ?_
  refine tm_bipush cx dX6_readName_136 (by decide) ?_
  refine tm_icmp_eq (tgt := 147) cx g1 (by decide) dX6_readName_138 (by decide) (fun c138 => ?_) (fun c138 => ?_)
  · refine tm_iconst cx dX6_readName_147 ?_
    refine tm_goto (tgt := 152) cx dX6_readName_148 (by decide) ?_
    exact wm_readName_J152 cx 2 _ _ (by decide) (tm_has_sub hl [0] rfl)
  · refine tm_iload_n cx dX6_readName_141 (tm_has_at hl 1 rfl) ?_
    refine tm_bipush cx dX6_readName_142 (by decide) ?_
    refine tm_icmp_ne (tgt := 151) cx g1 (by decide) dX6_readName_144 (by decide) (fun c144 => ?_) (fun c144 => ?_)
    · refine tm_iconst cx dX6_readName_147 ?_
      refine tm_goto (tgt := 152) cx dX6_readName_148 (by decide) ?_
      exact wm_readName_J152 cx 2 _ _ (by decide) (tm_has_sub hl [0] rfl)
    · refine tm_iconst cx dX6_readName_151 ?_
      exact wm_readName_J152 cx 1 _ _ (by decide) (tm_has_sub hl [0] rfl)
def fm_readName_B60 (r60 : Int → tm_S → tm_R) (v1 : Int) (σ : tm_S) : tm_R :=
  if v1 = 11 then
    if (tm_f σ 451 0) < (tm_f σ 449 0) then
      tm_gx (tm_f σ 451 0) 160 <|
      tm_gx (tm_a σ 102 (tm_f σ 451 0)) 128 <|
      if (tm_a σ 108 (tm_a σ 102 (tm_f σ 451 0))) = 11 then
        tm_gx (tm_f σ 451 0) 160 <|
        tm_bd (fm_say (tm_a σ 102 (tm_f σ 451 0)) σ) fun u106 σ106 =>
        tm_gi ((tm_f σ106 451 0) + 1) <|
        if (tm_f (tm_wf σ106 451 0 ((tm_f σ106 451 0) + 1)) 464 0) = 12 then
          tm_bd (fm_stop 5 (tm_wf σ106 451 0 ((tm_f σ106 451 0) + 1))) fun u130 σ130 =>
          tm_rt u130 σ130
        else
          r60 v1 (tm_wf σ106 451 0 ((tm_f σ106 451 0) + 1))
      else
        fm_readName_J134 v1 σ
    else
      fm_readName_J134 v1 σ
  else
    fm_readName_J134 v1 σ
theorem wm_readName_B60 {p : Program} {l : Launch} {e : Env} {R : Room} {s : State} {m : MethodId} {args : Array Value} {below : List Frame} {meth : Method} {c : Code} {K : tm_K} {r60 : Int → tm_S → tm_R} (cx : tm_C p l R s m args meth c K cX6_readName 2 RX6 "readName" (some .int) 2 47) (h60 : ∀ (v1 : Int) (τ : tm_S) (ls : Array Slot), tm_in v1 → tm_has 0 ls 2 [(0, tm_rv K 0), (1, tm_iv v1)] → tm_J p l e R s m args below meth c K tm_xM 1 (r60 v1 τ) τ (F0 m 60 ls [])) (v1 : Int) (σ : tm_S) (ls : Array Slot) (g1 : tm_in v1) (hl : tm_has 0 ls 2 [(0, tm_rv K 0), (1, tm_iv v1)]) : tm_J p l e R s m args below meth c K tm_xM 1 (fm_readName_B60 r60 v1 σ) σ (F0 m 60 ls []) := by
  unfold fm_readName_B60
  refine tm_iload_n cx dX6_readName_60 (tm_has_at hl 1 rfl) ?_
  refine tm_bipush cx dX6_readName_61 (by decide) ?_
  refine tm_icmp_ne (tgt := 134) cx g1 (by decide) dX6_readName_63 (by decide) (fun c63 => ?_) (fun c63 => ?_)
  · refine tm_aload_n cx dX6_readName_66 (tm_has_at hl 0 rfl) ?_
    refine tg_X6_153 cx dX6_readName_67 (fun q67 => ?_)
    refine tm_aload_n cx dX6_readName_70 (tm_has_at hl 0 rfl) ?_
    refine tg_X6_195 cx dX6_readName_71 (fun q71 => ?_)
    refine tm_icmp_ge (tgt := 134) cx q67 q71 dX6_readName_74 (by decide) (fun c74 => ?_) (fun c74 => ?_)
    · refine tm_aload_n cx dX6_readName_77 (tm_has_at hl 0 rfl) ?_
      refine tg_X6_13 cx dX6_readName_78 ?_
      refine tm_aload_n cx dX6_readName_81 (tm_has_at hl 0 rfl) ?_
      refine tg_X6_7 cx dX6_readName_82 ?_
      refine tm_aload_n cx dX6_readName_85 (tm_has_at hl 0 rfl) ?_
      refine tg_X6_153 cx dX6_readName_86 (fun q86 => ?_)
      refine tm_iald cx tm_hM_102 q86 dX6_readName_89 (fun i89 q89 => ?_)
      refine tm_iald cx tm_hM_108 q89 dX6_readName_90 (fun i90 q90 => ?_)
      refine tm_bipush cx dX6_readName_91 (by decide) ?_
      refine tm_icmp_ne (tgt := 134) cx q90 (by decide) dX6_readName_93 (by decide) (fun c93 => ?_) (fun c93 => ?_)
      · refine tm_aload_n cx dX6_readName_96 (tm_has_at hl 0 rfl) ?_
        refine tm_aload_n cx dX6_readName_97 (tm_has_at hl 0 rfl) ?_
        refine tg_X6_7 cx dX6_readName_98 ?_
        refine tm_aload_n cx dX6_readName_101 (tm_has_at hl 0 rfl) ?_
        refine tg_X6_153 cx dX6_readName_102 (fun q102 => ?_)
        refine tm_iald cx tm_hM_102 q102 dX6_readName_105 (fun i105 q105 => ?_)
        refine tm_callV (n := 1) cx (cm_say K l (tm_hst cx) (tm_a σ 102 (tm_f σ 451 0)) q105) (lw_V q1275 q1277 qs56 q113 q1278) ⟨rfl, by decide +kernel, by decide +kernel, by decide +kernel⟩ rfl tm_cd_X6 (fun h => (tm_hM_0 h).1) ⟨Nat.le_of_ble_eq_true rfl, Nat.le_of_ble_eq_true rfl⟩ rfl (Nat.le_of_ble_eq_true rfl) hl.1.1 dX6_readName_106 (fun u106 σ106 q106 => ?_)
        show tm_J p l e R s m args below meth c K tm_xM 1 _ _ (F0 m 109 ls [])
        refine tm_aload_n cx dX6_readName_109 (tm_has_at hl 0 rfl) ?_
        refine tm_dup_r cx dX6_readName_110 ?_
        refine tg_X6_153 cx dX6_readName_111 (fun q111 => ?_)
        refine tm_iconst cx dX6_readName_114 ?_
        refine tm_iadd cx dX6_readName_115 (fun q115 => ?_)
        refine tp_X6_153 cx q115 dX6_readName_116 ?_
        refine tm_aload_n cx dX6_readName_119 (tm_has_at hl 0 rfl) ?_
        refine tg_X6_198 cx dX6_readName_120 (fun q120 => ?_)
        refine tm_bipush cx dX6_readName_123 (by decide) ?_
        refine tm_icmp_ne (tgt := 60) cx q120 (by decide) dX6_readName_125 (by decide) (fun c125 => ?_) (fun c125 => ?_)
        · refine tm_aload_n cx dX6_readName_128 (tm_has_at hl 0 rfl) ?_
          refine tm_iconst cx dX6_readName_129 ?_
          refine tm_callV (n := 1) cx (cm_stop K l (tm_hst cx) 5 (by decide)) (lw_V q1271 q1273 qs55 q113 q1274) ⟨rfl, by decide +kernel, by decide +kernel, by decide +kernel⟩ rfl tm_cd_X6 (fun h => (tm_hM_0 h).1) ⟨Nat.le_of_ble_eq_true rfl, Nat.le_of_ble_eq_true rfl⟩ rfl (Nat.le_of_ble_eq_true rfl) hl.1.1 dX6_readName_130 (fun u130 σ130 q130 => ?_)
          show tm_J p l e R s m args below meth c K tm_xM 1 _ _ (F0 m 133 ls [tm_iv u130])
          exact tm_ireturn cx q130 dX6_readName_133
        · exact h60 v1 _ _ g1 (tm_has_sub hl [0, 1] rfl)
      · exact wm_readName_J134 cx v1 _ _ g1 (tm_has_sub hl [0, 1] rfl)
    · exact wm_readName_J134 cx v1 _ _ g1 (tm_has_sub hl [0, 1] rfl)
  · exact wm_readName_J134 cx v1 _ _ g1 (tm_has_sub hl [0, 1] rfl)
def fm_readName_L60 : Nat → Int → tm_S → tm_R
  | 0, _, _ => none
  | n + 1, v1, σ => fm_readName_B60 (fm_readName_L60 n) v1 σ
theorem wm_readName_L60 {p : Program} {l : Launch} {e : Env} {R : Room} {s : State} {m : MethodId} {args : Array Value} {below : List Frame} {meth : Method} {c : Code} {K : tm_K} (cx : tm_C p l R s m args meth c K cX6_readName 2 RX6 "readName" (some .int) 2 47) : ∀ (n : Nat) (v1 : Int) (σ : tm_S) (ls : Array Slot), tm_in v1 → tm_has 0 ls 2 [(0, tm_rv K 0), (1, tm_iv v1)] → tm_J p l e R s m args below meth c K tm_xM 1 (fm_readName_L60 n v1 σ) σ (F0 m 60 ls []) := by
  intro n
  induction n with
  | zero => intros; exact tm_none
  | succ n ih =>
    intro v1 σ ls g1 hl
    exact wm_readName_B60 (r60 := fm_readName_L60 n) cx ih v1 σ ls g1 hl
def fm_readName (σ : tm_S) : tm_R :=
  if (tm_f σ 451 0) = (tm_f σ 449 0) then
    tm_bd (fm_stop 3 σ) fun u13 σ13 =>
    tm_rt u13 σ13
  else
    tm_gx (tm_f (tm_wf σ 464 0 0) 451 0) 160 <|
    tm_bd (fm_say (tm_a (tm_wf σ 464 0 0) 102 (tm_f (tm_wf σ 464 0 0) 451 0)) (tm_wf σ 464 0 0)) fun u32 σ32 =>
    tm_gx (tm_f σ32 451 0) 160 <|
    tm_gx (tm_a σ32 102 (tm_f σ32 451 0)) 128 <|
    tm_lt (tm_a σ32 108 (tm_a σ32 102 (tm_f σ32 451 0))) fun x49 =>
    tm_gi ((tm_f σ32 451 0) + 1) <|
    fm_readName_L60 tm_FU x49 (tm_wf σ32 451 0 ((tm_f σ32 451 0) + 1))
theorem tm_fits_X6_readName (K : tm_K) : (lg_sl [tm_rv K 0]).length ≤ 1 := (tm_sl_r _ _ _ _ (tm_sl_n _))
theorem cm_readName (K : tm_K) (l : Launch) (hst : l.stackTraces = false) : tm_ct K tm_xM l yX6_readName cX6_readName 2 (some .int) 1 [tm_rv K 0] (fm_readName) 2 47 := by
  refine tm_ct_of hst (by decide +kernel) (Nat.le_trans (tm_fits_X6_readName K) (Nat.le_of_ble_eq_true rfl)) ?_
  intro p e R s m args below meth c cx σ ls hl0
  have hl : tm_has 0 ls 2 [(0, tm_rv K 0)] := ⟨by
    have h9 := hl0
    simp only [tm_args_r, tm_args_n, Nat.zero_add, Nat.reduceAdd] at h9
    exact h9, by
    intro q hq
    simp only [List.mem_cons, List.not_mem_nil, or_false] at hq
    rcases hq with rfl
    · exact Or.inl (tm_rv_cat K 0)⟩
  clear hl0
  unfold fm_readName
  refine tm_aload_n cx dX6_readName_0 (tm_has_at hl 0 rfl) ?_
  refine tg_X6_153 cx dX6_readName_1 (fun q1 => ?_)
  refine tm_aload_n cx dX6_readName_4 (tm_has_at hl 0 rfl) ?_
  refine tg_X6_195 cx dX6_readName_5 (fun q5 => ?_)
  refine tm_icmp_ne (tgt := 17) cx q1 q5 dX6_readName_8 (by decide) (fun c8 => ?_) (fun c8 => ?_)
  · refine tm_aload_n cx dX6_readName_11 (tm_has_at hl 0 rfl) ?_
    refine tm_iconst cx dX6_readName_12 ?_
    refine tm_callV (n := 1) cx (cm_stop K l (tm_hst cx) 3 (by decide)) (lw_V q1271 q1273 qs55 q113 q1274) ⟨rfl, by decide +kernel, by decide +kernel, by decide +kernel⟩ rfl tm_cd_X6 (fun h => (tm_hM_0 h).1) ⟨Nat.le_of_ble_eq_true rfl, Nat.le_of_ble_eq_true rfl⟩ rfl (Nat.le_of_ble_eq_true rfl) hl.1.1 dX6_readName_13 (fun u13 σ13 q13 => ?_)
    show tm_J p l e R s m args below meth c K tm_xM 1 _ _ (F0 m 16 ls [tm_iv u13])
    exact tm_ireturn cx q13 dX6_readName_16
  · refine tm_aload_n cx dX6_readName_17 (tm_has_at hl 0 rfl) ?_
    refine tm_iconst cx dX6_readName_18 ?_
    refine tp_X6_198 cx (by decide) dX6_readName_19 ?_
    refine tm_aload_n cx dX6_readName_22 (tm_has_at hl 0 rfl) ?_
    refine tm_aload_n cx dX6_readName_23 (tm_has_at hl 0 rfl) ?_
    refine tg_X6_7 cx dX6_readName_24 ?_
    refine tm_aload_n cx dX6_readName_27 (tm_has_at hl 0 rfl) ?_
    refine tg_X6_153 cx dX6_readName_28 (fun q28 => ?_)
    refine tm_iald cx tm_hM_102 q28 dX6_readName_31 (fun i31 q31 => ?_)
    refine tm_callV (n := 1) cx (cm_say K l (tm_hst cx) (tm_a (tm_wf σ 464 0 0) 102 (tm_f (tm_wf σ 464 0 0) 451 0)) q31) (lw_V q1275 q1277 qs56 q113 q1278) ⟨rfl, by decide +kernel, by decide +kernel, by decide +kernel⟩ rfl tm_cd_X6 (fun h => (tm_hM_0 h).1) ⟨Nat.le_of_ble_eq_true rfl, Nat.le_of_ble_eq_true rfl⟩ rfl (Nat.le_of_ble_eq_true rfl) hl.1.1 dX6_readName_32 (fun u32 σ32 q32 => ?_)
    show tm_J p l e R s m args below meth c K tm_xM 1 _ _ (F0 m 35 ls [])
    refine tm_aload_n cx dX6_readName_35 (tm_has_at hl 0 rfl) ?_
    refine tg_X6_13 cx dX6_readName_36 ?_
    refine tm_aload_n cx dX6_readName_39 (tm_has_at hl 0 rfl) ?_
    refine tg_X6_7 cx dX6_readName_40 ?_
    refine tm_aload_n cx dX6_readName_43 (tm_has_at hl 0 rfl) ?_
    refine tg_X6_153 cx dX6_readName_44 (fun q44 => ?_)
    refine tm_iald cx tm_hM_102 q44 dX6_readName_47 (fun i47 q47 => ?_)
    refine tm_iald cx tm_hM_108 q47 dX6_readName_48 (fun i48 q48 => ?_)
    refine tm_lt_ q48 (fun x49 q49 => ?_)
    refine tm_istore_n (lv' := [(1, tm_iv x49), (0, tm_rv K 0)]) cx dX6_readName_49 hl (by decide) (by decide) rfl (fun ls hl => ?_)
    refine tm_aload_n cx dX6_readName_50 (tm_has_at hl 1 rfl) ?_
    refine tm_dup_r cx dX6_readName_51 ?_
    refine tg_X6_153 cx dX6_readName_52 (fun q52 => ?_)
    refine tm_iconst cx dX6_readName_55 ?_
    refine tm_iadd cx dX6_readName_56 (fun q56 => ?_)
    refine tp_X6_153 cx q56 dX6_readName_57 ?_
    exact wm_readName_L60 cx tm_FU x49 _ _ q49 (tm_has_sub hl [1, 0] rfl)
def fm_read_J108 (r0 : tm_S → tm_R) (v2 : Int) (v3 : Int) (σ : tm_S) : tm_R :=
  if v2 = 5 then
    if v3 < 2 then
      if v3 = 1 then
        tm_rt 2592 (tm_wf σ 452 0 0)
      else
        tm_rt 4096 (tm_wf σ 452 0 0)
    else
      r0 (tm_wf σ 452 0 0)
  else
    r0 (tm_wf σ 452 0 0)
theorem wm_read_J108 {p : Program} {l : Launch} {e : Env} {R : Room} {s : State} {m : MethodId} {args : Array Value} {below : List Frame} {meth : Method} {c : Code} {K : tm_K} {r0 : tm_S → tm_R} (cx : tm_C p l R s m args meth c K cX6_read 5 RX6 "read" (some .int) 3 68) (h0 : ∀  (τ : tm_S) (ls : Array Slot), tm_has 0 ls 5 [(0, tm_rv K 0)] → tm_J p l e R s m args below meth c K tm_xM 1 (r0 τ) τ (F0 m 0 ls [])) (v2 : Int) (v3 : Int) (σ : tm_S) (ls : Array Slot) (g2 : tm_in v2) (g3 : tm_in v3) (hl : tm_has 0 ls 5 [(0, tm_rv K 0), (2, tm_iv v2), (3, tm_iv v3)]) : tm_J p l e R s m args below meth c K tm_xM 1 (fm_read_J108 r0 v2 v3 σ) σ (F0 m 108 ls []) := by
  unfold fm_read_J108
  refine tm_aload_n cx dX6_read_108 (tm_has_at hl 0 rfl) ?_
  refine tm_iconst cx dX6_read_109 ?_
  refine tp_X6_156 cx (by decide) dX6_read_110 ?_
  refine tm_iload_n cx dX6_read_113 (tm_has_at hl 1 rfl) ?_
  refine tm_iconst cx dX6_read_114 ?_
  refine tm_icmp_ne (tgt := 138) cx g2 (by decide) dX6_read_115 (by decide) (fun c115 => ?_) (fun c115 => ?_)
  · refine tm_iload_n cx dX6_read_118 (tm_has_at hl 2 rfl) ?_
    refine tm_iconst cx dX6_read_119 ?_
    refine tm_icmp_ge (tgt := 138) cx g3 (by decide) dX6_read_120 (by decide) (fun c120 => ?_) (fun c120 => ?_)
    · refine tm_iload_n cx dX6_read_123 (tm_has_at hl 2 rfl) ?_
      refine tm_iconst cx dX6_read_124 ?_
      refine tm_icmp_ne (tgt := 134) cx g3 (by decide) dX6_read_125 (by decide) (fun c125 => ?_) (fun c125 => ?_)
      · refine tm_sipush cx dX6_read_128 (by decide) ?_
        refine tm_goto (tgt := 137) cx dX6_read_131 (by decide) ?_
        exact tm_ireturn cx (by decide) dX6_read_137
      · refine tm_sipush cx dX6_read_134 (by decide) ?_
        exact tm_ireturn cx (by decide) dX6_read_137
    · refine tm_goto (tgt := 223) cx dX6_read_138 (by decide) ?_
      refine tm_goto (tgt := 0) cx dX6_read_223 (by decide) ?_
      exact h0 _ _ (tm_has_sub hl [0] rfl)
  · refine tm_goto (tgt := 223) cx dX6_read_138 (by decide) ?_
    refine tm_goto (tgt := 0) cx dX6_read_223 (by decide) ?_
    exact h0 _ _ (tm_has_sub hl [0] rfl)
def fm_read_B66 (r0 : tm_S → tm_R) (r66 : Int → Int → Int → tm_S → tm_R) (v2 : Int) (v3 : Int) (v4 : Int) (σ : tm_S) : tm_R :=
  if v4 = 10 then
    fm_read_J108 r0 v2 v3 σ
  else
    if (tm_f σ 451 0) < (tm_f σ 449 0) then
      tm_gx (tm_f σ 451 0) 160 <|
      tm_lt (tm_a σ 102 (tm_f σ 451 0)) fun x93 =>
      tm_gi ((tm_f σ 451 0) + 1) <|
      r66 v2 v3 x93 (tm_wf σ 451 0 ((tm_f σ 451 0) + 1))
    else
      fm_read_J108 r0 v2 v3 σ
theorem wm_read_B66 {p : Program} {l : Launch} {e : Env} {R : Room} {s : State} {m : MethodId} {args : Array Value} {below : List Frame} {meth : Method} {c : Code} {K : tm_K} {r0 : tm_S → tm_R} {r66 : Int → Int → Int → tm_S → tm_R} (cx : tm_C p l R s m args meth c K cX6_read 5 RX6 "read" (some .int) 3 68) (h0 : ∀  (τ : tm_S) (ls : Array Slot), tm_has 0 ls 5 [(0, tm_rv K 0)] → tm_J p l e R s m args below meth c K tm_xM 1 (r0 τ) τ (F0 m 0 ls [])) (h66 : ∀ (v2 : Int) (v3 : Int) (v4 : Int) (τ : tm_S) (ls : Array Slot), tm_in v2 → tm_in v3 → tm_in v4 → tm_has 0 ls 5 [(0, tm_rv K 0), (2, tm_iv v2), (3, tm_iv v3), (4, tm_iv v4)] → tm_J p l e R s m args below meth c K tm_xM 1 (r66 v2 v3 v4 τ) τ (F0 m 66 ls [])) (v2 : Int) (v3 : Int) (v4 : Int) (σ : tm_S) (ls : Array Slot) (g2 : tm_in v2) (g3 : tm_in v3) (g4 : tm_in v4) (hl : tm_has 0 ls 5 [(0, tm_rv K 0), (2, tm_iv v2), (3, tm_iv v3), (4, tm_iv v4)]) : tm_J p l e R s m args below meth c K tm_xM 1 (fm_read_B66 r0 r66 v2 v3 v4 σ) σ (F0 m 66 ls []) := by
  unfold fm_read_B66
  refine tm_iload cx dX6_read_66 (tm_has_at hl 3 rfl) ?_
  refine tm_bipush cx dX6_read_68 (by decide) ?_
  refine tm_icmp_eq (tgt := 108) cx g4 (by decide) dX6_read_70 (by decide) (fun c70 => ?_) (fun c70 => ?_)
  · exact wm_read_J108 cx h0 v2 v3 _ _ g2 g3 (tm_has_sub hl [0, 1, 2] rfl)
  · refine tm_aload_n cx dX6_read_73 (tm_has_at hl 0 rfl) ?_
    refine tg_X6_153 cx dX6_read_74 (fun q74 => ?_)
    refine tm_aload_n cx dX6_read_77 (tm_has_at hl 0 rfl) ?_
    refine tg_X6_195 cx dX6_read_78 (fun q78 => ?_)
    refine tm_icmp_ge (tgt := 108) cx q74 q78 dX6_read_81 (by decide) (fun c81 => ?_) (fun c81 => ?_)
    · refine tm_aload_n cx dX6_read_84 (tm_has_at hl 0 rfl) ?_
      refine tg_X6_7 cx dX6_read_85 ?_
      refine tm_aload_n cx dX6_read_88 (tm_has_at hl 0 rfl) ?_
      refine tg_X6_153 cx dX6_read_89 (fun q89 => ?_)
      refine tm_iald cx tm_hM_102 q89 dX6_read_92 (fun i92 q92 => ?_)
      refine tm_lt_ q92 (fun x93 q93 => ?_)
      refine tm_istore (lv' := [(4, tm_iv x93), (0, tm_rv K 0), (2, tm_iv v2), (3, tm_iv v3)]) cx dX6_read_93 hl (by decide) (by decide) rfl (fun ls hl => ?_)
      refine tm_aload_n cx dX6_read_95 (tm_has_at hl 1 rfl) ?_
      refine tm_dup_r cx dX6_read_96 ?_
      refine tg_X6_153 cx dX6_read_97 (fun q97 => ?_)
      refine tm_iconst cx dX6_read_100 ?_
      refine tm_iadd cx dX6_read_101 (fun q101 => ?_)
      refine tp_X6_153 cx q101 dX6_read_102 ?_
      refine tm_goto (tgt := 66) cx dX6_read_105 (by decide) ?_
      exact h66 v2 v3 x93 _ _ g2 g3 q93 (tm_has_sub hl [1, 2, 3, 0] rfl)
    · exact wm_read_J108 cx h0 v2 v3 _ _ g2 g3 (tm_has_sub hl [0, 1, 2] rfl)
def fm_read_L66 (r0 : tm_S → tm_R) : Nat → Int → Int → Int → tm_S → tm_R
  | 0, _, _, _, _ => none
  | n + 1, v2, v3, v4, σ => fm_read_B66 r0 (fm_read_L66 r0 n) v2 v3 v4 σ
theorem wm_read_L66 {p : Program} {l : Launch} {e : Env} {R : Room} {s : State} {m : MethodId} {args : Array Value} {below : List Frame} {meth : Method} {c : Code} {K : tm_K} {r0 : tm_S → tm_R} (cx : tm_C p l R s m args meth c K cX6_read 5 RX6 "read" (some .int) 3 68) (h0 : ∀  (τ : tm_S) (ls : Array Slot), tm_has 0 ls 5 [(0, tm_rv K 0)] → tm_J p l e R s m args below meth c K tm_xM 1 (r0 τ) τ (F0 m 0 ls [])) : ∀ (n : Nat) (v2 : Int) (v3 : Int) (v4 : Int) (σ : tm_S) (ls : Array Slot), tm_in v2 → tm_in v3 → tm_in v4 → tm_has 0 ls 5 [(0, tm_rv K 0), (2, tm_iv v2), (3, tm_iv v3), (4, tm_iv v4)] → tm_J p l e R s m args below meth c K tm_xM 1 (fm_read_L66 r0 n v2 v3 v4 σ) σ (F0 m 66 ls []) := by
  intro n
  induction n with
  | zero => intros; exact tm_none
  | succ n ih =>
    intro v2 v3 v4 σ ls g2 g3 g4 hl
    exact wm_read_B66 (r66 := fm_read_L66 r0 n) cx h0 ih v2 v3 v4 σ ls g2 g3 g4 hl
def fm_read_B0 (r0 : tm_S → tm_R) (σ : tm_S) : tm_R :=
  if (tm_f σ 451 0) < (tm_f σ 449 0) then
    tm_gx (tm_f σ 451 0) 160 <|
    tm_lt (tm_a σ 102 (tm_f σ 451 0)) fun x20 =>
    tm_gx x20 128 <|
    tm_lt (tm_a σ 108 x20) fun x27 =>
    tm_gi ((tm_f σ 451 0) + 1) <|
    if x27 = 0 then
      tm_bd (fm_readName (tm_wf σ 451 0 ((tm_f σ 451 0) + 1))) fun u43 σ43 =>
      tm_rt u43 σ43
    else
      if x27 = 5 then
        tm_lt (tm_f (tm_wf σ 451 0 ((tm_f σ 451 0) + 1)) 452 0) fun x62 =>
        fm_read_L66 r0 tm_FU x27 x62 x20 (tm_wf σ 451 0 ((tm_f σ 451 0) + 1))
      else
        if x27 = 14 then
          tm_lt (tm_f (tm_wf σ 451 0 ((tm_f σ 451 0) + 1)) 452 0) fun x62 =>
          fm_read_L66 r0 tm_FU x27 x62 x20 (tm_wf σ 451 0 ((tm_f σ 451 0) + 1))
        else
          if x27 = 10 then
            if (tm_f (tm_wf σ 451 0 ((tm_f σ 451 0) + 1)) 452 0) = 1 then
              tm_rt 2592 (tm_wf (tm_wf σ 451 0 ((tm_f σ 451 0) + 1)) 452 0 2)
            else
              r0 (tm_wf σ 451 0 ((tm_f σ 451 0) + 1))
          else
            if x27 = 13 then
              tm_ls (tm_wf (tm_wf (tm_wf σ 451 0 ((tm_f σ 451 0) + 1)) 452 0 1) 464 0 0) fun τ2 =>
              tm_bd (fm_say x20 τ2) fun u182 σ182 =>
              tm_bd (fm_named 1 σ182) fun u187 σ187 =>
              tm_rt u187 σ187
            else
              if x27 = 15 then
                tm_bd (fm_stop 8 (tm_wf σ 451 0 ((tm_f σ 451 0) + 1))) fun u200 σ200 =>
                tm_rt u200 σ200
              else
                if x27 = 9 then
                  r0 (tm_wf σ 451 0 ((tm_f σ 451 0) + 1))
                else
                  tm_gi (256 * x27) <|
                  tm_gi (x20 + (256 * x27)) <|
                  tm_rt (x20 + (256 * x27)) (tm_wf (tm_wf σ 451 0 ((tm_f σ 451 0) + 1)) 452 0 1)
  else
    tm_rt (-1) σ
theorem wm_read_B0 {p : Program} {l : Launch} {e : Env} {R : Room} {s : State} {m : MethodId} {args : Array Value} {below : List Frame} {meth : Method} {c : Code} {K : tm_K} {r0 : tm_S → tm_R} (cx : tm_C p l R s m args meth c K cX6_read 5 RX6 "read" (some .int) 3 68) (h0 : ∀  (τ : tm_S) (ls : Array Slot), tm_has 0 ls 5 [(0, tm_rv K 0)] → tm_J p l e R s m args below meth c K tm_xM 1 (r0 τ) τ (F0 m 0 ls [])) (σ : tm_S) (ls : Array Slot) (hl : tm_has 0 ls 5 [(0, tm_rv K 0)]) : tm_J p l e R s m args below meth c K tm_xM 1 (fm_read_B0 r0 σ) σ (F0 m 0 ls []) := by
  unfold fm_read_B0
  refine tm_aload_n cx dX6_read_0 (tm_has_at hl 0 rfl) ?_
  refine tg_X6_153 cx dX6_read_1 (fun q1 => ?_)
  refine tm_aload_n cx dX6_read_4 (tm_has_at hl 0 rfl) ?_
  refine tg_X6_195 cx dX6_read_5 (fun q5 => ?_)
  refine tm_icmp_ge (tgt := 226) cx q1 q5 dX6_read_8 (by decide) (fun c8 => ?_) (fun c8 => ?_)
  · refine tm_aload_n cx dX6_read_11 (tm_has_at hl 0 rfl) ?_
    refine tg_X6_7 cx dX6_read_12 ?_
    refine tm_aload_n cx dX6_read_15 (tm_has_at hl 0 rfl) ?_
    refine tg_X6_153 cx dX6_read_16 (fun q16 => ?_)
    refine tm_iald cx tm_hM_102 q16 dX6_read_19 (fun i19 q19 => ?_)
    refine tm_lt_ q19 (fun x20 q20 => ?_)
    refine tm_istore_n (lv' := [(1, tm_iv x20), (0, tm_rv K 0)]) cx dX6_read_20 hl (by decide) (by decide) rfl (fun ls hl => ?_)
    refine tm_aload_n cx dX6_read_21 (tm_has_at hl 1 rfl) ?_
    refine tg_X6_13 cx dX6_read_22 ?_
    refine tm_iload_n cx dX6_read_25 (tm_has_at hl 0 rfl) ?_
    refine tm_iald cx tm_hM_108 q20 dX6_read_26 (fun i26 q26 => ?_)
    refine tm_lt_ q26 (fun x27 q27 => ?_)
    refine tm_istore_n (lv' := [(2, tm_iv x27), (1, tm_iv x20), (0, tm_rv K 0)]) cx dX6_read_27 hl (by decide) (by decide) rfl (fun ls hl => ?_)
    refine tm_aload_n cx dX6_read_28 (tm_has_at hl 2 rfl) ?_
    refine tm_dup_r cx dX6_read_29 ?_
    refine tg_X6_153 cx dX6_read_30 (fun q30 => ?_)
    refine tm_iconst cx dX6_read_33 ?_
    refine tm_iadd cx dX6_read_34 (fun q34 => ?_)
    refine tp_X6_153 cx q34 dX6_read_35 ?_
    refine tm_iload_n cx dX6_read_38 (tm_has_at hl 0 rfl) ?_
    refine tm_if_ne (tgt := 47) cx q27 dX6_read_39 (by decide) (fun c39 => ?_) (fun c39 => ?_)
    · refine tm_aload_n cx dX6_read_42 (tm_has_at hl 2 rfl) ?_
      refine tm_callV (n := 0) cx (cm_readName K l (tm_hst cx)) (lw_V q1267 q1269 qs54 q113 q1270) ⟨rfl, by decide +kernel, by decide +kernel, by decide +kernel⟩ rfl tm_cd_X6 (fun h => (tm_hM_0 h).1) ⟨Nat.le_of_ble_eq_true rfl, Nat.le_of_ble_eq_true rfl⟩ rfl (Nat.le_of_ble_eq_true rfl) hl.1.1 dX6_read_43 (fun u43 σ43 q43 => ?_)
      show tm_J p l e R s m args below meth c K tm_xM 1 _ _ (F0 m 46 ls [tm_iv u43])
      exact tm_ireturn cx q43 dX6_read_46
    · refine tm_iload_n cx dX6_read_47 (tm_has_at hl 0 rfl) ?_
      refine tm_iconst cx dX6_read_48 ?_
      refine tm_icmp_eq (tgt := 58) cx q27 (by decide) dX6_read_49 (by decide) (fun c49 => ?_) (fun c49 => ?_)
      · refine tm_aload_n cx dX6_read_58 (tm_has_at hl 2 rfl) ?_
        refine tg_X6_156 cx dX6_read_59 (fun q59 => ?_)
        refine tm_lt_ q59 (fun x62 q62 => ?_)
        refine tm_istore_n (lv' := [(3, tm_iv x62), (2, tm_iv x27), (1, tm_iv x20), (0, tm_rv K 0)]) cx dX6_read_62 hl (by decide) (by decide) rfl (fun ls hl => ?_)
        refine tm_iload_n cx dX6_read_63 (tm_has_at hl 2 rfl) ?_
        refine tm_istore (lv' := [(4, tm_iv x20), (3, tm_iv x62), (2, tm_iv x27), (1, tm_iv x20), (0, tm_rv K 0)]) cx dX6_read_64 hl (by decide) (by decide) rfl (fun ls hl => ?_)
        exact wm_read_L66 cx h0 tm_FU x27 x62 x20 _ _ q27 q62 q20 (tm_has_sub hl [4, 2, 1, 0] rfl)
      · refine tm_iload_n cx dX6_read_52 (tm_has_at hl 0 rfl) ?_
        refine tm_bipush cx dX6_read_53 (by decide) ?_
        refine tm_icmp_ne (tgt := 141) cx q27 (by decide) dX6_read_55 (by decide) (fun c55 => ?_) (fun c55 => ?_)
        · refine tm_aload_n cx dX6_read_58 (tm_has_at hl 2 rfl) ?_
          refine tg_X6_156 cx dX6_read_59 (fun q59 => ?_)
          refine tm_lt_ q59 (fun x62 q62 => ?_)
          refine tm_istore_n (lv' := [(3, tm_iv x62), (2, tm_iv x27), (1, tm_iv x20), (0, tm_rv K 0)]) cx dX6_read_62 hl (by decide) (by decide) rfl (fun ls hl => ?_)
          refine tm_iload_n cx dX6_read_63 (tm_has_at hl 2 rfl) ?_
          refine tm_istore (lv' := [(4, tm_iv x20), (3, tm_iv x62), (2, tm_iv x27), (1, tm_iv x20), (0, tm_rv K 0)]) cx dX6_read_64 hl (by decide) (by decide) rfl (fun ls hl => ?_)
          exact wm_read_L66 cx h0 tm_FU x27 x62 x20 _ _ q27 q62 q20 (tm_has_sub hl [4, 2, 1, 0] rfl)
        · refine tm_iload_n cx dX6_read_141 (tm_has_at hl 0 rfl) ?_
          refine tm_bipush cx dX6_read_142 (by decide) ?_
          refine tm_icmp_ne (tgt := 164) cx q27 (by decide) dX6_read_144 (by decide) (fun c144 => ?_) (fun c144 => ?_)
          · refine tm_aload_n cx dX6_read_147 (tm_has_at hl 2 rfl) ?_
            refine tg_X6_156 cx dX6_read_148 (fun q148 => ?_)
            refine tm_iconst cx dX6_read_151 ?_
            refine tm_icmp_ne (tgt := 223) cx q148 (by decide) dX6_read_152 (by decide) (fun c152 => ?_) (fun c152 => ?_)
            · refine tm_aload_n cx dX6_read_155 (tm_has_at hl 2 rfl) ?_
              refine tm_iconst cx dX6_read_156 ?_
              refine tp_X6_156 cx (by decide) dX6_read_157 ?_
              refine tm_sipush cx dX6_read_160 (by decide) ?_
              exact tm_ireturn cx (by decide) dX6_read_163
            · refine tm_goto (tgt := 0) cx dX6_read_223 (by decide) ?_
              exact h0 _ _ (tm_has_sub hl [2] rfl)
          · refine tm_iload_n cx dX6_read_164 (tm_has_at hl 0 rfl) ?_
            refine tm_bipush cx dX6_read_165 (by decide) ?_
            refine tm_icmp_ne (tgt := 191) cx q27 (by decide) dX6_read_167 (by decide) (fun c167 => ?_) (fun c167 => ?_)
            · refine tm_aload_n cx dX6_read_170 (tm_has_at hl 2 rfl) ?_
              refine tm_iconst cx dX6_read_171 ?_
              refine tp_X6_156 cx (by decide) dX6_read_172 ?_
              refine tm_aload_n cx dX6_read_175 (tm_has_at hl 2 rfl) ?_
              refine tm_iconst cx dX6_read_176 ?_
              refine tp_X6_198 cx (by decide) dX6_read_177 ?_
              refine tm_ls_ (fun τ2 => ?_)
              refine tm_aload_n cx dX6_read_180 (tm_has_at hl 2 rfl) ?_
              refine tm_iload_n cx dX6_read_181 (tm_has_at hl 1 rfl) ?_
              refine tm_callV (n := 1) cx (cm_say K l (tm_hst cx) x20 q20) (lw_V q1275 q1277 qs56 q113 q1278) ⟨rfl, by decide +kernel, by decide +kernel, by decide +kernel⟩ rfl tm_cd_X6 (fun h => (tm_hM_0 h).1) ⟨Nat.le_of_ble_eq_true rfl, Nat.le_of_ble_eq_true rfl⟩ rfl (Nat.le_of_ble_eq_true rfl) hl.1.1 dX6_read_182 (fun u182 σ182 q182 => ?_)
              show tm_J p l e R s m args below meth c K tm_xM 1 _ _ (F0 m 185 ls [])
              refine tm_aload_n cx dX6_read_185 (tm_has_at hl 2 rfl) ?_
              refine tm_iconst cx dX6_read_186 ?_
              refine tm_callV (n := 1) cx (cm_named K l (tm_hst cx) 1 (by decide)) (lw_V q1279 q1281 qs57 q113 q1282) ⟨rfl, by decide +kernel, by decide +kernel, by decide +kernel⟩ rfl tm_cd_X6 (fun h => (tm_hM_0 h).1) ⟨Nat.le_of_ble_eq_true rfl, Nat.le_of_ble_eq_true rfl⟩ rfl (Nat.le_of_ble_eq_true rfl) hl.1.1 dX6_read_187 (fun u187 σ187 q187 => ?_)
              show tm_J p l e R s m args below meth c K tm_xM 1 _ _ (F0 m 190 ls [tm_iv u187])
              exact tm_ireturn cx q187 dX6_read_190
            · refine tm_iload_n cx dX6_read_191 (tm_has_at hl 0 rfl) ?_
              refine tm_bipush cx dX6_read_192 (by decide) ?_
              refine tm_icmp_ne (tgt := 204) cx q27 (by decide) dX6_read_194 (by decide) (fun c194 => ?_) (fun c194 => ?_)
              · refine tm_aload_n cx dX6_read_197 (tm_has_at hl 2 rfl) ?_
                refine tm_bipush cx dX6_read_198 (by decide) ?_
                refine tm_callV (n := 1) cx (cm_stop K l (tm_hst cx) 8 (by decide)) (lw_V q1271 q1273 qs55 q113 q1274) ⟨rfl, by decide +kernel, by decide +kernel, by decide +kernel⟩ rfl tm_cd_X6 (fun h => (tm_hM_0 h).1) ⟨Nat.le_of_ble_eq_true rfl, Nat.le_of_ble_eq_true rfl⟩ rfl (Nat.le_of_ble_eq_true rfl) hl.1.1 dX6_read_200 (fun u200 σ200 q200 => ?_)
                show tm_J p l e R s m args below meth c K tm_xM 1 _ _ (F0 m 203 ls [tm_iv u200])
                exact tm_ireturn cx q200 dX6_read_203
              · refine tm_iload_n cx dX6_read_204 (tm_has_at hl 0 rfl) ?_
                refine tm_bipush cx dX6_read_205 (by decide) ?_
                refine tm_icmp_eq (tgt := 223) cx q27 (by decide) dX6_read_207 (by decide) (fun c207 => ?_) (fun c207 => ?_)
                · refine tm_goto (tgt := 0) cx dX6_read_223 (by decide) ?_
                  exact h0 _ _ (tm_has_sub hl [2] rfl)
                · refine tm_aload_n cx dX6_read_210 (tm_has_at hl 2 rfl) ?_
                  refine tm_iconst cx dX6_read_211 ?_
                  refine tp_X6_156 cx (by decide) dX6_read_212 ?_
                  refine tm_iload_n cx dX6_read_215 (tm_has_at hl 1 rfl) ?_
                  refine tm_sipush cx dX6_read_216 (by decide) ?_
                  refine tm_iload_n cx dX6_read_219 (tm_has_at hl 0 rfl) ?_
                  refine tm_imul cx dX6_read_220 (fun q220 => ?_)
                  refine tm_iadd cx dX6_read_221 (fun q221 => ?_)
                  exact tm_ireturn cx q221 dX6_read_222
  · refine tm_iconst cx dX6_read_226 ?_
    exact tm_ireturn cx (by decide) dX6_read_227
def fm_read_L0 : Nat → tm_S → tm_R
  | 0, _ => none
  | n + 1, σ => fm_read_B0 (fm_read_L0 n) σ
theorem wm_read_L0 {p : Program} {l : Launch} {e : Env} {R : Room} {s : State} {m : MethodId} {args : Array Value} {below : List Frame} {meth : Method} {c : Code} {K : tm_K} (cx : tm_C p l R s m args meth c K cX6_read 5 RX6 "read" (some .int) 3 68) : ∀ (n : Nat) (σ : tm_S) (ls : Array Slot), tm_has 0 ls 5 [(0, tm_rv K 0)] → tm_J p l e R s m args below meth c K tm_xM 1 (fm_read_L0 n σ) σ (F0 m 0 ls []) := by
  intro n
  induction n with
  | zero => intros; exact tm_none
  | succ n ih =>
    intro σ ls hl
    exact wm_read_B0 (r0 := fm_read_L0 n) cx ih σ ls hl
def fm_read (σ : tm_S) : tm_R :=
  fm_read_L0 tm_FU σ
theorem tm_fits_X6_read (K : tm_K) : (lg_sl [tm_rv K 0]).length ≤ 1 := (tm_sl_r _ _ _ _ (tm_sl_n _))
theorem cm_read (K : tm_K) (l : Launch) (hst : l.stackTraces = false) : tm_ct K tm_xM l yX6_read cX6_read 5 (some .int) 1 [tm_rv K 0] (fm_read) 3 68 := by
  refine tm_ct_of hst (by decide +kernel) (Nat.le_trans (tm_fits_X6_read K) (Nat.le_of_ble_eq_true rfl)) ?_
  intro p e R s m args below meth c cx σ ls hl0
  have hl : tm_has 0 ls 5 [(0, tm_rv K 0)] := ⟨by
    have h9 := hl0
    simp only [tm_args_r, tm_args_n, Nat.zero_add, Nat.reduceAdd] at h9
    exact h9, by
    intro q hq
    simp only [List.mem_cons, List.not_mem_nil, or_false] at hq
    rcases hq with rfl
    · exact Or.inl (tm_rv_cat K 0)⟩
  clear hl0
  unfold fm_read
  exact wm_read_L0 cx tm_FU _ _ (tm_has_sub hl [0] rfl)
def fm_get (σ : tm_S) : tm_R :=
  if 0 < (tm_f σ 453 0) then
    tm_rt (-1) σ
  else
    if 0 < (tm_f σ 457 0) then
      tm_gi ((tm_f σ 457 0) - 1) <|
      tm_gx (tm_f (tm_wf σ 457 0 ((tm_f σ 457 0) - 1)) 457 0) 302 <|
      tm_rt (tm_a (tm_wf σ 457 0 ((tm_f σ 457 0) - 1)) 110 (tm_f (tm_wf σ 457 0 ((tm_f σ 457 0) - 1)) 457 0)) (tm_wf σ 457 0 ((tm_f σ 457 0) - 1))
    else
      tm_bd (fm_read σ) fun u37 σ37 =>
      tm_rt u37 σ37
theorem tm_fits_X6_get (K : tm_K) : (lg_sl [tm_rv K 0]).length ≤ 1 := (tm_sl_r _ _ _ _ (tm_sl_n _))
theorem cm_get (K : tm_K) (l : Launch) (hst : l.stackTraces = false) : tm_ct K tm_xM l yX6_get cX6_get 1 (some .int) 1 [tm_rv K 0] (fm_get) 4 92 := by
  refine tm_ct_of hst (by decide +kernel) (Nat.le_trans (tm_fits_X6_get K) (Nat.le_of_ble_eq_true rfl)) ?_
  intro p e R s m args below meth c cx σ ls hl0
  have hl : tm_has 0 ls 1 [(0, tm_rv K 0)] := ⟨by
    have h9 := hl0
    simp only [tm_args_r, tm_args_n, Nat.zero_add, Nat.reduceAdd] at h9
    exact h9, by
    intro q hq
    simp only [List.mem_cons, List.not_mem_nil, or_false] at hq
    rcases hq with rfl
    · exact Or.inl (tm_rv_cat K 0)⟩
  clear hl0
  unfold fm_get
  refine tm_aload_n cx dX6_get_0 (tm_has_at hl 0 rfl) ?_
  refine tg_X6_159 cx dX6_get_1 (fun q1 => ?_)
  refine tm_if_le (tgt := 9) cx q1 dX6_get_4 (by decide) (fun c4 => ?_) (fun c4 => ?_)
  · refine tm_iconst cx dX6_get_7 ?_
    exact tm_ireturn cx (by decide) dX6_get_8
  · refine tm_aload_n cx dX6_get_9 (tm_has_at hl 0 rfl) ?_
    refine tg_X6_165 cx dX6_get_10 (fun q10 => ?_)
    refine tm_if_le (tgt := 36) cx q10 dX6_get_13 (by decide) (fun c13 => ?_) (fun c13 => ?_)
    · refine tm_aload_n cx dX6_get_16 (tm_has_at hl 0 rfl) ?_
      refine tm_dup_r cx dX6_get_17 ?_
      refine tg_X6_165 cx dX6_get_18 (fun q18 => ?_)
      refine tm_iconst cx dX6_get_21 ?_
      refine tm_isub cx dX6_get_22 (fun q22 => ?_)
      refine tp_X6_165 cx q22 dX6_get_23 ?_
      refine tm_aload_n cx dX6_get_26 (tm_has_at hl 0 rfl) ?_
      refine tg_X6_16 cx dX6_get_27 ?_
      refine tm_aload_n cx dX6_get_30 (tm_has_at hl 0 rfl) ?_
      refine tg_X6_165 cx dX6_get_31 (fun q31 => ?_)
      refine tm_iald cx tm_hM_110 q31 dX6_get_34 (fun i34 q34 => ?_)
      exact tm_ireturn cx q34 dX6_get_35
    · refine tm_aload_n cx dX6_get_36 (tm_has_at hl 0 rfl) ?_
      refine tm_callV (n := 0) cx (cm_read K l (tm_hst cx)) (lw_V q1263 q1265 qs53 q113 q1266) ⟨rfl, by decide +kernel, by decide +kernel, by decide +kernel⟩ rfl tm_cd_X6 (fun h => (tm_hM_0 h).1) ⟨Nat.le_of_ble_eq_true rfl, Nat.le_of_ble_eq_true rfl⟩ rfl (Nat.le_of_ble_eq_true rfl) hl.1.1 dX6_get_37 (fun u37 σ37 q37 => ?_)
      show tm_J p l e R s m args below meth c K tm_xM 1 _ _ (F0 m 40 ls [tm_iv u37])
      exact tm_ireturn cx q37 dX6_get_40
def fm_isName (a1 : Int) (σ : tm_S) : tm_R :=
  if a1 < 4096 then
    tm_rt 0 σ
  else
    if a1 < 16384 then
      tm_rt 1 σ
    else
      tm_rt 0 σ
theorem tm_fits_X6_isName (K : tm_K) (a1 : Int) : (lg_sl [tm_iv a1]).length ≤ 1 := (tm_sl_i _ _ _ (tm_sl_n _))
theorem cm_isName (K : tm_K) (l : Launch) (hst : l.stackTraces = false) (a1 : Int) (g1 : tm_in a1) : tm_ct K tm_xM l yX6_isName cX6_isName 1 (some .boolean) 1 [tm_iv a1] (fm_isName a1) 0 0 := by
  refine tm_ct_of hst (by decide +kernel) (Nat.le_trans (tm_fits_X6_isName K a1) (Nat.le_of_ble_eq_true rfl)) ?_
  intro p e R s m args below meth c cx σ ls hl0
  have hl : tm_has 0 ls 1 [(0, tm_iv a1)] := ⟨by
    have h9 := hl0
    simp only [tm_args_i, tm_args_n, Nat.zero_add, Nat.reduceAdd] at h9
    exact h9, by
    intro q hq
    simp only [List.mem_cons, List.not_mem_nil, or_false] at hq
    rcases hq with rfl
    · exact Or.inl rfl⟩
  clear hl0
  unfold fm_isName
  refine tm_iload_n cx dX6_isName_0 (tm_has_at hl 0 rfl) ?_
  refine tm_sipush cx dX6_isName_1 (by decide) ?_
  refine tm_icmp_lt (tgt := 18) cx g1 (by decide) dX6_isName_4 (by decide) (fun c4 => ?_) (fun c4 => ?_)
  · refine tm_iconst cx dX6_isName_18 ?_
    exact tm_zreturn cx (by decide) dX6_isName_19
  · refine tm_iload_n cx dX6_isName_7 (tm_has_at hl 0 rfl) ?_
    refine tm_sipush cx dX6_isName_8 (by decide) ?_
    refine tm_icmp_ge (tgt := 18) cx g1 (by decide) dX6_isName_11 (by decide) (fun c11 => ?_) (fun c11 => ?_)
    · refine tm_iconst cx dX6_isName_14 ?_
      refine tm_goto (tgt := 19) cx dX6_isName_15 (by decide) ?_
      exact tm_zreturn cx (by decide) dX6_isName_19
    · refine tm_iconst cx dX6_isName_18 ?_
      exact tm_zreturn cx (by decide) dX6_isName_19
def fm_isMarked (a1 : Int) (σ : tm_S) : tm_R :=
  tm_bd (fm_isName a1 σ) fun u1 σ1 =>
  if u1 = 0 then
    tm_rt 0 σ1
  else
    if (a1 / 8192 % 2 * 8192) = 0 then
      tm_rt 0 σ1
    else
      tm_rt 1 σ1
theorem tm_fits_X6_isMarked (K : tm_K) (a1 : Int) : (lg_sl [tm_iv a1]).length ≤ 1 := (tm_sl_i _ _ _ (tm_sl_n _))
theorem cm_isMarked (K : tm_K) (l : Launch) (hst : l.stackTraces = false) (a1 : Int) (g1 : tm_in a1) : tm_ct K tm_xM l yX6_isMarked cX6_isMarked 1 (some .boolean) 1 [tm_iv a1] (fm_isMarked a1) 1 20 := by
  refine tm_ct_of hst (by decide +kernel) (Nat.le_trans (tm_fits_X6_isMarked K a1) (Nat.le_of_ble_eq_true rfl)) ?_
  intro p e R s m args below meth c cx σ ls hl0
  have hl : tm_has 0 ls 1 [(0, tm_iv a1)] := ⟨by
    have h9 := hl0
    simp only [tm_args_i, tm_args_n, Nat.zero_add, Nat.reduceAdd] at h9
    exact h9, by
    intro q hq
    simp only [List.mem_cons, List.not_mem_nil, or_false] at hq
    rcases hq with rfl
    · exact Or.inl rfl⟩
  clear hl0
  unfold fm_isMarked
  refine tm_iload_n cx dX6_isMarked_0 (tm_has_at hl 0 rfl) ?_
  refine tm_callS (n := 1) cx (cm_isName K l (tm_hst cx) a1 g1) (lw_S q1298 q1299 q113 q1300) ⟨by decide +kernel, by decide +kernel, by decide +kernel⟩ rfl ⟨Nat.le_of_ble_eq_true rfl, Nat.le_of_ble_eq_true rfl⟩ rfl (Nat.le_of_ble_eq_true rfl) hl.1.1 dX6_isMarked_1 (fun u1 σ1 q1 => ?_)
  show tm_J p l e R s m args below meth c K tm_xM 1 _ _ (F0 m 4 ls [tm_iv u1])
  refine tm_if_eq (tgt := 19) cx q1 dX6_isMarked_4 (by decide) (fun c4 => ?_) (fun c4 => ?_)
  · refine tm_iconst cx dX6_isMarked_19 ?_
    exact tm_zreturn cx (by decide) dX6_isMarked_20
  · refine tm_iload_n cx dX6_isMarked_7 (tm_has_at hl 0 rfl) ?_
    refine tm_sipush cx dX6_isMarked_8 (by decide) ?_
    refine tm_iand8192 cx g1 dX6_isMarked_11 (fun q11 => ?_)
    refine tm_if_eq (tgt := 19) cx q11 dX6_isMarked_12 (by decide) (fun c12 => ?_) (fun c12 => ?_)
    · refine tm_iconst cx dX6_isMarked_19 ?_
      exact tm_zreturn cx (by decide) dX6_isMarked_20
    · refine tm_iconst cx dX6_isMarked_15 ?_
      refine tm_goto (tgt := 20) cx dX6_isMarked_16 (by decide) ?_
      exact tm_zreturn cx (by decide) dX6_isMarked_20
def fm_meaningOf (a1 : Int) (σ : tm_S) : tm_R :=
  if a1 < 4096 then
    tm_gi (1000 + a1) <|
    tm_rt (1000 + a1) σ
  else
    tm_bd (fm_isMarked a1 σ) fun u16 σ16 =>
    if u16 = 0 then
      tm_gi (a1 - 4096) <|
      tm_gx (a1 - 4096) 120 <|
      tm_rt (tm_a σ16 115 (a1 - 4096)) σ16
    else
      tm_rt 2 σ16
theorem tm_fits_X6_meaningOf (K : tm_K) (a1 : Int) : (lg_sl [tm_rv K 0, tm_iv a1]).length ≤ 2 := (tm_sl_r _ _ _ _ (tm_sl_i _ _ _ (tm_sl_n _)))
theorem cm_meaningOf (K : tm_K) (l : Launch) (hst : l.stackTraces = false) (a1 : Int) (g1 : tm_in a1) : tm_ct K tm_xM l yX6_meaningOf cX6_meaningOf 2 (some .int) 1 [tm_rv K 0, tm_iv a1] (fm_meaningOf a1) 2 40 := by
  refine tm_ct_of hst (by decide +kernel) (Nat.le_trans (tm_fits_X6_meaningOf K a1) (Nat.le_of_ble_eq_true rfl)) ?_
  intro p e R s m args below meth c cx σ ls hl0
  have hl : tm_has 0 ls 2 [(0, tm_rv K 0), (1, tm_iv a1)] := ⟨by
    have h9 := hl0
    simp only [tm_args_r, tm_args_i, tm_args_n, Nat.zero_add, Nat.reduceAdd] at h9
    exact h9, by
    intro q hq
    simp only [List.mem_cons, List.not_mem_nil, or_false] at hq
    rcases hq with rfl | rfl
    · exact Or.inl (tm_rv_cat K 0)
    · exact Or.inl rfl⟩
  clear hl0
  unfold fm_meaningOf
  refine tm_iload_n cx dX6_meaningOf_0 (tm_has_at hl 1 rfl) ?_
  refine tm_sipush cx dX6_meaningOf_1 (by decide) ?_
  refine tm_icmp_ge (tgt := 15) cx g1 (by decide) dX6_meaningOf_4 (by decide) (fun c4 => ?_) (fun c4 => ?_)
  · refine tm_sipush cx dX6_meaningOf_7 (by decide) ?_
    refine tm_iload_n cx dX6_meaningOf_10 (tm_has_at hl 1 rfl) ?_
    refine tm_iadd cx dX6_meaningOf_11 (fun q11 => ?_)
    refine tm_goto (tgt := 36) cx dX6_meaningOf_12 (by decide) ?_
    exact tm_ireturn cx q11 dX6_meaningOf_36
  · refine tm_iload_n cx dX6_meaningOf_15 (tm_has_at hl 1 rfl) ?_
    refine tm_callS (n := 1) cx (cm_isMarked K l (tm_hst cx) a1 g1) (lw_S q1295 q1296 q113 q1297) ⟨by decide +kernel, by decide +kernel, by decide +kernel⟩ rfl ⟨Nat.le_of_ble_eq_true rfl, Nat.le_of_ble_eq_true rfl⟩ rfl (Nat.le_of_ble_eq_true rfl) hl.1.1 dX6_meaningOf_16 (fun u16 σ16 q16 => ?_)
    show tm_J p l e R s m args below meth c K tm_xM 1 _ _ (F0 m 19 ls [tm_iv u16])
    refine tm_if_eq (tgt := 26) cx q16 dX6_meaningOf_19 (by decide) (fun c19 => ?_) (fun c19 => ?_)
    · refine tm_aload_n cx dX6_meaningOf_26 (tm_has_at hl 0 rfl) ?_
      refine tg_X6_29 cx dX6_meaningOf_27 ?_
      refine tm_iload_n cx dX6_meaningOf_30 (tm_has_at hl 1 rfl) ?_
      refine tm_sipush cx dX6_meaningOf_31 (by decide) ?_
      refine tm_isub cx dX6_meaningOf_34 (fun q34 => ?_)
      refine tm_iald cx tm_hM_115 q34 dX6_meaningOf_35 (fun i35 q35 => ?_)
      exact tm_ireturn cx q35 dX6_meaningOf_36
    · refine tm_iconst cx dX6_meaningOf_22 ?_
      refine tm_goto (tgt := 36) cx dX6_meaningOf_23 (by decide) ?_
      exact tm_ireturn cx (by decide) dX6_meaningOf_36
def fm_isExpandable (a1 : Int) (σ : tm_S) : tm_R :=
  tm_bd (fm_meaningOf a1 σ) fun u2 σ2 =>
  if u2 < 6000 then
    if u2 = 8 then
      tm_rt 1 σ2
    else
      if u2 = 9 then
        tm_rt 1 σ2
      else
        if u2 = 10 then
          tm_rt 1 σ2
        else
          if u2 < 12 then
            tm_rt 0 σ2
          else
            if 18 < u2 then
              tm_rt 0 σ2
            else
              tm_rt 1 σ2
  else
    tm_rt 1 σ2
theorem tm_fits_X6_isExpandable (K : tm_K) (a1 : Int) : (lg_sl [tm_rv K 0, tm_iv a1]).length ≤ 2 := (tm_sl_r _ _ _ _ (tm_sl_i _ _ _ (tm_sl_n _)))
theorem cm_isExpandable (K : tm_K) (l : Launch) (hst : l.stackTraces = false) (a1 : Int) (g1 : tm_in a1) : tm_ct K tm_xM l yX6_isExpandable cX6_isExpandable 3 (some .boolean) 1 [tm_rv K 0, tm_iv a1] (fm_isExpandable a1) 3 61 := by
  refine tm_ct_of hst (by decide +kernel) (Nat.le_trans (tm_fits_X6_isExpandable K a1) (Nat.le_of_ble_eq_true rfl)) ?_
  intro p e R s m args below meth c cx σ ls hl0
  have hl : tm_has 0 ls 3 [(0, tm_rv K 0), (1, tm_iv a1)] := ⟨by
    have h9 := hl0
    simp only [tm_args_r, tm_args_i, tm_args_n, Nat.zero_add, Nat.reduceAdd] at h9
    exact h9, by
    intro q hq
    simp only [List.mem_cons, List.not_mem_nil, or_false] at hq
    rcases hq with rfl | rfl
    · exact Or.inl (tm_rv_cat K 0)
    · exact Or.inl rfl⟩
  clear hl0
  unfold fm_isExpandable
  refine tm_aload_n cx dX6_isExpandable_0 (tm_has_at hl 0 rfl) ?_
  refine tm_iload_n cx dX6_isExpandable_1 (tm_has_at hl 1 rfl) ?_
  refine tm_callV (n := 1) cx (cm_meaningOf K l (tm_hst cx) a1 g1) (lw_V q1291 q1293 qs60 q113 q1294) ⟨rfl, by decide +kernel, by decide +kernel, by decide +kernel⟩ rfl tm_cd_X6 (fun h => (tm_hM_0 h).1) ⟨Nat.le_of_ble_eq_true rfl, Nat.le_of_ble_eq_true rfl⟩ rfl (Nat.le_of_ble_eq_true rfl) hl.1.1 dX6_isExpandable_2 (fun u2 σ2 q2 => ?_)
  show tm_J p l e R s m args below meth c K tm_xM 1 _ _ (F0 m 5 ls [tm_iv u2])
  refine tm_istore_n (lv' := [(2, tm_iv u2), (0, tm_rv K 0), (1, tm_iv a1)]) cx dX6_isExpandable_5 hl (by decide) (by decide) rfl (fun ls hl => ?_)
  refine tm_iload_n cx dX6_isExpandable_6 (tm_has_at hl 0 rfl) ?_
  refine tm_sipush cx dX6_isExpandable_7 (by decide) ?_
  refine tm_icmp_ge (tgt := 43) cx q2 (by decide) dX6_isExpandable_10 (by decide) (fun c10 => ?_) (fun c10 => ?_)
  · refine tm_iload_n cx dX6_isExpandable_13 (tm_has_at hl 0 rfl) ?_
    refine tm_bipush cx dX6_isExpandable_14 (by decide) ?_
    refine tm_icmp_eq (tgt := 43) cx q2 (by decide) dX6_isExpandable_16 (by decide) (fun c16 => ?_) (fun c16 => ?_)
    · refine tm_iconst cx dX6_isExpandable_43 ?_
      refine tm_goto (tgt := 48) cx dX6_isExpandable_44 (by decide) ?_
      exact tm_zreturn cx (by decide) dX6_isExpandable_48
    · refine tm_iload_n cx dX6_isExpandable_19 (tm_has_at hl 0 rfl) ?_
      refine tm_bipush cx dX6_isExpandable_20 (by decide) ?_
      refine tm_icmp_eq (tgt := 43) cx q2 (by decide) dX6_isExpandable_22 (by decide) (fun c22 => ?_) (fun c22 => ?_)
      · refine tm_iconst cx dX6_isExpandable_43 ?_
        refine tm_goto (tgt := 48) cx dX6_isExpandable_44 (by decide) ?_
        exact tm_zreturn cx (by decide) dX6_isExpandable_48
      · refine tm_iload_n cx dX6_isExpandable_25 (tm_has_at hl 0 rfl) ?_
        refine tm_bipush cx dX6_isExpandable_26 (by decide) ?_
        refine tm_icmp_eq (tgt := 43) cx q2 (by decide) dX6_isExpandable_28 (by decide) (fun c28 => ?_) (fun c28 => ?_)
        · refine tm_iconst cx dX6_isExpandable_43 ?_
          refine tm_goto (tgt := 48) cx dX6_isExpandable_44 (by decide) ?_
          exact tm_zreturn cx (by decide) dX6_isExpandable_48
        · refine tm_iload_n cx dX6_isExpandable_31 (tm_has_at hl 0 rfl) ?_
          refine tm_bipush cx dX6_isExpandable_32 (by decide) ?_
          refine tm_icmp_lt (tgt := 47) cx q2 (by decide) dX6_isExpandable_34 (by decide) (fun c34 => ?_) (fun c34 => ?_)
          · refine tm_iconst cx dX6_isExpandable_47 ?_
            exact tm_zreturn cx (by decide) dX6_isExpandable_48
          · refine tm_iload_n cx dX6_isExpandable_37 (tm_has_at hl 0 rfl) ?_
            refine tm_bipush cx dX6_isExpandable_38 (by decide) ?_
            refine tm_icmp_gt (tgt := 47) cx q2 (by decide) dX6_isExpandable_40 (by decide) (fun c40 => ?_) (fun c40 => ?_)
            · refine tm_iconst cx dX6_isExpandable_47 ?_
              exact tm_zreturn cx (by decide) dX6_isExpandable_48
            · refine tm_iconst cx dX6_isExpandable_43 ?_
              refine tm_goto (tgt := 48) cx dX6_isExpandable_44 (by decide) ?_
              exact tm_zreturn cx (by decide) dX6_isExpandable_48
  · refine tm_iconst cx dX6_isExpandable_43 ?_
    refine tm_goto (tgt := 48) cx dX6_isExpandable_44 (by decide) ?_
    exact tm_zreturn cx (by decide) dX6_isExpandable_48
def fm_need (σ : tm_S) : tm_R :=
  tm_bd (fm_get σ) fun u1 σ1 =>
  if u1 = (-1) then
    tm_bd (fm_stop 3 σ1) fun u12 σ12 =>
    tm_rt u12 σ12
  else
    tm_rt u1 σ1
theorem tm_fits_X6_need (K : tm_K) : (lg_sl [tm_rv K 0]).length ≤ 1 := (tm_sl_r _ _ _ _ (tm_sl_n _))
theorem cm_need (K : tm_K) (l : Launch) (hst : l.stackTraces = false) : tm_ct K tm_xM l yX6_need cX6_need 2 (some .int) 1 [tm_rv K 0] (fm_need) 5 112 := by
  refine tm_ct_of hst (by decide +kernel) (Nat.le_trans (tm_fits_X6_need K) (Nat.le_of_ble_eq_true rfl)) ?_
  intro p e R s m args below meth c cx σ ls hl0
  have hl : tm_has 0 ls 2 [(0, tm_rv K 0)] := ⟨by
    have h9 := hl0
    simp only [tm_args_r, tm_args_n, Nat.zero_add, Nat.reduceAdd] at h9
    exact h9, by
    intro q hq
    simp only [List.mem_cons, List.not_mem_nil, or_false] at hq
    rcases hq with rfl
    · exact Or.inl (tm_rv_cat K 0)⟩
  clear hl0
  unfold fm_need
  refine tm_aload_n cx dX6_need_0 (tm_has_at hl 0 rfl) ?_
  refine tm_callV (n := 0) cx (cm_get K l (tm_hst cx)) (lw_V q1259 q1261 qs52 q113 q1262) ⟨rfl, by decide +kernel, by decide +kernel, by decide +kernel⟩ rfl tm_cd_X6 (fun h => (tm_hM_0 h).1) ⟨Nat.le_of_ble_eq_true rfl, Nat.le_of_ble_eq_true rfl⟩ rfl (Nat.le_of_ble_eq_true rfl) hl.1.1 dX6_need_1 (fun u1 σ1 q1 => ?_)
  show tm_J p l e R s m args below meth c K tm_xM 1 _ _ (F0 m 4 ls [tm_iv u1])
  refine tm_istore_n (lv' := [(1, tm_iv u1), (0, tm_rv K 0)]) cx dX6_need_4 hl (by decide) (by decide) rfl (fun ls hl => ?_)
  refine tm_iload_n cx dX6_need_5 (tm_has_at hl 0 rfl) ?_
  refine tm_iconst cx dX6_need_6 ?_
  refine tm_icmp_ne (tgt := 18) cx q1 (by decide) dX6_need_7 (by decide) (fun c7 => ?_) (fun c7 => ?_)
  · refine tm_aload_n cx dX6_need_10 (tm_has_at hl 1 rfl) ?_
    refine tm_iconst cx dX6_need_11 ?_
    refine tm_callV (n := 1) cx (cm_stop K l (tm_hst cx) 3 (by decide)) (lw_V q1271 q1273 qs55 q113 q1274) ⟨rfl, by decide +kernel, by decide +kernel, by decide +kernel⟩ rfl tm_cd_X6 (fun h => (tm_hM_0 h).1) ⟨Nat.le_of_ble_eq_true rfl, Nat.le_of_ble_eq_true rfl⟩ rfl (Nat.le_of_ble_eq_true rfl) hl.1.1 dX6_need_12 (fun u12 σ12 q12 => ?_)
    show tm_J p l e R s m args below meth c K tm_xM 1 _ _ (F0 m 15 ls [tm_iv u12])
    refine tm_goto (tgt := 19) cx dX6_need_15 (by decide) ?_
    exact tm_ireturn cx q12 dX6_need_19
  · refine tm_iload_n cx dX6_need_18 (tm_has_at hl 0 rfl) ?_
    exact tm_ireturn cx q1 dX6_need_19
def fm_plain (a1 : Int) (σ : tm_S) : tm_R :=
  tm_bd (fm_isMarked a1 σ) fun u1 σ1 =>
  if u1 = 0 then
    tm_rt a1 σ1
  else
    tm_gi (a1 - 8192) <|
    tm_rt (a1 - 8192) σ1
theorem tm_fits_X6_plain (K : tm_K) (a1 : Int) : (lg_sl [tm_iv a1]).length ≤ 1 := (tm_sl_i _ _ _ (tm_sl_n _))
theorem cm_plain (K : tm_K) (l : Launch) (hst : l.stackTraces = false) (a1 : Int) (g1 : tm_in a1) : tm_ct K tm_xM l yX6_plain cX6_plain 1 (some .int) 1 [tm_iv a1] (fm_plain a1) 2 40 := by
  refine tm_ct_of hst (by decide +kernel) (Nat.le_trans (tm_fits_X6_plain K a1) (Nat.le_of_ble_eq_true rfl)) ?_
  intro p e R s m args below meth c cx σ ls hl0
  have hl : tm_has 0 ls 1 [(0, tm_iv a1)] := ⟨by
    have h9 := hl0
    simp only [tm_args_i, tm_args_n, Nat.zero_add, Nat.reduceAdd] at h9
    exact h9, by
    intro q hq
    simp only [List.mem_cons, List.not_mem_nil, or_false] at hq
    rcases hq with rfl
    · exact Or.inl rfl⟩
  clear hl0
  unfold fm_plain
  refine tm_iload_n cx dX6_plain_0 (tm_has_at hl 0 rfl) ?_
  refine tm_callS (n := 1) cx (cm_isMarked K l (tm_hst cx) a1 g1) (lw_S q1295 q1296 q113 q1297) ⟨by decide +kernel, by decide +kernel, by decide +kernel⟩ rfl ⟨Nat.le_of_ble_eq_true rfl, Nat.le_of_ble_eq_true rfl⟩ rfl (Nat.le_of_ble_eq_true rfl) hl.1.1 dX6_plain_1 (fun u1 σ1 q1 => ?_)
  show tm_J p l e R s m args below meth c K tm_xM 1 _ _ (F0 m 4 ls [tm_iv u1])
  refine tm_if_eq (tgt := 15) cx q1 dX6_plain_4 (by decide) (fun c4 => ?_) (fun c4 => ?_)
  · refine tm_iload_n cx dX6_plain_15 (tm_has_at hl 0 rfl) ?_
    exact tm_ireturn cx g1 dX6_plain_16
  · refine tm_iload_n cx dX6_plain_7 (tm_has_at hl 0 rfl) ?_
    refine tm_sipush cx dX6_plain_8 (by decide) ?_
    refine tm_isub cx dX6_plain_11 (fun q11 => ?_)
    refine tm_goto (tgt := 16) cx dX6_plain_12 (by decide) ?_
    exact tm_ireturn cx q11 dX6_plain_16
