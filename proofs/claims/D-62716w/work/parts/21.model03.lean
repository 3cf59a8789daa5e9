set_option maxRecDepth 100000
def fm_string_J73 (v2 : Int) (σ : tm_S) : tm_R :=
  tm_gx v2 120 <|
  if (tm_a σ 114 v2) = 0 then
    if (tm_f σ 453 0) = 0 then
      tm_bd (fm_other 92 σ) fun u92 σ92 =>
      tm_bd (fm_putBack u92 σ92) fun u95 σ95 =>
      tm_rt 0 σ95
    else
      tm_rt 0 σ
  else
    tm_rt 0 σ
theorem wm_string_J73 {p : Program} {l : Launch} {e : Env} {R : Room} {s : State} {m : MethodId} {args : Array Value} {below : List Frame} {meth : Method} {c : Code} {K : tm_K} (cx : tm_C p l R s m args meth c K cX6_string 4 RX6 "string" none 3 60) (v2 : Int) (σ : tm_S) (ls : Array Slot) (g2 : tm_in v2) (hl : tm_has 0 ls 4 [(0, tm_rv K 0), (2, tm_iv v2)]) : tm_J p l e R s m args below meth c K tm_xM 0 (fm_string_J73 v2 σ) σ (F0 m 73 ls []) := by
  unfold fm_string_J73
  refine tm_aload_n cx dX6_string_73 (tm_has_at hl 0 rfl) ?_
  refine tg_X6_25 cx dX6_string_74 ?_
  refine tm_iload_n cx dX6_string_77 (tm_has_at hl 1 rfl) ?_
  refine tm_zald cx tm_hM_114 g2 dX6_string_78 (fun i78 q78 => ?_)
  refine tm_if_ne (tgt := 98) cx q78 dX6_string_79 (by decide) (fun c79 => ?_) (fun c79 => ?_)
  · refine tm_aload_n cx dX6_string_82 (tm_has_at hl 0 rfl) ?_
    refine tg_X6_159 cx dX6_string_83 (fun q83 => ?_)
    refine tm_if_ne (tgt := 98) cx q83 dX6_string_86 (by decide) (fun c86 => ?_) (fun c86 => ?_)
    · refine tm_aload_n cx dX6_string_89 (tm_has_at hl 0 rfl) ?_
      refine tm_bipush cx dX6_string_90 (by decide) ?_
      refine tm_callS (n := 1) cx (cm_other K l (tm_hst cx) 92 (by decide)) (lw_S q1355 q1356 q113 q1357) ⟨by decide +kernel, by decide +kernel, by decide +kernel⟩ rfl ⟨Nat.le_of_ble_eq_true rfl, Nat.le_of_ble_eq_true rfl⟩ rfl (Nat.le_of_ble_eq_true rfl) hl.1.1 dX6_string_92 (fun u92 σ92 q92 => ?_)
      show tm_J p l e R s m args below meth c K tm_xM 0 _ _ (F0 m 95 ls [tm_iv u92, tm_rv K 0])
      refine tm_callV (n := 1) cx (cm_putBack K l (tm_hst cx) u92 q92) (lw_V q1343 q1345 qs70 q113 q1346) ⟨rfl, by decide +kernel, by decide +kernel, by decide +kernel⟩ rfl tm_cd_X6 (fun h => (tm_hM_0 h).1) ⟨Nat.le_of_ble_eq_true rfl, Nat.le_of_ble_eq_true rfl⟩ rfl (Nat.le_of_ble_eq_true rfl) hl.1.1 dX6_string_95 (fun u95 σ95 q95 => ?_)
      show tm_J p l e R s m args below meth c K tm_xM 0 _ _ (F0 m 98 ls [])
      exact tm_vreturn cx dX6_string_98
    · exact tm_vreturn cx dX6_string_98
  · exact tm_vreturn cx dX6_string_98
def fm_string_B38 (r38 : Int → Int → tm_S → tm_R) (v2 : Int) (v3 : Int) (σ : tm_S) : tm_R :=
  if v3 < 0 then
    fm_string_J73 v2 σ
  else
    if (tm_f σ 453 0) = 0 then
      tm_gi (11 * v2) <|
      tm_gi ((11 * v2) + v3) <|
      tm_gx ((11 * v2) + v3) 1320 <|
      tm_bd (fm_other (tm_a σ 112 ((11 * v2) + v3)) σ) fun u61 σ61 =>
      tm_bd (fm_putBack u61 σ61) fun u64 σ64 =>
      tm_gi (v3 + (-1)) <|
      r38 v2 (v3 + (-1)) σ64
    else
      fm_string_J73 v2 σ
theorem wm_string_B38 {p : Program} {l : Launch} {e : Env} {R : Room} {s : State} {m : MethodId} {args : Array Value} {below : List Frame} {meth : Method} {c : Code} {K : tm_K} {r38 : Int → Int → tm_S → tm_R} (cx : tm_C p l R s m args meth c K cX6_string 4 RX6 "string" none 3 60) (h38 : ∀ (v2 : Int) (v3 : Int) (τ : tm_S) (ls : Array Slot), tm_in v2 → tm_in v3 → tm_has 0 ls 4 [(0, tm_rv K 0), (2, tm_iv v2), (3, tm_iv v3)] → tm_J p l e R s m args below meth c K tm_xM 0 (r38 v2 v3 τ) τ (F0 m 38 ls [])) (v2 : Int) (v3 : Int) (σ : tm_S) (ls : Array Slot) (g2 : tm_in v2) (g3 : tm_in v3) (hl : tm_has 0 ls 4 [(0, tm_rv K 0), (2, tm_iv v2), (3, tm_iv v3)]) : tm_J p l e R s m args below meth c K tm_xM 0 (fm_string_B38 r38 v2 v3 σ) σ (F0 m 38 ls []) := by
  unfold fm_string_B38
  refine tm_iload_n cx dX6_string_38 (tm_has_at hl 2 rfl) ?_
  refine tm_if_lt (tgt := 73) cx g3 dX6_string_39 (by decide) (fun c39 => ?_) (fun c39 => ?_)
  · exact wm_string_J73 cx v2 _ _ g2 (tm_has_sub hl [0, 1] rfl)
  · refine tm_aload_n cx dX6_string_42 (tm_has_at hl 0 rfl) ?_
    refine tg_X6_159 cx dX6_string_43 (fun q43 => ?_)
    refine tm_if_ne (tgt := 73) cx q43 dX6_string_46 (by decide) (fun c46 => ?_) (fun c46 => ?_)
    · refine tm_aload_n cx dX6_string_49 (tm_has_at hl 0 rfl) ?_
      refine tm_aload_n cx dX6_string_50 (tm_has_at hl 0 rfl) ?_
      refine tg_X6_19 cx dX6_string_51 ?_
      refine tm_bipush cx dX6_string_54 (by decide) ?_
      refine tm_iload_n cx dX6_string_56 (tm_has_at hl 1 rfl) ?_
      refine tm_imul cx dX6_string_57 (fun q57 => ?_)
      refine tm_iload_n cx dX6_string_58 (tm_has_at hl 2 rfl) ?_
      refine tm_iadd cx dX6_string_59 (fun q59 => ?_)
      refine tm_iald cx tm_hM_112 q59 dX6_string_60 (fun i60 q60 => ?_)
      refine tm_callS (n := 1) cx (cm_other K l (tm_hst cx) (tm_a σ 112 ((11 * v2) + v3)) q60) (lw_S q1355 q1356 q113 q1357) ⟨by decide +kernel, by decide +kernel, by decide +kernel⟩ rfl ⟨Nat.le_of_ble_eq_true rfl, Nat.le_of_ble_eq_true rfl⟩ rfl (Nat.le_of_ble_eq_true rfl) hl.1.1 dX6_string_61 (fun u61 σ61 q61 => ?_)
      show tm_J p l e R s m args below meth c K tm_xM 0 _ _ (F0 m 64 ls [tm_iv u61, tm_rv K 0])
      refine tm_callV (n := 1) cx (cm_putBack K l (tm_hst cx) u61 q61) (lw_V q1343 q1345 qs70 q113 q1346) ⟨rfl, by decide +kernel, by decide +kernel, by decide +kernel⟩ rfl tm_cd_X6 (fun h => (tm_hM_0 h).1) ⟨Nat.le_of_ble_eq_true rfl, Nat.le_of_ble_eq_true rfl⟩ rfl (Nat.le_of_ble_eq_true rfl) hl.1.1 dX6_string_64 (fun u64 σ64 q64 => ?_)
      show tm_J p l e R s m args below meth c K tm_xM 0 _ _ (F0 m 67 ls [])
      refine tm_iinc (lv' := [(3, tm_iv (v3 + (-1))), (0, tm_rv K 0), (2, tm_iv v2)]) cx dX6_string_67 hl (j := 2) rfl (by decide) (by decide) rfl (fun q67 ls hl => ?_)
      refine tm_goto (tgt := 38) cx dX6_string_70 (by decide) ?_
      exact h38 v2 (v3 + (-1)) _ _ g2 q67 (tm_has_sub hl [1, 2, 0] rfl)
    · exact wm_string_J73 cx v2 _ _ g2 (tm_has_sub hl [0, 1] rfl)
def fm_string_L38 : Nat → Int → Int → tm_S → tm_R
  | 0, _, _, _ => none
  | n + 1, v2, v3, σ => fm_string_B38 (fm_string_L38 n) v2 v3 σ
theorem wm_string_L38 {p : Program} {l : Launch} {e : Env} {R : Room} {s : State} {m : MethodId} {args : Array Value} {below : List Frame} {meth : Method} {c : Code} {K : tm_K} (cx : tm_C p l R s m args meth c K cX6_string 4 RX6 "string" none 3 60) : ∀ (n : Nat) (v2 : Int) (v3 : Int) (σ : tm_S) (ls : Array Slot), tm_in v2 → tm_in v3 → tm_has 0 ls 4 [(0, tm_rv K 0), (2, tm_iv v2), (3, tm_iv v3)] → tm_J p l e R s m args below meth c K tm_xM 0 (fm_string_L38 n v2 v3 σ) σ (F0 m 38 ls []) := by
  intro n
  induction n with
  | zero => intros; exact tm_none
  | succ n ih =>
    intro v2 v3 σ ls g2 g3 hl
    exact wm_string_B38 (r38 := fm_string_L38 n) cx ih v2 v3 σ ls g2 g3 hl
def fm_string (a1 : Int) (σ : tm_S) : tm_R :=
  if a1 < 4096 then
    tm_bd (fm_other (a1 % 256) σ) fun u13 σ13 =>
    tm_bd (fm_putBack u13 σ13) fun u16 σ16 =>
    tm_rt 0 σ16
  else
    tm_bd (fm_plain a1 σ) fun u21 σ21 =>
    tm_gi (u21 - 4096) <|
    tm_lt (u21 - 4096) fun x28 =>
    tm_gx x28 120 <|
    tm_gi ((tm_a σ21 113 x28) - 1) <|
    tm_lt ((tm_a σ21 113 x28) - 1) fun x37 =>
    fm_string_L38 tm_FU x28 x37 σ21
theorem tm_fits_X6_string (K : tm_K) (a1 : Int) : (lg_sl [tm_rv K 0, tm_iv a1]).length ≤ 2 := (tm_sl_r _ _ _ _ (tm_sl_i _ _ _ (tm_sl_n _)))
theorem cm_string (K : tm_K) (l : Launch) (hst : l.stackTraces = false) (a1 : Int) (g1 : tm_in a1) : tm_ct K tm_xM l yX6_string cX6_string 4 none 0 [tm_rv K 0, tm_iv a1] (fm_string a1) 3 60 := by
  refine tm_ct_of hst (by decide +kernel) (Nat.le_trans (tm_fits_X6_string K a1) (Nat.le_of_ble_eq_true rfl)) ?_
  intro p e R s m args below meth c cx σ ls hl0
  have hl : tm_has 0 ls 4 [(0, tm_rv K 0), (1, tm_iv a1)] := ⟨by
    have h9 := hl0
    simp only [tm_args_r, tm_args_i, tm_args_n, Nat.zero_add, Nat.reduceAdd] at h9
    exact h9, by
    intro q hq
    simp only [List.mem_cons, List.not_mem_nil, or_false] at hq
    rcases hq with rfl | rfl
    · exact Or.inl (tm_rv_cat K 0)
    · exact Or.inl rfl⟩
  clear hl0
  unfold fm_string
  refine tm_iload_n cx dX6_string_0 (tm_has_at hl 1 rfl) ?_
  refine tm_sipush cx dX6_string_1 (by decide) ?_
  refine tm_icmp_ge (tgt := 20) cx g1 (by decide) dX6_string_4 (by decide) (fun c4 => ?_) (fun c4 => ?_)
  · refine tm_aload_n cx dX6_string_7 (tm_has_at hl 0 rfl) ?_
    refine tm_iload_n cx dX6_string_8 (tm_has_at hl 1 rfl) ?_
    refine tm_sipush cx dX6_string_9 (by decide) ?_
    refine tm_iand255 cx g1 dX6_string_12 (fun q12 => ?_)
    refine tm_callS (n := 1) cx (cm_other K l (tm_hst cx) (a1 % 256) q12) (lw_S q1355 q1356 q113 q1357) ⟨by decide +kernel, by decide +kernel, by decide +kernel⟩ rfl ⟨Nat.le_of_ble_eq_true rfl, Nat.le_of_ble_eq_true rfl⟩ rfl (Nat.le_of_ble_eq_true rfl) hl.1.1 dX6_string_13 (fun u13 σ13 q13 => ?_)
    show tm_J p l e R s m args below meth c K tm_xM 0 _ _ (F0 m 16 ls [tm_iv u13, tm_rv K 0])
    refine tm_callV (n := 1) cx (cm_putBack K l (tm_hst cx) u13 q13) (lw_V q1343 q1345 qs70 q113 q1346) ⟨rfl, by decide +kernel, by decide +kernel, by decide +kernel⟩ rfl tm_cd_X6 (fun h => (tm_hM_0 h).1) ⟨Nat.le_of_ble_eq_true rfl, Nat.le_of_ble_eq_true rfl⟩ rfl (Nat.le_of_ble_eq_true rfl) hl.1.1 dX6_string_16 (fun u16 σ16 q16 => ?_)
    show tm_J p l e R s m args below meth c K tm_xM 0 _ _ (F0 m 19 ls [])
    exact tm_vreturn cx dX6_string_19
  · refine tm_iload_n cx dX6_string_20 (tm_has_at hl 1 rfl) ?_
    refine tm_callS (n := 1) cx (cm_plain K l (tm_hst cx) a1 g1) (lw_S q1317 q1318 q113 q1319) ⟨by decide +kernel, by decide +kernel, by decide +kernel⟩ rfl ⟨Nat.le_of_ble_eq_true rfl, Nat.le_of_ble_eq_true rfl⟩ rfl (Nat.le_of_ble_eq_true rfl) hl.1.1 dX6_string_21 (fun u21 σ21 q21 => ?_)
    show tm_J p l e R s m args below meth c K tm_xM 0 _ _ (F0 m 24 ls [tm_iv u21])
    refine tm_sipush cx dX6_string_24 (by decide) ?_
    refine tm_isub cx dX6_string_27 (fun q27 => ?_)
    refine tm_lt_ q27 (fun x28 q28 => ?_)
    refine tm_istore_n (lv' := [(2, tm_iv x28), (0, tm_rv K 0), (1, tm_iv a1)]) cx dX6_string_28 hl (by decide) (by decide) rfl (fun ls hl => ?_)
    refine tm_aload_n cx dX6_string_29 (tm_has_at hl 1 rfl) ?_
    refine tg_X6_22 cx dX6_string_30 ?_
    refine tm_iload_n cx dX6_string_33 (tm_has_at hl 0 rfl) ?_
    refine tm_iald cx tm_hM_113 q28 dX6_string_34 (fun i34 q34 => ?_)
    refine tm_iconst cx dX6_string_35 ?_
    refine tm_isub cx dX6_string_36 (fun q36 => ?_)
    refine tm_lt_ q36 (fun x37 q37 => ?_)
    refine tm_istore_n (lv' := [(3, tm_iv x37), (2, tm_iv x28), (0, tm_rv K 0), (1, tm_iv a1)]) cx dX6_string_37 hl (by decide) (by decide) rfl (fun ls hl => ?_)
    exact wm_string_L38 cx tm_FU x28 x37 _ _ q28 q37 (tm_has_sub hl [2, 1, 0] rfl)
def fm_pass_J41 (r2 : Int → Int → tm_S → tm_R) (v1 : Int) (v2 : Int) (v4 : Int) (σ : tm_S) : tm_R :=
  if v4 = 18 then
    tm_gi (v2 + (-1)) <|
    if (v2 + (-1)) < 0 then
      tm_rt 0 σ
    else
      r2 v1 (v2 + (-1)) σ
  else
    if v4 = 17 then
      if v2 = 0 then
        if v1 = 0 then
          r2 v1 v2 σ
        else
          tm_rt 1 σ
      else
        r2 v1 v2 σ
    else
      r2 v1 v2 σ
theorem wm_pass_J41 {p : Program} {l : Launch} {e : Env} {R : Room} {s : State} {m : MethodId} {args : Array Value} {below : List Frame} {meth : Method} {c : Code} {K : tm_K} {r2 : Int → Int → tm_S → tm_R} (cx : tm_C p l R s m args meth c K cX6_pass 5 RX6 "pass" (some .boolean) 6 133) (h2 : ∀ (v1 : Int) (v2 : Int) (τ : tm_S) (ls : Array Slot), tm_in v1 → tm_in v2 → tm_has 0 ls 5 [(0, tm_rv K 0), (1, tm_iv v1), (2, tm_iv v2)] → tm_J p l e R s m args below meth c K tm_xM 1 (r2 v1 v2 τ) τ (F0 m 2 ls [])) (v1 : Int) (v2 : Int) (v4 : Int) (σ : tm_S) (ls : Array Slot) (g1 : tm_in v1) (g2 : tm_in v2) (g4 : tm_in v4) (hl : tm_has 0 ls 5 [(0, tm_rv K 0), (1, tm_iv v1), (2, tm_iv v2), (4, tm_iv v4)]) : tm_J p l e R s m args below meth c K tm_xM 1 (fm_pass_J41 r2 v1 v2 v4 σ) σ (F0 m 41 ls []) := by
  unfold fm_pass_J41
  refine tm_iload cx dX6_pass_41 (tm_has_at hl 3 rfl) ?_
  refine tm_bipush cx dX6_pass_43 (by decide) ?_
  refine tm_icmp_ne (tgt := 57) cx g4 (by decide) dX6_pass_45 (by decide) (fun c45 => ?_) (fun c45 => ?_)
  · refine tm_iinc (lv' := [(2, tm_iv (v2 + (-1))), (0, tm_rv K 0), (1, tm_iv v1), (4, tm_iv v4)]) cx dX6_pass_48 hl (j := 2) rfl (by decide) (by decide) rfl (fun q48 ls hl => ?_)
    refine tm_iload_n cx dX6_pass_51 (tm_has_at hl 0 rfl) ?_
    refine tm_if_ge (tgt := 74) cx q48 dX6_pass_52 (by decide) (fun c52 => ?_) (fun c52 => ?_)
    · refine tm_iconst cx dX6_pass_55 ?_
      exact tm_zreturn cx (by decide) dX6_pass_56
    · refine tm_goto (tgt := 2) cx dX6_pass_74 (by decide) ?_
      exact h2 v1 (v2 + (-1)) _ _ g1 q48 (tm_has_sub hl [1, 2, 0] rfl)
  · refine tm_iload cx dX6_pass_57 (tm_has_at hl 3 rfl) ?_
    refine tm_bipush cx dX6_pass_59 (by decide) ?_
    refine tm_icmp_ne (tgt := 74) cx g4 (by decide) dX6_pass_61 (by decide) (fun c61 => ?_) (fun c61 => ?_)
    · refine tm_iload_n cx dX6_pass_64 (tm_has_at hl 2 rfl) ?_
      refine tm_if_ne (tgt := 74) cx g2 dX6_pass_65 (by decide) (fun c65 => ?_) (fun c65 => ?_)
      · refine tm_iload_n cx dX6_pass_68 (tm_has_at hl 1 rfl) ?_
        refine tm_if_eq (tgt := 74) cx g1 dX6_pass_69 (by decide) (fun c69 => ?_) (fun c69 => ?_)
        · refine tm_goto (tgt := 2) cx dX6_pass_74 (by decide) ?_
          exact h2 v1 v2 _ _ g1 g2 (tm_has_sub hl [0, 1, 2] rfl)
        · refine tm_iconst cx dX6_pass_72 ?_
          exact tm_zreturn cx (by decide) dX6_pass_73
      · refine tm_goto (tgt := 2) cx dX6_pass_74 (by decide) ?_
        exact h2 v1 v2 _ _ g1 g2 (tm_has_sub hl [0, 1, 2] rfl)
    · refine tm_goto (tgt := 2) cx dX6_pass_74 (by decide) ?_
      exact h2 v1 v2 _ _ g1 g2 (tm_has_sub hl [0, 1, 2] rfl)
def fm_pass_B2 (r2 : Int → Int → tm_S → tm_R) (v1 : Int) (v2 : Int) (σ : tm_S) : tm_R :=
  tm_bd (fm_need σ) fun u3 σ3 =>
  if u3 = (-1) then
    tm_rt 0 σ3
  else
    tm_bd (fm_meaningOf u3 σ3) fun u16 σ16 =>
    if u16 < 13 then
      fm_pass_J41 r2 v1 v2 u16 σ16
    else
      if 16 < u16 then
        fm_pass_J41 r2 v1 v2 u16 σ16
      else
        tm_gi (v2 + 1) <|
        r2 v1 (v2 + 1) σ16
theorem wm_pass_B2 {p : Program} {l : Launch} {e : Env} {R : Room} {s : State} {m : MethodId} {args : Array Value} {below : List Frame} {meth : Method} {c : Code} {K : tm_K} {r2 : Int → Int → tm_S → tm_R} (cx : tm_C p l R s m args meth c K cX6_pass 5 RX6 "pass" (some .boolean) 6 133) (h2 : ∀ (v1 : Int) (v2 : Int) (τ : tm_S) (ls : Array Slot), tm_in v1 → tm_in v2 → tm_has 0 ls 5 [(0, tm_rv K 0), (1, tm_iv v1), (2, tm_iv v2)] → tm_J p l e R s m args below meth c K tm_xM 1 (r2 v1 v2 τ) τ (F0 m 2 ls [])) (v1 : Int) (v2 : Int) (σ : tm_S) (ls : Array Slot) (g1 : tm_in v1) (g2 : tm_in v2) (hl : tm_has 0 ls 5 [(0, tm_rv K 0), (1, tm_iv v1), (2, tm_iv v2)]) : tm_J p l e R s m args below meth c K tm_xM 1 (fm_pass_B2 r2 v1 v2 σ) σ (F0 m 2 ls []) := by
  unfold fm_pass_B2
  refine tm_aload_n cx dX6_pass_2 (tm_has_at hl 0 rfl) ?_
  refine tm_callV (n := 0) cx (cm_need K l (tm_hst cx)) (lw_V q1313 q1315 qs64 q113 q1316) ⟨rfl, by decide +kernel, by decide +kernel, by decide +kernel⟩ rfl tm_cd_X6 (fun h => (tm_hM_0 h).1) ⟨Nat.le_of_ble_eq_true rfl, Nat.le_of_ble_eq_true rfl⟩ rfl (Nat.le_of_ble_eq_true rfl) hl.1.1 dX6_pass_3 (fun u3 σ3 q3 => ?_)
  show tm_J p l e R s m args below meth c K tm_xM 1 _ _ (F0 m 6 ls [tm_iv u3])
  refine tm_istore_n (lv' := [(3, tm_iv u3), (0, tm_rv K 0), (1, tm_iv v1), (2, tm_iv v2)]) cx dX6_pass_6 hl (by decide) (by decide) rfl (fun ls hl => ?_)
  refine tm_iload_n cx dX6_pass_7 (tm_has_at hl 0 rfl) ?_
  refine tm_iconst cx dX6_pass_8 ?_
  refine tm_icmp_ne (tgt := 14) cx q3 (by decide) dX6_pass_9 (by decide) (fun c9 => ?_) (fun c9 => ?_)
  · refine tm_iconst cx dX6_pass_12 ?_
    exact tm_zreturn cx (by decide) dX6_pass_13
  · refine tm_aload_n cx dX6_pass_14 (tm_has_at hl 1 rfl) ?_
    refine tm_iload_n cx dX6_pass_15 (tm_has_at hl 0 rfl) ?_
    refine tm_callV (n := 1) cx (cm_meaningOf K l (tm_hst cx) u3 q3) (lw_V q1291 q1293 qs60 q113 q1294) ⟨rfl, by decide +kernel, by decide +kernel, by decide +kernel⟩ rfl tm_cd_X6 (fun h => (tm_hM_0 h).1) ⟨Nat.le_of_ble_eq_true rfl, Nat.le_of_ble_eq_true rfl⟩ rfl (Nat.le_of_ble_eq_true rfl) hl.1.1 dX6_pass_16 (fun u16 σ16 q16 => ?_)
    show tm_J p l e R s m args below meth c K tm_xM 1 _ _ (F0 m 19 ls [tm_iv u16])
    refine tm_istore (lv' := [(4, tm_iv u16), (3, tm_iv u3), (0, tm_rv K 0), (1, tm_iv v1), (2, tm_iv v2)]) cx dX6_pass_19 hl (by decide) (by decide) rfl (fun ls hl => ?_)
    refine tm_iload cx dX6_pass_21 (tm_has_at hl 0 rfl) ?_
    refine tm_bipush cx dX6_pass_23 (by decide) ?_
    refine tm_icmp_lt (tgt := 41) cx q16 (by decide) dX6_pass_25 (by decide) (fun c25 => ?_) (fun c25 => ?_)
    · exact wm_pass_J41 cx h2 v1 v2 u16 _ _ g1 g2 q16 (tm_has_sub hl [2, 3, 4, 0] rfl)
    · refine tm_iload cx dX6_pass_28 (tm_has_at hl 0 rfl) ?_
      refine tm_bipush cx dX6_pass_30 (by decide) ?_
      refine tm_icmp_gt (tgt := 41) cx q16 (by decide) dX6_pass_32 (by decide) (fun c32 => ?_) (fun c32 => ?_)
      · exact wm_pass_J41 cx h2 v1 v2 u16 _ _ g1 g2 q16 (tm_has_sub hl [2, 3, 4, 0] rfl)
      · refine tm_iinc (lv' := [(2, tm_iv (v2 + 1)), (4, tm_iv u16), (3, tm_iv u3), (0, tm_rv K 0), (1, tm_iv v1)]) cx dX6_pass_35 hl (j := 4) rfl (by decide) (by decide) rfl (fun q35 ls hl => ?_)
        refine tm_goto (tgt := 74) cx dX6_pass_38 (by decide) ?_
        refine tm_goto (tgt := 2) cx dX6_pass_74 (by decide) ?_
        exact h2 v1 (v2 + 1) _ _ g1 q35 (tm_has_sub hl [3, 4, 0] rfl)
def fm_pass_L2 : Nat → Int → Int → tm_S → tm_R
  | 0, _, _, _ => none
  | n + 1, v1, v2, σ => fm_pass_B2 (fm_pass_L2 n) v1 v2 σ
theorem wm_pass_L2 {p : Program} {l : Launch} {e : Env} {R : Room} {s : State} {m : MethodId} {args : Array Value} {below : List Frame} {meth : Method} {c : Code} {K : tm_K} (cx : tm_C p l R s m args meth c K cX6_pass 5 RX6 "pass" (some .boolean) 6 133) : ∀ (n : Nat) (v1 : Int) (v2 : Int) (σ : tm_S) (ls : Array Slot), tm_in v1 → tm_in v2 → tm_has 0 ls 5 [(0, tm_rv K 0), (1, tm_iv v1), (2, tm_iv v2)] → tm_J p l e R s m args below meth c K tm_xM 1 (fm_pass_L2 n v1 v2 σ) σ (F0 m 2 ls []) := by
  intro n
  induction n with
  | zero => intros; exact tm_none
  | succ n ih =>
    intro v1 v2 σ ls g1 g2 hl
    exact wm_pass_B2 (r2 := fm_pass_L2 n) cx ih v1 v2 σ ls g1 g2 hl
def fm_pass (a1 : Int) (σ : tm_S) : tm_R :=
  fm_pass_L2 tm_FU a1 0 σ
theorem tm_fits_X6_pass (K : tm_K) (a1 : Int) : (lg_sl [tm_rv K 0, tm_iv a1]).length ≤ 2 := (tm_sl_r _ _ _ _ (tm_sl_i _ _ _ (tm_sl_n _)))
theorem cm_pass (K : tm_K) (l : Launch) (hst : l.stackTraces = false) (a1 : Int) (g1 : tm_in a1) : tm_ct K tm_xM l yX6_pass cX6_pass 5 (some .boolean) 1 [tm_rv K 0, tm_iv a1] (fm_pass a1) 6 133 := by
  refine tm_ct_of hst (by decide +kernel) (Nat.le_trans (tm_fits_X6_pass K a1) (Nat.le_of_ble_eq_true rfl)) ?_
  intro p e R s m args below meth c cx σ ls hl0
  have hl : tm_has 0 ls 5 [(0, tm_rv K 0), (1, tm_iv a1)] := ⟨by
    have h9 := hl0
    simp only [tm_args_r, tm_args_i, tm_args_n, Nat.zero_add, Nat.reduceAdd] at h9
    exact h9, by
    intro q hq
    simp only [List.mem_cons, List.not_mem_nil, or_false] at hq
    rcases hq with rfl | rfl
    · exact Or.inl (tm_rv_cat K 0)
    · exact Or.inl rfl⟩
  clear hl0
  unfold fm_pass
  refine tm_iconst cx dX6_pass_0 ?_
  refine tm_istore_n (lv' := [(2, tm_iv 0), (0, tm_rv K 0), (1, tm_iv a1)]) cx dX6_pass_1 hl (by decide) (by decide) rfl (fun ls hl => ?_)
  exact wm_pass_L2 cx tm_FU a1 0 _ _ g1 (by decide) (tm_has_sub hl [1, 2, 0] rfl)
def fm_close_J81 (vs0 : Int) (σ : tm_S) : tm_R :=
  if (tm_f σ 453 0) = 0 then
    tm_gi ((tm_f σ 477 0) - 1) <|
    tm_rt 0 (tm_wf σ 477 0 ((tm_f σ 477 0) - 1))
  else
    tm_gi ((tm_f σ 477 0) - 0) <|
    tm_rt 0 (tm_wf σ 477 0 ((tm_f σ 477 0) - 0))
theorem wm_close_J81 {p : Program} {l : Launch} {e : Env} {R : Room} {s : State} {m : MethodId} {args : Array Value} {below : List Frame} {meth : Method} {c : Code} {K : tm_K} (cx : tm_C p l R s m args meth c K cX6_close 4 RX6 "close" none 7 157) (vs0 : Int) (σ : tm_S) (ls : Array Slot) (gs0 : tm_in vs0) (hl : tm_has 0 ls 4 [(0, tm_rv K 0)]) : tm_J p l e R s m args below meth c K tm_xM 0 (fm_close_J81 vs0 σ) σ (F0 m 81 ls [tm_iv vs0]) := by
  unfold fm_close_J81
  refine tm_istore_n (lv' := [(3, tm_iv vs0), (0, tm_rv K 0)]) cx dX6_close_81 hl (by decide) (by decide) rfl (fun ls hl => ?_)
  refine tm_aload_n cx dX6_close_82 (tm_has_at hl 1 rfl) ?_
  refine tm_dup_r cx dX6_close_83 ?_
  refine tg_X6_177 cx dX6_close_84 (fun q84 => ?_)
  refine tm_aload_n cx dX6_close_87 (tm_has_at hl 1 rfl) ?_
  refine tg_X6_159 cx dX6_close_88 (fun q88 => ?_)
  refine tm_if_ne (tgt := 98) cx q88 dX6_close_91 (by decide) (fun c91 => ?_) (fun c91 => ?_)
  · refine tm_iconst cx dX6_close_94 ?_
    refine tm_goto (tgt := 99) cx dX6_close_95 (by decide) ?_
    refine tm_isub cx dX6_close_99 (fun q99 => ?_)
    refine tp_X6_177 cx q99 dX6_close_100 ?_
    exact tm_vreturn cx dX6_close_103
  · refine tm_iconst cx dX6_close_98 ?_
    refine tm_isub cx dX6_close_99 (fun q99 => ?_)
    refine tp_X6_177 cx q99 dX6_close_100 ?_
    exact tm_vreturn cx dX6_close_103
def fm_close_J50 (v1 : Int) (vs0 : Int) (σ : tm_S) : tm_R :=
  if vs0 = 0 then
    tm_bd (fm_stop 1 σ) fun u57 σ57 =>
    tm_rt 0 σ57
  else
    if v1 = 17 then
      tm_bd (fm_pass 0 σ) fun u70 σ70 =>
      if u70 = 0 then
        fm_close_J81 0 σ70
      else
        fm_close_J81 1 σ70
    else
      fm_close_J81 0 σ
theorem wm_close_J50 {p : Program} {l : Launch} {e : Env} {R : Room} {s : State} {m : MethodId} {args : Array Value} {below : List Frame} {meth : Method} {c : Code} {K : tm_K} (cx : tm_C p l R s m args meth c K cX6_close 4 RX6 "close" none 7 157) (v1 : Int) (vs0 : Int) (σ : tm_S) (ls : Array Slot) (g1 : tm_in v1) (gs0 : tm_in vs0) (hl : tm_has 0 ls 4 [(0, tm_rv K 0), (1, tm_iv v1)]) : tm_J p l e R s m args below meth c K tm_xM 0 (fm_close_J50 v1 vs0 σ) σ (F0 m 50 ls [tm_iv vs0]) := by
  unfold fm_close_J50
  refine tm_istore_n (lv' := [(2, tm_iv vs0), (0, tm_rv K 0), (1, tm_iv v1)]) cx dX6_close_50 hl (by decide) (by decide) rfl (fun ls hl => ?_)
  refine tm_iload_n cx dX6_close_51 (tm_has_at hl 0 rfl) ?_
  refine tm_if_ne (tgt := 62) cx gs0 dX6_close_52 (by decide) (fun c52 => ?_) (fun c52 => ?_)
  · refine tm_aload_n cx dX6_close_55 (tm_has_at hl 1 rfl) ?_
    refine tm_iconst cx dX6_close_56 ?_
    refine tm_callV (n := 1) cx (cm_stop K l (tm_hst cx) 1 (by decide)) (lw_V q1271 q1273 qs55 q113 q1274) ⟨rfl, by decide +kernel, by decide +kernel, by decide +kernel⟩ rfl tm_cd_X6 (fun h => (tm_hM_0 h).1) ⟨Nat.le_of_ble_eq_true rfl, Nat.le_of_ble_eq_true rfl⟩ rfl (Nat.le_of_ble_eq_true rfl) hl.1.1 dX6_close_57 (fun u57 σ57 q57 => ?_)
    show tm_J p l e R s m args below meth c K tm_xM 0 _ _ (F0 m 60 ls [tm_iv u57])
    refine tm_istore_n (lv' := [(3, tm_iv u57), (2, tm_iv vs0), (0, tm_rv K 0), (1, tm_iv v1)]) cx dX6_close_60 hl (by decide) (by decide) rfl (fun ls hl => ?_)
    exact tm_vreturn cx dX6_close_61
  · refine tm_iload_n cx dX6_close_62 (tm_has_at hl 2 rfl) ?_
    refine tm_bipush cx dX6_close_63 (by decide) ?_
    refine tm_icmp_ne (tgt := 80) cx g1 (by decide) dX6_close_65 (by decide) (fun c65 => ?_) (fun c65 => ?_)
    · refine tm_aload_n cx dX6_close_68 (tm_has_at hl 1 rfl) ?_
      refine tm_iconst cx dX6_close_69 ?_
      refine tm_callV (n := 1) cx (cm_pass K l (tm_hst cx) 0 (by decide)) (lw_V q1362 q1364 qs74 q113 q1365) ⟨rfl, by decide +kernel, by decide +kernel, by decide +kernel⟩ rfl tm_cd_X6 (fun h => (tm_hM_0 h).1) ⟨Nat.le_of_ble_eq_true rfl, Nat.le_of_ble_eq_true rfl⟩ rfl (Nat.le_of_ble_eq_true rfl) hl.1.1 dX6_close_70 (fun u70 σ70 q70 => ?_)
      show tm_J p l e R s m args below meth c K tm_xM 0 _ _ (F0 m 73 ls [tm_iv u70])
      refine tm_if_eq (tgt := 80) cx q70 dX6_close_73 (by decide) (fun c73 => ?_) (fun c73 => ?_)
      · refine tm_iconst cx dX6_close_80 ?_
        exact wm_close_J81 cx 0 _ _ (by decide) (tm_has_sub hl [1] rfl)
      · refine tm_iconst cx dX6_close_76 ?_
        refine tm_goto (tgt := 81) cx dX6_close_77 (by decide) ?_
        exact wm_close_J81 cx 1 _ _ (by decide) (tm_has_sub hl [1] rfl)
    · refine tm_iconst cx dX6_close_80 ?_
      exact wm_close_J81 cx 0 _ _ (by decide) (tm_has_sub hl [1] rfl)
def fm_close (a1 : Int) (σ : tm_S) : tm_R :=
  if 0 < (tm_f σ 477 0) then
    if a1 = 17 then
      tm_gi ((tm_f σ 477 0) - 1) <|
      tm_gx ((tm_f σ 477 0) - 1) 12 <|
      if (tm_a σ 130 ((tm_f σ 477 0) - 1)) = 1 then
        fm_close_J50 a1 1 σ
      else
        fm_close_J50 a1 0 σ
    else
      tm_gi ((tm_f σ 477 0) - 1) <|
      tm_gx ((tm_f σ 477 0) - 1) 12 <|
      if 0 < (tm_a σ 130 ((tm_f σ 477 0) - 1)) then
        fm_close_J50 a1 1 σ
      else
        fm_close_J50 a1 0 σ
  else
    fm_close_J50 a1 0 σ
theorem tm_fits_X6_close (K : tm_K) (a1 : Int) : (lg_sl [tm_rv K 0, tm_iv a1]).length ≤ 2 := (tm_sl_r _ _ _ _ (tm_sl_i _ _ _ (tm_sl_n _)))
theorem cm_close (K : tm_K) (l : Launch) (hst : l.stackTraces = false) (a1 : Int) (g1 : tm_in a1) : tm_ct K tm_xM l yX6_close cX6_close 4 none 0 [tm_rv K 0, tm_iv a1] (fm_close a1) 7 157 := by
  refine tm_ct_of hst (by decide +kernel) (Nat.le_trans (tm_fits_X6_close K a1) (Nat.le_of_ble_eq_true rfl)) ?_
  intro p e R s m args below meth c cx σ ls hl0
  have hl : tm_has 0 ls 4 [(0, tm_rv K 0), (1, tm_iv a1)] := ⟨by
    have h9 := hl0
    simp only [tm_args_r, tm_args_i, tm_args_n, Nat.zero_add, Nat.reduceAdd] at h9
    exact h9, by
    intro q hq
    simp only [List.mem_cons, List.not_mem_nil, or_false] at hq
    rcases hq with rfl | rfl
    · exact Or.inl (tm_rv_cat K 0)
    · exact Or.inl rfl⟩
  clear hl0
  unfold fm_close
  refine tm_aload_n cx dX6_close_0 (tm_has_at hl 0 rfl) ?_
  refine tg_X6_177 cx dX6_close_1 (fun q1 => ?_)
  refine tm_if_le (tgt := 49) cx q1 dX6_close_4 (by decide) (fun c4 => ?_) (fun c4 => ?_)
  · refine tm_iload_n cx dX6_close_7 (tm_has_at hl 1 rfl) ?_
    refine tm_bipush cx dX6_close_8 (by decide) ?_
    refine tm_icmp_ne (tgt := 31) cx g1 (by decide) dX6_close_10 (by decide) (fun c10 => ?_) (fun c10 => ?_)
    · refine tm_aload_n cx dX6_close_13 (tm_has_at hl 0 rfl) ?_
      refine tg_X6_59 cx dX6_close_14 ?_
      refine tm_aload_n cx dX6_close_17 (tm_has_at hl 0 rfl) ?_
      refine tg_X6_177 cx dX6_close_18 (fun q18 => ?_)
      refine tm_iconst cx dX6_close_21 ?_
      refine tm_isub cx dX6_close_22 (fun q22 => ?_)
      refine tm_iald cx tm_hM_130 q22 dX6_close_23 (fun i23 q23 => ?_)
      refine tm_iconst cx dX6_close_24 ?_
      refine tm_icmp_ne (tgt := 49) cx q23 (by decide) dX6_close_25 (by decide) (fun c25 => ?_) (fun c25 => ?_)
      · refine tm_goto (tgt := 45) cx dX6_close_28 (by decide) ?_
        refine tm_iconst cx dX6_close_45 ?_
        refine tm_goto (tgt := 50) cx dX6_close_46 (by decide) ?_
        exact wm_close_J50 cx a1 1 _ _ g1 (by decide) (tm_has_sub hl [0, 1] rfl)
      · refine tm_iconst cx dX6_close_49 ?_
        exact wm_close_J50 cx a1 0 _ _ g1 (by decide) (tm_has_sub hl [0, 1] rfl)
    · refine tm_aload_n cx dX6_close_31 (tm_has_at hl 0 rfl) ?_
      refine tg_X6_59 cx dX6_close_32 ?_
      refine tm_aload_n cx dX6_close_35 (tm_has_at hl 0 rfl) ?_
      refine tg_X6_177 cx dX6_close_36 (fun q36 => ?_)
      refine tm_iconst cx dX6_close_39 ?_
      refine tm_isub cx dX6_close_40 (fun q40 => ?_)
      refine tm_iald cx tm_hM_130 q40 dX6_close_41 (fun i41 q41 => ?_)
      refine tm_if_le (tgt := 49) cx q41 dX6_close_42 (by decide) (fun c42 => ?_) (fun c42 => ?_)
      · refine tm_iconst cx dX6_close_45 ?_
        refine tm_goto (tgt := 50) cx dX6_close_46 (by decide) ?_
        exact wm_close_J50 cx a1 1 _ _ g1 (by decide) (tm_has_sub hl [0, 1] rfl)
      · refine tm_iconst cx dX6_close_49 ?_
        exact wm_close_J50 cx a1 0 _ _ g1 (by decide) (tm_has_sub hl [0, 1] rfl)
  · refine tm_iconst cx dX6_close_49 ?_
    exact wm_close_J50 cx a1 0 _ _ g1 (by decide) (tm_has_sub hl [0, 1] rfl)
def fm_open (σ : tm_S) : tm_R :=
  if (tm_f σ 477 0) = 12 then
    tm_bd (fm_stop 5 σ) fun u11 σ11 =>
    tm_rt 0 σ11
  else
    tm_gx (tm_f σ 477 0) 12 <|
    tm_gi ((tm_f (tm_wa σ 130 (tm_f σ 477 0) 0) 477 0) + 1) <|
    tm_rt 0 (tm_wf (tm_wa σ 130 (tm_f σ 477 0) 0) 477 0 ((tm_f (tm_wa σ 130 (tm_f σ 477 0) 0) 477 0) + 1))
theorem tm_fits_X6_open (K : tm_K) : (lg_sl [tm_rv K 0]).length ≤ 1 := (tm_sl_r _ _ _ _ (tm_sl_n _))
theorem cm_open (K : tm_K) (l : Launch) (hst : l.stackTraces = false) : tm_ct K tm_xM l yX6_open cX6_open 2 none 0 [tm_rv K 0] (fm_open) 1 21 := by
  refine tm_ct_of hst (by decide +kernel) (Nat.le_trans (tm_fits_X6_open K) (Nat.le_of_ble_eq_true rfl)) ?_
  intro p e R s m args below meth c cx σ ls hl0
  have hl : tm_has 0 ls 2 [(0, tm_rv K 0)] := ⟨by
    have h9 := hl0
    simp only [tm_args_r, tm_args_n, Nat.zero_add, Nat.reduceAdd] at h9
    exact h9, by
    intro q hq
    simp only [List.mem_cons, List.not_mem_nil, or_false] at hq
    rcases hq with rfl
    · exact Or.inl (tm_rv_cat K 0)⟩
  clear hl0
  unfold fm_open
  refine tm_aload_n cx dX6_open_0 (tm_has_at hl 0 rfl) ?_
  refine tg_X6_177 cx dX6_open_1 (fun q1 => ?_)
  refine tm_bipush cx dX6_open_4 (by decide) ?_
  refine tm_icmp_ne (tgt := 16) cx q1 (by decide) dX6_open_6 (by decide) (fun c6 => ?_) (fun c6 => ?_)
  · refine tm_aload_n cx dX6_open_9 (tm_has_at hl 0 rfl) ?_
    refine tm_iconst cx dX6_open_10 ?_
    refine tm_callV (n := 1) cx (cm_stop K l (tm_hst cx) 5 (by decide)) (lw_V q1271 q1273 qs55 q113 q1274) ⟨rfl, by decide +kernel, by decide +kernel, by decide +kernel⟩ rfl tm_cd_X6 (fun h => (tm_hM_0 h).1) ⟨Nat.le_of_ble_eq_true rfl, Nat.le_of_ble_eq_true rfl⟩ rfl (Nat.le_of_ble_eq_true rfl) hl.1.1 dX6_open_11 (fun u11 σ11 q11 => ?_)
    show tm_J p l e R s m args below meth c K tm_xM 0 _ _ (F0 m 14 ls [tm_iv u11])
    refine tm_istore_n (lv' := [(1, tm_iv u11), (0, tm_rv K 0)]) cx dX6_open_14 hl (by decide) (by decide) rfl (fun ls hl => ?_)
    exact tm_vreturn cx dX6_open_15
  · refine tm_aload_n cx dX6_open_16 (tm_has_at hl 0 rfl) ?_
    refine tg_X6_59 cx dX6_open_17 ?_
    refine tm_aload_n cx dX6_open_20 (tm_has_at hl 0 rfl) ?_
    refine tg_X6_177 cx dX6_open_21 (fun q21 => ?_)
    refine tm_iconst cx dX6_open_24 ?_
    refine tm_iast cx tm_famM tm_hM_130 q21 (by decide) dX6_open_25 ?_
    refine tm_aload_n cx dX6_open_26 (tm_has_at hl 0 rfl) ?_
    refine tm_dup_r cx dX6_open_27 ?_
    refine tg_X6_177 cx dX6_open_28 (fun q28 => ?_)
    refine tm_iconst cx dX6_open_31 ?_
    refine tm_iadd cx dX6_open_32 (fun q32 => ?_)
    refine tp_X6_177 cx q32 dX6_open_33 ?_
    exact tm_vreturn cx dX6_open_36
def fm_alike_B138 (r138 : Int → Int → Int → Int → tm_S → tm_R) (v3 : Int) (v4 : Int) (v5 : Int) (v6 : Int) (σ : tm_S) : tm_R :=
  tm_gx v3 61 <|
  if v6 < (tm_a σ 126 v3) then
    if v5 = 0 then
      tm_gz v5 (tm_rt v5 σ)
    else
      tm_gi (41 * v3) <|
      tm_gi ((41 * v3) + v6) <|
      tm_gx ((41 * v3) + v6) 2500 <|
      tm_gi (41 * v4) <|
      tm_gi ((41 * v4) + v6) <|
      tm_gx ((41 * v4) + v6) 2500 <|
      if (tm_a σ 127 ((41 * v3) + v6)) = (tm_a σ 127 ((41 * v4) + v6)) then
        tm_gi (v6 + 1) <|
        r138 v3 v4 1 (v6 + 1) σ
      else
        tm_gi (v6 + 1) <|
        r138 v3 v4 0 (v6 + 1) σ
  else
    tm_gz v5 (tm_rt v5 σ)
theorem wm_alike_B138 {p : Program} {l : Launch} {e : Env} {R : Room} {s : State} {m : MethodId} {args : Array Value} {below : List Frame} {meth : Method} {c : Code} {K : tm_K} {r138 : Int → Int → Int → Int → tm_S → tm_R} (cx : tm_C p l R s m args meth c K cX6_alike 7 RX6 "alike" (some .boolean) 0 0) (h138 : ∀ (v3 : Int) (v4 : Int) (v5 : Int) (v6 : Int) (τ : tm_S) (ls : Array Slot), tm_in v3 → tm_in v4 → tm_in v5 → tm_in v6 → tm_has 0 ls 7 [(0, tm_rv K 0), (3, tm_iv v3), (4, tm_iv v4), (5, tm_iv v5), (6, tm_iv v6)] → tm_J p l e R s m args below meth c K tm_xM 1 (r138 v3 v4 v5 v6 τ) τ (F0 m 138 ls [])) (v3 : Int) (v4 : Int) (v5 : Int) (v6 : Int) (σ : tm_S) (ls : Array Slot) (g3 : tm_in v3) (g4 : tm_in v4) (g5 : tm_in v5) (g6 : tm_in v6) (hl : tm_has 0 ls 7 [(0, tm_rv K 0), (3, tm_iv v3), (4, tm_iv v4), (5, tm_iv v5), (6, tm_iv v6)]) : tm_J p l e R s m args below meth c K tm_xM 1 (fm_alike_B138 r138 v3 v4 v5 v6 σ) σ (F0 m 138 ls []) := by
  unfold fm_alike_B138
  refine tm_iload cx dX6_alike_138 (tm_has_at hl 4 rfl) ?_
  refine tm_aload_n cx dX6_alike_140 (tm_has_at hl 0 rfl) ?_
  refine tg_X6_50 cx dX6_alike_141 ?_
  refine tm_iload_n cx dX6_alike_144 (tm_has_at hl 1 rfl) ?_
  refine tm_iald cx tm_hM_126 g3 dX6_alike_145 (fun i145 q145 => ?_)
  refine tm_icmp_ge (tgt := 195) cx g6 q145 dX6_alike_146 (by decide) (fun c146 => ?_) (fun c146 => ?_)
  · refine tm_iload cx dX6_alike_149 (tm_has_at hl 3 rfl) ?_
    refine tm_if_eq (tgt := 195) cx g5 dX6_alike_151 (by decide) (fun c151 => ?_) (fun c151 => ?_)
    · refine tm_iload cx dX6_alike_195 (tm_has_at hl 3 rfl) ?_
      exact tm_zreturnG cx dX6_alike_197
    · refine tm_aload_n cx dX6_alike_154 (tm_has_at hl 0 rfl) ?_
      refine tg_X6_53 cx dX6_alike_155 ?_
      refine tm_bipush cx dX6_alike_158 (by decide) ?_
      refine tm_iload_n cx dX6_alike_160 (tm_has_at hl 1 rfl) ?_
      refine tm_imul cx dX6_alike_161 (fun q161 => ?_)
      refine tm_iload cx dX6_alike_162 (tm_has_at hl 4 rfl) ?_
      refine tm_iadd cx dX6_alike_164 (fun q164 => ?_)
      refine tm_iald cx tm_hM_127 q164 dX6_alike_165 (fun i165 q165 => ?_)
      refine tm_aload_n cx dX6_alike_166 (tm_has_at hl 0 rfl) ?_
      refine tg_X6_53 cx dX6_alike_167 ?_
      refine tm_bipush cx dX6_alike_170 (by decide) ?_
      refine tm_iload cx dX6_alike_172 (tm_has_at hl 2 rfl) ?_
      refine tm_imul cx dX6_alike_174 (fun q174 => ?_)
      refine tm_iload cx dX6_alike_175 (tm_has_at hl 4 rfl) ?_
      refine tm_iadd cx dX6_alike_177 (fun q177 => ?_)
      refine tm_iald cx tm_hM_127 q177 dX6_alike_178 (fun i178 q178 => ?_)
      refine tm_icmp_ne (tgt := 186) cx q165 q178 dX6_alike_179 (by decide) (fun c179 => ?_) (fun c179 => ?_)
      · refine tm_iconst cx dX6_alike_182 ?_
        refine tm_goto (tgt := 187) cx dX6_alike_183 (by decide) ?_
        refine tm_istore (lv' := [(5, tm_iv 1), (0, tm_rv K 0), (3, tm_iv v3), (4, tm_iv v4), (6, tm_iv v6)]) cx dX6_alike_187 hl (by decide) (by decide) rfl (fun ls hl => ?_)
        refine tm_iinc (lv' := [(6, tm_iv (v6 + 1)), (5, tm_iv 1), (0, tm_rv K 0), (3, tm_iv v3), (4, tm_iv v4)]) cx dX6_alike_189 hl (j := 4) rfl (by decide) (by decide) rfl (fun q189 ls hl => ?_)
        refine tm_goto (tgt := 138) cx dX6_alike_192 (by decide) ?_
        exact h138 v3 v4 1 (v6 + 1) _ _ g3 g4 (by decide) q189 (tm_has_sub hl [2, 3, 4, 1, 0] rfl)
      · refine tm_iconst cx dX6_alike_186 ?_
        refine tm_istore (lv' := [(5, tm_iv 0), (0, tm_rv K 0), (3, tm_iv v3), (4, tm_iv v4), (6, tm_iv v6)]) cx dX6_alike_187 hl (by decide) (by decide) rfl (fun ls hl => ?_)
        refine tm_iinc (lv' := [(6, tm_iv (v6 + 1)), (5, tm_iv 0), (0, tm_rv K 0), (3, tm_iv v3), (4, tm_iv v4)]) cx dX6_alike_189 hl (j := 4) rfl (by decide) (by decide) rfl (fun q189 ls hl => ?_)
        refine tm_goto (tgt := 138) cx dX6_alike_192 (by decide) ?_
        exact h138 v3 v4 0 (v6 + 1) _ _ g3 g4 (by decide) q189 (tm_has_sub hl [2, 3, 4, 1, 0] rfl)
  · refine tm_iload cx dX6_alike_195 (tm_has_at hl 3 rfl) ?_
    exact tm_zreturnG cx dX6_alike_197
def fm_alike_L138 : Nat → Int → Int → Int → Int → tm_S → tm_R
  | 0, _, _, _, _, _ => none
  | n + 1, v3, v4, v5, v6, σ => fm_alike_B138 (fm_alike_L138 n) v3 v4 v5 v6 σ
theorem wm_alike_L138 {p : Program} {l : Launch} {e : Env} {R : Room} {s : State} {m : MethodId} {args : Array Value} {below : List Frame} {meth : Method} {c : Code} {K : tm_K} (cx : tm_C p l R s m args meth c K cX6_alike 7 RX6 "alike" (some .boolean) 0 0) : ∀ (n : Nat) (v3 : Int) (v4 : Int) (v5 : Int) (v6 : Int) (σ : tm_S) (ls : Array Slot), tm_in v3 → tm_in v4 → tm_in v5 → tm_in v6 → tm_has 0 ls 7 [(0, tm_rv K 0), (3, tm_iv v3), (4, tm_iv v4), (5, tm_iv v5), (6, tm_iv v6)] → tm_J p l e R s m args below meth c K tm_xM 1 (fm_alike_L138 n v3 v4 v5 v6 σ) σ (F0 m 138 ls []) := by
  intro n
  induction n with
  | zero => intros; exact tm_none
  | succ n ih =>
    intro v3 v4 v5 v6 σ ls g3 g4 g5 g6 hl
    exact wm_alike_B138 (r138 := fm_alike_L138 n) cx ih v3 v4 v5 v6 σ ls g3 g4 g5 g6 hl
def fm_alike_B78 (r78 : Int → Int → Int → Int → tm_S → tm_R) (v3 : Int) (v4 : Int) (v5 : Int) (v6 : Int) (σ : tm_S) : tm_R :=
  tm_gx v3 61 <|
  if v6 < (tm_a σ 124 v3) then
    if v5 = 0 then
      fm_alike_L138 tm_FU v3 v4 v5 0 σ
    else
      tm_gi (13 * v3) <|
      tm_gi ((13 * v3) + v6) <|
      tm_gx ((13 * v3) + v6) 800 <|
      tm_gi (13 * v4) <|
      tm_gi ((13 * v4) + v6) <|
      tm_gx ((13 * v4) + v6) 800 <|
      if (tm_a σ 125 ((13 * v3) + v6)) = (tm_a σ 125 ((13 * v4) + v6)) then
        tm_gi (v6 + 1) <|
        r78 v3 v4 1 (v6 + 1) σ
      else
        tm_gi (v6 + 1) <|
        r78 v3 v4 0 (v6 + 1) σ
  else
    fm_alike_L138 tm_FU v3 v4 v5 0 σ
theorem wm_alike_B78 {p : Program} {l : Launch} {e : Env} {R : Room} {s : State} {m : MethodId} {args : Array Value} {below : List Frame} {meth : Method} {c : Code} {K : tm_K} {r78 : Int → Int → Int → Int → tm_S → tm_R} (cx : tm_C p l R s m args meth c K cX6_alike 7 RX6 "alike" (some .boolean) 0 0) (h78 : ∀ (v3 : Int) (v4 : Int) (v5 : Int) (v6 : Int) (τ : tm_S) (ls : Array Slot), tm_in v3 → tm_in v4 → tm_in v5 → tm_in v6 → tm_has 0 ls 7 [(0, tm_rv K 0), (3, tm_iv v3), (4, tm_iv v4), (5, tm_iv v5), (6, tm_iv v6)] → tm_J p l e R s m args below meth c K tm_xM 1 (r78 v3 v4 v5 v6 τ) τ (F0 m 78 ls [])) (v3 : Int) (v4 : Int) (v5 : Int) (v6 : Int) (σ : tm_S) (ls : Array Slot) (g3 : tm_in v3) (g4 : tm_in v4) (g5 : tm_in v5) (g6 : tm_in v6) (hl : tm_has 0 ls 7 [(0, tm_rv K 0), (3, tm_iv v3), (4, tm_iv v4), (5, tm_iv v5), (6, tm_iv v6)]) : tm_J p l e R s m args below meth c K tm_xM 1 (fm_alike_B78 r78 v3 v4 v5 v6 σ) σ (F0 m 78 ls []) := by
  unfold fm_alike_B78
  refine tm_iload cx dX6_alike_78 (tm_has_at hl 4 rfl) ?_
  refine tm_aload_n cx dX6_alike_80 (tm_has_at hl 0 rfl) ?_
  refine tg_X6_44 cx dX6_alike_81 ?_
  refine tm_iload_n cx dX6_alike_84 (tm_has_at hl 1 rfl) ?_
  refine tm_iald cx tm_hM_124 g3 dX6_alike_85 (fun i85 q85 => ?_)
  refine tm_icmp_ge (tgt := 135) cx g6 q85 dX6_alike_86 (by decide) (fun c86 => ?_) (fun c86 => ?_)
  · refine tm_iload cx dX6_alike_89 (tm_has_at hl 3 rfl) ?_
    refine tm_if_eq (tgt := 135) cx g5 dX6_alike_91 (by decide) (fun c91 => ?_) (fun c91 => ?_)
    · refine tm_iconst cx dX6_alike_135 ?_
      refine tm_istore (lv' := [(6, tm_iv 0), (0, tm_rv K 0), (3, tm_iv v3), (4, tm_iv v4), (5, tm_iv v5)]) cx dX6_alike_136 hl (by decide) (by decide) rfl (fun ls hl => ?_)
      exact wm_alike_L138 cx tm_FU v3 v4 v5 0 _ _ g3 g4 g5 (by decide) (tm_has_sub hl [1, 2, 3, 4, 0] rfl)
    · refine tm_aload_n cx dX6_alike_94 (tm_has_at hl 0 rfl) ?_
      refine tg_X6_47 cx dX6_alike_95 ?_
      refine tm_bipush cx dX6_alike_98 (by decide) ?_
      refine tm_iload_n cx dX6_alike_100 (tm_has_at hl 1 rfl) ?_
      refine tm_imul cx dX6_alike_101 (fun q101 => ?_)
      refine tm_iload cx dX6_alike_102 (tm_has_at hl 4 rfl) ?_
      refine tm_iadd cx dX6_alike_104 (fun q104 => ?_)
      refine tm_iald cx tm_hM_125 q104 dX6_alike_105 (fun i105 q105 => ?_)
      refine tm_aload_n cx dX6_alike_106 (tm_has_at hl 0 rfl) ?_
      refine tg_X6_47 cx dX6_alike_107 ?_
      refine tm_bipush cx dX6_alike_110 (by decide) ?_
      refine tm_iload cx dX6_alike_112 (tm_has_at hl 2 rfl) ?_
      refine tm_imul cx dX6_alike_114 (fun q114 => ?_)
      refine tm_iload cx dX6_alike_115 (tm_has_at hl 4 rfl) ?_
      refine tm_iadd cx dX6_alike_117 (fun q117 => ?_)
      refine tm_iald cx tm_hM_125 q117 dX6_alike_118 (fun i118 q118 => ?_)
      refine tm_icmp_ne (tgt := 126) cx q105 q118 dX6_alike_119 (by decide) (fun c119 => ?_) (fun c119 => ?_)
      · refine tm_iconst cx dX6_alike_122 ?_
        refine tm_goto (tgt := 127) cx dX6_alike_123 (by decide) ?_
        refine tm_istore (lv' := [(5, tm_iv 1), (0, tm_rv K 0), (3, tm_iv v3), (4, tm_iv v4), (6, tm_iv v6)]) cx dX6_alike_127 hl (by decide) (by decide) rfl (fun ls hl => ?_)
        refine tm_iinc (lv' := [(6, tm_iv (v6 + 1)), (5, tm_iv 1), (0, tm_rv K 0), (3, tm_iv v3), (4, tm_iv v4)]) cx dX6_alike_129 hl (j := 4) rfl (by decide) (by decide) rfl (fun q129 ls hl => ?_)
        refine tm_goto (tgt := 78) cx dX6_alike_132 (by decide) ?_
        exact h78 v3 v4 1 (v6 + 1) _ _ g3 g4 (by decide) q129 (tm_has_sub hl [2, 3, 4, 1, 0] rfl)
      · refine tm_iconst cx dX6_alike_126 ?_
        refine tm_istore (lv' := [(5, tm_iv 0), (0, tm_rv K 0), (3, tm_iv v3), (4, tm_iv v4), (6, tm_iv v6)]) cx dX6_alike_127 hl (by decide) (by decide) rfl (fun ls hl => ?_)
        refine tm_iinc (lv' := [(6, tm_iv (v6 + 1)), (5, tm_iv 0), (0, tm_rv K 0), (3, tm_iv v3), (4, tm_iv v4)]) cx dX6_alike_129 hl (j := 4) rfl (by decide) (by decide) rfl (fun q129 ls hl => ?_)
        refine tm_goto (tgt := 78) cx dX6_alike_132 (by decide) ?_
        exact h78 v3 v4 0 (v6 + 1) _ _ g3 g4 (by decide) q129 (tm_has_sub hl [2, 3, 4, 1, 0] rfl)
  · refine tm_iconst cx dX6_alike_135 ?_
    refine tm_istore (lv' := [(6, tm_iv 0), (0, tm_rv K 0), (3, tm_iv v3), (4, tm_iv v4), (5, tm_iv v5)]) cx dX6_alike_136 hl (by decide) (by decide) rfl (fun ls hl => ?_)
    exact wm_alike_L138 cx tm_FU v3 v4 v5 0 _ _ g3 g4 g5 (by decide) (tm_has_sub hl [1, 2, 3, 4, 0] rfl)
def fm_alike_L78 : Nat → Int → Int → Int → Int → tm_S → tm_R
  | 0, _, _, _, _, _ => none
  | n + 1, v3, v4, v5, v6, σ => fm_alike_B78 (fm_alike_L78 n) v3 v4 v5 v6 σ
theorem wm_alike_L78 {p : Program} {l : Launch} {e : Env} {R : Room} {s : State} {m : MethodId} {args : Array Value} {below : List Frame} {meth : Method} {c : Code} {K : tm_K} (cx : tm_C p l R s m args meth c K cX6_alike 7 RX6 "alike" (some .boolean) 0 0) : ∀ (n : Nat) (v3 : Int) (v4 : Int) (v5 : Int) (v6 : Int) (σ : tm_S) (ls : Array Slot), tm_in v3 → tm_in v4 → tm_in v5 → tm_in v6 → tm_has 0 ls 7 [(0, tm_rv K 0), (3, tm_iv v3), (4, tm_iv v4), (5, tm_iv v5), (6, tm_iv v6)] → tm_J p l e R s m args below meth c K tm_xM 1 (fm_alike_L78 n v3 v4 v5 v6 σ) σ (F0 m 78 ls []) := by
  intro n
  induction n with
  | zero => intros; exact tm_none
  | succ n ih =>
    intro v3 v4 v5 v6 σ ls g3 g4 g5 g6 hl
    exact wm_alike_B78 (r78 := fm_alike_L78 n) cx ih v3 v4 v5 v6 σ ls g3 g4 g5 g6 hl
def fm_alike (a1 : Int) (a2 : Int) (σ : tm_S) : tm_R :=
  if a1 = a2 then
    tm_rt 1 σ
  else
    if a1 < 6000 then
      tm_rt 0 σ
    else
      if a2 < 6000 then
        tm_rt 0 σ
      else
        tm_gi (a1 - 6000) <|
        tm_lt (a1 - 6000) fun x28 =>
        tm_gi (a2 - 6000) <|
        tm_lt (a2 - 6000) fun x34 =>
        tm_gx x28 61 <|
        tm_gx x34 61 <|
        if (tm_a σ 124 x28) = (tm_a σ 124 x34) then
          tm_gx x28 61 <|
          tm_gx x34 61 <|
          if (tm_a σ 126 x28) = (tm_a σ 126 x34) then
            fm_alike_L78 tm_FU x28 x34 1 0 σ
          else
            fm_alike_L78 tm_FU x28 x34 0 0 σ
        else
          fm_alike_L78 tm_FU x28 x34 0 0 σ
theorem tm_fits_X6_alike (K : tm_K) (a1 : Int) (a2 : Int) : (lg_sl [tm_rv K 0, tm_iv a1, tm_iv a2]).length ≤ 3 := (tm_sl_r _ _ _ _ (tm_sl_i _ _ _ (tm_sl_i _ _ _ (tm_sl_n _))))
theorem cm_alike (K : tm_K) (l : Launch) (hst : l.stackTraces = false) (a1 : Int) (g1 : tm_in a1) (a2 : Int) (g2 : tm_in a2) : tm_ct K tm_xM l yX6_alike cX6_alike 7 (some .boolean) 1 [tm_rv K 0, tm_iv a1, tm_iv a2] (fm_alike a1 a2) 0 0 := by
  refine tm_ct_of hst (by decide +kernel) (Nat.le_trans (tm_fits_X6_alike K a1 a2) (Nat.le_of_ble_eq_true rfl)) ?_
  intro p e R s m args below meth c cx σ ls hl0
  have hl : tm_has 0 ls 7 [(0, tm_rv K 0), (1, tm_iv a1), (2, tm_iv a2)] := ⟨by
    have h9 := hl0
    simp only [tm_args_r, tm_args_i, tm_args_i, tm_args_n, Nat.zero_add, Nat.reduceAdd] at h9
    exact h9, by
    intro q hq
    simp only [List.mem_cons, List.not_mem_nil, or_false] at hq
    rcases hq with rfl | rfl | rfl
    · exact Or.inl (tm_rv_cat K 0)
    · exact Or.inl rfl
    · exact Or.inl rfl⟩
  clear hl0
  unfold fm_alike
  refine tm_iload_n cx dX6_alike_0 (tm_has_at hl 1 rfl) ?_
  refine tm_iload_n cx dX6_alike_1 (tm_has_at hl 2 rfl) ?_
  refine tm_icmp_ne (tgt := 7) cx g1 g2 dX6_alike_2 (by decide) (fun c2 => ?_) (fun c2 => ?_)
  · refine tm_iconst cx dX6_alike_5 ?_
    exact tm_zreturn cx (by decide) dX6_alike_6
  · refine tm_iload_n cx dX6_alike_7 (tm_has_at hl 1 rfl) ?_
    refine tm_sipush cx dX6_alike_8 (by decide) ?_
    refine tm_icmp_lt (tgt := 21) cx g1 (by decide) dX6_alike_11 (by decide) (fun c11 => ?_) (fun c11 => ?_)
    · refine tm_iconst cx dX6_alike_21 ?_
      exact tm_zreturn cx (by decide) dX6_alike_22
    · refine tm_iload_n cx dX6_alike_14 (tm_has_at hl 2 rfl) ?_
      refine tm_sipush cx dX6_alike_15 (by decide) ?_
      refine tm_icmp_ge (tgt := 23) cx g2 (by decide) dX6_alike_18 (by decide) (fun c18 => ?_) (fun c18 => ?_)
      · refine tm_iconst cx dX6_alike_21 ?_
        exact tm_zreturn cx (by decide) dX6_alike_22
      · refine tm_iload_n cx dX6_alike_23 (tm_has_at hl 1 rfl) ?_
        refine tm_sipush cx dX6_alike_24 (by decide) ?_
        refine tm_isub cx dX6_alike_27 (fun q27 => ?_)
        refine tm_lt_ q27 (fun x28 q28 => ?_)
        refine tm_istore_n (lv' := [(3, tm_iv x28), (0, tm_rv K 0), (1, tm_iv a1), (2, tm_iv a2)]) cx dX6_alike_28 hl (by decide) (by decide) rfl (fun ls hl => ?_)
        refine tm_iload_n cx dX6_alike_29 (tm_has_at hl 3 rfl) ?_
        refine tm_sipush cx dX6_alike_30 (by decide) ?_
        refine tm_isub cx dX6_alike_33 (fun q33 => ?_)
        refine tm_lt_ q33 (fun x34 q34 => ?_)
        refine tm_istore (lv' := [(4, tm_iv x34), (3, tm_iv x28), (0, tm_rv K 0), (1, tm_iv a1), (2, tm_iv a2)]) cx dX6_alike_34 hl (by decide) (by decide) rfl (fun ls hl => ?_)
        refine tm_aload_n cx dX6_alike_36 (tm_has_at hl 2 rfl) ?_
        refine tg_X6_44 cx dX6_alike_37 ?_
        refine tm_iload_n cx dX6_alike_40 (tm_has_at hl 1 rfl) ?_
        refine tm_iald cx tm_hM_124 q28 dX6_alike_41 (fun i41 q41 => ?_)
        refine tm_aload_n cx dX6_alike_42 (tm_has_at hl 2 rfl) ?_
        refine tg_X6_44 cx dX6_alike_43 ?_
        refine tm_iload cx dX6_alike_46 (tm_has_at hl 0 rfl) ?_
        refine tm_iald cx tm_hM_124 q34 dX6_alike_48 (fun i48 q48 => ?_)
        refine tm_icmp_ne (tgt := 72) cx q41 q48 dX6_alike_49 (by decide) (fun c49 => ?_) (fun c49 => ?_)
        · refine tm_aload_n cx dX6_alike_52 (tm_has_at hl 2 rfl) ?_
          refine tg_X6_50 cx dX6_alike_53 ?_
          refine tm_iload_n cx dX6_alike_56 (tm_has_at hl 1 rfl) ?_
          refine tm_iald cx tm_hM_126 q28 dX6_alike_57 (fun i57 q57 => ?_)
          refine tm_aload_n cx dX6_alike_58 (tm_has_at hl 2 rfl) ?_
          refine tg_X6_50 cx dX6_alike_59 ?_
          refine tm_iload cx dX6_alike_62 (tm_has_at hl 0 rfl) ?_
          refine tm_iald cx tm_hM_126 q34 dX6_alike_64 (fun i64 q64 => ?_)
          refine tm_icmp_ne (tgt := 72) cx q57 q64 dX6_alike_65 (by decide) (fun c65 => ?_) (fun c65 => ?_)
          · refine tm_iconst cx dX6_alike_68 ?_
            refine tm_goto (tgt := 73) cx dX6_alike_69 (by decide) ?_
            refine tm_istore (lv' := [(5, tm_iv 1), (4, tm_iv x34), (3, tm_iv x28), (0, tm_rv K 0), (1, tm_iv a1), (2, tm_iv a2)]) cx dX6_alike_73 hl (by decide) (by decide) rfl (fun ls hl => ?_)
            refine tm_iconst cx dX6_alike_75 ?_
            refine tm_istore (lv' := [(6, tm_iv 0), (5, tm_iv 1), (4, tm_iv x34), (3, tm_iv x28), (0, tm_rv K 0), (1, tm_iv a1), (2, tm_iv a2)]) cx dX6_alike_76 hl (by decide) (by decide) rfl (fun ls hl => ?_)
            exact wm_alike_L78 cx tm_FU x28 x34 1 0 _ _ q28 q34 (by decide) (by decide) (tm_has_sub hl [4, 3, 2, 1, 0] rfl)
          · refine tm_iconst cx dX6_alike_72 ?_
            refine tm_istore (lv' := [(5, tm_iv 0), (4, tm_iv x34), (3, tm_iv x28), (0, tm_rv K 0), (1, tm_iv a1), (2, tm_iv a2)]) cx dX6_alike_73 hl (by decide) (by decide) rfl (fun ls hl => ?_)
            refine tm_iconst cx dX6_alike_75 ?_
            refine tm_istore (lv' := [(6, tm_iv 0), (5, tm_iv 0), (4, tm_iv x34), (3, tm_iv x28), (0, tm_rv K 0), (1, tm_iv a1), (2, tm_iv a2)]) cx dX6_alike_76 hl (by decide) (by decide) rfl (fun ls hl => ?_)
            exact wm_alike_L78 cx tm_FU x28 x34 0 0 _ _ q28 q34 (by decide) (by decide) (tm_has_sub hl [4, 3, 2, 1, 0] rfl)
        · refine tm_iconst cx dX6_alike_72 ?_
          refine tm_istore (lv' := [(5, tm_iv 0), (4, tm_iv x34), (3, tm_iv x28), (0, tm_rv K 0), (1, tm_iv a1), (2, tm_iv a2)]) cx dX6_alike_73 hl (by decide) (by decide) rfl (fun ls hl => ?_)
          refine tm_iconst cx dX6_alike_75 ?_
          refine tm_istore (lv' := [(6, tm_iv 0), (5, tm_iv 0), (4, tm_iv x34), (3, tm_iv x28), (0, tm_rv K 0), (1, tm_iv a1), (2, tm_iv a2)]) cx dX6_alike_76 hl (by decide) (by decide) rfl (fun ls hl => ?_)
          exact wm_alike_L78 cx tm_FU x28 x34 0 0 _ _ q28 q34 (by decide) (by decide) (tm_has_sub hl [4, 3, 2, 1, 0] rfl)
def fm_decide (a1 : Int) (a2 : Int) (σ : tm_S) : tm_R :=
  tm_gi (a1 + 1) <|
  if a2 = 0 then
    tm_bd (fm_pass 1 (tm_wf σ 477 0 (a1 + 1))) fun u23 σ23 =>
    if u23 = 0 then
      if (tm_f σ23 453 0) = 0 then
        tm_rt 0 (tm_wf σ23 477 0 a1)
      else
        tm_rt 0 σ23
    else
      tm_gx a1 12 <|
      tm_rt 0 (tm_wa σ23 130 a1 2)
  else
    tm_gx a1 12 <|
    tm_rt 0 (tm_wa (tm_wf σ 477 0 (a1 + 1)) 130 a1 1)
theorem tm_fits_X6_decide (K : tm_K) (a1 : Int) (a2 : Int) : (lg_sl [tm_rv K 0, tm_iv a1, tm_iv a2]).length ≤ 3 := (tm_sl_r _ _ _ _ (tm_sl_i _ _ _ (tm_sl_i _ _ _ (tm_sl_n _))))
theorem cm_decide (K : tm_K) (l : Launch) (hst : l.stackTraces = false) (a1 : Int) (g1 : tm_in a1) (a2 : Int) (g2 : tm_in a2) : tm_ct K tm_xM l yX6_decide cX6_decide 3 none 0 [tm_rv K 0, tm_iv a1, tm_iv a2] (fm_decide a1 a2) 7 157 := by
  refine tm_ct_of hst (by decide +kernel) (Nat.le_trans (tm_fits_X6_decide K a1 a2) (Nat.le_of_ble_eq_true rfl)) ?_
  intro p e R s m args below meth c cx σ ls hl0
  have hl : tm_has 0 ls 3 [(0, tm_rv K 0), (1, tm_iv a1), (2, tm_iv a2)] := ⟨by
    have h9 := hl0
    simp only [tm_args_r, tm_args_i, tm_args_i, tm_args_n, Nat.zero_add, Nat.reduceAdd] at h9
    exact h9, by
    intro q hq
    simp only [List.mem_cons, List.not_mem_nil, or_false] at hq
    rcases hq with rfl | rfl | rfl
    · exact Or.inl (tm_rv_cat K 0)
    · exact Or.inl rfl
    · exact Or.inl rfl⟩
  clear hl0
  unfold fm_decide
  refine tm_aload_n cx dX6_decide_0 (tm_has_at hl 0 rfl) ?_
  refine tm_iload_n cx dX6_decide_1 (tm_has_at hl 1 rfl) ?_
  refine tm_iconst cx dX6_decide_2 ?_
  refine tm_iadd cx dX6_decide_3 (fun q3 => ?_)
  refine tp_X6_177 cx q3 dX6_decide_4 ?_
  refine tm_iload_n cx dX6_decide_7 (tm_has_at hl 2 rfl) ?_
  refine tm_if_eq (tgt := 21) cx g2 dX6_decide_8 (by decide) (fun c8 => ?_) (fun c8 => ?_)
  · refine tm_aload_n cx dX6_decide_21 (tm_has_at hl 0 rfl) ?_
    refine tm_iconst cx dX6_decide_22 ?_
    refine tm_callV (n := 1) cx (cm_pass K l (tm_hst cx) 1 (by decide)) (lw_V q1362 q1364 qs74 q113 q1365) ⟨rfl, by decide +kernel, by decide +kernel, by decide +kernel⟩ rfl tm_cd_X6 (fun h => (tm_hM_0 h).1) ⟨Nat.le_of_ble_eq_true rfl, Nat.le_of_ble_eq_true rfl⟩ rfl (Nat.le_of_ble_eq_true rfl) hl.1.1 dX6_decide_23 (fun u23 σ23 q23 => ?_)
    show tm_J p l e R s m args below meth c K tm_xM 0 _ _ (F0 m 26 ls [tm_iv u23])
    refine tm_if_eq (tgt := 39) cx q23 dX6_decide_26 (by decide) (fun c26 => ?_) (fun c26 => ?_)
    · refine tm_aload_n cx dX6_decide_39 (tm_has_at hl 0 rfl) ?_
      refine tg_X6_159 cx dX6_decide_40 (fun q40 => ?_)
      refine tm_if_ne (tgt := 51) cx q40 dX6_decide_43 (by decide) (fun c43 => ?_) (fun c43 => ?_)
      · refine tm_aload_n cx dX6_decide_46 (tm_has_at hl 0 rfl) ?_
        refine tm_iload_n cx dX6_decide_47 (tm_has_at hl 1 rfl) ?_
        refine tp_X6_177 cx g1 dX6_decide_48 ?_
        exact tm_vreturn cx dX6_decide_51
      · exact tm_vreturn cx dX6_decide_51
    · refine tm_aload_n cx dX6_decide_29 (tm_has_at hl 0 rfl) ?_
      refine tg_X6_59 cx dX6_decide_30 ?_
      refine tm_iload_n cx dX6_decide_33 (tm_has_at hl 1 rfl) ?_
      refine tm_iconst cx dX6_decide_34 ?_
      refine tm_iast cx tm_famM tm_hM_130 g1 (by decide) dX6_decide_35 ?_
      refine tm_goto (tgt := 51) cx dX6_decide_36 (by decide) ?_
      exact tm_vreturn cx dX6_decide_51
  · refine tm_aload_n cx dX6_decide_11 (tm_has_at hl 0 rfl) ?_
    refine tg_X6_59 cx dX6_decide_12 ?_
    refine tm_iload_n cx dX6_decide_15 (tm_has_at hl 1 rfl) ?_
    refine tm_iconst cx dX6_decide_16 ?_
    refine tm_iast cx tm_famM tm_hM_130 g1 (by decide) dX6_decide_17 ?_
    refine tm_goto (tgt := 51) cx dX6_decide_18 (by decide) ?_
    exact tm_vreturn cx dX6_decide_51
def fm_test_J47 (v2 : Int) (v3 : Int) (vs0 : Int) (σ : tm_S) : tm_R :=
  if vs0 = (-1) then
    tm_rt 0 σ
  else
    tm_bd (fm_meaningOf v3 σ) fun u60 σ60 =>
    tm_bd (fm_meaningOf vs0 σ60) fun u66 σ66 =>
    tm_bd (fm_alike u60 u66 σ66) fun u69 σ69 =>
    tm_bd (fm_decide v2 u69 σ69) fun u72 σ72 =>
    tm_rt 0 σ72
theorem wm_test_J47 {p : Program} {l : Launch} {e : Env} {R : Room} {s : State} {m : MethodId} {args : Array Value} {below : List Frame} {meth : Method} {c : Code} {K : tm_K} (cx : tm_C p l R s m args meth c K cX6_test 5 RX6 "test" none 8 179) (v2 : Int) (v3 : Int) (vs0 : Int) (σ : tm_S) (ls : Array Slot) (g2 : tm_in v2) (g3 : tm_in v3) (gs0 : tm_in vs0) (hl : tm_has 0 ls 5 [(0, tm_rv K 0), (2, tm_iv v2), (3, tm_iv v3)]) : tm_J p l e R s m args below meth c K tm_xM 0 (fm_test_J47 v2 v3 vs0 σ) σ (F0 m 47 ls [tm_iv vs0]) := by
  unfold fm_test_J47
  refine tm_istore (lv' := [(4, tm_iv vs0), (0, tm_rv K 0), (2, tm_iv v2), (3, tm_iv v3)]) cx dX6_test_47 hl (by decide) (by decide) rfl (fun ls hl => ?_)
  refine tm_iload cx dX6_test_49 (tm_has_at hl 0 rfl) ?_
  refine tm_iconst cx dX6_test_51 ?_
  refine tm_icmp_eq (tgt := 75) cx gs0 (by decide) dX6_test_52 (by decide) (fun c52 => ?_) (fun c52 => ?_)
  · refine tm_goto (tgt := 94) cx dX6_test_75 (by decide) ?_
    exact tm_vreturn cx dX6_test_94
  · refine tm_aload_n cx dX6_test_55 (tm_has_at hl 1 rfl) ?_
    refine tm_iload_n cx dX6_test_56 (tm_has_at hl 2 rfl) ?_
    refine tm_aload_n cx dX6_test_57 (tm_has_at hl 1 rfl) ?_
    refine tm_aload_n cx dX6_test_58 (tm_has_at hl 1 rfl) ?_
    refine tm_iload_n cx dX6_test_59 (tm_has_at hl 3 rfl) ?_
    refine tm_callV (n := 1) cx (cm_meaningOf K l (tm_hst cx) v3 g3) (lw_V q1291 q1293 qs60 q113 q1294) ⟨rfl, by decide +kernel, by decide +kernel, by decide +kernel⟩ rfl tm_cd_X6 (fun h => (tm_hM_0 h).1) ⟨Nat.le_of_ble_eq_true rfl, Nat.le_of_ble_eq_true rfl⟩ rfl (Nat.le_of_ble_eq_true rfl) hl.1.1 dX6_test_60 (fun u60 σ60 q60 => ?_)
    show tm_J p l e R s m args below meth c K tm_xM 0 _ _ (F0 m 63 ls [tm_iv u60, tm_rv K 0, tm_iv v2, tm_rv K 0])
    refine tm_aload_n cx dX6_test_63 (tm_has_at hl 1 rfl) ?_
    refine tm_iload cx dX6_test_64 (tm_has_at hl 0 rfl) ?_
    refine tm_callV (n := 1) cx (cm_meaningOf K l (tm_hst cx) vs0 gs0) (lw_V q1291 q1293 qs60 q113 q1294) ⟨rfl, by decide +kernel, by decide +kernel, by decide +kernel⟩ rfl tm_cd_X6 (fun h => (tm_hM_0 h).1) ⟨Nat.le_of_ble_eq_true rfl, Nat.le_of_ble_eq_true rfl⟩ rfl (Nat.le_of_ble_eq_true rfl) hl.1.1 dX6_test_66 (fun u66 σ66 q66 => ?_)
    show tm_J p l e R s m args below meth c K tm_xM 0 _ _ (F0 m 69 ls [tm_iv u66, tm_iv u60, tm_rv K 0, tm_iv v2, tm_rv K 0])
    refine tm_callV (n := 2) cx (cm_alike K l (tm_hst cx) u60 q60 u66 q66) (lw_V q1374 q1376 qs77 q113 q1377) ⟨rfl, by decide +kernel, by decide +kernel, by decide +kernel⟩ rfl tm_cd_X6 (fun h => (tm_hM_0 h).1) ⟨Nat.le_of_ble_eq_true rfl, Nat.le_of_ble_eq_true rfl⟩ rfl (Nat.le_of_ble_eq_true rfl) hl.1.1 dX6_test_69 (fun u69 σ69 q69 => ?_)
    show tm_J p l e R s m args below meth c K tm_xM 0 _ _ (F0 m 72 ls [tm_iv u69, tm_iv v2, tm_rv K 0])
    refine tm_callV (n := 2) cx (cm_decide K l (tm_hst cx) v2 g2 u69 q69) (lw_V q1378 q1380 qs78 q113 q1381) ⟨rfl, by decide +kernel, by decide +kernel, by decide +kernel⟩ rfl tm_cd_X6 (fun h => (tm_hM_0 h).1) ⟨Nat.le_of_ble_eq_true rfl, Nat.le_of_ble_eq_true rfl⟩ rfl (Nat.le_of_ble_eq_true rfl) hl.1.1 dX6_test_72 (fun u72 σ72 q72 => ?_)
    show tm_J p l e R s m args below meth c K tm_xM 0 _ _ (F0 m 75 ls [])
    refine tm_goto (tgt := 94) cx dX6_test_75 (by decide) ?_
    exact tm_vreturn cx dX6_test_94
def fm_test_J91 (vs1 : Int) (vs2 : Int) (σ : tm_S) : tm_R :=
  tm_bd (fm_decide vs1 vs2 σ) fun u91 σ91 =>
  tm_rt 0 σ91
theorem wm_test_J91 {p : Program} {l : Launch} {e : Env} {R : Room} {s : State} {m : MethodId} {args : Array Value} {below : List Frame} {meth : Method} {c : Code} {K : tm_K} (cx : tm_C p l R s m args meth c K cX6_test 5 RX6 "test" none 8 179) (vs1 : Int) (vs2 : Int) (σ : tm_S) (ls : Array Slot) (gs1 : tm_in vs1) (gs2 : tm_in vs2) (hl : tm_has 0 ls 5 []) : tm_J p l e R s m args below meth c K tm_xM 0 (fm_test_J91 vs1 vs2 σ) σ (F0 m 91 ls [tm_iv vs2, tm_iv vs1, tm_rv K 0]) := by
  unfold fm_test_J91
  refine tm_callV (n := 2) cx (cm_decide K l (tm_hst cx) vs1 gs1 vs2 gs2) (lw_V q1378 q1380 qs78 q113 q1381) ⟨rfl, by decide +kernel, by decide +kernel, by decide +kernel⟩ rfl tm_cd_X6 (fun h => (tm_hM_0 h).1) ⟨Nat.le_of_ble_eq_true rfl, Nat.le_of_ble_eq_true rfl⟩ rfl (Nat.le_of_ble_eq_true rfl) hl.1.1 dX6_test_91 (fun u91 σ91 q91 => ?_)
  show tm_J p l e R s m args below meth c K tm_xM 0 _ _ (F0 m 94 ls [])
  exact tm_vreturn cx dX6_test_94
def fm_test (a1 : Int) (σ : tm_S) : tm_R :=
  tm_gi ((tm_f σ 477 0) - 1) <|
  tm_lt ((tm_f σ 477 0) - 1) fun x6 =>
  if a1 = 13 then
    tm_bd (fm_push a1 0 x6 σ) fun u17 σ17 =>
    tm_rt 0 σ17
  else
    if a1 = 14 then
      tm_bd (fm_need σ) fun u30 σ30 =>
      if u30 = (-1) then
        fm_test_J47 x6 u30 (-1) σ30
      else
        tm_bd (fm_need σ30) fun u44 σ44 =>
        fm_test_J47 x6 u30 u44 σ44
    else
      if a1 = 15 then
        fm_test_J91 x6 1 σ
      else
        fm_test_J91 x6 0 σ
theorem tm_fits_X6_test (K : tm_K) (a1 : Int) : (lg_sl [tm_rv K 0, tm_iv a1]).length ≤ 2 := (tm_sl_r _ _ _ _ (tm_sl_i _ _ _ (tm_sl_n _)))
theorem cm_test (K : tm_K) (l : Launch) (hst : l.stackTraces = false) (a1 : Int) (g1 : tm_in a1) : tm_ct K tm_xM l yX6_test cX6_test 5 none 0 [tm_rv K 0, tm_iv a1] (fm_test a1) 8 179 := by
  refine tm_ct_of hst (by decide +kernel) (Nat.le_trans (tm_fits_X6_test K a1) (Nat.le_of_ble_eq_true rfl)) ?_
  intro p e R s m args below meth c cx σ ls hl0
  have hl : tm_has 0 ls 5 [(0, tm_rv K 0), (1, tm_iv a1)] := ⟨by
    have h9 := hl0
    simp only [tm_args_r, tm_args_i, tm_args_n, Nat.zero_add, Nat.reduceAdd] at h9
    exact h9, by
    intro q hq
    simp only [List.mem_cons, List.not_mem_nil, or_false] at hq
    rcases hq with rfl | rfl
    · exact Or.inl (tm_rv_cat K 0)
    · exact Or.inl rfl⟩
  clear hl0
  unfold fm_test
  refine tm_aload_n cx dX6_test_0 (tm_has_at hl 0 rfl) ?_
  refine tg_X6_177 cx dX6_test_1 (fun q1 => ?_)
  refine tm_iconst cx dX6_test_4 ?_
  refine tm_isub cx dX6_test_5 (fun q5 => ?_)
  refine tm_lt_ q5 (fun x6 q6 => ?_)
  refine tm_istore_n (lv' := [(2, tm_iv x6), (0, tm_rv K 0), (1, tm_iv a1)]) cx dX6_test_6 hl (by decide) (by decide) rfl (fun ls hl => ?_)
  refine tm_iload_n cx dX6_test_7 (tm_has_at hl 2 rfl) ?_
  refine tm_bipush cx dX6_test_8 (by decide) ?_
  refine tm_icmp_ne (tgt := 23) cx g1 (by decide) dX6_test_10 (by decide) (fun c10 => ?_) (fun c10 => ?_)
  · refine tm_aload_n cx dX6_test_13 (tm_has_at hl 1 rfl) ?_
    refine tm_iload_n cx dX6_test_14 (tm_has_at hl 2 rfl) ?_
    refine tm_iconst cx dX6_test_15 ?_
    refine tm_iload_n cx dX6_test_16 (tm_has_at hl 0 rfl) ?_
    refine tm_callV (n := 3) cx (cm_push K l (tm_hst cx) a1 g1 0 (by decide) x6 q6) (lw_V q1347 q1349 qs71 q113 q1350) ⟨rfl, by decide +kernel, by decide +kernel, by decide +kernel⟩ rfl tm_cd_X6 (fun h => (tm_hM_0 h).1) ⟨Nat.le_of_ble_eq_true rfl, Nat.le_of_ble_eq_true rfl⟩ rfl (Nat.le_of_ble_eq_true rfl) hl.1.1 dX6_test_17 (fun u17 σ17 q17 => ?_)
    show tm_J p l e R s m args below meth c K tm_xM 0 _ _ (F0 m 20 ls [])
    refine tm_goto (tgt := 94) cx dX6_test_20 (by decide) ?_
    exact tm_vreturn cx dX6_test_94
  · refine tm_iload_n cx dX6_test_23 (tm_has_at hl 2 rfl) ?_
    refine tm_bipush cx dX6_test_24 (by decide) ?_
    refine tm_icmp_ne (tgt := 78) cx g1 (by decide) dX6_test_26 (by decide) (fun c26 => ?_) (fun c26 => ?_)
    · refine tm_aload_n cx dX6_test_29 (tm_has_at hl 1 rfl) ?_
      refine tm_callV (n := 0) cx (cm_need K l (tm_hst cx)) (lw_V q1313 q1315 qs64 q113 q1316) ⟨rfl, by decide +kernel, by decide +kernel, by decide +kernel⟩ rfl tm_cd_X6 (fun h => (tm_hM_0 h).1) ⟨Nat.le_of_ble_eq_true rfl, Nat.le_of_ble_eq_true rfl⟩ rfl (Nat.le_of_ble_eq_true rfl) hl.1.1 dX6_test_30 (fun u30 σ30 q30 => ?_)
      show tm_J p l e R s m args below meth c K tm_xM 0 _ _ (F0 m 33 ls [tm_iv u30])
      refine tm_istore_n (lv' := [(3, tm_iv u30), (2, tm_iv x6), (0, tm_rv K 0), (1, tm_iv a1)]) cx dX6_test_33 hl (by decide) (by decide) rfl (fun ls hl => ?_)
      refine tm_iload_n cx dX6_test_34 (tm_has_at hl 0 rfl) ?_
      refine tm_iconst cx dX6_test_35 ?_
      refine tm_icmp_ne (tgt := 43) cx q30 (by decide) dX6_test_36 (by decide) (fun c36 => ?_) (fun c36 => ?_)
      · refine tm_iconst cx dX6_test_39 ?_
        refine tm_goto (tgt := 47) cx dX6_test_40 (by decide) ?_
        exact wm_test_J47 cx x6 u30 (-1) _ _ q6 q30 (by decide) (tm_has_sub hl [2, 1, 0] rfl)
      · refine tm_aload_n cx dX6_test_43 (tm_has_at hl 2 rfl) ?_
        refine tm_callV (n := 0) cx (cm_need K l (tm_hst cx)) (lw_V q1313 q1315 qs64 q113 q1316) ⟨rfl, by decide +kernel, by decide +kernel, by decide +kernel⟩ rfl tm_cd_X6 (fun h => (tm_hM_0 h).1) ⟨Nat.le_of_ble_eq_true rfl, Nat.le_of_ble_eq_true rfl⟩ rfl (Nat.le_of_ble_eq_true rfl) hl.1.1 dX6_test_44 (fun u44 σ44 q44 => ?_)
        show tm_J p l e R s m args below meth c K tm_xM 0 _ _ (F0 m 47 ls [tm_iv u44])
        exact wm_test_J47 cx x6 u30 u44 _ _ q6 q30 q44 (tm_has_sub hl [2, 1, 0] rfl)
    · refine tm_aload_n cx dX6_test_78 (tm_has_at hl 1 rfl) ?_
      refine tm_iload_n cx dX6_test_79 (tm_has_at hl 0 rfl) ?_
      refine tm_iload_n cx dX6_test_80 (tm_has_at hl 2 rfl) ?_
      refine tm_bipush cx dX6_test_81 (by decide) ?_
      refine tm_icmp_ne (tgt := 90) cx g1 (by decide) dX6_test_83 (by decide) (fun c83 => ?_) (fun c83 => ?_)
      · refine tm_iconst cx dX6_test_86 ?_
        refine tm_goto (tgt := 91) cx dX6_test_87 (by decide) ?_
        exact wm_test_J91 cx x6 1 _ _ q6 (by decide) (tm_has_sub hl [] rfl)
      · refine tm_iconst cx dX6_test_90 ?_
        exact wm_test_J91 cx x6 0 _ _ q6 (by decide) (tm_has_sub hl [] rfl)
def fm_begin_J19 (σ : tm_S) : tm_R :=
  tm_bd (fm_stop 5 σ) fun u21 σ21 =>
  tm_rt u21 σ21
theorem wm_begin_J19 {p : Program} {l : Launch} {e : Env} {R : Room} {s : State} {m : MethodId} {args : Array Value} {below : List Frame} {meth : Method} {c : Code} {K : tm_K} (cx : tm_C p l R s m args meth c K cX6_begin 5 RX6 "begin" (some .int) 9 203) (σ : tm_S) (ls : Array Slot) (hl : tm_has 0 ls 5 [(0, tm_rv K 0)]) : tm_J p l e R s m args below meth c K tm_xM 1 (fm_begin_J19 σ) σ (F0 m 19 ls []) := by
  unfold fm_begin_J19
  refine tm_aload_n cx dX6_begin_19 (tm_has_at hl 0 rfl) ?_
  refine tm_iconst cx dX6_begin_20 ?_
  refine tm_callV (n := 1) cx (cm_stop K l (tm_hst cx) 5 (by decide)) (lw_V q1271 q1273 qs55 q113 q1274) ⟨rfl, by decide +kernel, by decide +kernel, by decide +kernel⟩ rfl tm_cd_X6 (fun h => (tm_hM_0 h).1) ⟨Nat.le_of_ble_eq_true rfl, Nat.le_of_ble_eq_true rfl⟩ rfl (Nat.le_of_ble_eq_true rfl) hl.1.1 dX6_begin_21 (fun u21 σ21 q21 => ?_)
  show tm_J p l e R s m args below meth c K tm_xM 1 _ _ (F0 m 24 ls [tm_iv u21])
  exact tm_ireturn cx q21 dX6_begin_24
def fm_begin_J111 (v3 : Int) (v4 : Int) (σ : tm_S) : tm_R :=
  if v4 = (-1) then
    tm_rt (-1) σ
  else
    tm_bd (fm_putBack v4 σ) fun u120 σ120 =>
    tm_bd (fm_putBack v3 σ120) fun u125 σ125 =>
    tm_rt (-1) σ125
theorem wm_begin_J111 {p : Program} {l : Launch} {e : Env} {R : Room} {s : State} {m : MethodId} {args : Array Value} {below : List Frame} {meth : Method} {c : Code} {K : tm_K} (cx : tm_C p l R s m args meth c K cX6_begin 5 RX6 "begin" (some .int) 9 203) (v3 : Int) (v4 : Int) (σ : tm_S) (ls : Array Slot) (g3 : tm_in v3) (g4 : tm_in v4) (hl : tm_has 0 ls 5 [(0, tm_rv K 0), (3, tm_iv v3), (4, tm_iv v4)]) : tm_J p l e R s m args below meth c K tm_xM 1 (fm_begin_J111 v3 v4 σ) σ (F0 m 111 ls []) := by
  unfold fm_begin_J111
  refine tm_iload cx dX6_begin_111 (tm_has_at hl 2 rfl) ?_
  refine tm_iconst cx dX6_begin_113 ?_
  refine tm_icmp_eq (tgt := 128) cx g4 (by decide) dX6_begin_114 (by decide) (fun c114 => ?_) (fun c114 => ?_)
  · refine tm_goto (tgt := 254) cx dX6_begin_128 (by decide) ?_
    refine tm_iconst cx dX6_begin_254 ?_
    exact tm_ireturn cx (by decide) dX6_begin_255
  · refine tm_aload_n cx dX6_begin_117 (tm_has_at hl 0 rfl) ?_
    refine tm_iload cx dX6_begin_118 (tm_has_at hl 2 rfl) ?_
    refine tm_callV (n := 1) cx (cm_putBack K l (tm_hst cx) v4 g4) (lw_V q1343 q1345 qs70 q113 q1346) ⟨rfl, by decide +kernel, by decide +kernel, by decide +kernel⟩ rfl tm_cd_X6 (fun h => (tm_hM_0 h).1) ⟨Nat.le_of_ble_eq_true rfl, Nat.le_of_ble_eq_true rfl⟩ rfl (Nat.le_of_ble_eq_true rfl) hl.1.1 dX6_begin_120 (fun u120 σ120 q120 => ?_)
    show tm_J p l e R s m args below meth c K tm_xM 1 _ _ (F0 m 123 ls [])
    refine tm_aload_n cx dX6_begin_123 (tm_has_at hl 0 rfl) ?_
    refine tm_iload_n cx dX6_begin_124 (tm_has_at hl 1 rfl) ?_
    refine tm_callV (n := 1) cx (cm_putBack K l (tm_hst cx) v3 g3) (lw_V q1343 q1345 qs70 q113 q1346) ⟨rfl, by decide +kernel, by decide +kernel, by decide +kernel⟩ rfl tm_cd_X6 (fun h => (tm_hM_0 h).1) ⟨Nat.le_of_ble_eq_true rfl, Nat.le_of_ble_eq_true rfl⟩ rfl (Nat.le_of_ble_eq_true rfl) hl.1.1 dX6_begin_125 (fun u125 σ125 q125 => ?_)
    show tm_J p l e R s m args below meth c K tm_xM 1 _ _ (F0 m 128 ls [])
    refine tm_goto (tgt := 254) cx dX6_begin_128 (by decide) ?_
    refine tm_iconst cx dX6_begin_254 ?_
    exact tm_ireturn cx (by decide) dX6_begin_255
def fm_begin_J84 (v2 : Int) (v3 : Int) (vs0 : Int) (σ : tm_S) : tm_R :=
  if vs0 = (-1) then
    fm_begin_J111 v3 vs0 σ
  else
    tm_bd (fm_isExpandable vs0 σ) fun u95 σ95 =>
    if u95 = 0 then
      fm_begin_J111 v3 vs0 σ95
    else
      tm_bd (fm_push v2 v3 0 σ95) fun u105 σ105 =>
      tm_rt vs0 σ105
theorem wm_begin_J84 {p : Program} {l : Launch} {e : Env} {R : Room} {s : State} {m : MethodId} {args : Array Value} {below : List Frame} {meth : Method} {c : Code} {K : tm_K} (cx : tm_C p l R s m args meth c K cX6_begin 5 RX6 "begin" (some .int) 9 203) (v2 : Int) (v3 : Int) (vs0 : Int) (σ : tm_S) (ls : Array Slot) (g2 : tm_in v2) (g3 : tm_in v3) (gs0 : tm_in vs0) (hl : tm_has 0 ls 5 [(0, tm_rv K 0), (2, tm_iv v2), (3, tm_iv v3)]) : tm_J p l e R s m args below meth c K tm_xM 1 (fm_begin_J84 v2 v3 vs0 σ) σ (F0 m 84 ls [tm_iv vs0]) := by
  unfold fm_begin_J84
  refine tm_istore (lv' := [(4, tm_iv vs0), (0, tm_rv K 0), (2, tm_iv v2), (3, tm_iv v3)]) cx dX6_begin_84 hl (by decide) (by decide) rfl (fun ls hl => ?_)
  refine tm_iload cx dX6_begin_86 (tm_has_at hl 0 rfl) ?_
  refine tm_iconst cx dX6_begin_88 ?_
  refine tm_icmp_eq (tgt := 111) cx gs0 (by decide) dX6_begin_89 (by decide) (fun c89 => ?_) (fun c89 => ?_)
  · exact wm_begin_J111 cx v3 vs0 _ _ g3 gs0 (tm_has_sub hl [1, 3, 0] rfl)
  · refine tm_aload_n cx dX6_begin_92 (tm_has_at hl 1 rfl) ?_
    refine tm_iload cx dX6_begin_93 (tm_has_at hl 0 rfl) ?_
    refine tm_callV (n := 1) cx (cm_isExpandable K l (tm_hst cx) vs0 gs0) (lw_V q1287 q1289 qs59 q113 q1290) ⟨rfl, by decide +kernel, by decide +kernel, by decide +kernel⟩ rfl tm_cd_X6 (fun h => (tm_hM_0 h).1) ⟨Nat.le_of_ble_eq_true rfl, Nat.le_of_ble_eq_true rfl⟩ rfl (Nat.le_of_ble_eq_true rfl) hl.1.1 dX6_begin_95 (fun u95 σ95 q95 => ?_)
    show tm_J p l e R s m args below meth c K tm_xM 1 _ _ (F0 m 98 ls [tm_iv u95])
    refine tm_if_eq (tgt := 111) cx q95 dX6_begin_98 (by decide) (fun c98 => ?_) (fun c98 => ?_)
    · exact wm_begin_J111 cx v3 vs0 _ _ g3 gs0 (tm_has_sub hl [1, 3, 0] rfl)
    · refine tm_aload_n cx dX6_begin_101 (tm_has_at hl 1 rfl) ?_
      refine tm_iload_n cx dX6_begin_102 (tm_has_at hl 2 rfl) ?_
      refine tm_iload_n cx dX6_begin_103 (tm_has_at hl 3 rfl) ?_
      refine tm_iconst cx dX6_begin_104 ?_
      refine tm_callV (n := 3) cx (cm_push K l (tm_hst cx) v2 g2 v3 g3 0 (by decide)) (lw_V q1347 q1349 qs71 q113 q1350) ⟨rfl, by decide +kernel, by decide +kernel, by decide +kernel⟩ rfl tm_cd_X6 (fun h => (tm_hM_0 h).1) ⟨Nat.le_of_ble_eq_true rfl, Nat.le_of_ble_eq_true rfl⟩ rfl (Nat.le_of_ble_eq_true rfl) hl.1.1 dX6_begin_105 (fun u105 σ105 q105 => ?_)
      show tm_J p l e R s m args below meth c K tm_xM 1 _ _ (F0 m 108 ls [])
      refine tm_iload cx dX6_begin_108 (tm_has_at hl 0 rfl) ?_
      exact tm_ireturn cx gs0 dX6_begin_110
def fm_begin_J172 (vs1 : Int) (σ : tm_S) : tm_R :=
  tm_bd (fm_putBack vs1 σ) fun u172 σ172 =>
  tm_rt (-1) σ172
theorem wm_begin_J172 {p : Program} {l : Launch} {e : Env} {R : Room} {s : State} {m : MethodId} {args : Array Value} {below : List Frame} {meth : Method} {c : Code} {K : tm_K} (cx : tm_C p l R s m args meth c K cX6_begin 5 RX6 "begin" (some .int) 9 203) (vs1 : Int) (σ : tm_S) (ls : Array Slot) (gs1 : tm_in vs1) (hl : tm_has 0 ls 5 []) : tm_J p l e R s m args below meth c K tm_xM 1 (fm_begin_J172 vs1 σ) σ (F0 m 172 ls [tm_iv vs1, tm_rv K 0]) := by
  unfold fm_begin_J172
  refine tm_callV (n := 1) cx (cm_putBack K l (tm_hst cx) vs1 gs1) (lw_V q1343 q1345 qs70 q113 q1346) ⟨rfl, by decide +kernel, by decide +kernel, by decide +kernel⟩ rfl tm_cd_X6 (fun h => (tm_hM_0 h).1) ⟨Nat.le_of_ble_eq_true rfl, Nat.le_of_ble_eq_true rfl⟩ rfl (Nat.le_of_ble_eq_true rfl) hl.1.1 dX6_begin_172 (fun u172 σ172 q172 => ?_)
  show tm_J p l e R s m args below meth c K tm_xM 1 _ _ (F0 m 175 ls [])
  refine tm_goto (tgt := 254) cx dX6_begin_175 (by decide) ?_
  refine tm_iconst cx dX6_begin_254 ?_
  exact tm_ireturn cx (by decide) dX6_begin_255
def fm_begin_J230 (v2 : Int) (σ : tm_S) : tm_R :=
  tm_bd (fm_close v2 σ) fun u232 σ232 =>
  tm_rt (-1) σ232
theorem wm_begin_J230 {p : Program} {l : Launch} {e : Env} {R : Room} {s : State} {m : MethodId} {args : Array Value} {below : List Frame} {meth : Method} {c : Code} {K : tm_K} (cx : tm_C p l R s m args meth c K cX6_begin 5 RX6 "begin" (some .int) 9 203) (v2 : Int) (σ : tm_S) (ls : Array Slot) (g2 : tm_in v2) (hl : tm_has 0 ls 5 [(0, tm_rv K 0), (2, tm_iv v2)]) : tm_J p l e R s m args below meth c K tm_xM 1 (fm_begin_J230 v2 σ) σ (F0 m 230 ls []) := by
  unfold fm_begin_J230
  refine tm_aload_n cx dX6_begin_230 (tm_has_at hl 0 rfl) ?_
  refine tm_iload_n cx dX6_begin_231 (tm_has_at hl 1 rfl) ?_
  refine tm_callV (n := 1) cx (cm_close K l (tm_hst cx) v2 g2) (lw_V q1358 q1360 qs73 q113 q1361) ⟨rfl, by decide +kernel, by decide +kernel, by decide +kernel⟩ rfl tm_cd_X6 (fun h => (tm_hM_0 h).1) ⟨Nat.le_of_ble_eq_true rfl, Nat.le_of_ble_eq_true rfl⟩ rfl (Nat.le_of_ble_eq_true rfl) hl.1.1 dX6_begin_232 (fun u232 σ232 q232 => ?_)
  show tm_J p l e R s m args below meth c K tm_xM 1 _ _ (F0 m 235 ls [])
  refine tm_goto (tgt := 254) cx dX6_begin_235 (by decide) ?_
  refine tm_iconst cx dX6_begin_254 ?_
  exact tm_ireturn cx (by decide) dX6_begin_255
def fm_begin (a1 : Int) (σ : tm_S) : tm_R :=
  if (tm_f σ 455 0) = 200 then
    fm_begin_J19 σ
  else
    if (tm_f σ 479 0) = 30 then
      fm_begin_J19 σ
    else
      tm_gi ((tm_f σ 455 0) + 1) <|
      tm_bd (fm_meaningOf a1 (tm_wf σ 455 0 ((tm_f σ 455 0) + 1))) fun u37 σ37 =>
      if u37 < 6000 then
        if u37 = 8 then
          tm_bd (fm_need σ37) fun u67 σ67 =>
          if u67 = (-1) then
            fm_begin_J84 u37 u67 (-1) σ67
          else
            tm_bd (fm_need σ67) fun u81 σ81 =>
            fm_begin_J84 u37 u67 u81 σ81
        else
          if u37 = 9 then
            tm_bd (fm_need σ37) fun u138 σ138 =>
            if u138 = (-1) then
              tm_rt (-1) σ138
            else
              tm_bd (fm_isName u138 σ138) fun u149 σ149 =>
              if u149 = 0 then
                fm_begin_J172 u138 σ149
              else
                tm_bd (fm_isExpandable u138 σ149) fun u157 σ157 =>
                if u157 = 0 then
                  fm_begin_J172 u138 σ157
                else
                  tm_gi (u138 + 8192) <|
                  fm_begin_J172 (u138 + 8192) σ157
          else
            if u37 = 12 then
              tm_bd (fm_need σ37) fun u185 σ185 =>
              if u185 = (-1) then
                tm_rt (-1) σ185
              else
                tm_bd (fm_string u185 σ185) fun u196 σ196 =>
                tm_rt (-1) σ196
            else
              if u37 = 10 then
                tm_bd (fm_push u37 0 0 σ37) fun u212 σ212 =>
                tm_rt (-1) σ212
              else
                if u37 = 17 then
                  fm_begin_J230 u37 σ37
                else
                  if u37 = 18 then
                    fm_begin_J230 u37 σ37
                  else
                    tm_bd (fm_open σ37) fun u239 σ239 =>
                    if (tm_f σ239 453 0) = 0 then
                      tm_bd (fm_test u37 σ239) fun u251 σ251 =>
                      tm_rt (-1) σ251
                    else
                      tm_rt (-1) σ239
      else
        tm_gi (u37 - 6000) <|
        tm_bd (fm_call (u37 - 6000) σ37) fun u54 σ54 =>
        tm_rt (-1) σ54
theorem tm_fits_X6_begin (K : tm_K) (a1 : Int) : (lg_sl [tm_rv K 0, tm_iv a1]).length ≤ 2 := (tm_sl_r _ _ _ _ (tm_sl_i _ _ _ (tm_sl_n _)))
theorem cm_begin (K : tm_K) (l : Launch) (hst : l.stackTraces = false) (a1 : Int) (g1 : tm_in a1) : tm_ct K tm_xM l yX6_begin cX6_begin 5 (some .int) 1 [tm_rv K 0, tm_iv a1] (fm_begin a1) 9 203 := by
  refine tm_ct_of hst (by decide +kernel) (Nat.le_trans (tm_fits_X6_begin K a1) (Nat.le_of_ble_eq_true rfl)) ?_
  intro p e R s m args below meth c cx σ ls hl0
  have hl : tm_has 0 ls 5 [(0, tm_rv K 0), (1, tm_iv a1)] := ⟨by
    have h9 := hl0
    simp only [tm_args_r, tm_args_i, tm_args_n, Nat.zero_add, Nat.reduceAdd] at h9
    exact h9, by
    intro q hq
    simp only [List.mem_cons, List.not_mem_nil, or_false] at hq
    rcases hq with rfl | rfl
    · exact Or.inl (tm_rv_cat K 0)
    · exact Or.inl rfl⟩
  clear hl0
  unfold fm_begin
  refine tm_aload_n cx dX6_begin_0 (tm_has_at hl 0 rfl) ?_
  refine tg_X6_274 cx dX6_begin_1 (fun q1 => ?_)
  refine tm_sipush cx dX6_begin_4 (by decide) ?_
  refine tm_icmp_eq (tgt := 19) cx q1 (by decide) dX6_begin_7 (by decide) (fun c7 => ?_) (fun c7 => ?_)
  · exact wm_begin_J19 cx _ _ (tm_has_sub hl [0] rfl)
  · refine tm_aload_n cx dX6_begin_10 (tm_has_at hl 0 rfl) ?_
    refine tg_X6_180 cx dX6_begin_11 (fun q11 => ?_)
    refine tm_bipush cx dX6_begin_14 (by decide) ?_
    refine tm_icmp_ne (tgt := 25) cx q11 (by decide) dX6_begin_16 (by decide) (fun c16 => ?_) (fun c16 => ?_)
    · exact wm_begin_J19 cx _ _ (tm_has_sub hl [0] rfl)
    · refine tm_aload_n cx dX6_begin_25 (tm_has_at hl 0 rfl) ?_
      refine tm_dup_r cx dX6_begin_26 ?_
      refine tg_X6_274 cx dX6_begin_27 (fun q27 => ?_)
      refine tm_iconst cx dX6_begin_30 ?_
      refine tm_iadd cx dX6_begin_31 (fun q31 => ?_)
      refine tp_X6_274 cx q31 dX6_begin_32 ?_
      refine tm_aload_n cx dX6_begin_35 (tm_has_at hl 0 rfl) ?_
      refine tm_iload_n cx dX6_begin_36 (tm_has_at hl 1 rfl) ?_
      refine tm_callV (n := 1) cx (cm_meaningOf K l (tm_hst cx) a1 g1) (lw_V q1291 q1293 qs60 q113 q1294) ⟨rfl, by decide +kernel, by decide +kernel, by decide +kernel⟩ rfl tm_cd_X6 (fun h => (tm_hM_0 h).1) ⟨Nat.le_of_ble_eq_true rfl, Nat.le_of_ble_eq_true rfl⟩ rfl (Nat.le_of_ble_eq_true rfl) hl.1.1 dX6_begin_37 (fun u37 σ37 q37 => ?_)
      show tm_J p l e R s m args below meth c K tm_xM 1 _ _ (F0 m 40 ls [tm_iv u37])
      refine tm_istore_n (lv' := [(2, tm_iv u37), (0, tm_rv K 0), (1, tm_iv a1)]) cx dX6_begin_40 hl (by decide) (by decide) rfl (fun ls hl => ?_)
      refine tm_iload_n cx dX6_begin_41 (tm_has_at hl 0 rfl) ?_
      refine tm_sipush cx dX6_begin_42 (by decide) ?_
      refine tm_icmp_lt (tgt := 60) cx q37 (by decide) dX6_begin_45 (by decide) (fun c45 => ?_) (fun c45 => ?_)
      · refine tm_iload_n cx dX6_begin_60 (tm_has_at hl 0 rfl) ?_
        refine tm_bipush cx dX6_begin_61 (by decide) ?_
        refine tm_icmp_ne (tgt := 131) cx q37 (by decide) dX6_begin_63 (by decide) (fun c63 => ?_) (fun c63 => ?_)
        · refine tm_aload_n cx dX6_begin_66 (tm_has_at hl 1 rfl) ?_
          refine tm_callV (n := 0) cx (cm_need K l (tm_hst cx)) (lw_V q1313 q1315 qs64 q113 q1316) ⟨rfl, by decide +kernel, by decide +kernel, by decide +kernel⟩ rfl tm_cd_X6 (fun h => (tm_hM_0 h).1) ⟨Nat.le_of_ble_eq_true rfl, Nat.le_of_ble_eq_true rfl⟩ rfl (Nat.le_of_ble_eq_true rfl) hl.1.1 dX6_begin_67 (fun u67 σ67 q67 => ?_)
          show tm_J p l e R s m args below meth c K tm_xM 1 _ _ (F0 m 70 ls [tm_iv u67])
          refine tm_istore_n (lv' := [(3, tm_iv u67), (2, tm_iv u37), (0, tm_rv K 0), (1, tm_iv a1)]) cx dX6_begin_70 hl (by decide) (by decide) rfl (fun ls hl => ?_)
          refine tm_iload_n cx dX6_begin_71 (tm_has_at hl 0 rfl) ?_
          refine tm_iconst cx dX6_begin_72 ?_
          refine tm_icmp_ne (tgt := 80) cx q67 (by decide) dX6_begin_73 (by decide) (fun c73 => ?_) (fun c73 => ?_)
          · refine tm_iconst cx dX6_begin_76 ?_
            refine tm_goto (tgt := 84) cx dX6_begin_77 (by decide) ?_
            exact wm_begin_J84 cx u37 u67 (-1) _ _ q37 q67 (by decide) (tm_has_sub hl [2, 1, 0] rfl)
          · refine tm_aload_n cx dX6_begin_80 (tm_has_at hl 2 rfl) ?_
            refine tm_callV (n := 0) cx (cm_need K l (tm_hst cx)) (lw_V q1313 q1315 qs64 q113 q1316) ⟨rfl, by decide +kernel, by decide +kernel, by decide +kernel⟩ rfl tm_cd_X6 (fun h => (tm_hM_0 h).1) ⟨Nat.le_of_ble_eq_true rfl, Nat.le_of_ble_eq_true rfl⟩ rfl (Nat.le_of_ble_eq_true rfl) hl.1.1 dX6_begin_81 (fun u81 σ81 q81 => ?_)
            show tm_J p l e R s m args below meth c K tm_xM 1 _ _ (F0 m 84 ls [tm_iv u81])
            exact wm_begin_J84 cx u37 u67 u81 _ _ q37 q67 q81 (tm_has_sub hl [2, 1, 0] rfl)
        · refine tm_iload_n cx dX6_begin_131 (tm_has_at hl 0 rfl) ?_
          refine tm_bipush cx dX6_begin_132 (by decide) ?_
          refine tm_icmp_ne (tgt := 178) cx q37 (by decide) dX6_begin_134 (by decide) (fun c134 => ?_) (fun c134 => ?_)
          · refine tm_aload_n cx dX6_begin_137 (tm_has_at hl 1 rfl) ?_
            refine tm_callV (n := 0) cx (cm_need K l (tm_hst cx)) (lw_V q1313 q1315 qs64 q113 q1316) ⟨rfl, by decide +kernel, by decide +kernel, by decide +kernel⟩ rfl tm_cd_X6 (fun h => (tm_hM_0 h).1) ⟨Nat.le_of_ble_eq_true rfl, Nat.le_of_ble_eq_true rfl⟩ rfl (Nat.le_of_ble_eq_true rfl) hl.1.1 dX6_begin_138 (fun u138 σ138 q138 => ?_)
            show tm_J p l e R s m args below meth c K tm_xM 1 _ _ (F0 m 141 ls [tm_iv u138])
            refine tm_istore_n (lv' := [(3, tm_iv u138), (2, tm_iv u37), (0, tm_rv K 0), (1, tm_iv a1)]) cx dX6_begin_141 hl (by decide) (by decide) rfl (fun ls hl => ?_)
            refine tm_iload_n cx dX6_begin_142 (tm_has_at hl 0 rfl) ?_
            refine tm_iconst cx dX6_begin_143 ?_
            refine tm_icmp_eq (tgt := 175) cx q138 (by decide) dX6_begin_144 (by decide) (fun c144 => ?_) (fun c144 => ?_)
            · refine tm_goto (tgt := 254) cx dX6_begin_175 (by decide) ?_
              refine tm_iconst cx dX6_begin_254 ?_
              exact tm_ireturn cx (by decide) dX6_begin_255
            · refine tm_aload_n cx dX6_begin_147 (tm_has_at hl 2 rfl) ?_
              refine tm_iload_n cx dX6_begin_148 (tm_has_at hl 0 rfl) ?_
              refine tm_callS (n := 1) cx (cm_isName K l (tm_hst cx) u138 q138) (lw_S q1298 q1299 q113 q1300) ⟨by decide +kernel, by decide +kernel, by decide +kernel⟩ rfl ⟨Nat.le_of_ble_eq_true rfl, Nat.le_of_ble_eq_true rfl⟩ rfl (Nat.le_of_ble_eq_true rfl) hl.1.1 dX6_begin_149 (fun u149 σ149 q149 => ?_)
              show tm_J p l e R s m args below meth c K tm_xM 1 _ _ (F0 m 152 ls [tm_iv u149, tm_rv K 0])
              refine tm_if_eq (tgt := 171) cx q149 dX6_begin_152 (by decide) (fun c152 => ?_) (fun c152 => ?_)
              · refine tm_iload_n cx dX6_begin_171 (tm_has_at hl 0 rfl) ?_
                exact wm_begin_J172 cx u138 _ _ q138 (tm_has_sub hl [] rfl)
              · refine tm_aload_n cx dX6_begin_155 (tm_has_at hl 2 rfl) ?_
                refine tm_iload_n cx dX6_begin_156 (tm_has_at hl 0 rfl) ?_
                refine tm_callV (n := 1) cx (cm_isExpandable K l (tm_hst cx) u138 q138) (lw_V q1287 q1289 qs59 q113 q1290) ⟨rfl, by decide +kernel, by decide +kernel, by decide +kernel⟩ rfl tm_cd_X6 (fun h => (tm_hM_0 h).1) ⟨Nat.le_of_ble_eq_true rfl, Nat.le_of_ble_eq_true rfl⟩ rfl (Nat.le_of_ble_eq_true rfl) hl.1.1 dX6_begin_157 (fun u157 σ157 q157 => ?_)
                show tm_J p l e R s m args below meth c K tm_xM 1 _ _ (F0 m 160 ls [tm_iv u157, tm_rv K 0])
                refine tm_if_eq (tgt := 171) cx q157 dX6_begin_160 (by decide) (fun c160 => ?_) (fun c160 => ?_)
                · refine tm_iload_n cx dX6_begin_171 (tm_has_at hl 0 rfl) ?_
                  exact wm_begin_J172 cx u138 _ _ q138 (tm_has_sub hl [] rfl)
                · refine tm_iload_n cx dX6_begin_163 (tm_has_at hl 0 rfl) ?_
                  refine tm_sipush cx dX6_begin_164 (by decide) ?_
                  refine tm_iadd cx dX6_begin_167 (fun q167 => ?_)
                  refine tm_goto (tgt := 172) cx dX6_begin_168 (by decide) ?_
                  exact wm_begin_J172 cx (u138 + 8192) _ _ q167 (tm_has_sub hl [] rfl)
          · refine tm_iload_n cx dX6_begin_178 (tm_has_at hl 0 rfl) ?_
            refine tm_bipush cx dX6_begin_179 (by decide) ?_
            refine tm_icmp_ne (tgt := 202) cx q37 (by decide) dX6_begin_181 (by decide) (fun c181 => ?_) (fun c181 => ?_)
            · refine tm_aload_n cx dX6_begin_184 (tm_has_at hl 1 rfl) ?_
              refine tm_callV (n := 0) cx (cm_need K l (tm_hst cx)) (lw_V q1313 q1315 qs64 q113 q1316) ⟨rfl, by decide +kernel, by decide +kernel, by decide +kernel⟩ rfl tm_cd_X6 (fun h => (tm_hM_0 h).1) ⟨Nat.le_of_ble_eq_true rfl, Nat.le_of_ble_eq_true rfl⟩ rfl (Nat.le_of_ble_eq_true rfl) hl.1.1 dX6_begin_185 (fun u185 σ185 q185 => ?_)
              show tm_J p l e R s m args below meth c K tm_xM 1 _ _ (F0 m 188 ls [tm_iv u185])
              refine tm_istore_n (lv' := [(3, tm_iv u185), (2, tm_iv u37), (0, tm_rv K 0), (1, tm_iv a1)]) cx dX6_begin_188 hl (by decide) (by decide) rfl (fun ls hl => ?_)
              refine tm_iload_n cx dX6_begin_189 (tm_has_at hl 0 rfl) ?_
              refine tm_iconst cx dX6_begin_190 ?_
              refine tm_icmp_eq (tgt := 199) cx q185 (by decide) dX6_begin_191 (by decide) (fun c191 => ?_) (fun c191 => ?_)
              · refine tm_goto (tgt := 254) cx dX6_begin_199 (by decide) ?_
                refine tm_iconst cx dX6_begin_254 ?_
                exact tm_ireturn cx (by decide) dX6_begin_255
              · refine tm_aload_n cx dX6_begin_194 (tm_has_at hl 2 rfl) ?_
                refine tm_iload_n cx dX6_begin_195 (tm_has_at hl 0 rfl) ?_
                refine tm_callV (n := 1) cx (cm_string K l (tm_hst cx) u185 q185) (lw_V q1351 q1353 qs72 q113 q1354) ⟨rfl, by decide +kernel, by decide +kernel, by decide +kernel⟩ rfl tm_cd_X6 (fun h => (tm_hM_0 h).1) ⟨Nat.le_of_ble_eq_true rfl, Nat.le_of_ble_eq_true rfl⟩ rfl (Nat.le_of_ble_eq_true rfl) hl.1.1 dX6_begin_196 (fun u196 σ196 q196 => ?_)
                show tm_J p l e R s m args below meth c K tm_xM 1 _ _ (F0 m 199 ls [])
                refine tm_goto (tgt := 254) cx dX6_begin_199 (by decide) ?_
                refine tm_iconst cx dX6_begin_254 ?_
                exact tm_ireturn cx (by decide) dX6_begin_255
            · refine tm_iload_n cx dX6_begin_202 (tm_has_at hl 0 rfl) ?_
              refine tm_bipush cx dX6_begin_203 (by decide) ?_
              refine tm_icmp_ne (tgt := 218) cx q37 (by decide) dX6_begin_205 (by decide) (fun c205 => ?_) (fun c205 => ?_)
              · refine tm_aload_n cx dX6_begin_208 (tm_has_at hl 1 rfl) ?_
                refine tm_iload_n cx dX6_begin_209 (tm_has_at hl 0 rfl) ?_
                refine tm_iconst cx dX6_begin_210 ?_
                refine tm_iconst cx dX6_begin_211 ?_
                refine tm_callV (n := 3) cx (cm_push K l (tm_hst cx) u37 q37 0 (by decide) 0 (by decide)) (lw_V q1347 q1349 qs71 q113 q1350) ⟨rfl, by decide +kernel, by decide +kernel, by decide +kernel⟩ rfl tm_cd_X6 (fun h => (tm_hM_0 h).1) ⟨Nat.le_of_ble_eq_true rfl, Nat.le_of_ble_eq_true rfl⟩ rfl (Nat.le_of_ble_eq_true rfl) hl.1.1 dX6_begin_212 (fun u212 σ212 q212 => ?_)
                show tm_J p l e R s m args below meth c K tm_xM 1 _ _ (F0 m 215 ls [])
                refine tm_goto (tgt := 254) cx dX6_begin_215 (by decide) ?_
                refine tm_iconst cx dX6_begin_254 ?_
                exact tm_ireturn cx (by decide) dX6_begin_255
              · refine tm_iload_n cx dX6_begin_218 (tm_has_at hl 0 rfl) ?_
                refine tm_bipush cx dX6_begin_219 (by decide) ?_
                refine tm_icmp_eq (tgt := 230) cx q37 (by decide) dX6_begin_221 (by decide) (fun c221 => ?_) (fun c221 => ?_)
                · exact wm_begin_J230 cx u37 _ _ q37 (tm_has_sub hl [1, 0] rfl)
                · refine tm_iload_n cx dX6_begin_224 (tm_has_at hl 0 rfl) ?_
                  refine tm_bipush cx dX6_begin_225 (by decide) ?_
                  refine tm_icmp_ne (tgt := 238) cx q37 (by decide) dX6_begin_227 (by decide) (fun c227 => ?_) (fun c227 => ?_)
                  · exact wm_begin_J230 cx u37 _ _ q37 (tm_has_sub hl [1, 0] rfl)
                  · refine tm_aload_n cx dX6_begin_238 (tm_has_at hl 1 rfl) ?_
                    refine tm_callV (n := 0) cx (cm_open K l (tm_hst cx)) (lw_V q1366 q1368 qs75 q113 q1369) ⟨rfl, by decide +kernel, by decide +kernel, by decide +kernel⟩ rfl tm_cd_X6 (fun h => (tm_hM_0 h).1) ⟨Nat.le_of_ble_eq_true rfl, Nat.le_of_ble_eq_true rfl⟩ rfl (Nat.le_of_ble_eq_true rfl) hl.1.1 dX6_begin_239 (fun u239 σ239 q239 => ?_)
                    show tm_J p l e R s m args below meth c K tm_xM 1 _ _ (F0 m 242 ls [])
                    refine tm_aload_n cx dX6_begin_242 (tm_has_at hl 1 rfl) ?_
                    refine tg_X6_159 cx dX6_begin_243 (fun q243 => ?_)
                    refine tm_if_ne (tgt := 254) cx q243 dX6_begin_246 (by decide) (fun c246 => ?_) (fun c246 => ?_)
                    · refine tm_aload_n cx dX6_begin_249 (tm_has_at hl 1 rfl) ?_
                      refine tm_iload_n cx dX6_begin_250 (tm_has_at hl 0 rfl) ?_
                      refine tm_callV (n := 1) cx (cm_test K l (tm_hst cx) u37 q37) (lw_V q1370 q1372 qs76 q113 q1373) ⟨rfl, by decide +kernel, by decide +kernel, by decide +kernel⟩ rfl tm_cd_X6 (fun h => (tm_hM_0 h).1) ⟨Nat.le_of_ble_eq_true rfl, Nat.le_of_ble_eq_true rfl⟩ rfl (Nat.le_of_ble_eq_true rfl) hl.1.1 dX6_begin_251 (fun u251 σ251 q251 => ?_)
                      show tm_J p l e R s m args below meth c K tm_xM 1 _ _ (F0 m 254 ls [])
                      refine tm_iconst cx dX6_begin_254 ?_
                      exact tm_ireturn cx (by decide) dX6_begin_255
                    · refine tm_iconst cx dX6_begin_254 ?_
                      exact tm_ireturn cx (by decide) dX6_begin_255
      · refine tm_aload_n cx dX6_begin_48 (tm_has_at hl 1 rfl) ?_
        refine tm_iload_n cx dX6_begin_49 (tm_has_at hl 0 rfl) ?_
        refine tm_sipush cx dX6_begin_50 (by decide) ?_
        refine tm_isub cx dX6_begin_53 (fun q53 => ?_)
        refine tm_callV (n := 1) cx (cm_call K l (tm_hst cx) (u37 - 6000) q53) (lw_V q1309 q1311 qs63 q113 q1312) ⟨rfl, by decide +kernel, by decide +kernel, by decide +kernel⟩ rfl tm_cd_X6 (fun h => (tm_hM_0 h).1) ⟨Nat.le_of_ble_eq_true rfl, Nat.le_of_ble_eq_true rfl⟩ rfl (Nat.le_of_ble_eq_true rfl) hl.1.1 dX6_begin_54 (fun u54 σ54 q54 => ?_)
        show tm_J p l e R s m args below meth c K tm_xM 1 _ _ (F0 m 57 ls [])
        refine tm_goto (tgt := 254) cx dX6_begin_57 (by decide) ?_
        refine tm_iconst cx dX6_begin_254 ?_
        exact tm_ireturn cx (by decide) dX6_begin_255
def fm_change_J155 (v1 : Int) (v2 : Int) (σ : tm_S) : tm_R :=
  if v1 < 200 then
    tm_gx v1 120 <|
    tm_rt 0 (tm_wa σ 115 v1 v2)
  else
    tm_gi (v1 - 200) <|
    tm_gx (v1 - 200) 128 <|
    tm_rt 0 (tm_wa σ 108 (v1 - 200) v2)
theorem wm_change_J155 {p : Program} {l : Launch} {e : Env} {R : Room} {s : State} {m : MethodId} {args : Array Value} {below : List Frame} {meth : Method} {c : Code} {K : tm_K} (cx : tm_C p l R s m args meth c K cX6_change 5 RX6 "change" none 1 21) (v1 : Int) (v2 : Int) (σ : tm_S) (ls : Array Slot) (g1 : tm_in v1) (g2 : tm_in v2) (hl : tm_has 0 ls 5 [(0, tm_rv K 0), (1, tm_iv v1), (2, tm_iv v2)]) : tm_J p l e R s m args below meth c K tm_xM 0 (fm_change_J155 v1 v2 σ) σ (F0 m 155 ls []) := by
  unfold fm_change_J155
  refine tm_iload_n cx dX6_change_155 (tm_has_at hl 1 rfl) ?_
  refine tm_sipush cx dX6_change_156 (by decide) ?_
  refine tm_icmp_ge (tgt := 172) cx g1 (by decide) dX6_change_159 (by decide) (fun c159 => ?_) (fun c159 => ?_)
  · refine tm_aload_n cx dX6_change_162 (tm_has_at hl 0 rfl) ?_
    refine tg_X6_29 cx dX6_change_163 ?_
    refine tm_iload_n cx dX6_change_166 (tm_has_at hl 1 rfl) ?_
    refine tm_iload_n cx dX6_change_167 (tm_has_at hl 2 rfl) ?_
    refine tm_iast cx tm_famM tm_hM_115 g1 g2 dX6_change_168 ?_
    refine tm_goto (tgt := 183) cx dX6_change_169 (by decide) ?_
    exact tm_vreturn cx dX6_change_183
  · refine tm_aload_n cx dX6_change_172 (tm_has_at hl 0 rfl) ?_
    refine tg_X6_13 cx dX6_change_173 ?_
    refine tm_iload_n cx dX6_change_176 (tm_has_at hl 1 rfl) ?_
    refine tm_sipush cx dX6_change_177 (by decide) ?_
    refine tm_isub cx dX6_change_180 (fun q180 => ?_)
    refine tm_iload_n cx dX6_change_181 (tm_has_at hl 2 rfl) ?_
    refine tm_iast cx tm_famM tm_hM_108 q180 g2 dX6_change_182 ?_
    exact tm_vreturn cx dX6_change_183
def fm_change_J144 (v1 : Int) (v2 : Int) (vs1 : Int) (vs2 : Int) (σ : tm_S) : tm_R :=
  tm_gx vs1 60 <|
  tm_gi ((tm_f (tm_wa σ 122 vs1 vs2) 467 0) + 1) <|
  fm_change_J155 v1 v2 (tm_wf (tm_wa σ 122 vs1 vs2) 467 0 ((tm_f (tm_wa σ 122 vs1 vs2) 467 0) + 1))
theorem wm_change_J144 {p : Program} {l : Launch} {e : Env} {R : Room} {s : State} {m : MethodId} {args : Array Value} {below : List Frame} {meth : Method} {c : Code} {K : tm_K} (cx : tm_C p l R s m args meth c K cX6_change 5 RX6 "change" none 1 21) (v1 : Int) (v2 : Int) (vs1 : Int) (vs2 : Int) (σ : tm_S) (ls : Array Slot) (g1 : tm_in v1) (g2 : tm_in v2) (gs1 : tm_in vs1) (gs2 : tm_in vs2) (hl : tm_has 0 ls 5 [(0, tm_rv K 0), (1, tm_iv v1), (2, tm_iv v2)]) : tm_J p l e R s m args below meth c K tm_xM 0 (fm_change_J144 v1 v2 vs1 vs2 σ) σ (F0 m 144 ls [tm_iv vs2, tm_iv vs1, tm_rv K 122]) := by
  unfold fm_change_J144
  refine tm_iast cx tm_famM tm_hM_122 gs1 gs2 dX6_change_144 ?_
  refine tm_aload_n cx dX6_change_145 (tm_has_at hl 0 rfl) ?_
  refine tm_dup_r cx dX6_change_146 ?_
  refine tg_X6_171 cx dX6_change_147 (fun q147 => ?_)
  refine tm_iconst cx dX6_change_150 ?_
  refine tm_iadd cx dX6_change_151 (fun q151 => ?_)
  refine tp_X6_171 cx q151 dX6_change_152 ?_
  exact wm_change_J155 cx v1 v2 _ _ g1 g2 (tm_has_sub hl [0, 1, 2] rfl)
def fm_change_B16 (r16 : Int → Int → Int → Int → tm_S → tm_R) (v1 : Int) (v2 : Int) (v3 : Int) (v4 : Int) (σ : tm_S) : tm_R :=
  if v4 < (tm_f σ 467 0) then
    if v3 = 0 then
      tm_gx v4 60 <|
      if (tm_a σ 120 v4) = (tm_f σ 466 0) then
        tm_gx v4 60 <|
        if (tm_a σ 121 v4) = v1 then
          tm_gi (v4 + 1) <|
          r16 v1 v2 1 (v4 + 1) σ
        else
          tm_gi (v4 + 1) <|
          r16 v1 v2 0 (v4 + 1) σ
      else
        tm_gi (v4 + 1) <|
        r16 v1 v2 0 (v4 + 1) σ
    else
      tm_gi (v4 + 1) <|
      r16 v1 v2 1 (v4 + 1) σ
  else
    if v3 = 0 then
      if (tm_f σ 467 0) = 60 then
        tm_bd (fm_stop 5 σ) fun u81 σ81 =>
        tm_rt 0 σ81
      else
        tm_gx (tm_f σ 467 0) 60 <|
        tm_gx (tm_f (tm_wa σ 120 (tm_f σ 467 0) (tm_f σ 466 0)) 467 0) 60 <|
        if v1 < 200 then
          tm_gx v1 120 <|
          fm_change_J144 v1 v2 (tm_f (tm_wa (tm_wa σ 120 (tm_f σ 467 0) (tm_f σ 466 0)) 121 (tm_f (tm_wa σ 120 (tm_f σ 467 0) (tm_f σ 466 0)) 467 0) v1) 467 0) (tm_a (tm_wa (tm_wa σ 120 (tm_f σ 467 0) (tm_f σ 466 0)) 121 (tm_f (tm_wa σ 120 (tm_f σ 467 0) (tm_f σ 466 0)) 467 0) v1) 115 v1) (tm_wa (tm_wa σ 120 (tm_f σ 467 0) (tm_f σ 466 0)) 121 (tm_f (tm_wa σ 120 (tm_f σ 467 0) (tm_f σ 466 0)) 467 0) v1)
        else
          tm_gi (v1 - 200) <|
          tm_gx (v1 - 200) 128 <|
          fm_change_J144 v1 v2 (tm_f (tm_wa (tm_wa σ 120 (tm_f σ 467 0) (tm_f σ 466 0)) 121 (tm_f (tm_wa σ 120 (tm_f σ 467 0) (tm_f σ 466 0)) 467 0) v1) 467 0) (tm_a (tm_wa (tm_wa σ 120 (tm_f σ 467 0) (tm_f σ 466 0)) 121 (tm_f (tm_wa σ 120 (tm_f σ 467 0) (tm_f σ 466 0)) 467 0) v1) 108 (v1 - 200)) (tm_wa (tm_wa σ 120 (tm_f σ 467 0) (tm_f σ 466 0)) 121 (tm_f (tm_wa σ 120 (tm_f σ 467 0) (tm_f σ 466 0)) 467 0) v1)
    else
      fm_change_J155 v1 v2 σ
theorem wm_change_B16 {p : Program} {l : Launch} {e : Env} {R : Room} {s : State} {m : MethodId} {args : Array Value} {below : List Frame} {meth : Method} {c : Code} {K : tm_K} {r16 : Int → Int → Int → Int → tm_S → tm_R} (cx : tm_C p l R s m args meth c K cX6_change 5 RX6 "change" none 1 21) (h16 : ∀ (v1 : Int) (v2 : Int) (v3 : Int) (v4 : Int) (τ : tm_S) (ls : Array Slot), tm_in v1 → tm_in v2 → tm_in v3 → tm_in v4 → tm_has 0 ls 5 [(0, tm_rv K 0), (1, tm_iv v1), (2, tm_iv v2), (3, tm_iv v3), (4, tm_iv v4)] → tm_J p l e R s m args below meth c K tm_xM 0 (r16 v1 v2 v3 v4 τ) τ (F0 m 16 ls [])) (v1 : Int) (v2 : Int) (v3 : Int) (v4 : Int) (σ : tm_S) (ls : Array Slot) (g1 : tm_in v1) (g2 : tm_in v2) (g3 : tm_in v3) (g4 : tm_in v4) (hl : tm_has 0 ls 5 [(0, tm_rv K 0), (1, tm_iv v1), (2, tm_iv v2), (3, tm_iv v3), (4, tm_iv v4)]) : tm_J p l e R s m args below meth c K tm_xM 0 (fm_change_B16 r16 v1 v2 v3 v4 σ) σ (F0 m 16 ls []) := by
  unfold fm_change_B16
  refine tm_iload cx dX6_change_16 (tm_has_at hl 4 rfl) ?_
  refine tm_aload_n cx dX6_change_18 (tm_has_at hl 0 rfl) ?_
  refine tg_X6_171 cx dX6_change_19 (fun q19 => ?_)
  refine tm_icmp_ge (tgt := 66) cx g4 q19 dX6_change_22 (by decide) (fun c22 => ?_) (fun c22 => ?_)
  · refine tm_iload_n cx dX6_change_25 (tm_has_at hl 3 rfl) ?_
    refine tm_if_ne (tgt := 54) cx g3 dX6_change_26 (by decide) (fun c26 => ?_) (fun c26 => ?_)
    · refine tm_aload_n cx dX6_change_29 (tm_has_at hl 0 rfl) ?_
      refine tg_X6_35 cx dX6_change_30 ?_
      refine tm_iload cx dX6_change_33 (tm_has_at hl 4 rfl) ?_
      refine tm_iald cx tm_hM_120 g4 dX6_change_35 (fun i35 q35 => ?_)
      refine tm_aload_n cx dX6_change_36 (tm_has_at hl 0 rfl) ?_
      refine tg_X6_168 cx dX6_change_37 (fun q37 => ?_)
      refine tm_icmp_ne (tgt := 58) cx q35 q37 dX6_change_40 (by decide) (fun c40 => ?_) (fun c40 => ?_)
      · refine tm_aload_n cx dX6_change_43 (tm_has_at hl 0 rfl) ?_
        refine tg_X6_38 cx dX6_change_44 ?_
        refine tm_iload cx dX6_change_47 (tm_has_at hl 4 rfl) ?_
        refine tm_iald cx tm_hM_121 g4 dX6_change_49 (fun i49 q49 => ?_)
        refine tm_iload_n cx dX6_change_50 (tm_has_at hl 1 rfl) ?_
        refine tm_icmp_ne (tgt := 58) cx q49 g1 dX6_change_51 (by decide) (fun c51 => ?_) (fun c51 => ?_)
        · refine tm_iconst cx dX6_change_54 ?_
          refine tm_goto (tgt := 59) cx dX6_change_55 (by decide) ?_
          refine tm_istore_n (lv' := [(3, tm_iv 1), (0, tm_rv K 0), (1, tm_iv v1), (2, tm_iv v2), (4, tm_iv v4)]) cx dX6_change_59 hl (by decide) (by decide) rfl (fun ls hl => ?_)
          refine tm_iinc (lv' := [(4, tm_iv (v4 + 1)), (3, tm_iv 1), (0, tm_rv K 0), (1, tm_iv v1), (2, tm_iv v2)]) cx dX6_change_60 hl (j := 4) rfl (by decide) (by decide) rfl (fun q60 ls hl => ?_)
          refine tm_goto (tgt := 16) cx dX6_change_63 (by decide) ?_
          exact h16 v1 v2 1 (v4 + 1) _ _ g1 g2 (by decide) q60 (tm_has_sub hl [2, 3, 4, 1, 0] rfl)
        · refine tm_iconst cx dX6_change_58 ?_
          refine tm_istore_n (lv' := [(3, tm_iv 0), (0, tm_rv K 0), (1, tm_iv v1), (2, tm_iv v2), (4, tm_iv v4)]) cx dX6_change_59 hl (by decide) (by decide) rfl (fun ls hl => ?_)
          refine tm_iinc (lv' := [(4, tm_iv (v4 + 1)), (3, tm_iv 0), (0, tm_rv K 0), (1, tm_iv v1), (2, tm_iv v2)]) cx dX6_change_60 hl (j := 4) rfl (by decide) (by decide) rfl (fun q60 ls hl => ?_)
          refine tm_goto (tgt := 16) cx dX6_change_63 (by decide) ?_
          exact h16 v1 v2 0 (v4 + 1) _ _ g1 g2 (by decide) q60 (tm_has_sub hl [2, 3, 4, 1, 0] rfl)
      · refine tm_iconst cx dX6_change_58 ?_
        refine tm_istore_n (lv' := [(3, tm_iv 0), (0, tm_rv K 0), (1, tm_iv v1), (2, tm_iv v2), (4, tm_iv v4)]) cx dX6_change_59 hl (by decide) (by decide) rfl (fun ls hl => ?_)
        refine tm_iinc (lv' := [(4, tm_iv (v4 + 1)), (3, tm_iv 0), (0, tm_rv K 0), (1, tm_iv v1), (2, tm_iv v2)]) cx dX6_change_60 hl (j := 4) rfl (by decide) (by decide) rfl (fun q60 ls hl => ?_)
        refine tm_goto (tgt := 16) cx dX6_change_63 (by decide) ?_
        exact h16 v1 v2 0 (v4 + 1) _ _ g1 g2 (by decide) q60 (tm_has_sub hl [2, 3, 4, 1, 0] rfl)
    · refine tm_iconst cx dX6_change_54 ?_
      refine tm_goto (tgt := 59) cx dX6_change_55 (by decide) ?_
      refine tm_istore_n (lv' := [(3, tm_iv 1), (0, tm_rv K 0), (1, tm_iv v1), (2, tm_iv v2), (4, tm_iv v4)]) cx dX6_change_59 hl (by decide) (by decide) rfl (fun ls hl => ?_)
      refine tm_iinc (lv' := [(4, tm_iv (v4 + 1)), (3, tm_iv 1), (0, tm_rv K 0), (1, tm_iv v1), (2, tm_iv v2)]) cx dX6_change_60 hl (j := 4) rfl (by decide) (by decide) rfl (fun q60 ls hl => ?_)
      refine tm_goto (tgt := 16) cx dX6_change_63 (by decide) ?_
      exact h16 v1 v2 1 (v4 + 1) _ _ g1 g2 (by decide) q60 (tm_has_sub hl [2, 3, 4, 1, 0] rfl)
  · refine tm_iload_n cx dX6_change_66 (tm_has_at hl 3 rfl) ?_
    refine tm_if_ne (tgt := 155) cx g3 dX6_change_67 (by decide) (fun c67 => ?_) (fun c67 => ?_)
    · refine tm_aload_n cx dX6_change_70 (tm_has_at hl 0 rfl) ?_
      refine tg_X6_171 cx dX6_change_71 (fun q71 => ?_)
      refine tm_bipush cx dX6_change_74 (by decide) ?_
      refine tm_icmp_ne (tgt := 87) cx q71 (by decide) dX6_change_76 (by decide) (fun c76 => ?_) (fun c76 => ?_)
      · refine tm_aload_n cx dX6_change_79 (tm_has_at hl 0 rfl) ?_
        refine tm_iconst cx dX6_change_80 ?_
        refine tm_callV (n := 1) cx (cm_stop K l (tm_hst cx) 5 (by decide)) (lw_V q1271 q1273 qs55 q113 q1274) ⟨rfl, by decide +kernel, by decide +kernel, by decide +kernel⟩ rfl tm_cd_X6 (fun h => (tm_hM_0 h).1) ⟨Nat.le_of_ble_eq_true rfl, Nat.le_of_ble_eq_true rfl⟩ rfl (Nat.le_of_ble_eq_true rfl) hl.1.1 dX6_change_81 (fun u81 σ81 q81 => ?_)
        show tm_J p l e R s m args below meth c K tm_xM 0 _ _ (F0 m 84 ls [tm_iv u81])
        refine tm_istore (lv' := [(4, tm_iv u81), (0, tm_rv K 0), (1, tm_iv v1), (2, tm_iv v2), (3, tm_iv v3)]) cx dX6_change_84 hl (by decide) (by decide) rfl (fun ls hl => ?_)
        exact tm_vreturn cx dX6_change_86
      · refine tm_aload_n cx dX6_change_87 (tm_has_at hl 0 rfl) ?_
        refine tg_X6_35 cx dX6_change_88 ?_
        refine tm_aload_n cx dX6_change_91 (tm_has_at hl 0 rfl) ?_
        refine tg_X6_171 cx dX6_change_92 (fun q92 => ?_)
        refine tm_aload_n cx dX6_change_95 (tm_has_at hl 0 rfl) ?_
        refine tg_X6_168 cx dX6_change_96 (fun q96 => ?_)
        refine tm_iast cx tm_famM tm_hM_120 q92 q96 dX6_change_99 ?_
        refine tm_aload_n cx dX6_change_100 (tm_has_at hl 0 rfl) ?_
        refine tg_X6_38 cx dX6_change_101 ?_
        refine tm_aload_n cx dX6_change_104 (tm_has_at hl 0 rfl) ?_
        refine tg_X6_171 cx dX6_change_105 (fun q105 => ?_)
        refine tm_iload_n cx dX6_change_108 (tm_has_at hl 1 rfl) ?_
        refine tm_iast cx tm_famM tm_hM_121 q105 g1 dX6_change_109 ?_
        refine tm_aload_n cx dX6_change_110 (tm_has_at hl 0 rfl) ?_
        refine tg_X6_41 cx dX6_change_111 ?_
        refine tm_aload_n cx dX6_change_114 (tm_has_at hl 0 rfl) ?_
        refine tg_X6_171 cx dX6_change_115 (fun q115 => ?_)
        refine tm_iload_n cx dX6_change_118 (tm_has_at hl 1 rfl) ?_
        refine tm_sipush cx dX6_change_119 (by decide) ?_
        refine tm_icmp_ge (tgt := 134) cx g1 (by decide) dX6_change_122 (by decide) (fun c122 => ?_) (fun c122 => ?_)
        · refine tm_aload_n cx dX6_change_125 (tm_has_at hl 0 rfl) ?_
          refine tg_X6_29 cx dX6_change_126 ?_
          refine tm_iload_n cx dX6_change_129 (tm_has_at hl 1 rfl) ?_
          refine tm_iald cx tm_hM_115 g1 dX6_change_130 (fun i130 q130 => ?_)
          refine tm_goto (tgt := 144) cx dX6_change_131 (by decide) ?_
          exact wm_change_J144 cx v1 v2 (tm_f (tm_wa (tm_wa σ 120 (tm_f σ 467 0) (tm_f σ 466 0)) 121 (tm_f (tm_wa σ 120 (tm_f σ 467 0) (tm_f σ 466 0)) 467 0) v1) 467 0) (tm_a (tm_wa (tm_wa σ 120 (tm_f σ 467 0) (tm_f σ 466 0)) 121 (tm_f (tm_wa σ 120 (tm_f σ 467 0) (tm_f σ 466 0)) 467 0) v1) 115 v1) _ _ g1 g2 q115 q130 (tm_has_sub hl [0, 1, 2] rfl)
        · refine tm_aload_n cx dX6_change_134 (tm_has_at hl 0 rfl) ?_
          refine tg_X6_13 cx dX6_change_135 ?_
          refine tm_iload_n cx dX6_change_138 (tm_has_at hl 1 rfl) ?_
          refine tm_sipush cx dX6_change_139 (by decide) ?_
          refine tm_isub cx dX6_change_142 (fun q142 => ?_)
          refine tm_iald cx tm_hM_108 q142 dX6_change_143 (fun i143 q143 => ?_)
          exact wm_change_J144 cx v1 v2 (tm_f (tm_wa (tm_wa σ 120 (tm_f σ 467 0) (tm_f σ 466 0)) 121 (tm_f (tm_wa σ 120 (tm_f σ 467 0) (tm_f σ 466 0)) 467 0) v1) 467 0) (tm_a (tm_wa (tm_wa σ 120 (tm_f σ 467 0) (tm_f σ 466 0)) 121 (tm_f (tm_wa σ 120 (tm_f σ 467 0) (tm_f σ 466 0)) 467 0) v1) 108 (v1 - 200)) _ _ g1 g2 q115 q143 (tm_has_sub hl [0, 1, 2] rfl)
    · exact wm_change_J155 cx v1 v2 _ _ g1 g2 (tm_has_sub hl [0, 1, 2] rfl)
def fm_change_L16 : Nat → Int → Int → Int → Int → tm_S → tm_R
  | 0, _, _, _, _, _ => none
  | n + 1, v1, v2, v3, v4, σ => fm_change_B16 (fm_change_L16 n) v1 v2 v3 v4 σ
theorem wm_change_L16 {p : Program} {l : Launch} {e : Env} {R : Room} {s : State} {m : MethodId} {args : Array Value} {below : List Frame} {meth : Method} {c : Code} {K : tm_K} (cx : tm_C p l R s m args meth c K cX6_change 5 RX6 "change" none 1 21) : ∀ (n : Nat) (v1 : Int) (v2 : Int) (v3 : Int) (v4 : Int) (σ : tm_S) (ls : Array Slot), tm_in v1 → tm_in v2 → tm_in v3 → tm_in v4 → tm_has 0 ls 5 [(0, tm_rv K 0), (1, tm_iv v1), (2, tm_iv v2), (3, tm_iv v3), (4, tm_iv v4)] → tm_J p l e R s m args below meth c K tm_xM 0 (fm_change_L16 n v1 v2 v3 v4 σ) σ (F0 m 16 ls []) := by
  intro n
  induction n with
  | zero => intros; exact tm_none
  | succ n ih =>
    intro v1 v2 v3 v4 σ ls g1 g2 g3 g4 hl
    exact wm_change_B16 (r16 := fm_change_L16 n) cx ih v1 v2 v3 v4 σ ls g1 g2 g3 g4 hl
def fm_change (a1 : Int) (a2 : Int) (σ : tm_S) : tm_R :=
  if (tm_f σ 466 0) = 0 then
    fm_change_L16 tm_FU a1 a2 1 0 σ
  else
    fm_change_L16 tm_FU a1 a2 0 0 σ
theorem tm_fits_X6_change (K : tm_K) (a1 : Int) (a2 : Int) : (lg_sl [tm_rv K 0, tm_iv a1, tm_iv a2]).length ≤ 3 := (tm_sl_r _ _ _ _ (tm_sl_i _ _ _ (tm_sl_i _ _ _ (tm_sl_n _))))
theorem cm_change (K : tm_K) (l : Launch) (hst : l.stackTraces = false) (a1 : Int) (g1 : tm_in a1) (a2 : Int) (g2 : tm_in a2) : tm_ct K tm_xM l yX6_change cX6_change 5 none 0 [tm_rv K 0, tm_iv a1, tm_iv a2] (fm_change a1 a2) 1 21 := by
  refine tm_ct_of hst (by decide +kernel) (Nat.le_trans (tm_fits_X6_change K a1 a2) (Nat.le_of_ble_eq_true rfl)) ?_
  intro p e R s m args below meth c cx σ ls hl0
  have hl : tm_has 0 ls 5 [(0, tm_rv K 0), (1, tm_iv a1), (2, tm_iv a2)] := ⟨by
    have h9 := hl0
    simp only [tm_args_r, tm_args_i, tm_args_i, tm_args_n, Nat.zero_add, Nat.reduceAdd] at h9
    exact h9, by
    intro q hq
    simp only [List.mem_cons, List.not_mem_nil, or_false] at hq
    rcases hq with rfl | rfl | rfl
    · exact Or.inl (tm_rv_cat K 0)
    · exact Or.inl rfl
    · exact Or.inl rfl⟩
  clear hl0
  unfold fm_change
  refine tm_aload_n cx dX6_change_0 (tm_has_at hl 0 rfl) ?_
  refine tg_X6_168 cx dX6_change_1 (fun q1 => ?_)
  refine tm_if_ne (tgt := 11) cx q1 dX6_change_4 (by decide) (fun c4 => ?_) (fun c4 => ?_)
  · refine tm_iconst cx dX6_change_7 ?_
    refine tm_goto (tgt := 12) cx dX6_change_8 (by decide) ?_
    refine tm_istore_n (lv' := [(3, tm_iv 1), (0, tm_rv K 0), (1, tm_iv a1), (2, tm_iv a2)]) cx dX6_change_12 hl (by decide) (by decide) rfl (fun ls hl => ?_)
    refine tm_iconst cx dX6_change_13 ?_
    refine tm_istore (lv' := [(4, tm_iv 0), (3, tm_iv 1), (0, tm_rv K 0), (1, tm_iv a1), (2, tm_iv a2)]) cx dX6_change_14 hl (by decide) (by decide) rfl (fun ls hl => ?_)
    exact wm_change_L16 cx tm_FU a1 a2 1 0 _ _ g1 g2 (by decide) (by decide) (tm_has_sub hl [2, 3, 4, 1, 0] rfl)
  · refine tm_iconst cx dX6_change_11 ?_
    refine tm_istore_n (lv' := [(3, tm_iv 0), (0, tm_rv K 0), (1, tm_iv a1), (2, tm_iv a2)]) cx dX6_change_12 hl (by decide) (by decide) rfl (fun ls hl => ?_)
    refine tm_iconst cx dX6_change_13 ?_
    refine tm_istore (lv' := [(4, tm_iv 0), (3, tm_iv 0), (0, tm_rv K 0), (1, tm_iv a1), (2, tm_iv a2)]) cx dX6_change_14 hl (by decide) (by decide) rfl (fun ls hl => ?_)
    exact wm_change_L16 cx tm_FU a1 a2 0 0 _ _ g1 g2 (by decide) (by decide) (tm_has_sub hl [2, 3, 4, 1, 0] rfl)
def fm_spelled_J88 (v2 : Int) (σ : tm_S) : tm_R :=
  if (tm_f σ 453 0) = 0 then
    tm_bd (fm_putBack v2 σ) fun u97 σ97 =>
    tm_rt 0 σ97
  else
    tm_rt 0 σ
theorem wm_spelled_J88 {p : Program} {l : Launch} {e : Env} {R : Room} {s : State} {m : MethodId} {args : Array Value} {below : List Frame} {meth : Method} {c : Code} {K : tm_K} (cx : tm_C p l R s m args meth c K cX6_spelled 3 RX6 "spelled" none 2 47) (v2 : Int) (σ : tm_S) (ls : Array Slot) (g2 : tm_in v2) (hl : tm_has 0 ls 3 [(0, tm_rv K 0), (2, tm_iv v2)]) : tm_J p l e R s m args below meth c K tm_xM 0 (fm_spelled_J88 v2 σ) σ (F0 m 88 ls []) := by
  unfold fm_spelled_J88
  refine tm_aload_n cx dX6_spelled_88 (tm_has_at hl 0 rfl) ?_
  refine tg_X6_159 cx dX6_spelled_89 (fun q89 => ?_)
  refine tm_if_ne (tgt := 100) cx q89 dX6_spelled_92 (by decide) (fun c92 => ?_) (fun c92 => ?_)
  · refine tm_aload_n cx dX6_spelled_95 (tm_has_at hl 0 rfl) ?_
    refine tm_iload_n cx dX6_spelled_96 (tm_has_at hl 1 rfl) ?_
    refine tm_callV (n := 1) cx (cm_putBack K l (tm_hst cx) v2 g2) (lw_V q1343 q1345 qs70 q113 q1346) ⟨rfl, by decide +kernel, by decide +kernel, by decide +kernel⟩ rfl tm_cd_X6 (fun h => (tm_hM_0 h).1) ⟨Nat.le_of_ble_eq_true rfl, Nat.le_of_ble_eq_true rfl⟩ rfl (Nat.le_of_ble_eq_true rfl) hl.1.1 dX6_spelled_97 (fun u97 σ97 q97 => ?_)
    show tm_J p l e R s m args below meth c K tm_xM 0 _ _ (F0 m 100 ls [])
    exact tm_vreturn cx dX6_spelled_100
  · exact tm_vreturn cx dX6_spelled_100
def fm_spelled_B23 (r23 : Int → Int → tm_S → tm_R) (v1 : Int) (v2 : Int) (σ : tm_S) : tm_R :=
  tm_gx v1 30 <|
  if v2 < (tm_a σ 134 v1) then
    tm_gi (12 * v1) <|
    tm_gi ((12 * v1) + v2) <|
    tm_gx ((12 * v1) + v2) 360 <|
    tm_bd (fm_say (tm_a σ 136 ((12 * v1) + v2)) σ) fun u45 σ45 =>
    tm_gi (v2 + 1) <|
    r23 v1 (v2 + 1) σ45
  else
    tm_bd (fm_named 0 σ) fun u56 σ56 =>
    if u56 = (-1) then
      fm_spelled_J88 u56 σ56
    else
      tm_gi (u56 - 4096) <|
      tm_gx (u56 - 4096) 120 <|
      if (tm_a σ56 115 (u56 - 4096)) = 0 then
        tm_gi (u56 - 4096) <|
        tm_bd (fm_change (u56 - 4096) 2 σ56) fun u85 σ85 =>
        fm_spelled_J88 u56 σ85
      else
        fm_spelled_J88 u56 σ56
theorem wm_spelled_B23 {p : Program} {l : Launch} {e : Env} {R : Room} {s : State} {m : MethodId} {args : Array Value} {below : List Frame} {meth : Method} {c : Code} {K : tm_K} {r23 : Int → Int → tm_S → tm_R} (cx : tm_C p l R s m args meth c K cX6_spelled 3 RX6 "spelled" none 2 47) (h23 : ∀ (v1 : Int) (v2 : Int) (τ : tm_S) (ls : Array Slot), tm_in v1 → tm_in v2 → tm_has 0 ls 3 [(0, tm_rv K 0), (1, tm_iv v1), (2, tm_iv v2)] → tm_J p l e R s m args below meth c K tm_xM 0 (r23 v1 v2 τ) τ (F0 m 23 ls [])) (v1 : Int) (v2 : Int) (σ : tm_S) (ls : Array Slot) (g1 : tm_in v1) (g2 : tm_in v2) (hl : tm_has 0 ls 3 [(0, tm_rv K 0), (1, tm_iv v1), (2, tm_iv v2)]) : tm_J p l e R s m args below meth c K tm_xM 0 (fm_spelled_B23 r23 v1 v2 σ) σ (F0 m 23 ls []) := by
  unfold fm_spelled_B23
  refine tm_iload_n cx dX6_spelled_23 (tm_has_at hl 2 rfl) ?_
  refine tm_aload_n cx dX6_spelled_24 (tm_has_at hl 0 rfl) ?_
  refine tg_X6_68 cx dX6_spelled_25 ?_
  refine tm_iload_n cx dX6_spelled_28 (tm_has_at hl 1 rfl) ?_
  refine tm_iald cx tm_hM_134 g1 dX6_spelled_29 (fun i29 q29 => ?_)
  refine tm_icmp_ge (tgt := 54) cx g2 q29 dX6_spelled_30 (by decide) (fun c30 => ?_) (fun c30 => ?_)
  · refine tm_aload_n cx dX6_spelled_33 (tm_has_at hl 0 rfl) ?_
    refine tm_aload_n cx dX6_spelled_34 (tm_has_at hl 0 rfl) ?_
    refine tg_X6_74 cx dX6_spelled_35 ?_
    refine tm_bipush cx dX6_spelled_38 (by decide) ?_
    refine tm_iload_n cx dX6_spelled_40 (tm_has_at hl 1 rfl) ?_
    refine tm_imul cx dX6_spelled_41 (fun q41 => ?_)
    refine tm_iload_n cx dX6_spelled_42 (tm_has_at hl 2 rfl) ?_
    refine tm_iadd cx dX6_spelled_43 (fun q43 => ?_)
    refine tm_iald cx tm_hM_136 q43 dX6_spelled_44 (fun i44 q44 => ?_)
    refine tm_callV (n := 1) cx (cm_say K l (tm_hst cx) (tm_a σ 136 ((12 * v1) + v2)) q44) (lw_V q1275 q1277 qs56 q113 q1278) ⟨rfl, by decide +kernel, by decide +kernel, by decide +kernel⟩ rfl tm_cd_X6 (fun h => (tm_hM_0 h).1) ⟨Nat.le_of_ble_eq_true rfl, Nat.le_of_ble_eq_true rfl⟩ rfl (Nat.le_of_ble_eq_true rfl) hl.1.1 dX6_spelled_45 (fun u45 σ45 q45 => ?_)
    show tm_J p l e R s m args below meth c K tm_xM 0 _ _ (F0 m 48 ls [])
    refine tm_iinc (lv' := [(2, tm_iv (v2 + 1)), (0, tm_rv K 0), (1, tm_iv v1)]) cx dX6_spelled_48 hl (j := 2) rfl (by decide) (by decide) rfl (fun q48 ls hl => ?_)
    refine tm_goto (tgt := 23) cx dX6_spelled_51 (by decide) ?_
    exact h23 v1 (v2 + 1) _ _ g1 q48 (tm_has_sub hl [1, 2, 0] rfl)
  · refine tm_aload_n cx dX6_spelled_54 (tm_has_at hl 0 rfl) ?_
    refine tm_iconst cx dX6_spelled_55 ?_
    refine tm_callV (n := 1) cx (cm_named K l (tm_hst cx) 0 (by decide)) (lw_V q1279 q1281 qs57 q113 q1282) ⟨rfl, by decide +kernel, by decide +kernel, by decide +kernel⟩ rfl tm_cd_X6 (fun h => (tm_hM_0 h).1) ⟨Nat.le_of_ble_eq_true rfl, Nat.le_of_ble_eq_true rfl⟩ rfl (Nat.le_of_ble_eq_true rfl) hl.1.1 dX6_spelled_56 (fun u56 σ56 q56 => ?_)
    show tm_J p l e R s m args below meth c K tm_xM 0 _ _ (F0 m 59 ls [tm_iv u56])
    refine tm_istore_n (lv' := [(2, tm_iv u56), (0, tm_rv K 0), (1, tm_iv v1)]) cx dX6_spelled_59 hl (by decide) (by decide) rfl (fun ls hl => ?_)
    refine tm_iload_n cx dX6_spelled_60 (tm_has_at hl 0 rfl) ?_
    refine tm_iconst cx dX6_spelled_61 ?_
    refine tm_icmp_eq (tgt := 88) cx q56 (by decide) dX6_spelled_62 (by decide) (fun c62 => ?_) (fun c62 => ?_)
    · exact wm_spelled_J88 cx u56 _ _ q56 (tm_has_sub hl [1, 0] rfl)
    · refine tm_aload_n cx dX6_spelled_65 (tm_has_at hl 1 rfl) ?_
      refine tg_X6_29 cx dX6_spelled_66 ?_
      refine tm_iload_n cx dX6_spelled_69 (tm_has_at hl 0 rfl) ?_
      refine tm_sipush cx dX6_spelled_70 (by decide) ?_
      refine tm_isub cx dX6_spelled_73 (fun q73 => ?_)
      refine tm_iald cx tm_hM_115 q73 dX6_spelled_74 (fun i74 q74 => ?_)
      refine tm_if_ne (tgt := 88) cx q74 dX6_spelled_75 (by decide) (fun c75 => ?_) (fun c75 => ?_)
      · refine tm_aload_n cx dX6_spelled_78 (tm_has_at hl 1 rfl) ?_
        refine tm_iload_n cx dX6_spelled_79 (tm_has_at hl 0 rfl) ?_
        refine tm_sipush cx dX6_spelled_80 (by decide) ?_
        refine tm_isub cx dX6_spelled_83 (fun q83 => ?_)
        refine tm_iconst cx dX6_spelled_84 ?_
        refine tm_callV (n := 2) cx (cm_change K l (tm_hst cx) (u56 - 4096) q83 2 (by decide)) (lw_V q1390 q1392 qs81 q113 q1393) ⟨rfl, by decide +kernel, by decide +kernel, by decide +kernel⟩ rfl tm_cd_X6 (fun h => (tm_hM_0 h).1) ⟨Nat.le_of_ble_eq_true rfl, Nat.le_of_ble_eq_true rfl⟩ rfl (Nat.le_of_ble_eq_true rfl) hl.1.1 dX6_spelled_85 (fun u85 σ85 q85 => ?_)
        show tm_J p l e R s m args below meth c K tm_xM 0 _ _ (F0 m 88 ls [])
        exact wm_spelled_J88 cx u56 _ _ q56 (tm_has_sub hl [1, 0] rfl)
      · exact wm_spelled_J88 cx u56 _ _ q56 (tm_has_sub hl [1, 0] rfl)
def fm_spelled_L23 : Nat → Int → Int → tm_S → tm_R
  | 0, _, _, _ => none
  | n + 1, v1, v2, σ => fm_spelled_B23 (fm_spelled_L23 n) v1 v2 σ
theorem wm_spelled_L23 {p : Program} {l : Launch} {e : Env} {R : Room} {s : State} {m : MethodId} {args : Array Value} {below : List Frame} {meth : Method} {c : Code} {K : tm_K} (cx : tm_C p l R s m args meth c K cX6_spelled 3 RX6 "spelled" none 2 47) : ∀ (n : Nat) (v1 : Int) (v2 : Int) (σ : tm_S) (ls : Array Slot), tm_in v1 → tm_in v2 → tm_has 0 ls 3 [(0, tm_rv K 0), (1, tm_iv v1), (2, tm_iv v2)] → tm_J p l e R s m args below meth c K tm_xM 0 (fm_spelled_L23 n v1 v2 σ) σ (F0 m 23 ls []) := by
  intro n
  induction n with
  | zero => intros; exact tm_none
  | succ n ih =>
    intro v1 v2 σ ls g1 g2 hl
    exact wm_spelled_B23 (r23 := fm_spelled_L23 n) cx ih v1 v2 σ ls g1 g2 hl
def fm_spelled (a1 : Int) (σ : tm_S) : tm_R :=
  tm_gx a1 30 <|
  if (tm_a σ 134 a1) = 0 then
    tm_bd (fm_stop 4 σ) fun u11 σ11 =>
    tm_rt 0 σ11
  else
    fm_spelled_L23 tm_FU a1 0 (tm_wf σ 464 0 0)
theorem tm_fits_X6_spelled (K : tm_K) (a1 : Int) : (lg_sl [tm_rv K 0, tm_iv a1]).length ≤ 2 := (tm_sl_r _ _ _ _ (tm_sl_i _ _ _ (tm_sl_n _)))
theorem cm_spelled (K : tm_K) (l : Launch) (hst : l.stackTraces = false) (a1 : Int) (g1 : tm_in a1) : tm_ct K tm_xM l yX6_spelled cX6_spelled 3 none 0 [tm_rv K 0, tm_iv a1] (fm_spelled a1) 2 47 := by
  refine tm_ct_of hst (by decide +kernel) (Nat.le_trans (tm_fits_X6_spelled K a1) (Nat.le_of_ble_eq_true rfl)) ?_
  intro p e R s m args below meth c cx σ ls hl0
  have hl : tm_has 0 ls 3 [(0, tm_rv K 0), (1, tm_iv a1)] := ⟨by
    have h9 := hl0
    simp only [tm_args_r, tm_args_i, tm_args_n, Nat.zero_add, Nat.reduceAdd] at h9
    exact h9, by
    intro q hq
    simp only [List.mem_cons, List.not_mem_nil, or_false] at hq
    rcases hq with rfl | rfl
    · exact Or.inl (tm_rv_cat K 0)
    · exact Or.inl rfl⟩
  clear hl0
  unfold fm_spelled
  refine tm_aload_n cx dX6_spelled_0 (tm_has_at hl 0 rfl) ?_
  refine tg_X6_68 cx dX6_spelled_1 ?_
  refine tm_iload_n cx dX6_spelled_4 (tm_has_at hl 1 rfl) ?_
  refine tm_iald cx tm_hM_134 g1 dX6_spelled_5 (fun i5 q5 => ?_)
  refine tm_if_ne (tgt := 16) cx q5 dX6_spelled_6 (by decide) (fun c6 => ?_) (fun c6 => ?_)
  · refine tm_aload_n cx dX6_spelled_9 (tm_has_at hl 0 rfl) ?_
    refine tm_iconst cx dX6_spelled_10 ?_
    refine tm_callV (n := 1) cx (cm_stop K l (tm_hst cx) 4 (by decide)) (lw_V q1271 q1273 qs55 q113 q1274) ⟨rfl, by decide +kernel, by decide +kernel, by decide +kernel⟩ rfl tm_cd_X6 (fun h => (tm_hM_0 h).1) ⟨Nat.le_of_ble_eq_true rfl, Nat.le_of_ble_eq_true rfl⟩ rfl (Nat.le_of_ble_eq_true rfl) hl.1.1 dX6_spelled_11 (fun u11 σ11 q11 => ?_)
    show tm_J p l e R s m args below meth c K tm_xM 0 _ _ (F0 m 14 ls [tm_iv u11])
    refine tm_istore_n (lv' := [(2, tm_iv u11), (0, tm_rv K 0), (1, tm_iv a1)]) cx dX6_spelled_14 hl (by decide) (by decide) rfl (fun ls hl => ?_)
    exact tm_vreturn cx dX6_spelled_15
  · refine tm_aload_n cx dX6_spelled_16 (tm_has_at hl 0 rfl) ?_
    refine tm_iconst cx dX6_spelled_17 ?_
    refine tp_X6_198 cx (by decide) dX6_spelled_18 ?_
    refine tm_iconst cx dX6_spelled_21 ?_
    refine tm_istore_n (lv' := [(2, tm_iv 0), (0, tm_rv K 0), (1, tm_iv a1)]) cx dX6_spelled_22 hl (by decide) (by decide) rfl (fun ls hl => ?_)
    exact wm_spelled_L23 cx tm_FU a1 0 _ _ g1 (by decide) (tm_has_sub hl [1, 2, 0] rfl)
