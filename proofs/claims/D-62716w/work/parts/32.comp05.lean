set_option maxRecDepth 100000
def fc_told (a1 : Int) (σ : tm_S) : tm_R :=
  if a1 = 32 then
    tm_rt 2592 σ
  else
    tm_gi (a1 + 3072) <|
    tm_rt (a1 + 3072) σ
theorem tm_fits_X1_told (K : tm_K) (a1 : Int) : (lg_sl [tm_iv a1]).length ≤ 1 := (tm_sl_i _ _ _ (tm_sl_n _))
theorem cc_told (K : tm_K) (l : Launch) (hst : l.stackTraces = false) (a1 : Int) (g1 : tm_in a1) : tm_ct K tm_xC l yX1_told cX1_told 1 (some .int) 1 [tm_iv a1] (fc_told a1) 0 0 := by
  refine tm_ct_of hst (by decide +kernel) (Nat.le_trans (tm_fits_X1_told K a1) (Nat.le_of_ble_eq_true rfl)) ?_
  intro p e R s m args below meth c cx σ ls hl0
  have hl : tm_has 0 ls 1 [(0, tm_iv a1)] := ⟨by
    have h9 := hl0
    simp only [tm_args_i, tm_args_n, Nat.zero_add, Nat.reduceAdd] at h9
    exact h9, by
    intro q hq
    simp only [List.mem_cons, List.not_mem_nil, or_false] at hq
    rcases hq with rfl
    · exact Or.inl rfl⟩
  clear hl0
  unfold fc_told
  refine tm_iload_n cx dX1_told_0 (tm_has_at hl 0 rfl) ?_
  refine tm_bipush cx dX1_told_1 (by decide) ?_
  refine tm_icmp_ne (tgt := 12) cx g1 (by decide) dX1_told_3 (by decide) (fun c3 => ?_) (fun c3 => ?_)
  · refine tm_sipush cx dX1_told_6 (by decide) ?_
    refine tm_goto (tgt := 17) cx dX1_told_9 (by decide) ?_
    exact tm_ireturn cx (by decide) dX1_told_17
  · refine tm_iload_n cx dX1_told_12 (tm_has_at hl 0 rfl) ?_
    refine tm_sipush cx dX1_told_13 (by decide) ?_
    refine tm_iadd cx dX1_told_16 (fun q16 => ?_)
    exact tm_ireturn cx q16 dX1_told_17
def fc_tell_B39 (r39 : Int → Int → tm_S → tm_R) (v2 : Int) (v3 : Int) (σ : tm_S) : tm_R :=
  if v3 < 0 then
    tm_gk (tm_k σ v2) 4 <|
    if (tm_f σ 193 v2) = 0 then
      tm_bd (fc_told 92 σ) fun u72 σ72 =>
      tm_bd (fc_back u72 σ72) fun u75 σ75 =>
      tm_rt 0 σ75
    else
      tm_rt 0 σ
  else
    tm_gk (tm_k σ v2) 4 <|
    tm_gk (tm_k σ (tm_f σ 192 v2)) 20 <|
    tm_gx v3 (tm_n σ (tm_f σ 192 v2)) <|
    tm_bd (fc_told (tm_a σ (tm_f σ 192 v2) v3) σ) fun u50 σ50 =>
    tm_bd (fc_back u50 σ50) fun u53 σ53 =>
    tm_gi (v3 + (-1)) <|
    r39 v2 (v3 + (-1)) σ53
theorem wc_tell_B39 {p : Program} {l : Launch} {e : Env} {R : Room} {s : State} {m : MethodId} {args : Array Value} {below : List Frame} {meth : Method} {c : Code} {K : tm_K} {r39 : Int → Int → tm_S → tm_R} (cx : tm_C p l R s m args meth c K cX1_tell 4 RX1 "tell" none 13 320) (h39 : ∀ (v2 : Int) (v3 : Int) (τ : tm_S) (ls : Array Slot), tm_in v2 → tm_in v3 → tm_has 0 ls 4 [(0, tm_rv K 0), (2, tm_rv K v2), (3, tm_iv v3)] → tm_J p l e R s m args below meth c K tm_xC 0 (r39 v2 v3 τ) τ (F0 m 39 ls [])) (v2 : Int) (v3 : Int) (σ : tm_S) (ls : Array Slot) (g2 : tm_in v2) (g3 : tm_in v3) (hl : tm_has 0 ls 4 [(0, tm_rv K 0), (2, tm_rv K v2), (3, tm_iv v3)]) : tm_J p l e R s m args below meth c K tm_xC 0 (fc_tell_B39 r39 v2 v3 σ) σ (F0 m 39 ls []) := by
  unfold fc_tell_B39
  refine tm_iload_n cx dX1_tell_39 (tm_has_at hl 2 rfl) ?_
  refine tm_if_lt (tgt := 62) cx g3 dX1_tell_40 (by decide) (fun c40 => ?_) (fun c40 => ?_)
  · refine tm_aload_n cx dX1_tell_62 (tm_has_at hl 1 rfl) ?_
    refine tm_gk_ (fun k63 => ?_)
    refine tg_X1_248 cx (fun _ => k63) dX1_tell_63 (fun q63 => ?_)
    refine tm_if_ne (tgt := 78) cx q63 dX1_tell_66 (by decide) (fun c66 => ?_) (fun c66 => ?_)
    · refine tm_aload_n cx dX1_tell_69 (tm_has_at hl 0 rfl) ?_
      refine tm_bipush cx dX1_tell_70 (by decide) ?_
      refine tm_callS (n := 1) cx (cc_told K l (tm_hst cx) 92 (by decide)) (lw_S q723 q724 q95 q725) ⟨by decide +kernel, by decide +kernel, by decide +kernel⟩ rfl ⟨Nat.le_of_ble_eq_true rfl, Nat.le_of_ble_eq_true rfl⟩ rfl (Nat.le_of_ble_eq_true rfl) hl.1.1 dX1_tell_72 (fun u72 σ72 q72 => ?_)
      show tm_J p l e R s m args below meth c K tm_xC 0 _ _ (F0 m 75 ls [tm_iv u72, tm_rv K 0])
      refine tm_callV (n := 1) cx (cc_back K l (tm_hst cx) u72 q72) (lw_V q690 q692 qs20 q95 q693) ⟨rfl, by decide +kernel, by decide +kernel, by decide +kernel⟩ rfl tm_cd_X1 (fun h => (tm_hC_0 h).1) ⟨Nat.le_of_ble_eq_true rfl, Nat.le_of_ble_eq_true rfl⟩ rfl (Nat.le_of_ble_eq_true rfl) hl.1.1 dX1_tell_75 (fun u75 σ75 q75 => ?_)
      show tm_J p l e R s m args below meth c K tm_xC 0 _ _ (F0 m 78 ls [])
      exact tm_vreturn cx dX1_tell_78
    · exact tm_vreturn cx dX1_tell_78
  · refine tm_aload_n cx dX1_tell_43 (tm_has_at hl 0 rfl) ?_
    refine tm_aload_n cx dX1_tell_44 (tm_has_at hl 1 rfl) ?_
    refine tm_gk_ (fun k45 => ?_)
    refine tg_X1_247 cx (fun _ => k45) dX1_tell_45 (fun q45 => ?_)
    refine tm_iload_n cx dX1_tell_48 (tm_has_at hl 2 rfl) ?_
    refine tm_gk_ (fun k49 => ?_)
    refine tm_bald cx (fun _ => ⟨k49, rfl⟩) g3 dX1_tell_49 (fun i49 q49 => ?_)
    refine tm_callS (n := 1) cx (cc_told K l (tm_hst cx) (tm_a σ (tm_f σ 192 v2) v3) q49) (lw_S q723 q724 q95 q725) ⟨by decide +kernel, by decide +kernel, by decide +kernel⟩ rfl ⟨Nat.le_of_ble_eq_true rfl, Nat.le_of_ble_eq_true rfl⟩ rfl (Nat.le_of_ble_eq_true rfl) hl.1.1 dX1_tell_50 (fun u50 σ50 q50 => ?_)
    show tm_J p l e R s m args below meth c K tm_xC 0 _ _ (F0 m 53 ls [tm_iv u50, tm_rv K 0])
    refine tm_callV (n := 1) cx (cc_back K l (tm_hst cx) u50 q50) (lw_V q690 q692 qs20 q95 q693) ⟨rfl, by decide +kernel, by decide +kernel, by decide +kernel⟩ rfl tm_cd_X1 (fun h => (tm_hC_0 h).1) ⟨Nat.le_of_ble_eq_true rfl, Nat.le_of_ble_eq_true rfl⟩ rfl (Nat.le_of_ble_eq_true rfl) hl.1.1 dX1_tell_53 (fun u53 σ53 q53 => ?_)
    show tm_J p l e R s m args below meth c K tm_xC 0 _ _ (F0 m 56 ls [])
    refine tm_iinc (lv' := [(3, tm_iv (v3 + (-1))), (0, tm_rv K 0), (2, tm_rv K v2)]) cx dX1_tell_56 hl (j := 2) rfl (by decide) (by decide) rfl (fun q56 ls hl => ?_)
    refine tm_goto (tgt := 39) cx dX1_tell_59 (by decide) ?_
    exact h39 v2 (v3 + (-1)) _ _ g2 q56 (tm_has_sub hl [1, 2, 0] rfl)
def fc_tell_L39 : Nat → Int → Int → tm_S → tm_R
  | 0, _, _, _ => none
  | n + 1, v2, v3, σ => fc_tell_B39 (fc_tell_L39 n) v2 v3 σ
theorem wc_tell_L39 {p : Program} {l : Launch} {e : Env} {R : Room} {s : State} {m : MethodId} {args : Array Value} {below : List Frame} {meth : Method} {c : Code} {K : tm_K} (cx : tm_C p l R s m args meth c K cX1_tell 4 RX1 "tell" none 13 320) : ∀ (n : Nat) (v2 : Int) (v3 : Int) (σ : tm_S) (ls : Array Slot), tm_in v2 → tm_in v3 → tm_has 0 ls 4 [(0, tm_rv K 0), (2, tm_rv K v2), (3, tm_iv v3)] → tm_J p l e R s m args below meth c K tm_xC 0 (fc_tell_L39 n v2 v3 σ) σ (F0 m 39 ls []) := by
  intro n
  induction n with
  | zero => intros; exact tm_none
  | succ n ih =>
    intro v2 v3 σ ls g2 g3 hl
    exact wc_tell_B39 (r39 := fc_tell_L39 n) cx ih v2 v3 σ ls g2 g3 hl
def fc_tell (σ : tm_S) : tm_R :=
  tm_bd (fc_need σ) fun u1 σ1 =>
  tm_bd (fc_isCharacter u1 σ1) fun u6 σ6 =>
  if u6 = 0 then
    tm_bd (fc_nameOf u1 σ6) fun u27 σ27 =>
    tm_gk (tm_k σ27 u27) 4 <|
    tm_gk (tm_k σ27 (tm_f σ27 192 u27)) 20 <|
    tm_gi ((tm_n σ27 (tm_f σ27 192 u27) - 1) <|
    tm_lt ((tm_n σ27 (tm_f σ27 192 u27) - 1) fun x38 =>
    fc_tell_L39 tm_FU u27 x38 σ27
  else
    tm_bd (fc_told (u1 % 256) σ6) fun u18 σ18 =>
    tm_bd (fc_back u18 σ18) fun u21 σ21 =>
    tm_rt 0 σ21
theorem tm_fits_X1_tell (K : tm_K) : (lg_sl [tm_rv K 0]).length ≤ 1 := (tm_sl_r _ _ _ _ (tm_sl_n _))
theorem cc_tell (K : tm_K) (l : Launch) (hst : l.stackTraces = false) : tm_ct K tm_xC l yX1_tell cX1_tell 4 none 0 [tm_rv K 0] (fc_tell) 13 320 := by
  refine tm_ct_of hst (by decide +kernel) (Nat.le_trans (tm_fits_X1_tell K) (Nat.le_of_ble_eq_true rfl)) ?_
  intro p e R s m args below meth c cx σ ls hl0
  have hl : tm_has 0 ls 4 [(0, tm_rv K 0)] := ⟨by
    have h9 := hl0
    simp only [tm_args_r, tm_args_n, Nat.zero_add, Nat.reduceAdd] at h9
    exact h9, by
    intro q hq
    simp only [List.mem_cons, List.not_mem_nil, or_false] at hq
    rcases hq with rfl
    · exact Or.inl (tm_rv_cat K 0)⟩
  clear hl0
  unfold fc_tell
  refine tm_aload_n cx dX1_tell_0 (tm_has_at hl 0 rfl) ?_
  refine tm_callV (n := 0) cx (cc_need K l (tm_hst cx)) (lw_V q686 q688 qs19 q95 q689) ⟨rfl, by decide +kernel, by decide +kernel, by decide +kernel⟩ rfl tm_cd_X1 (fun h => (tm_hC_0 h).1) ⟨Nat.le_of_ble_eq_true rfl, Nat.le_of_ble_eq_true rfl⟩ rfl (Nat.le_of_ble_eq_true rfl) hl.1.1 dX1_tell_1 (fun u1 σ1 q1 => ?_)
  show tm_J p l e R s m args below meth c K tm_xC 0 _ _ (F0 m 4 ls [tm_iv u1])
  refine tm_istore_n (lv' := [(1, tm_iv u1), (0, tm_rv K 0)]) cx dX1_tell_4 hl (by decide) (by decide) rfl (fun ls hl => ?_)
  refine tm_iload_n cx dX1_tell_5 (tm_has_at hl 0 rfl) ?_
  refine tm_callS (n := 1) cx (cc_isCharacter K l (tm_hst cx) u1 q1) (lw_S q708 q709 q95 q710) ⟨by decide +kernel, by decide +kernel, by decide +kernel⟩ rfl ⟨Nat.le_of_ble_eq_true rfl, Nat.le_of_ble_eq_true rfl⟩ rfl (Nat.le_of_ble_eq_true rfl) hl.1.1 dX1_tell_6 (fun u6 σ6 q6 => ?_)
  show tm_J p l e R s m args below meth c K tm_xC 0 _ _ (F0 m 9 ls [tm_iv u6])
  refine tm_if_eq (tgt := 25) cx q6 dX1_tell_9 (by decide) (fun c9 => ?_) (fun c9 => ?_)
  · refine tm_aload_n cx dX1_tell_25 (tm_has_at hl 1 rfl) ?_
    refine tm_iload_n cx dX1_tell_26 (tm_has_at hl 0 rfl) ?_
    refine tm_callV (n := 1) cx (cc_nameOf K l (tm_hst cx) u1 q1) (lw_V q613 q615 qs16 q95 q616) ⟨rfl, by decide +kernel, by decide +kernel, by decide +kernel⟩ rfl tm_cd_X1 (fun h => (tm_hC_0 h).1) ⟨Nat.le_of_ble_eq_true rfl, Nat.le_of_ble_eq_true rfl⟩ rfl (Nat.le_of_ble_eq_true rfl) hl.1.1 dX1_tell_27 (fun u27 σ27 q27 => ?_)
    show tm_J p l e R s m args below meth c K tm_xC 0 _ _ (F0 m 30 ls [tm_rv K u27])
    refine tm_astore_n (lv' := [(2, tm_rv K u27), (1, tm_iv u1), (0, tm_rv K 0)]) cx dX1_tell_30 hl (by decide) (by decide) rfl (fun ls hl => ?_)
    refine tm_aload_n cx dX1_tell_31 (tm_has_at hl 0 rfl) ?_
    refine tm_gk_ (fun k32 => ?_)
    refine tg_X1_247 cx (fun _ => k32) dX1_tell_32 (fun q32 => ?_)
    refine tm_gk_ (fun k35 => ?_)
    refine tm_alen cx (fun _ => ⟨k35, rfl⟩) (by decide) dX1_tell_35 (fun q35 => ?_)
    refine tm_iconst cx dX1_tell_36 ?_
    refine tm_isub cx dX1_tell_37 (fun q37 => ?_)
    refine tm_lt_ q37 (fun x38 q38 => ?_)
    refine tm_istore_n (lv' := [(3, tm_iv x38), (2, tm_rv K u27), (1, tm_iv u1), (0, tm_rv K 0)]) cx dX1_tell_38 hl (by decide) (by decide) rfl (fun ls hl => ?_)
    exact wc_tell_L39 cx tm_FU u27 x38 _ _ q27 q38 (tm_has_sub hl [3, 1, 0] rfl)
  · refine tm_aload_n cx dX1_tell_12 (tm_has_at hl 1 rfl) ?_
    refine tm_iload_n cx dX1_tell_13 (tm_has_at hl 0 rfl) ?_
    refine tm_sipush cx dX1_tell_14 (by decide) ?_
    refine tm_iand255 cx q1 dX1_tell_17 (fun q17 => ?_)
    refine tm_callS (n := 1) cx (cc_told K l (tm_hst cx) (u1 % 256) q17) (lw_S q723 q724 q95 q725) ⟨by decide +kernel, by decide +kernel, by decide +kernel⟩ rfl ⟨Nat.le_of_ble_eq_true rfl, Nat.le_of_ble_eq_true rfl⟩ rfl (Nat.le_of_ble_eq_true rfl) hl.1.1 dX1_tell_18 (fun u18 σ18 q18 => ?_)
    show tm_J p l e R s m args below meth c K tm_xC 0 _ _ (F0 m 21 ls [tm_iv u18, tm_rv K 0])
    refine tm_callV (n := 1) cx (cc_back K l (tm_hst cx) u18 q18) (lw_V q690 q692 qs20 q95 q693) ⟨rfl, by decide +kernel, by decide +kernel, by decide +kernel⟩ rfl tm_cd_X1 (fun h => (tm_hC_0 h).1) ⟨Nat.le_of_ble_eq_true rfl, Nat.le_of_ble_eq_true rfl⟩ rfl (Nat.le_of_ble_eq_true rfl) hl.1.1 dX1_tell_21 (fun u21 σ21 q21 => ?_)
    show tm_J p l e R s m args below meth c K tm_xC 0 _ _ (F0 m 24 ls [])
    exact tm_vreturn cx dX1_tell_24
def fc_skip_J45 (r2 : Int → Int → tm_S → tm_R) (v1 : Int) (v2 : Int) (v3 : Int) (σ : tm_S) : tm_R :=
  tm_gq σ v3 <|
  if v3 = 416 then
    if v2 = 0 then
      if v1 = 0 then
        r2 v1 v2 σ
      else
        tm_rt 1 σ
    else
      r2 v1 v2 σ
  else
    r2 v1 v2 σ
theorem wc_skip_J45 {p : Program} {l : Launch} {e : Env} {R : Room} {s : State} {m : MethodId} {args : Array Value} {below : List Frame} {meth : Method} {c : Code} {K : tm_K} {r2 : Int → Int → tm_S → tm_R} (cx : tm_C p l R s m args meth c K cX1_skip 4 RX1 "skip" (some .boolean) 13 320) (h2 : ∀ (v1 : Int) (v2 : Int) (τ : tm_S) (ls : Array Slot), tm_in v1 → tm_in v2 → tm_has 0 ls 4 [(0, tm_rv K 0), (1, tm_iv v1), (2, tm_iv v2)] → tm_J p l e R s m args below meth c K tm_xC 1 (r2 v1 v2 τ) τ (F0 m 2 ls [])) (v1 : Int) (v2 : Int) (v3 : Int) (σ : tm_S) (ls : Array Slot) (g1 : tm_in v1) (g2 : tm_in v2) (g3 : tm_in v3) (hl : tm_has 0 ls 4 [(0, tm_rv K 0), (1, tm_iv v1), (2, tm_iv v2), (3, tm_rv K v3)]) : tm_J p l e R s m args below meth c K tm_xC 1 (fc_skip_J45 r2 v1 v2 v3 σ) σ (F0 m 45 ls []) := by
  unfold fc_skip_J45
  refine tm_aload_n cx dX1_skip_45 (tm_has_at hl 3 rfl) ?_
  refine tm_getc cx (k := 16) (by decide) rfl (x := 416) rfl q737 dX1_skip_46 ?_
  refine tm_gq_ (fun r49x => ?_)
  refine tm_acmp_ne (tgt := 62) cx (fun _ => r49x) (fun h => Or.inr (by rw [(tm_hC_416 h).1]; decide)) dX1_skip_49 (by decide) (fun c49 => ?_) (fun c49 => ?_)
  · refine tm_iload_n cx dX1_skip_52 (tm_has_at hl 2 rfl) ?_
    refine tm_if_ne (tgt := 62) cx g2 dX1_skip_53 (by decide) (fun c53 => ?_) (fun c53 => ?_)
    · refine tm_iload_n cx dX1_skip_56 (tm_has_at hl 1 rfl) ?_
      refine tm_if_eq (tgt := 62) cx g1 dX1_skip_57 (by decide) (fun c57 => ?_) (fun c57 => ?_)
      · refine tm_goto (tgt := 2) cx dX1_skip_62 (by decide) ?_
        exact h2 v1 v2 _ _ g1 g2 (tm_has_sub hl [0, 1, 2] rfl)
      · refine tm_iconst cx dX1_skip_60 ?_
        exact tm_zreturn cx (by decide) dX1_skip_61
    · refine tm_goto (tgt := 2) cx dX1_skip_62 (by decide) ?_
      exact h2 v1 v2 _ _ g1 g2 (tm_has_sub hl [0, 1, 2] rfl)
  · refine tm_goto (tgt := 2) cx dX1_skip_62 (by decide) ?_
    exact h2 v1 v2 _ _ g1 g2 (tm_has_sub hl [0, 1, 2] rfl)
def fc_skip_J35 (r2 : Int → Int → tm_S → tm_R) (v1 : Int) (v2 : Int) (v3 : Int) (σ : tm_S) : tm_R :=
  tm_gq σ v3 <|
  if v3 = 417 then
    tm_gi (v2 + (-1)) <|
    fc_skip_J45 r2 v1 (v2 + (-1)) v3 σ
  else
    fc_skip_J45 r2 v1 v2 v3 σ
theorem wc_skip_J35 {p : Program} {l : Launch} {e : Env} {R : Room} {s : State} {m : MethodId} {args : Array Value} {below : List Frame} {meth : Method} {c : Code} {K : tm_K} {r2 : Int → Int → tm_S → tm_R} (cx : tm_C p l R s m args meth c K cX1_skip 4 RX1 "skip" (some .boolean) 13 320) (h2 : ∀ (v1 : Int) (v2 : Int) (τ : tm_S) (ls : Array Slot), tm_in v1 → tm_in v2 → tm_has 0 ls 4 [(0, tm_rv K 0), (1, tm_iv v1), (2, tm_iv v2)] → tm_J p l e R s m args below meth c K tm_xC 1 (r2 v1 v2 τ) τ (F0 m 2 ls [])) (v1 : Int) (v2 : Int) (v3 : Int) (σ : tm_S) (ls : Array Slot) (g1 : tm_in v1) (g2 : tm_in v2) (g3 : tm_in v3) (hl : tm_has 0 ls 4 [(0, tm_rv K 0), (1, tm_iv v1), (2, tm_iv v2), (3, tm_rv K v3)]) : tm_J p l e R s m args below meth c K tm_xC 1 (fc_skip_J35 r2 v1 v2 v3 σ) σ (F0 m 35 ls []) := by
  unfold fc_skip_J35
  refine tm_aload_n cx dX1_skip_35 (tm_has_at hl 3 rfl) ?_
  refine tm_getc cx (k := 17) (by decide) rfl (x := 417) rfl q736 dX1_skip_36 ?_
  refine tm_gq_ (fun r39x => ?_)
  refine tm_acmp_ne (tgt := 45) cx (fun _ => r39x) (fun h => Or.inr (by rw [(tm_hC_417 h).1]; decide)) dX1_skip_39 (by decide) (fun c39 => ?_) (fun c39 => ?_)
  · refine tm_iinc (lv' := [(2, tm_iv (v2 + (-1))), (0, tm_rv K 0), (1, tm_iv v1), (3, tm_rv K v3)]) cx dX1_skip_42 hl (j := 2) rfl (by decide) (by decide) rfl (fun q42 ls hl => ?_)
    exact wc_skip_J45 cx h2 v1 (v2 + (-1)) v3 _ _ g1 q42 g3 (tm_has_sub hl [1, 2, 0, 3] rfl)
  · exact wc_skip_J45 cx h2 v1 v2 v3 _ _ g1 g2 g3 (tm_has_sub hl [0, 1, 2, 3] rfl)
def fc_skip_B2 (r2 : Int → Int → tm_S → tm_R) (v1 : Int) (v2 : Int) (σ : tm_S) : tm_R :=
  if v2 < 0 then
    tm_rt 0 σ
  else
    tm_bd (fc_need σ) fun u8 σ8 =>
    tm_bd (fc_meaningOf u8 σ8) fun u11 σ11 =>
    if tm_k σ11 u11 = 39 then
      tm_bd (fc_X2_opens u11 σ11) fun u26 σ26 =>
      if u26 = 0 then
        fc_skip_J35 r2 v1 v2 u11 σ26
      else
        tm_gi (v2 + 1) <|
        fc_skip_J35 r2 v1 (v2 + 1) u11 σ26
    else
      tm_gm σ11 u11 <|
      fc_skip_J35 r2 v1 v2 u11 σ11
theorem wc_skip_B2 {p : Program} {l : Launch} {e : Env} {R : Room} {s : State} {m : MethodId} {args : Array Value} {below : List Frame} {meth : Method} {c : Code} {K : tm_K} {r2 : Int → Int → tm_S → tm_R} (cx : tm_C p l R s m args meth c K cX1_skip 4 RX1 "skip" (some .boolean) 13 320) (h2 : ∀ (v1 : Int) (v2 : Int) (τ : tm_S) (ls : Array Slot), tm_in v1 → tm_in v2 → tm_has 0 ls 4 [(0, tm_rv K 0), (1, tm_iv v1), (2, tm_iv v2)] → tm_J p l e R s m args below meth c K tm_xC 1 (r2 v1 v2 τ) τ (F0 m 2 ls [])) (v1 : Int) (v2 : Int) (σ : tm_S) (ls : Array Slot) (g1 : tm_in v1) (g2 : tm_in v2) (hl : tm_has 0 ls 4 [(0, tm_rv K 0), (1, tm_iv v1), (2, tm_iv v2)]) : tm_J p l e R s m args below meth c K tm_xC 1 (fc_skip_B2 r2 v1 v2 σ) σ (F0 m 2 ls []) := by
  unfold fc_skip_B2
  refine tm_iload_n cx dX1_skip_2 (tm_has_at hl 2 rfl) ?_
  refine tm_if_lt (tgt := 65) cx g2 dX1_skip_3 (by decide) (fun c3 => ?_) (fun c3 => ?_)
  · refine tm_iconst cx dX1_skip_65 ?_
    exact tm_zreturn cx (by decide) dX1_skip_66
  · refine tm_aload_n cx dX1_skip_6 (tm_has_at hl 0 rfl) ?_
    refine tm_aload_n cx dX1_skip_7 (tm_has_at hl 0 rfl) ?_
    refine tm_callV (n := 0) cx (cc_need K l (tm_hst cx)) (lw_V q686 q688 qs19 q95 q689) ⟨rfl, by decide +kernel, by decide +kernel, by decide +kernel⟩ rfl tm_cd_X1 (fun h => (tm_hC_0 h).1) ⟨Nat.le_of_ble_eq_true rfl, Nat.le_of_ble_eq_true rfl⟩ rfl (Nat.le_of_ble_eq_true rfl) hl.1.1 dX1_skip_8 (fun u8 σ8 q8 => ?_)
    show tm_J p l e R s m args below meth c K tm_xC 1 _ _ (F0 m 11 ls [tm_iv u8, tm_rv K 0])
    refine tm_callV (n := 1) cx (cc_meaningOf K l (tm_hst cx) u8 q8) (lw_V q607 q609 qs15 q95 q610) ⟨rfl, by decide +kernel, by decide +kernel, by decide +kernel⟩ rfl tm_cd_X1 (fun h => (tm_hC_0 h).1) ⟨Nat.le_of_ble_eq_true rfl, Nat.le_of_ble_eq_true rfl⟩ rfl (Nat.le_of_ble_eq_true rfl) hl.1.1 dX1_skip_11 (fun u11 σ11 q11 => ?_)
    show tm_J p l e R s m args below meth c K tm_xC 1 _ _ (F0 m 14 ls [tm_rv K u11])
    refine tm_astore_n (lv' := [(3, tm_rv K u11), (0, tm_rv K 0), (1, tm_iv v1), (2, tm_iv v2)]) cx dX1_skip_14 hl (by decide) (by decide) rfl (fun ls hl => ?_)
    refine tm_aload_n cx dX1_skip_15 (tm_has_at hl 0 rfl) ?_
    refine tm_fork (fun c16 => ?_) (fun c16 => ?_)
    · refine tm_instY cx (k := 39) (Or.inr (Or.inr ⟨rfl, rfl⟩)) c16 q734 dX1_skip_16 ?_
      refine tm_if_eq_f (tgt := 35) cx (by decide) (by decide) dX1_skip_19 (by decide) ?_
      refine tm_aload_n cx dX1_skip_22 (tm_has_at hl 0 rfl) ?_
      refine tm_castK cx c16 q734 dX1_skip_23 ?_
      refine tm_callC (n := 0) cx (cc_X2_opens K l (tm_hst cx) u11 q11) (lw_V q735 q628 q629 q97 q630) ⟨rfl, by decide +kernel, by decide +kernel, by decide +kernel⟩ rfl c16 ⟨Nat.le_of_ble_eq_true rfl, Nat.le_of_ble_eq_true rfl⟩ rfl (Nat.le_of_ble_eq_true rfl) hl.1.1 dX1_skip_26 (fun u26 σ26 q26 => ?_)
      show tm_J p l e R s m args below meth c K tm_xC 1 _ _ (F0 m 29 ls [tm_iv u26])
      refine tm_if_eq (tgt := 35) cx q26 dX1_skip_29 (by decide) (fun c29 => ?_) (fun c29 => ?_)
      · exact wc_skip_J35 cx h2 v1 v2 u11 _ _ g1 g2 q11 (tm_has_sub hl [1, 2, 3, 0] rfl)
      · refine tm_iinc (lv' := [(2, tm_iv (v2 + 1)), (3, tm_rv K u11), (0, tm_rv K 0), (1, tm_iv v1)]) cx dX1_skip_32 hl (j := 3) rfl (by decide) (by decide) rfl (fun q32 ls hl => ?_)
        exact wc_skip_J35 cx h2 v1 (v2 + 1) u11 _ _ g1 q32 q11 (tm_has_sub hl [2, 3, 0, 1] rfl)
    · refine tm_gm_ (fun m16 => ?_)
      refine tm_instN cx (k := 39) (Or.inr (Or.inr ⟨rfl, rfl⟩)) m16 c16 q734 dX1_skip_16 ?_
      refine tm_if_eq_t (tgt := 35) cx (by decide) (by decide) dX1_skip_19 (by decide) ?_
      exact wc_skip_J35 cx h2 v1 v2 u11 _ _ g1 g2 q11 (tm_has_sub hl [1, 2, 3, 0] rfl)
def fc_skip_L2 : Nat → Int → Int → tm_S → tm_R
  | 0, _, _, _ => none
  | n + 1, v1, v2, σ => fc_skip_B2 (fc_skip_L2 n) v1 v2 σ
theorem wc_skip_L2 {p : Program} {l : Launch} {e : Env} {R : Room} {s : State} {m : MethodId} {args : Array Value} {below : List Frame} {meth : Method} {c : Code} {K : tm_K} (cx : tm_C p l R s m args meth c K cX1_skip 4 RX1 "skip" (some .boolean) 13 320) : ∀ (n : Nat) (v1 : Int) (v2 : Int) (σ : tm_S) (ls : Array Slot), tm_in v1 → tm_in v2 → tm_has 0 ls 4 [(0, tm_rv K 0), (1, tm_iv v1), (2, tm_iv v2)] → tm_J p l e R s m args below meth c K tm_xC 1 (fc_skip_L2 n v1 v2 σ) σ (F0 m 2 ls []) := by
  intro n
  induction n with
  | zero => intros; exact tm_none
  | succ n ih =>
    intro v1 v2 σ ls g1 g2 hl
    exact wc_skip_B2 (r2 := fc_skip_L2 n) cx ih v1 v2 σ ls g1 g2 hl
def fc_skip (a1 : Int) (σ : tm_S) : tm_R :=
  fc_skip_L2 tm_FU a1 0 σ
theorem tm_fits_X1_skip (K : tm_K) (a1 : Int) : (lg_sl [tm_rv K 0, tm_iv a1]).length ≤ 2 := (tm_sl_r _ _ _ _ (tm_sl_i _ _ _ (tm_sl_n _)))
theorem cc_skip (K : tm_K) (l : Launch) (hst : l.stackTraces = false) (a1 : Int) (g1 : tm_in a1) : tm_ct K tm_xC l yX1_skip cX1_skip 4 (some .boolean) 1 [tm_rv K 0, tm_iv a1] (fc_skip a1) 13 320 := by
  refine tm_ct_of hst (by decide +kernel) (Nat.le_trans (tm_fits_X1_skip K a1) (Nat.le_of_ble_eq_true rfl)) ?_
  intro p e R s m args below meth c cx σ ls hl0
  have hl : tm_has 0 ls 4 [(0, tm_rv K 0), (1, tm_iv a1)] := ⟨by
    have h9 := hl0
    simp only [tm_args_r, tm_args_i, tm_args_n, Nat.zero_add, Nat.reduceAdd] at h9
    exact h9, by
    intro q hq
    simp only [List.mem_cons, List.not_mem_nil, or_false] at hq
    rcases hq with rfl | rfl
    · exact Or.inl (tm_rv_cat K 0)
    · exact Or.inl rfl⟩
  clear hl0
  unfold fc_skip
  refine tm_iconst cx dX1_skip_0 ?_
  refine tm_istore_n (lv' := [(2, tm_iv 0), (0, tm_rv K 0), (1, tm_iv a1)]) cx dX1_skip_1 hl (by decide) (by decide) rfl (fun ls hl => ?_)
  exact wc_skip_L2 cx tm_FU a1 0 _ _ g1 (by decide) (tm_has_sub hl [1, 2, 0] rfl)
def fc_otherwise_J22 (σ : tm_S) : tm_R :=
  tm_bd (fc_fail 1 σ) fun _ _ => none
theorem wc_otherwise_J22 {p : Program} {l : Launch} {e : Env} {R : Room} {s : State} {m : MethodId} {args : Array Value} {below : List Frame} {meth : Method} {c : Code} {K : tm_K} (cx : tm_C p l R s m args meth c K cX1_otherwise 1 RX1 "otherwise" none 14 343) (σ : tm_S) (ls : Array Slot) (hl : tm_has 0 ls 1 [(0, tm_rv K 0)]) : tm_J p l e R s m args below meth c K tm_xC 0 (fc_otherwise_J22 σ) σ (F0 m 22 ls []) := by
  unfold fc_otherwise_J22
  refine tm_aload_n cx dX1_otherwise_22 (tm_has_at hl 0 rfl) ?_
  refine tm_iconst cx dX1_otherwise_23 ?_
  refine tm_callV (n := 1) cx (cc_fail K l (tm_hst cx) 1 (by decide)) (lw_V q580 q582 qs10 q95 q583) ⟨rfl, by decide +kernel, by decide +kernel, by decide +kernel⟩ rfl tm_cd_X1 (fun h => (tm_hC_0 h).1) ⟨Nat.le_of_ble_eq_true rfl, Nat.le_of_ble_eq_true rfl⟩ rfl (Nat.le_of_ble_eq_true rfl) hl.1.1 dX1_otherwise_24 (fun _ _ _ => ?_)
  exact tm_none
def fc_otherwise_J27 (σ : tm_S) : tm_R :=
  tm_bd (fc_skip 0 σ) fun u29 σ29 =>
  tm_gi ((tm_f σ29 20 0) - 1) <|
  tm_rt 0 (tm_wf σ29 20 0 ((tm_f σ29 20 0) - 1))
theorem wc_otherwise_J27 {p : Program} {l : Launch} {e : Env} {R : Room} {s : State} {m : MethodId} {args : Array Value} {below : List Frame} {meth : Method} {c : Code} {K : tm_K} (cx : tm_C p l R s m args meth c K cX1_otherwise 1 RX1 "otherwise" none 14 343) (σ : tm_S) (ls : Array Slot) (hl : tm_has 0 ls 1 [(0, tm_rv K 0)]) : tm_J p l e R s m args below meth c K tm_xC 0 (fc_otherwise_J27 σ) σ (F0 m 27 ls []) := by
  unfold fc_otherwise_J27
  refine tm_aload_n cx dX1_otherwise_27 (tm_has_at hl 0 rfl) ?_
  refine tm_iconst cx dX1_otherwise_28 ?_
  refine tm_callV (n := 1) cx (cc_skip K l (tm_hst cx) 0 (by decide)) (lw_V q730 q732 qs28 q95 q733) ⟨rfl, by decide +kernel, by decide +kernel, by decide +kernel⟩ rfl tm_cd_X1 (fun h => (tm_hC_0 h).1) ⟨Nat.le_of_ble_eq_true rfl, Nat.le_of_ble_eq_true rfl⟩ rfl (Nat.le_of_ble_eq_true rfl) hl.1.1 dX1_otherwise_29 (fun u29 σ29 q29 => ?_)
  show tm_J p l e R s m args below meth c K tm_xC 0 _ _ (F0 m 32 ls [tm_iv u29])
  refine tm_pop_i cx dX1_otherwise_32 ?_
  refine tm_aload_n cx dX1_otherwise_33 (tm_has_at hl 0 rfl) ?_
  refine tm_dup_r cx dX1_otherwise_34 ?_
  refine tg_X1_136 cx dX1_otherwise_35 (fun q35 => ?_)
  refine tm_iconst cx dX1_otherwise_38 ?_
  refine tm_isub cx dX1_otherwise_39 (fun q39 => ?_)
  refine tp_X1_136 cx q39 dX1_otherwise_40 ?_
  exact tm_vreturn cx dX1_otherwise_43
def fc_otherwise (σ : tm_S) : tm_R :=
  if (tm_f σ 20 0) = 0 then
    fc_otherwise_J22 σ
  else
    tm_gi ((tm_f σ 20 0) - 1) <|
    tm_gx ((tm_f σ 20 0) - 1) 12 <|
    if (tm_a σ 119 ((tm_f σ 20 0) - 1)) = 1 then
      fc_otherwise_J27 σ
    else
      fc_otherwise_J22 σ
theorem tm_fits_X1_otherwise (K : tm_K) : (lg_sl [tm_rv K 0]).length ≤ 1 := (tm_sl_r _ _ _ _ (tm_sl_n _))
theorem cc_otherwise (K : tm_K) (l : Launch) (hst : l.stackTraces = false) : tm_ct K tm_xC l yX1_otherwise cX1_otherwise 1 none 0 [tm_rv K 0] (fc_otherwise) 14 343 := by
  refine tm_ct_of hst (by decide +kernel) (Nat.le_trans (tm_fits_X1_otherwise K) (Nat.le_of_ble_eq_true rfl)) ?_
  intro p e R s m args below meth c cx σ ls hl0
  have hl : tm_has 0 ls 1 [(0, tm_rv K 0)] := ⟨by
    have h9 := hl0
    simp only [tm_args_r, tm_args_n, Nat.zero_add, Nat.reduceAdd] at h9
    exact h9, by
    intro q hq
    simp only [List.mem_cons, List.not_mem_nil, or_false] at hq
    rcases hq with rfl
    · exact Or.inl (tm_rv_cat K 0)⟩
  clear hl0
  unfold fc_otherwise
  refine tm_aload_n cx dX1_otherwise_0 (tm_has_at hl 0 rfl) ?_
  refine tg_X1_136 cx dX1_otherwise_1 (fun q1 => ?_)
  refine tm_if_eq (tgt := 22) cx q1 dX1_otherwise_4 (by decide) (fun c4 => ?_) (fun c4 => ?_)
  · exact wc_otherwise_J22 cx _ _ (tm_has_sub hl [0] rfl)
  · refine tm_aload_n cx dX1_otherwise_7 (tm_has_at hl 0 rfl) ?_
    refine tg_X1_48 cx dX1_otherwise_8 ?_
    refine tm_aload_n cx dX1_otherwise_11 (tm_has_at hl 0 rfl) ?_
    refine tg_X1_136 cx dX1_otherwise_12 (fun q12 => ?_)
    refine tm_iconst cx dX1_otherwise_15 ?_
    refine tm_isub cx dX1_otherwise_16 (fun q16 => ?_)
    refine tm_bald cx tm_hC_119 q16 dX1_otherwise_17 (fun i17 q17 => ?_)
    refine tm_iconst cx dX1_otherwise_18 ?_
    refine tm_icmp_eq (tgt := 27) cx q17 (by decide) dX1_otherwise_19 (by decide) (fun c19 => ?_) (fun c19 => ?_)
    · exact wc_otherwise_J27 cx _ _ (tm_has_sub hl [0] rfl)
    · exact wc_otherwise_J22 cx _ _ (tm_has_sub hl [0] rfl)
def fc_close_J21 (σ : tm_S) : tm_R :=
  tm_bd (fc_fail 1 σ) fun _ _ => none
theorem wc_close_J21 {p : Program} {l : Launch} {e : Env} {R : Room} {s : State} {m : MethodId} {args : Array Value} {below : List Frame} {meth : Method} {c : Code} {K : tm_K} (cx : tm_C p l R s m args meth c K cX1_close 1 RX1 "close" none 7 121) (σ : tm_S) (ls : Array Slot) (hl : tm_has 0 ls 1 [(0, tm_rv K 0)]) : tm_J p l e R s m args below meth c K tm_xC 0 (fc_close_J21 σ) σ (F0 m 21 ls []) := by
  unfold fc_close_J21
  refine tm_aload_n cx dX1_close_21 (tm_has_at hl 0 rfl) ?_
  refine tm_iconst cx dX1_close_22 ?_
  refine tm_callV (n := 1) cx (cc_fail K l (tm_hst cx) 1 (by decide)) (lw_V q580 q582 qs10 q95 q583) ⟨rfl, by decide +kernel, by decide +kernel, by decide +kernel⟩ rfl tm_cd_X1 (fun h => (tm_hC_0 h).1) ⟨Nat.le_of_ble_eq_true rfl, Nat.le_of_ble_eq_true rfl⟩ rfl (Nat.le_of_ble_eq_true rfl) hl.1.1 dX1_close_23 (fun _ _ _ => ?_)
  exact tm_none
def fc_close (σ : tm_S) : tm_R :=
  if (tm_f σ 20 0) = 0 then
    fc_close_J21 σ
  else
    tm_gi ((tm_f σ 20 0) - 1) <|
    tm_gx ((tm_f σ 20 0) - 1) 12 <|
    if (tm_a σ 119 ((tm_f σ 20 0) - 1)) = 0 then
      fc_close_J21 σ
    else
      tm_gi ((tm_f σ 20 0) - 1) <|
      tm_rt 0 (tm_wf σ 20 0 ((tm_f σ 20 0) - 1))
theorem tm_fits_X1_close (K : tm_K) : (lg_sl [tm_rv K 0]).length ≤ 1 := (tm_sl_r _ _ _ _ (tm_sl_n _))
theorem cc_close (K : tm_K) (l : Launch) (hst : l.stackTraces = false) : tm_ct K tm_xC l yX1_close cX1_close 1 none 0 [tm_rv K 0] (fc_close) 7 121 := by
  refine tm_ct_of hst (by decide +kernel) (Nat.le_trans (tm_fits_X1_close K) (Nat.le_of_ble_eq_true rfl)) ?_
  intro p e R s m args below meth c cx σ ls hl0
  have hl : tm_has 0 ls 1 [(0, tm_rv K 0)] := ⟨by
    have h9 := hl0
    simp only [tm_args_r, tm_args_n, Nat.zero_add, Nat.reduceAdd] at h9
    exact h9, by
    intro q hq
    simp only [List.mem_cons, List.not_mem_nil, or_false] at hq
    rcases hq with rfl
    · exact Or.inl (tm_rv_cat K 0)⟩
  clear hl0
  unfold fc_close
  refine tm_aload_n cx dX1_close_0 (tm_has_at hl 0 rfl) ?_
  refine tg_X1_136 cx dX1_close_1 (fun q1 => ?_)
  refine tm_if_eq (tgt := 21) cx q1 dX1_close_4 (by decide) (fun c4 => ?_) (fun c4 => ?_)
  · exact wc_close_J21 cx _ _ (tm_has_sub hl [0] rfl)
  · refine tm_aload_n cx dX1_close_7 (tm_has_at hl 0 rfl) ?_
    refine tg_X1_48 cx dX1_close_8 ?_
    refine tm_aload_n cx dX1_close_11 (tm_has_at hl 0 rfl) ?_
    refine tg_X1_136 cx dX1_close_12 (fun q12 => ?_)
    refine tm_iconst cx dX1_close_15 ?_
    refine tm_isub cx dX1_close_16 (fun q16 => ?_)
    refine tm_bald cx tm_hC_119 q16 dX1_close_17 (fun i17 q17 => ?_)
    refine tm_if_ne (tgt := 26) cx q17 dX1_close_18 (by decide) (fun c18 => ?_) (fun c18 => ?_)
    · exact wc_close_J21 cx _ _ (tm_has_sub hl [0] rfl)
    · refine tm_aload_n cx dX1_close_26 (tm_has_at hl 0 rfl) ?_
      refine tm_dup_r cx dX1_close_27 ?_
      refine tg_X1_136 cx dX1_close_28 (fun q28 => ?_)
      refine tm_iconst cx dX1_close_31 ?_
      refine tm_isub cx dX1_close_32 (fun q32 => ?_)
      refine tp_X1_136 cx q32 dX1_close_33 ?_
      exact tm_vreturn cx dX1_close_36
def fc_codeOf (a1 : Int) (σ : tm_S) : tm_R :=
  tm_bd (fc_signOf a1 σ) fun u2 σ2 =>
  if u2 = (-1) then
    tm_rt 256 σ2
  else
    tm_rt (u2 % 256) σ2
theorem tm_fits_X1_codeOf (K : tm_K) (a1 : Int) : (lg_sl [tm_rv K 0, tm_iv a1]).length ≤ 2 := (tm_sl_r _ _ _ _ (tm_sl_i _ _ _ (tm_sl_n _)))
theorem cc_codeOf (K : tm_K) (l : Launch) (hst : l.stackTraces = false) (a1 : Int) (g1 : tm_in a1) : tm_ct K tm_xC l yX1_codeOf cX1_codeOf 3 (some .int) 1 [tm_rv K 0, tm_iv a1] (fc_codeOf a1) 6 128 := by
  refine tm_ct_of hst (by decide +kernel) (Nat.le_trans (tm_fits_X1_codeOf K a1) (Nat.le_of_ble_eq_true rfl)) ?_
  intro p e R s m args below meth c cx σ ls hl0
  have hl : tm_has 0 ls 3 [(0, tm_rv K 0), (1, tm_iv a1)] := ⟨by
    have h9 := hl0
    simp only [tm_args_r, tm_args_i, tm_args_n, Nat.zero_add, Nat.reduceAdd] at h9
    exact h9, by
    intro q hq
    simp only [List.mem_cons, List.not_mem_nil, or_false] at hq
    rcases hq with rfl | rfl
    · exact Or.inl (tm_rv_cat K 0)
    · exact Or.inl rfl⟩
  clear hl0
  unfold fc_codeOf
  refine tm_aload_n cx dX1_codeOf_0 (tm_has_at hl 0 rfl) ?_
  refine tm_iload_n cx dX1_codeOf_1 (tm_has_at hl 1 rfl) ?_
  refine tm_callV (n := 1) cx (cc_signOf K l (tm_hst cx) a1 g1) (lw_V q752 q754 qs32 q95 q755) ⟨rfl, by decide +kernel, by decide +kernel, by decide +kernel⟩ rfl tm_cd_X1 (fun h => (tm_hC_0 h).1) ⟨Nat.le_of_ble_eq_true rfl, Nat.le_of_ble_eq_true rfl⟩ rfl (Nat.le_of_ble_eq_true rfl) hl.1.1 dX1_codeOf_2 (fun u2 σ2 q2 => ?_)
  show tm_J p l e R s m args below meth c K tm_xC 1 _ _ (F0 m 5 ls [tm_iv u2])
  refine tm_istore_n (lv' := [(2, tm_iv u2), (0, tm_rv K 0), (1, tm_iv a1)]) cx dX1_codeOf_5 hl (by decide) (by decide) rfl (fun ls hl => ?_)
  refine tm_iload_n cx dX1_codeOf_6 (tm_has_at hl 0 rfl) ?_
  refine tm_iconst cx dX1_codeOf_7 ?_
  refine tm_icmp_ne (tgt := 17) cx q2 (by decide) dX1_codeOf_8 (by decide) (fun c8 => ?_) (fun c8 => ?_)
  · refine tm_sipush cx dX1_codeOf_11 (by decide) ?_
    refine tm_goto (tgt := 22) cx dX1_codeOf_14 (by decide) ?_
    exact tm_ireturn cx (by decide) dX1_codeOf_22
  · refine tm_iload_n cx dX1_codeOf_17 (tm_has_at hl 0 rfl) ?_
    refine tm_sipush cx dX1_codeOf_18 (by decide) ?_
    refine tm_iand255 cx q2 dX1_codeOf_21 (fun q21 => ?_)
    exact tm_ireturn cx q21 dX1_codeOf_22
def fc_X2_isLike (a0 : Int) (a1 : Int) (σ : tm_S) : tm_R :=
  tm_gq σ a0 <|
  tm_gq σ a1 <|
  if a0 = a1 then
    tm_rt 1 σ
  else
    tm_rt 0 σ
theorem tm_fits_X2_isLike (K : tm_K) (a0 : Int) (a1 : Int) : (lg_sl [tm_rv K a0, tm_rv K a1]).length ≤ 2 := (tm_sl_r _ _ _ _ (tm_sl_r _ _ _ _ (tm_sl_n _)))
theorem cc_X2_isLike (K : tm_K) (l : Launch) (hst : l.stackTraces = false) (a0 : Int) (g0 : tm_in a0) (a1 : Int) (g1 : tm_in a1) : tm_ct K tm_xC l yX2_isLike cX2_isLike 2 (some .boolean) 1 [tm_rv K a0, tm_rv K a1] (fc_X2_isLike a0 a1) 0 0 := by
  refine tm_ct_of hst (by decide +kernel) (Nat.le_trans (tm_fits_X2_isLike K a0 a1) (Nat.le_of_ble_eq_true rfl)) ?_
  intro p e R s m args below meth c cx σ ls hl0
  have hl : tm_has 0 ls 2 [(0, tm_rv K a0), (1, tm_rv K a1)] := ⟨by
    have h9 := hl0
    simp only [tm_args_r, tm_args_r, tm_args_n, Nat.zero_add, Nat.reduceAdd] at h9
    exact h9, by
    intro q hq
    simp only [List.mem_cons, List.not_mem_nil, or_false] at hq
    rcases hq with rfl | rfl
    · exact Or.inl (tm_rv_cat K a0)
    · exact Or.inl (tm_rv_cat K a1)⟩
  clear hl0
  unfold fc_X2_isLike
  refine tm_aload_n cx dX2_isLike_0 (tm_has_at hl 0 rfl) ?_
  refine tm_aload_n cx dX2_isLike_1 (tm_has_at hl 1 rfl) ?_
  refine tm_gq_ (fun r2x => ?_)
  refine tm_gq_ (fun r2y => ?_)
  refine tm_acmp_ne (tgt := 9) cx (fun _ => r2x) (fun _ => r2y) dX2_isLike_2 (by decide) (fun c2 => ?_) (fun c2 => ?_)
  · refine tm_iconst cx dX2_isLike_5 ?_
    refine tm_goto (tgt := 10) cx dX2_isLike_6 (by decide) ?_
    exact tm_zreturn cx (by decide) dX2_isLike_10
  · refine tm_iconst cx dX2_isLike_9 ?_
    exact tm_zreturn cx (by decide) dX2_isLike_10
def fc_X8_isLike (a0 : Int) (a1 : Int) (σ : tm_S) : tm_R :=
  if tm_k σ a1 = 5 then
    tm_gk (tm_k σ a0) 5 <|
    if (tm_f σ 256 a1) = (tm_f σ 256 a0) then
      tm_rt 1 σ
    else
      tm_rt 0 σ
  else
    tm_gm σ a1 <|
    tm_rt 0 σ
theorem tm_fits_X8_isLike (K : tm_K) (a0 : Int) (a1 : Int) : (lg_sl [tm_rv K a0, tm_rv K a1]).length ≤ 2 := (tm_sl_r _ _ _ _ (tm_sl_r _ _ _ _ (tm_sl_n _)))
theorem cc_X8_isLike (K : tm_K) (l : Launch) (hst : l.stackTraces = false) (a0 : Int) (g0 : tm_in a0) (a1 : Int) (g1 : tm_in a1) : tm_ct K tm_xC l yX8_isLike cX8_isLike 2 (some .boolean) 1 [tm_rv K a0, tm_rv K a1] (fc_X8_isLike a0 a1) 0 0 := by
  refine tm_ct_of hst (by decide +kernel) (Nat.le_trans (tm_fits_X8_isLike K a0 a1) (Nat.le_of_ble_eq_true rfl)) ?_
  intro p e R s m args below meth c cx σ ls hl0
  have hl : tm_has 0 ls 2 [(0, tm_rv K a0), (1, tm_rv K a1)] := ⟨by
    have h9 := hl0
    simp only [tm_args_r, tm_args_r, tm_args_n, Nat.zero_add, Nat.reduceAdd] at h9
    exact h9, by
    intro q hq
    simp only [List.mem_cons, List.not_mem_nil, or_false] at hq
    rcases hq with rfl | rfl
    · exact Or.inl (tm_rv_cat K a0)
    · exact Or.inl (tm_rv_cat K a1)⟩
  clear hl0
  unfold fc_X8_isLike
  refine tm_aload_n cx dX8_isLike_0 (tm_has_at hl 1 rfl) ?_
  refine tm_fork (fun c1 => ?_) (fun c1 => ?_)
  · refine tm_instY cx (k := 5) (Or.inl ⟨rfl, rfl⟩) c1 q785 dX8_isLike_1 ?_
    refine tm_if_eq_f (tgt := 25) cx (by decide) (by decide) dX8_isLike_4 (by decide) ?_
    refine tm_aload_n cx dX8_isLike_7 (tm_has_at hl 1 rfl) ?_
    refine tm_castO cx tm_cd_X8 (fun _ => c1) q785 dX8_isLike_8 ?_
    refine tg_X8_7 cx (fun _ => c1) dX8_isLike_11 (fun q11 => ?_)
    refine tm_aload_n cx dX8_isLike_14 (tm_has_at hl 0 rfl) ?_
    refine tm_gk_ (fun k15 => ?_)
    refine tg_X8_7 cx (fun _ => k15) dX8_isLike_15 (fun q15 => ?_)
    refine tm_icmp_ne (tgt := 25) cx q11 q15 dX8_isLike_18 (by decide) (fun c18 => ?_) (fun c18 => ?_)
    · refine tm_iconst cx dX8_isLike_21 ?_
      refine tm_goto (tgt := 26) cx dX8_isLike_22 (by decide) ?_
      exact tm_zreturn cx (by decide) dX8_isLike_26
    · refine tm_iconst cx dX8_isLike_25 ?_
      exact tm_zreturn cx (by decide) dX8_isLike_26
  · refine tm_gm_ (fun m1 => ?_)
    refine tm_instN cx (k := 5) (Or.inl ⟨rfl, rfl⟩) m1 c1 q785 dX8_isLike_1 ?_
    refine tm_if_eq_t (tgt := 25) cx (by decide) (by decide) dX8_isLike_4 (by decide) ?_
    refine tm_iconst cx dX8_isLike_25 ?_
    exact tm_zreturn cx (by decide) dX8_isLike_26
def fc_X7_alike_B15 (r15 : Int → Int → Int → Int → tm_S → tm_R) (v0 : Int) (v1 : Int) (v2 : Int) (v3 : Int) (σ : tm_S) : tm_R :=
  tm_gk (tm_k σ v0) 21 <|
  if v3 < (tm_n σ v0) then
    if v2 = 0 then
      tm_gz v2 (tm_rt v2 σ)
    else
      tm_gx v3 (tm_n σ v0) <|
      tm_gk (tm_k σ v1) 21 <|
      tm_gx v3 (tm_n σ v1) <|
      if (tm_a σ v0 v3) = (tm_a σ v1 v3) then
        tm_gi (v3 + 1) <|
        r15 v0 v1 1 (v3 + 1) σ
      else
        tm_gi (v3 + 1) <|
        r15 v0 v1 0 (v3 + 1) σ
  else
    tm_gz v2 (tm_rt v2 σ)
theorem wc_X7_alike_B15 {p : Program} {l : Launch} {e : Env} {R : Room} {s : State} {m : MethodId} {args : Array Value} {below : List Frame} {meth : Method} {c : Code} {K : tm_K} {r15 : Int → Int → Int → Int → tm_S → tm_R} (cx : tm_C p l R s m args meth c K cX7_alike 4 RX7 "alike" (some .boolean) 0 0) (h15 : ∀ (v0 : Int) (v1 : Int) (v2 : Int) (v3 : Int) (τ : tm_S) (ls : Array Slot), tm_in v0 → tm_in v1 → tm_in v2 → tm_in v3 → tm_has 0 ls 4 [(0, tm_rv K v0), (1, tm_rv K v1), (2, tm_iv v2), (3, tm_iv v3)] → tm_J p l e R s m args below meth c K tm_xC 1 (r15 v0 v1 v2 v3 τ) τ (F0 m 15 ls [])) (v0 : Int) (v1 : Int) (v2 : Int) (v3 : Int) (σ : tm_S) (ls : Array Slot) (g0 : tm_in v0) (g1 : tm_in v1) (g2 : tm_in v2) (g3 : tm_in v3) (hl : tm_has 0 ls 4 [(0, tm_rv K v0), (1, tm_rv K v1), (2, tm_iv v2), (3, tm_iv v3)]) : tm_J p l e R s m args below meth c K tm_xC 1 (fc_X7_alike_B15 r15 v0 v1 v2 v3 σ) σ (F0 m 15 ls []) := by
  unfold fc_X7_alike_B15
  refine tm_iload_n cx dX7_alike_15 (tm_has_at hl 3 rfl) ?_
  refine tm_aload_n cx dX7_alike_16 (tm_has_at hl 0 rfl) ?_
  refine tm_gk_ (fun k17 => ?_)
  refine tm_alen cx (fun _ => ⟨k17, rfl⟩) (by decide) dX7_alike_17 (fun q17 => ?_)
  refine tm_icmp_ge (tgt := 46) cx g3 (tm_in0 q17) dX7_alike_18 (by decide) (fun c18 => ?_) (fun c18 => ?_)
  · refine tm_iload_n cx dX7_alike_21 (tm_has_at hl 2 rfl) ?_
    refine tm_if_eq (tgt := 46) cx g2 dX7_alike_22 (by decide) (fun c22 => ?_) (fun c22 => ?_)
    · refine tm_iload_n cx dX7_alike_46 (tm_has_at hl 2 rfl) ?_
      exact tm_zreturnG cx dX7_alike_47
    · refine tm_aload_n cx dX7_alike_25 (tm_has_at hl 0 rfl) ?_
      refine tm_iload_n cx dX7_alike_26 (tm_has_at hl 3 rfl) ?_
      refine tm_sald cx (fun _ => ⟨k17, rfl⟩) g3 dX7_alike_27 (fun i27 q27 => ?_)
      refine tm_aload_n cx dX7_alike_28 (tm_has_at hl 1 rfl) ?_
      refine tm_iload_n cx dX7_alike_29 (tm_has_at hl 3 rfl) ?_
      refine tm_gk_ (fun k30 => ?_)
      refine tm_sald cx (fun _ => ⟨k30, rfl⟩) g3 dX7_alike_30 (fun i30 q30 => ?_)
      refine tm_icmp_ne (tgt := 38) cx q27 q30 dX7_alike_31 (by decide) (fun c31 => ?_) (fun c31 => ?_)
      · refine tm_iconst cx dX7_alike_34 ?_
        refine tm_goto (tgt := 39) cx dX7_alike_35 (by decide) ?_
        refine tm_istore_n (lv' := [(2, tm_iv 1), (0, tm_rv K v0), (1, tm_rv K v1), (3, tm_iv v3)]) cx dX7_alike_39 hl (by decide) (by decide) rfl (fun ls hl => ?_)
        refine tm_iinc (lv' := [(3, tm_iv (v3 + 1)), (2, tm_iv 1), (0, tm_rv K v0), (1, tm_rv K v1)]) cx dX7_alike_40 hl (j := 3) rfl (by decide) (by decide) rfl (fun q40 ls hl => ?_)
        refine tm_goto (tgt := 15) cx dX7_alike_43 (by decide) ?_
        exact h15 v0 v1 1 (v3 + 1) _ _ g0 g1 (by decide) q40 (tm_has_sub hl [2, 3, 1, 0] rfl)
      · refine tm_iconst cx dX7_alike_38 ?_
        refine tm_istore_n (lv' := [(2, tm_iv 0), (0, tm_rv K v0), (1, tm_rv K v1), (3, tm_iv v3)]) cx dX7_alike_39 hl (by decide) (by decide) rfl (fun ls hl => ?_)
        refine tm_iinc (lv' := [(3, tm_iv (v3 + 1)), (2, tm_iv 0), (0, tm_rv K v0), (1, tm_rv K v1)]) cx dX7_alike_40 hl (j := 3) rfl (by decide) (by decide) rfl (fun q40 ls hl => ?_)
        refine tm_goto (tgt := 15) cx dX7_alike_43 (by decide) ?_
        exact h15 v0 v1 0 (v3 + 1) _ _ g0 g1 (by decide) q40 (tm_has_sub hl [2, 3, 1, 0] rfl)
  · refine tm_iload_n cx dX7_alike_46 (tm_has_at hl 2 rfl) ?_
    exact tm_zreturnG cx dX7_alike_47
def fc_X7_alike_L15 : Nat → Int → Int → Int → Int → tm_S → tm_R
  | 0, _, _, _, _, _ => none
  | n + 1, v0, v1, v2, v3, σ => fc_X7_alike_B15 (fc_X7_alike_L15 n) v0 v1 v2 v3 σ
theorem wc_X7_alike_L15 {p : Program} {l : Launch} {e : Env} {R : Room} {s : State} {m : MethodId} {args : Array Value} {below : List Frame} {meth : Method} {c : Code} {K : tm_K} (cx : tm_C p l R s m args meth c K cX7_alike 4 RX7 "alike" (some .boolean) 0 0) : ∀ (n : Nat) (v0 : Int) (v1 : Int) (v2 : Int) (v3 : Int) (σ : tm_S) (ls : Array Slot), tm_in v0 → tm_in v1 → tm_in v2 → tm_in v3 → tm_has 0 ls 4 [(0, tm_rv K v0), (1, tm_rv K v1), (2, tm_iv v2), (3, tm_iv v3)] → tm_J p l e R s m args below meth c K tm_xC 1 (fc_X7_alike_L15 n v0 v1 v2 v3 σ) σ (F0 m 15 ls []) := by
  intro n
  induction n with
  | zero => intros; exact tm_none
  | succ n ih =>
    intro v0 v1 v2 v3 σ ls g0 g1 g2 g3 hl
    exact wc_X7_alike_B15 (r15 := fc_X7_alike_L15 n) cx ih v0 v1 v2 v3 σ ls g0 g1 g2 g3 hl
def fc_X7_alike (a1 : Int) (a2 : Int) (σ : tm_S) : tm_R :=
  tm_gk (tm_k σ a1) 21 <|
  tm_gk (tm_k σ a2) 21 <|
  if (tm_n σ a1) = (tm_n σ a2) then
    fc_X7_alike_L15 tm_FU a1 a2 1 0 σ
  else
    fc_X7_alike_L15 tm_FU a1 a2 0 0 σ
theorem tm_fits_X7_alike (K : tm_K) (a1 : Int) (a2 : Int) : (lg_sl [tm_rv K a1, tm_rv K a2]).length ≤ 2 := (tm_sl_r _ _ _ _ (tm_sl_r _ _ _ _ (tm_sl_n _)))
theorem cc_X7_alike (K : tm_K) (l : Launch) (hst : l.stackTraces = false) (a1 : Int) (g1 : tm_in a1) (a2 : Int) (g2 : tm_in a2) : tm_ct K tm_xC l yX7_alike cX7_alike 4 (some .boolean) 1 [tm_rv K a1, tm_rv K a2] (fc_X7_alike a1 a2) 0 0 := by
  refine tm_ct_of hst (by decide +kernel) (Nat.le_trans (tm_fits_X7_alike K a1 a2) (Nat.le_of_ble_eq_true rfl)) ?_
  intro p e R s m args below meth c cx σ ls hl0
  have hl : tm_has 0 ls 4 [(0, tm_rv K a1), (1, tm_rv K a2)] := ⟨by
    have h9 := hl0
    simp only [tm_args_r, tm_args_r, tm_args_n, Nat.zero_add, Nat.reduceAdd] at h9
    exact h9, by
    intro q hq
    simp only [List.mem_cons, List.not_mem_nil, or_false] at hq
    rcases hq with rfl | rfl
    · exact Or.inl (tm_rv_cat K a1)
    · exact Or.inl (tm_rv_cat K a2)⟩
  clear hl0
  unfold fc_X7_alike
  refine tm_aload_n cx dX7_alike_0 (tm_has_at hl 0 rfl) ?_
  refine tm_gk_ (fun k1 => ?_)
  refine tm_alen cx (fun _ => ⟨k1, rfl⟩) (by decide) dX7_alike_1 (fun q1 => ?_)
  refine tm_aload_n cx dX7_alike_2 (tm_has_at hl 1 rfl) ?_
  refine tm_gk_ (fun k3 => ?_)
  refine tm_alen cx (fun _ => ⟨k3, rfl⟩) (by decide) dX7_alike_3 (fun q3 => ?_)
  refine tm_icmp_ne (tgt := 11) cx (tm_in0 q1) (tm_in0 q3) dX7_alike_4 (by decide) (fun c4 => ?_) (fun c4 => ?_)
  · refine tm_iconst cx dX7_alike_7 ?_
    refine tm_goto (tgt := 12) cx dX7_alike_8 (by decide) ?_
    refine tm_istore_n (lv' := [(2, tm_iv 1), (0, tm_rv K a1), (1, tm_rv K a2)]) cx dX7_alike_12 hl (by decide) (by decide) rfl (fun ls hl => ?_)
    refine tm_iconst cx dX7_alike_13 ?_
    refine tm_istore_n (lv' := [(3, tm_iv 0), (2, tm_iv 1), (0, tm_rv K a1), (1, tm_rv K a2)]) cx dX7_alike_14 hl (by decide) (by decide) rfl (fun ls hl => ?_)
    exact wc_X7_alike_L15 cx tm_FU a1 a2 1 0 _ _ g1 g2 (by decide) (by decide) (tm_has_sub hl [2, 3, 1, 0] rfl)
  · refine tm_iconst cx dX7_alike_11 ?_
    refine tm_istore_n (lv' := [(2, tm_iv 0), (0, tm_rv K a1), (1, tm_rv K a2)]) cx dX7_alike_12 hl (by decide) (by decide) rfl (fun ls hl => ?_)
    refine tm_iconst cx dX7_alike_13 ?_
    refine tm_istore_n (lv' := [(3, tm_iv 0), (2, tm_iv 0), (0, tm_rv K a1), (1, tm_rv K a2)]) cx dX7_alike_14 hl (by decide) (by decide) rfl (fun ls hl => ?_)
    exact wc_X7_alike_L15 cx tm_FU a1 a2 0 0 _ _ g1 g2 (by decide) (by decide) (tm_has_sub hl [2, 3, 1, 0] rfl)
def fc_X7_isLike (a0 : Int) (a1 : Int) (σ : tm_S) : tm_R :=
  if tm_k σ a1 = 6 then
    tm_gk (tm_k σ a0) 6 <|
    tm_bd (fc_X7_alike (tm_f σ 320 a1) (tm_f σ 320 a0) σ) fun u18 σ18 =>
    if u18 = 0 then
      tm_rt 0 σ18
    else
      tm_gk (tm_k σ18 a1) 6 <|
      tm_gk (tm_k σ18 a0) 6 <|
      tm_bd (fc_X7_alike (tm_f σ18 321 a1) (tm_f σ18 321 a0) σ18) fun u35 σ35 =>
      if u35 = 0 then
        tm_rt 0 σ35
      else
        tm_rt 1 σ35
  else
    tm_gm σ a1 <|
    tm_rt 0 σ
theorem tm_fits_X7_isLike (K : tm_K) (a0 : Int) (a1 : Int) : (lg_sl [tm_rv K a0, tm_rv K a1]).length ≤ 2 := (tm_sl_r _ _ _ _ (tm_sl_r _ _ _ _ (tm_sl_n _)))
theorem cc_X7_isLike (K : tm_K) (l : Launch) (hst : l.stackTraces = false) (a0 : Int) (g0 : tm_in a0) (a1 : Int) (g1 : tm_in a1) : tm_ct K tm_xC l yX7_isLike cX7_isLike 2 (some .boolean) 1 [tm_rv K a0, tm_rv K a1] (fc_X7_isLike a0 a1) 1 23 := by
  refine tm_ct_of hst (by decide +kernel) (Nat.le_trans (tm_fits_X7_isLike K a0 a1) (Nat.le_of_ble_eq_true rfl)) ?_
  intro p e R s m args below meth c cx σ ls hl0
  have hl : tm_has 0 ls 2 [(0, tm_rv K a0), (1, tm_rv K a1)] := ⟨by
    have h9 := hl0
    simp only [tm_args_r, tm_args_r, tm_args_n, Nat.zero_add, Nat.reduceAdd] at h9
    exact h9, by
    intro q hq
    simp only [List.mem_cons, List.not_mem_nil, or_false] at hq
    rcases hq with rfl | rfl
    · exact Or.inl (tm_rv_cat K a0)
    · exact Or.inl (tm_rv_cat K a1)⟩
  clear hl0
  unfold fc_X7_isLike
  refine tm_aload_n cx dX7_isLike_0 (tm_has_at hl 1 rfl) ?_
  refine tm_fork (fun c1 => ?_) (fun c1 => ?_)
  · refine tm_instY cx (k := 6) (Or.inr (Or.inl ⟨rfl, rfl⟩)) c1 q776 dX7_isLike_1 ?_
    refine tm_if_eq_f (tgt := 45) cx (by decide) (by decide) dX7_isLike_4 (by decide) ?_
    refine tm_aload_n cx dX7_isLike_7 (tm_has_at hl 1 rfl) ?_
    refine tm_castO cx tm_cd_X7 (fun _ => c1) q776 dX7_isLike_8 ?_
    refine tg_X7_15 cx (fun _ => c1) dX7_isLike_11 (fun q11 => ?_)
    refine tm_aload_n cx dX7_isLike_14 (tm_has_at hl 0 rfl) ?_
    refine tm_gk_ (fun k15 => ?_)
    refine tg_X7_15 cx (fun _ => k15) dX7_isLike_15 (fun q15 => ?_)
    refine tm_callS (n := 2) cx (cc_X7_alike K l (tm_hst cx) (tm_f σ 320 a1) q11 (tm_f σ 320 a0) q15) (lw_S q777 q778 q119 q779) ⟨by decide +kernel, by decide +kernel, by decide +kernel⟩ rfl ⟨Nat.le_of_ble_eq_true rfl, Nat.le_of_ble_eq_true rfl⟩ rfl (Nat.le_of_ble_eq_true rfl) hl.1.1 dX7_isLike_18 (fun u18 σ18 q18 => ?_)
    show tm_J p l e R s m args below meth c K tm_xC 1 _ _ (F0 m 21 ls [tm_iv u18])
    refine tm_if_eq (tgt := 45) cx q18 dX7_isLike_21 (by decide) (fun c21 => ?_) (fun c21 => ?_)
    · refine tm_iconst cx dX7_isLike_45 ?_
      exact tm_zreturn cx (by decide) dX7_isLike_46
    · refine tm_aload_n cx dX7_isLike_24 (tm_has_at hl 1 rfl) ?_
      refine tm_gk_ (fun k25 => ?_)
      refine tm_castO cx tm_cd_X7 (fun _ => k25) q776 dX7_isLike_25 ?_
      refine tg_X7_21 cx (fun _ => k25) dX7_isLike_28 (fun q28 => ?_)
      refine tm_aload_n cx dX7_isLike_31 (tm_has_at hl 0 rfl) ?_
      refine tm_gk_ (fun k32 => ?_)
      refine tg_X7_21 cx (fun _ => k32) dX7_isLike_32 (fun q32 => ?_)
      refine tm_callS (n := 2) cx (cc_X7_alike K l (tm_hst cx) (tm_f σ18 321 a1) q28 (tm_f σ18 321 a0) q32) (lw_S q777 q778 q119 q779) ⟨by decide +kernel, by decide +kernel, by decide +kernel⟩ rfl ⟨Nat.le_of_ble_eq_true rfl, Nat.le_of_ble_eq_true rfl⟩ rfl (Nat.le_of_ble_eq_true rfl) hl.1.1 dX7_isLike_35 (fun u35 σ35 q35 => ?_)
      show tm_J p l e R s m args below meth c K tm_xC 1 _ _ (F0 m 38 ls [tm_iv u35])
      refine tm_if_eq (tgt := 45) cx q35 dX7_isLike_38 (by decide) (fun c38 => ?_) (fun c38 => ?_)
      · refine tm_iconst cx dX7_isLike_45 ?_
        exact tm_zreturn cx (by decide) dX7_isLike_46
      · refine tm_iconst cx dX7_isLike_41 ?_
        refine tm_goto (tgt := 46) cx dX7_isLike_42 (by decide) ?_
        exact tm_zreturn cx (by decide) dX7_isLike_46
  · refine tm_gm_ (fun m1 => ?_)
    refine tm_instN cx (k := 6) (Or.inr (Or.inl ⟨rfl, rfl⟩)) m1 c1 q776 dX7_isLike_1 ?_
    refine tm_if_eq_t (tgt := 45) cx (by decide) (by decide) dX7_isLike_4 (by decide) ?_
    refine tm_iconst cx dX7_isLike_45 ?_
    exact tm_zreturn cx (by decide) dX7_isLike_46
def fc_meansSame_J24 (v3 : Int) (v4 : Int) (σ : tm_S) : tm_R :=
  if v3 = v4 then
    tm_rt 1 σ
  else
    tm_rt 0 σ
theorem wc_meansSame_J24 {p : Program} {l : Launch} {e : Env} {R : Room} {s : State} {m : MethodId} {args : Array Value} {below : List Frame} {meth : Method} {c : Code} {K : tm_K} (cx : tm_C p l R s m args meth c K cX1_meansSame 6 RX1 "meansSame" (some .boolean) 6 128) (v3 : Int) (v4 : Int) (σ : tm_S) (ls : Array Slot) (g3 : tm_in v3) (g4 : tm_in v4) (hl : tm_has 0 ls 6 [(3, tm_iv v3), (4, tm_iv v4)]) : tm_J p l e R s m args below meth c K tm_xC 1 (fc_meansSame_J24 v3 v4 σ) σ (F0 m 24 ls []) := by
  unfold fc_meansSame_J24
  refine tm_iload_n cx dX1_meansSame_24 (tm_has_at hl 0 rfl) ?_
  refine tm_iload cx dX1_meansSame_25 (tm_has_at hl 1 rfl) ?_
  refine tm_icmp_ne (tgt := 34) cx g3 g4 dX1_meansSame_27 (by decide) (fun c27 => ?_) (fun c27 => ?_)
  · refine tm_iconst cx dX1_meansSame_30 ?_
    refine tm_goto (tgt := 35) cx dX1_meansSame_31 (by decide) ?_
    exact tm_zreturn cx (by decide) dX1_meansSame_35
  · refine tm_iconst cx dX1_meansSame_34 ?_
    exact tm_zreturn cx (by decide) dX1_meansSame_35
def fc_meansSame (a1 : Int) (a2 : Int) (σ : tm_S) : tm_R :=
  tm_bd (fc_signOf a1 σ) fun u2 σ2 =>
  tm_bd (fc_signOf a2 σ2) fun u8 σ8 =>
  if u2 = (-1) then
    if u8 = (-1) then
      tm_bd (fc_meaningOf a1 σ8) fun u38 σ38 =>
      if u38 < 0 then
        tm_bd (fc_meaningOf a2 σ38) fun u50 σ50 =>
        if u50 < 0 then
          tm_rt 1 σ50
        else
          tm_rt 0 σ50
      else
        tm_bd (fc_meaningOf a2 σ38) fun u66 σ66 =>
        if u66 < 0 then
          tm_rt 0 σ66
        else
          tm_bd (fc_meaningOf a2 σ66) fun u76 σ76 =>
          tm_bd (tm_m3 (tm_k σ76 u38) (fc_X2_isLike u38 u76 σ76) (fc_X8_isLike u38 u76 σ76) (fc_X7_isLike u38 u76 σ76)) fun u79 σ79 =>
          if u79 = 0 then
            tm_rt 0 σ79
          else
            tm_rt 1 σ79
    else
      fc_meansSame_J24 u2 u8 σ8
  else
    fc_meansSame_J24 u2 u8 σ8
theorem tm_fits_X1_meansSame (K : tm_K) (a1 : Int) (a2 : Int) : (lg_sl [tm_rv K 0, tm_iv a1, tm_iv a2]).length ≤ 3 := (tm_sl_r _ _ _ _ (tm_sl_i _ _ _ (tm_sl_i _ _ _ (tm_sl_n _))))
theorem cc_meansSame (K : tm_K) (l : Launch) (hst : l.stackTraces = false) (a1 : Int) (g1 : tm_in a1) (a2 : Int) (g2 : tm_in a2) : tm_ct K tm_xC l yX1_meansSame cX1_meansSame 6 (some .boolean) 1 [tm_rv K 0, tm_iv a1, tm_iv a2] (fc_meansSame a1 a2) 6 128 := by
  refine tm_ct_of hst (by decide +kernel) (Nat.le_trans (tm_fits_X1_meansSame K a1 a2) (Nat.le_of_ble_eq_true rfl)) ?_
  intro p e R s m args below meth c cx σ ls hl0
  have hl : tm_has 0 ls 6 [(0, tm_rv K 0), (1, tm_iv a1), (2, tm_iv a2)] := ⟨by
    have h9 := hl0
    simp only [tm_args_r, tm_args_i, tm_args_i, tm_args_n, Nat.zero_add, Nat.reduceAdd] at h9
    exact h9, by
    intro q hq
    simp only [List.mem_cons, List.not_mem_nil, or_false] at hq
    rcases hq with rfl | rfl | rfl
    · exact Or.inl (tm_rv_cat K 0)
    · exact Or.inl rfl
    · exact Or.inl rfl⟩
  clear hl0
  unfold fc_meansSame
  refine tm_aload_n cx dX1_meansSame_0 (tm_has_at hl 0 rfl) ?_
  refine tm_iload_n cx dX1_meansSame_1 (tm_has_at hl 1 rfl) ?_
  refine tm_callV (n := 1) cx (cc_signOf K l (tm_hst cx) a1 g1) (lw_V q752 q754 qs32 q95 q755) ⟨rfl, by decide +kernel, by decide +kernel, by decide +kernel⟩ rfl tm_cd_X1 (fun h => (tm_hC_0 h).1) ⟨Nat.le_of_ble_eq_true rfl, Nat.le_of_ble_eq_true rfl⟩ rfl (Nat.le_of_ble_eq_true rfl) hl.1.1 dX1_meansSame_2 (fun u2 σ2 q2 => ?_)
  show tm_J p l e R s m args below meth c K tm_xC 1 _ _ (F0 m 5 ls [tm_iv u2])
  refine tm_istore_n (lv' := [(3, tm_iv u2), (0, tm_rv K 0), (1, tm_iv a1), (2, tm_iv a2)]) cx dX1_meansSame_5 hl (by decide) (by decide) rfl (fun ls hl => ?_)
  refine tm_aload_n cx dX1_meansSame_6 (tm_has_at hl 1 rfl) ?_
  refine tm_iload_n cx dX1_meansSame_7 (tm_has_at hl 3 rfl) ?_
  refine tm_callV (n := 1) cx (cc_signOf K l (tm_hst cx) a2 g2) (lw_V q752 q754 qs32 q95 q755) ⟨rfl, by decide +kernel, by decide +kernel, by decide +kernel⟩ rfl tm_cd_X1 (fun h => (tm_hC_0 h).1) ⟨Nat.le_of_ble_eq_true rfl, Nat.le_of_ble_eq_true rfl⟩ rfl (Nat.le_of_ble_eq_true rfl) hl.1.1 dX1_meansSame_8 (fun u8 σ8 q8 => ?_)
  show tm_J p l e R s m args below meth c K tm_xC 1 _ _ (F0 m 11 ls [tm_iv u8])
  refine tm_istore (lv' := [(4, tm_iv u8), (3, tm_iv u2), (0, tm_rv K 0), (1, tm_iv a1), (2, tm_iv a2)]) cx dX1_meansSame_11 hl (by decide) (by decide) rfl (fun ls hl => ?_)
  refine tm_iload_n cx dX1_meansSame_13 (tm_has_at hl 1 rfl) ?_
  refine tm_iconst cx dX1_meansSame_14 ?_
  refine tm_icmp_ne (tgt := 24) cx q2 (by decide) dX1_meansSame_15 (by decide) (fun c15 => ?_) (fun c15 => ?_)
  · refine tm_iload cx dX1_meansSame_18 (tm_has_at hl 0 rfl) ?_
    refine tm_iconst cx dX1_meansSame_20 ?_
    refine tm_icmp_eq (tgt := 36) cx q8 (by decide) dX1_meansSame_21 (by decide) (fun c21 => ?_) (fun c21 => ?_)
    · refine tm_aload_n cx dX1_meansSame_36 (tm_has_at hl 2 rfl) ?_
      refine tm_iload_n cx dX1_meansSame_37 (tm_has_at hl 3 rfl) ?_
      refine tm_callV (n := 1) cx (cc_meaningOf K l (tm_hst cx) a1 g1) (lw_V q607 q609 qs15 q95 q610) ⟨rfl, by decide +kernel, by decide +kernel, by decide +kernel⟩ rfl tm_cd_X1 (fun h => (tm_hC_0 h).1) ⟨Nat.le_of_ble_eq_true rfl, Nat.le_of_ble_eq_true rfl⟩ rfl (Nat.le_of_ble_eq_true rfl) hl.1.1 dX1_meansSame_38 (fun u38 σ38 q38 => ?_)
      show tm_J p l e R s m args below meth c K tm_xC 1 _ _ (F0 m 41 ls [tm_rv K u38])
      refine tm_astore (lv' := [(5, tm_rv K u38), (4, tm_iv u8), (3, tm_iv u2), (0, tm_rv K 0), (1, tm_iv a1), (2, tm_iv a2)]) cx dX1_meansSame_41 hl (by decide) (by decide) rfl (fun ls hl => ?_)
      refine tm_aload cx dX1_meansSame_43 (tm_has_at hl 0 rfl) ?_
      refine tm_ifnonnull (tgt := 64) cx dX1_meansSame_45 (by decide) (fun c45 => ?_) (fun c45 => ?_)
      · refine tm_aload_n cx dX1_meansSame_48 (tm_has_at hl 3 rfl) ?_
        refine tm_iload_n cx dX1_meansSame_49 (tm_has_at hl 5 rfl) ?_
        refine tm_callV (n := 1) cx (cc_meaningOf K l (tm_hst cx) a2 g2) (lw_V q607 q609 qs15 q95 q610) ⟨rfl, by decide +kernel, by decide +kernel, by decide +kernel⟩ rfl tm_cd_X1 (fun h => (tm_hC_0 h).1) ⟨Nat.le_of_ble_eq_true rfl, Nat.le_of_ble_eq_true rfl⟩ rfl (Nat.le_of_ble_eq_true rfl) hl.1.1 dX1_meansSame_50 (fun u50 σ50 q50 => ?_)
        show tm_J p l e R s m args below meth c K tm_xC 1 _ _ (F0 m 53 ls [tm_rv K u50])
        refine tm_ifnonnull (tgt := 60) cx dX1_meansSame_53 (by decide) (fun c53 => ?_) (fun c53 => ?_)
        · refine tm_iconst cx dX1_meansSame_56 ?_
          refine tm_goto (tgt := 92) cx dX1_meansSame_57 (by decide) ?_
          exact tm_zreturn cx (by decide) dX1_meansSame_92
        · refine tm_iconst cx dX1_meansSame_60 ?_
          refine tm_goto (tgt := 92) cx dX1_meansSame_61 (by decide) ?_
          exact tm_zreturn cx (by decide) dX1_meansSame_92
      · refine tm_aload_n cx dX1_meansSame_64 (tm_has_at hl 3 rfl) ?_
        refine tm_iload_n cx dX1_meansSame_65 (tm_has_at hl 5 rfl) ?_
        refine tm_callV (n := 1) cx (cc_meaningOf K l (tm_hst cx) a2 g2) (lw_V q607 q609 qs15 q95 q610) ⟨rfl, by decide +kernel, by decide +kernel, by decide +kernel⟩ rfl tm_cd_X1 (fun h => (tm_hC_0 h).1) ⟨Nat.le_of_ble_eq_true rfl, Nat.le_of_ble_eq_true rfl⟩ rfl (Nat.le_of_ble_eq_true rfl) hl.1.1 dX1_meansSame_66 (fun u66 σ66 q66 => ?_)
        show tm_J p l e R s m args below meth c K tm_xC 1 _ _ (F0 m 69 ls [tm_rv K u66])
        refine tm_ifnull (tgt := 91) cx dX1_meansSame_69 (by decide) (fun c69 => ?_) (fun c69 => ?_)
        · refine tm_iconst cx dX1_meansSame_91 ?_
          exact tm_zreturn cx (by decide) dX1_meansSame_92
        · refine tm_aload cx dX1_meansSame_72 (tm_has_at hl 0 rfl) ?_
          refine tm_aload_n cx dX1_meansSame_74 (tm_has_at hl 3 rfl) ?_
          refine tm_iload_n cx dX1_meansSame_75 (tm_has_at hl 5 rfl) ?_
          refine tm_callV (n := 1) cx (cc_meaningOf K l (tm_hst cx) a2 g2) (lw_V q607 q609 qs15 q95 q610) ⟨rfl, by decide +kernel, by decide +kernel, by decide +kernel⟩ rfl tm_cd_X1 (fun h => (tm_hC_0 h).1) ⟨Nat.le_of_ble_eq_true rfl, Nat.le_of_ble_eq_true rfl⟩ rfl (Nat.le_of_ble_eq_true rfl) hl.1.1 dX1_meansSame_76 (fun u76 σ76 q76 => ?_)
          show tm_J p l e R s m args below meth c K tm_xC 1 _ _ (F0 m 79 ls [tm_rv K u76, tm_rv K u38])
          refine tm_callF (n := 1) cx (cc_X2_isLike K l (tm_hst cx) u38 q38 u76 q76) (cc_X8_isLike K l (tm_hst cx) u38 q38 u76 q76) (cc_X7_isLike K l (tm_hst cx) u38 q38 u76 q76) (tm_lwF q763 q766 q768 q97 q770) (tm_lwF q763 q780 q782 q120 q784) (tm_lwF q763 q771 q773 q119 q775) (List.mem_of_getElem? (i := 2) rfl) (List.mem_of_getElem? (i := 6) rfl) (List.mem_of_getElem? (i := 10) rfl) ⟨by decide +kernel, by decide +kernel, by decide +kernel⟩ rfl ⟨Nat.le_of_ble_eq_true rfl, Nat.le_of_ble_eq_true rfl⟩ ⟨Nat.le_of_ble_eq_true rfl, Nat.le_of_ble_eq_true rfl⟩ ⟨Nat.le_of_ble_eq_true rfl, Nat.le_of_ble_eq_true rfl⟩ rfl (Nat.le_of_ble_eq_true rfl) hl.1.1 dX1_meansSame_79 (fun u79 σ79 q79 => ?_)
          show tm_J p l e R s m args below meth c K tm_xC 1 _ _ (F0 m 84 ls [tm_iv u79])
          refine tm_if_eq (tgt := 91) cx q79 dX1_meansSame_84 (by decide) (fun c84 => ?_) (fun c84 => ?_)
          · refine tm_iconst cx dX1_meansSame_91 ?_
            exact tm_zreturn cx (by decide) dX1_meansSame_92
          · refine tm_iconst cx dX1_meansSame_87 ?_
            refine tm_goto (tgt := 92) cx dX1_meansSame_88 (by decide) ?_
            exact tm_zreturn cx (by decide) dX1_meansSame_92
    · exact wc_meansSame_J24 cx u2 u8 _ _ q2 q8 (tm_has_sub hl [1, 0] rfl)
  · exact wc_meansSame_J24 cx u2 u8 _ _ q2 q8 (tm_has_sub hl [1, 0] rfl)
def fc_same (a1 : Int) (a2 : Int) (σ : tm_S) : tm_R :=
  tm_bd (fc_plain a1 σ) fun u1 σ1 =>
  tm_bd (fc_plain a2 σ1) fun u5 σ5 =>
  if u1 = u5 then
    tm_rt 1 σ5
  else
    tm_rt 0 σ5
theorem tm_fits_X1_same (K : tm_K) (a1 : Int) (a2 : Int) : (lg_sl [tm_iv a1, tm_iv a2]).length ≤ 2 := (tm_sl_i _ _ _ (tm_sl_i _ _ _ (tm_sl_n _)))
theorem cc_same (K : tm_K) (l : Launch) (hst : l.stackTraces = false) (a1 : Int) (g1 : tm_in a1) (a2 : Int) (g2 : tm_in a2) : tm_ct K tm_xC l yX1_same cX1_same 2 (some .boolean) 1 [tm_iv a1, tm_iv a2] (fc_same a1 a2) 1 20 := by
  refine tm_ct_of hst (by decide +kernel) (Nat.le_trans (tm_fits_X1_same K a1 a2) (Nat.le_of_ble_eq_true rfl)) ?_
  intro p e R s m args below meth c cx σ ls hl0
  have hl : tm_has 0 ls 2 [(0, tm_iv a1), (1, tm_iv a2)] := ⟨by
    have h9 := hl0
    simp only [tm_args_i, tm_args_i, tm_args_n, Nat.zero_add, Nat.reduceAdd] at h9
    exact h9, by
    intro q hq
    simp only [List.mem_cons, List.not_mem_nil, or_false] at hq
    rcases hq with rfl | rfl
    · exact Or.inl rfl
    · exact Or.inl rfl⟩
  clear hl0
  unfold fc_same
  refine tm_iload_n cx dX1_same_0 (tm_has_at hl 0 rfl) ?_
  refine tm_callS (n := 1) cx (cc_plain K l (tm_hst cx) a1 g1) (lw_S q795 q796 q95 q797) ⟨by decide +kernel, by decide +kernel, by decide +kernel⟩ rfl ⟨Nat.le_of_ble_eq_true rfl, Nat.le_of_ble_eq_true rfl⟩ rfl (Nat.le_of_ble_eq_true rfl) hl.1.1 dX1_same_1 (fun u1 σ1 q1 => ?_)
  show tm_J p l e R s m args below meth c K tm_xC 1 _ _ (F0 m 4 ls [tm_iv u1])
  refine tm_iload_n cx dX1_same_4 (tm_has_at hl 1 rfl) ?_
  refine tm_callS (n := 1) cx (cc_plain K l (tm_hst cx) a2 g2) (lw_S q795 q796 q95 q797) ⟨by decide +kernel, by decide +kernel, by decide +kernel⟩ rfl ⟨Nat.le_of_ble_eq_true rfl, Nat.le_of_ble_eq_true rfl⟩ rfl (Nat.le_of_ble_eq_true rfl) hl.1.1 dX1_same_5 (fun u5 σ5 q5 => ?_)
  show tm_J p l e R s m args below meth c K tm_xC 1 _ _ (F0 m 8 ls [tm_iv u5, tm_iv u1])
  refine tm_icmp_ne (tgt := 15) cx q1 q5 dX1_same_8 (by decide) (fun c8 => ?_) (fun c8 => ?_)
  · refine tm_iconst cx dX1_same_11 ?_
    refine tm_goto (tgt := 16) cx dX1_same_12 (by decide) ?_
    exact tm_zreturn cx (by decide) dX1_same_16
  · refine tm_iconst cx dX1_same_15 ?_
    exact tm_zreturn cx (by decide) dX1_same_16
