set_option maxRecDepth 100000
def fc_skip_J45 (r2 : Int → Int → tm_S → tm_R) (v1 : Int) (v2 : Int) (v3 : Int) (σ : tm_S) : tm_R :=
  tm_gq σ v3 <|
  if v3 = 416 then
    if v2 = 0 then
      if v1 = 0 then
        r2 v1 v2 σ
      else
        tm_rt 1 σ
    else
      r2 v1 v2 σ
  else
    r2 v1 v2 σ
theorem wc_skip_J45 {p : Program} {l : Launch} {e : Env} {R : Room} {s : State} {m : MethodId} {args : Array Value} {below : List Frame} {meth : Method} {c : Code} {K : tm_K} {r2 : Int → Int → tm_S → tm_R} (cx : tm_C p l R s m args meth c K cX1_skip 4 RX1 "skip" (some .boolean) 13 320) (h2 : ∀ (v1 : Int) (v2 : Int) (τ : tm_S) (ls : Array Slot), tm_in v1 → tm_in v2 → tm_has 0 ls 4 [(0, tm_rv K 0), (1, tm_iv v1), (2, tm_iv v2)] → tm_J p l e R s m args below meth c K tm_xC 1 (r2 v1 v2 τ) τ (F0 m 2 ls [])) (v1 : Int) (v2 : Int) (v3 : Int) (σ : tm_S) (ls : Array Slot) (g1 : tm_in v1) (g2 : tm_in v2) (g3 : tm_in v3) (hl : tm_has 0 ls 4 [(0, tm_rv K 0), (1, tm_iv v1), (2, tm_iv v2), (3, tm_rv K v3)]) : tm_J p l e R s m args below meth c K tm_xC 1 (fc_skip_J45 r2 v1 v2 v3 σ) σ (F0 m 45 ls []) := by
  unfold fc_skip_J45
  refine tm_aload_n cx dX1_skip_45 (tm_has_at hl 3 rfl) ?_
  refine tm_getc cx (k := 16) (by decide) rfl (x := 416) rfl q737 dX1_skip_46 ?_
  refine tm_gq_ (fun r49x => ?_)
  refine tm_acmp_ne (tgt := 62) cx (fun _ => r49x) (fun h => Or.inr (by rw [(tm_hC_416 h).1]; decide)) dX1_skip_49 (by decide) (fun c49 => ?_) (fun c49 => ?_)
  · refine tm_iload_n cx dX1_skip_52 (tm_has_at hl 2 rfl) ?_
    refine tm_if_ne (tgt := 62) cx g2 dX1_skip_53 (by decide) (fun c53 => ?_) (fun c53 => ?_)
    · refine tm_iload_n cx dX1_skip_56 (tm_has_at hl 1 rfl) ?_
      refine tm_if_eq (tgt := 62) cx g1 dX1_skip_57 (by decide) (fun c57 => ?_) (fun c57 => ?_)
      · refine tm_goto (tgt := 2) cx dX1_skip_62 (by decide) ?_
        exact h2 v1 v2 _ _ g1 g2 (tm_has_sub hl [0, 1, 2] rfl)
      · refine tm_iconst cx dX1_skip_60 ?_
        exact tm_zreturn cx (by decide) dX1_skip_61
    · refine tm_goto (tgt := 2) cx dX1_skip_62 (by decide) ?_
      exact h2 v1 v2 _ _ g1 g2 (tm_has_sub hl [0, 1, 2] rfl)
  · refine tm_goto (tgt := 2) cx dX1_skip_62 (by decide) ?_
    exact h2 v1 v2 _ _ g1 g2 (tm_has_sub hl [0, 1, 2] rfl)
def fc_skip_J35 (r2 : Int → Int → tm_S → tm_R) (v1 : Int) (v2 : Int) (v3 : Int) (σ : tm_S) : tm_R :=
  tm_gq σ v3 <|
  if v3 = 417 then
    tm_gi (v2 + (-1)) <|
    fc_skip_J45 r2 v1 (v2 + (-1)) v3 σ
  else
    fc_skip_J45 r2 v1 v2 v3 σ
theorem wc_skip_J35 {p : Program} {l : Launch} {e : Env} {R : Room} {s : State} {m : MethodId} {args : Array Value} {below : List Frame} {meth : Method} {c : Code} {K : tm_K} {r2 : Int → Int → tm_S → tm_R} (cx : tm_C p l R s m args meth c K cX1_skip 4 RX1 "skip" (some .boolean) 13 320) (h2 : ∀ (v1 : Int) (v2 : Int) (τ : tm_S) (ls : Array Slot), tm_in v1 → tm_in v2 → tm_has 0 ls 4 [(0, tm_rv K 0), (1, tm_iv v1), (2, tm_iv v2)] → tm_J p l e R s m args below meth c K tm_xC 1 (r2 v1 v2 τ) τ (F0 m 2 ls [])) (v1 : Int) (v2 : Int) (v3 : Int) (σ : tm_S) (ls : Array Slot) (g1 : tm_in v1) (g2 : tm_in v2) (g3 : tm_in v3) (hl : tm_has 0 ls 4 [(0, tm_rv K 0), (1, tm_iv v1), (2, tm_iv v2), (3, tm_rv K v3)]) : tm_J p l e R s m args below meth c K tm_xC 1 (fc_skip_J35 r2 v1 v2 v3 σ) σ (F0 m 35 ls []) := by
  unfold fc_skip_J35
  refine tm_aload_n cx dX1_skip_35 (tm_has_at hl 3 rfl) ?_
  refine tm_getc cx (k := 17) (by decide) rfl (x := 417) rfl q736 dX1_skip_36 ?_
  refine tm_gq_ (fun r39x => ?_)
  refine tm_acmp_ne (tgt := 45) cx (fun _ => r39x) (fun h => Or.inr (by rw [(tm_hC_417 h).1]; decide)) dX1_skip_39 (by decide) (fun c39 => ?_) (fun c39 => ?_)
  · refine tm_iinc (lv' := [(2, tm_iv (v2 + (-1))), (0, tm_rv K 0), (1, tm_iv v1), (3, tm_rv K v3)]) cx dX1_skip_42 hl (j := 2) rfl (by decide) (by decide) rfl (fun q42 ls hl => ?_)
    exact wc_skip_J45 cx h2 v1 (v2 + (-1)) v3 _ _ g1 q42 g3 (tm_has_sub hl [1, 2, 0, 3] rfl)
  · exact wc_skip_J45 cx h2 v1 v2 v3 _ _ g1 g2 g3 (tm_has_sub hl [0, 1, 2, 3] rfl)
def fc_skip_B2 (r2 : Int → Int → tm_S → tm_R) (v1 : Int) (v2 : Int) (σ : tm_S) : tm_R :=
  if v2 < 0 then
    tm_rt 0 σ
  else
    tm_bd (fc_need σ) fun u8 σ8 =>
    tm_bd (fc_meaningOf u8 σ8) fun u11 σ11 =>
    if tm_k σ11 u11 = 39 then
      tm_bd (fc_X2_opens u11 σ11) fun u26 σ26 =>
      if u26 = 0 then
        fc_skip_J35 r2 v1 v2 u11 σ26
      else
        tm_gi (v2 + 1) <|
        fc_skip_J35 r2 v1 (v2 + 1) u11 σ26
    else
      tm_gm σ11 u11 <|
      fc_skip_J35 r2 v1 v2 u11 σ11
theorem wc_skip_B2 {p : Program} {l : Launch} {e : Env} {R : Room} {s : State} {m : MethodId} {args : Array Value} {below : List Frame} {meth : Method} {c : Code} {K : tm_K} {r2 : Int → Int → tm_S → tm_R} (cx : tm_C p l R s m args meth c K cX1_skip 4 RX1 "skip" (some .boolean) 13 320) (h2 : ∀ (v1 : Int) (v2 : Int) (τ : tm_S) (ls : Array Slot), tm_in v1 → tm_in v2 → tm_has 0 ls 4 [(0, tm_rv K 0), (1, tm_iv v1), (2, tm_iv v2)] → tm_J p l e R s m args below meth c K tm_xC 1 (r2 v1 v2 τ) τ (F0 m 2 ls [])) (v1 : Int) (v2 : Int) (σ : tm_S) (ls : Array Slot) (g1 : tm_in v1) (g2 : tm_in v2) (hl : tm_has 0 ls 4 [(0, tm_rv K 0), (1, tm_iv v1), (2, tm_iv v2)]) : tm_J p l e R s m args below meth c K tm_xC 1 (fc_skip_B2 r2 v1 v2 σ) σ (F0 m 2 ls []) := by
  unfold fc_skip_B2
  refine tm_iload_n cx dX1_skip_2 (tm_has_at hl 2 rfl) ?_
  refine tm_if_lt (tgt := 65) cx g2 dX1_skip_3 (by decide) (fun c3 => ?_) (fun c3 => ?_)
  · refine tm_iconst cx dX1_skip_65 ?_
    exact tm_zreturn cx (by decide) dX1_skip_66
  · refine tm_aload_n cx dX1_skip_6 (tm_has_at hl 0 rfl) ?_
    refine tm_aload_n cx dX1_skip_7 (tm_has_at hl 0 rfl) ?_
    refine tm_callV (n := 0) cx (cc_need K l (tm_hst cx)) (lw_V q686 q688 qs19 q95 q689) ⟨rfl, by decide +kernel, by decide +kernel, by decide +kernel⟩ rfl tm_cd_X1 (fun h => (tm_hC_0 h).1) ⟨Nat.le_of_ble_eq_true rfl, Nat.le_of_ble_eq_true rfl⟩ rfl (Nat.le_of_ble_eq_true rfl) hl.1.1 dX1_skip_8 (fun u8 σ8 q8 => ?_)
    show tm_J p l e R s m args below meth c K tm_xC 1 _ _ (F0 m 11 ls [tm_iv u8, tm_rv K 0])
    refine tm_callV (n := 1) cx (cc_meaningOf K l (tm_hst cx) u8 q8) (lw_V q607 q609 qs15 q95 q610) ⟨rfl, by decide +kernel, by decide +kernel, by decide +kernel⟩ rfl tm_cd_X1 (fun h => (tm_hC_0 h).1) ⟨Nat.le_of_ble_eq_true rfl, Nat.le_of_ble_eq_true rfl⟩ rfl (Nat.le_of_ble_eq_true rfl) hl.1.1 dX1_skip_11 (fun u11 σ11 q11 => ?_)
    show tm_J p l e R s m args below meth c K tm_xC 1 _ _ (F0 m 14 ls [tm_rv K u11])
    refine tm_astore_n (lv' := [(3, tm_rv K u11), (0, tm_rv K 0), (1, tm_iv v1), (2, tm_iv v2)]) cx dX1_skip_14 hl (by decide) (by decide) rfl (fun ls hl => ?_)
    refine tm_aload_n cx dX1_skip_15 (tm_has_at hl 0 rfl) ?_
    refine tm_fork (fun c16 => ?_) (fun c16 => ?_)
    · refine tm_instY cx (k := 39) (Or.inr (Or.inr ⟨rfl, rfl⟩)) c16 q734 dX1_skip_16 ?_
      refine tm_if_eq_f (tgt := 35) cx (by decide) (by decide) dX1_skip_19 (by decide) ?_
      refine tm_aload_n cx dX1_skip_22 (tm_has_at hl 0 rfl) ?_
      refine tm_castK cx c16 q734 dX1_skip_23 ?_
      refine tm_callC (n := 0) cx (cc_X2_opens K l (tm_hst cx) u11 q11) (lw_V q735 q628 q629 q97 q630) ⟨rfl, by decide +kernel, by decide +kernel, by decide +kernel⟩ rfl c16 ⟨Nat.le_of_ble_eq_true rfl, Nat.le_of_ble_eq_true rfl⟩ rfl (Nat.le_of_ble_eq_true rfl) hl.1.1 dX1_skip_26 (fun u26 σ26 q26 => ?_)
      show tm_J p l e R s m args below meth c K tm_xC 1 _ _ (F0 m 29 ls [tm_iv u26])
      refine tm_if_eq (tgt := 35) cx q26 dX1_skip_29 (by decide) (fun c29 => ?_) (fun c29 => ?_)
      · exact wc_skip_J35 cx h2 v1 v2 u11 _ _ g1 g2 q11 (tm_has_sub hl [1, 2, 3, 0] rfl)
      · refine tm_iinc (lv' := [(2, tm_iv (v2 + 1)), (3, tm_rv K u11), (0, tm_rv K 0), (1, tm_iv v1)]) cx dX1_skip_32 hl (j := 3) rfl (by decide) (by decide) rfl (fun q32 ls hl => ?_)
        exact wc_skip_J35 cx h2 v1 (v2 + 1) u11 _ _ g1 q32 q11 (tm_has_sub hl [2, 3, 0, 1] rfl)
    · refine tm_gm_ (fun m16 => ?_)
      refine tm_instN cx (k := 39) (Or.inr (Or.inr ⟨rfl, rfl⟩)) m16 c16 q734 dX1_skip_16 ?_
      refine tm_if_eq_t (tgt := 35) cx (by decide) (by decide) dX1_skip_19 (by decide) ?_
      exact wc_skip_J35 cx h2 v1 v2 u11 _ _ g1 g2 q11 (tm_has_sub hl [1, 2, 3, 0] rfl)
def fc_skip_L2 : Nat → Int → Int → tm_S → tm_R
  | 0, _, _, _ => none
  | n + 1, v1, v2, σ => fc_skip_B2 (fc_skip_L2 n) v1 v2 σ
theorem wc_skip_L2 {p : Program} {l : Launch} {e : Env} {R : Room} {s : State} {m : MethodId} {args : Array Value} {below : List Frame} {meth : Method} {c : Code} {K : tm_K} (cx : tm_C p l R s m args meth c K cX1_skip 4 RX1 "skip" (some .boolean) 13 320) : ∀ (n : Nat) (v1 : Int) (v2 : Int) (σ : tm_S) (ls : Array Slot), tm_in v1 → tm_in v2 → tm_has 0 ls 4 [(0, tm_rv K 0), (1, tm_iv v1), (2, tm_iv v2)] → tm_J p l e R s m args below meth c K tm_xC 1 (fc_skip_L2 n v1 v2 σ) σ (F0 m 2 ls []) := by
  intro n
  induction n with
  | zero => intros; exact tm_none
  | succ n ih =>
    intro v1 v2 σ ls g1 g2 hl
    exact wc_skip_B2 (r2 := fc_skip_L2 n) cx ih v1 v2 σ ls g1 g2 hl
def fc_skip (a1 : Int) (σ : tm_S) : tm_R :=
  fc_skip_L2 tm_FU a1 0 σ
theorem tm_fits_X1_skip (K : tm_K) (a1 : Int) : (lg_sl [tm_rv K 0, tm_iv a1]).length ≤ 2 := (tm_sl_r _ _ _ _ (tm_sl_i _ _ _ (tm_sl_n _)))
theorem cc_skip (K : tm_K) (l : Launch) (hst : l.stackTraces = false) (a1 : Int) (g1 : tm_in a1) : tm_ct K tm_xC l yX1_skip cX1_skip 4 (some .boolean) 1 [tm_rv K 0, tm_iv a1] (fc_skip a1) 13 320 := by
  refine tm_ct_of hst (by decide +kernel) (Nat.le_trans (tm_fits_X1_skip K a1) (Nat.le_of_ble_eq_true rfl)) ?_
  intro p e R s m args below meth c cx σ ls hl0
  have hl : tm_has 0 ls 4 [(0, tm_rv K 0), (1, tm_iv a1)] := ⟨by
    have h9 := hl0
    simp only [tm_args_r, tm_args_i, tm_args_n, Nat.zero_add, Nat.reduceAdd] at h9
    exact h9, by
    intro q hq
    simp only [List.mem_cons, List.not_mem_nil, or_false] at hq
    rcases hq with rfl | rfl
    · exact Or.inl (tm_rv_cat K 0)
    · exact Or.inl rfl⟩
  clear hl0
  unfold fc_skip
  refine tm_iconst cx dX1_skip_0 ?_
  refine tm_istore_n (lv' := [(2, tm_iv 0), (0, tm_rv K 0), (1, tm_iv a1)]) cx dX1_skip_1 hl (by decide) (by decide) rfl (fun ls hl => ?_)
  exact wc_skip_L2 cx tm_FU a1 0 _ _ g1 (by decide) (tm_has_sub hl [1, 2, 0] rfl)
def fc_otherwise_J22 (σ : tm_S) : tm_R :=
  tm_bd (fc_fail 1 σ) fun _ _ => none
theorem wc_otherwise_J22 {p : Program} {l : Launch} {e : Env} {R : Room} {s : State} {m : MethodId} {args : Array Value} {below : List Frame} {meth : Method} {c : Code} {K : tm_K} (cx : tm_C p l R s m args meth c K cX1_otherwise 1 RX1 "otherwise" none 14 343) (σ : tm_S) (ls : Array Slot) (hl : tm_has 0 ls 1 [(0, tm_rv K 0)]) : tm_J p l e R s m args below meth c K tm_xC 0 (fc_otherwise_J22 σ) σ (F0 m 22 ls []) := by
  unfold fc_otherwise_J22
  refine tm_aload_n cx dX1_otherwise_22 (tm_has_at hl 0 rfl) ?_
  refine tm_iconst cx dX1_otherwise_23 ?_
  refine tm_callV (n := 1) cx (cc_fail K l (tm_hst cx) 1 (by decide)) (lw_V q580 q582 qs10 q95 q583) ⟨rfl, by decide +kernel, by decide +kernel, by decide +kernel⟩ rfl tm_cd_X1 (fun h => (tm_hC_0 h).1) ⟨Nat.le_of_ble_eq_true rfl, Nat.le_of_ble_eq_true rfl⟩ rfl (Nat.le_of_ble_eq_true rfl) hl.1.1 dX1_otherwise_24 (fun _ _ _ => ?_)
  exact tm_none
def fc_otherwise_J27 (σ : tm_S) : tm_R :=
  tm_bd (fc_skip 0 σ) fun u29 σ29 =>
  tm_gi ((tm_f σ29 20 0) - 1) <|
  tm_rt 0 (tm_wf σ29 20 0 ((tm_f σ29 20 0) - 1))
theorem wc_otherwise_J27 {p : Program} {l : Launch} {e : Env} {R : Room} {s : State} {m : MethodId} {args : Array Value} {below : List Frame} {meth : Method} {c : Code} {K : tm_K} (cx : tm_C p l R s m args meth c K cX1_otherwise 1 RX1 "otherwise" none 14 343) (σ : tm_S) (ls : Array Slot) (hl : tm_has 0 ls 1 [(0, tm_rv K 0)]) : tm_J p l e R s m args below meth c K tm_xC 0 (fc_otherwise_J27 σ) σ (F0 m 27 ls []) := by
  unfold fc_otherwise_J27
  refine tm_aload_n cx dX1_otherwise_27 (tm_has_at hl 0 rfl) ?_
  refine tm_iconst cx dX1_otherwise_28 ?_
  refine tm_callV (n := 1) cx (cc_skip K l (tm_hst cx) 0 (by decide)) (lw_V q730 q732 qs28 q95 q733) ⟨rfl, by decide +kernel, by decide +kernel, by decide +kernel⟩ rfl tm_cd_X1 (fun h => (tm_hC_0 h).1) ⟨Nat.le_of_ble_eq_true rfl, Nat.le_of_ble_eq_true rfl⟩ rfl (Nat.le_of_ble_eq_true rfl) hl.1.1 dX1_otherwise_29 (fun u29 σ29 q29 => ?_)
  show tm_J p l e R s m args below meth c K tm_xC 0 _ _ (F0 m 32 ls [tm_iv u29])
  refine tm_pop_i cx dX1_otherwise_32 ?_
  refine tm_aload_n cx dX1_otherwise_33 (tm_has_at hl 0 rfl) ?_
  refine tm_dup_r cx dX1_otherwise_34 ?_
  refine tg_X1_136 cx dX1_otherwise_35 (fun q35 => ?_)
  refine tm_iconst cx dX1_otherwise_38 ?_
  refine tm_isub cx dX1_otherwise_39 (fun q39 => ?_)
  refine tp_X1_136 cx q39 dX1_otherwise_40 ?_
  exact tm_vreturn cx dX1_otherwise_43
def fc_otherwise (σ : tm_S) : tm_R :=
  if (tm_f σ 20 0) = 0 then
    fc_otherwise_J22 σ
  else
    tm_gi ((tm_f σ 20 0) - 1) <|
    tm_gx ((tm_f σ 20 0) - 1) 12 <|
    if (tm_a σ 119 ((tm_f σ 20 0) - 1)) = 1 then
      fc_otherwise_J27 σ
    else
      fc_otherwise_J22 σ
theorem tm_fits_X1_otherwise (K : tm_K) : (lg_sl [tm_rv K 0]).length ≤ 1 := (tm_sl_r _ _ _ _ (tm_sl_n _))
theorem cc_otherwise (K : tm_K) (l : Launch) (hst : l.stackTraces = false) : tm_ct K tm_xC l yX1_otherwise cX1_otherwise 1 none 0 [tm_rv K 0] (fc_otherwise) 14 343 := by
  refine tm_ct_of hst (by decide +kernel) (Nat.le_trans (tm_fits_X1_otherwise K) (Nat.le_of_ble_eq_true rfl)) ?_
  intro p e R s m args below meth c cx σ ls hl0
  have hl : tm_has 0 ls 1 [(0, tm_rv K 0)] := ⟨by
    have h9 := hl0
    simp only [tm_args_r, tm_args_n, Nat.zero_add, Nat.reduceAdd] at h9
    exact h9, by
    intro q hq
    simp only [List.mem_cons, List.not_mem_nil, or_false] at hq
    rcases hq with rfl
    · exact Or.inl (tm_rv_cat K 0)⟩
  clear hl0
  unfold fc_otherwise
  refine tm_aload_n cx dX1_otherwise_0 (tm_has_at hl 0 rfl) ?_
  refine tg_X1_136 cx dX1_otherwise_1 (fun q1 => ?_)
  refine tm_if_eq (tgt := 22) cx q1 dX1_otherwise_4 (by decide) (fun c4 => ?_) (fun c4 => ?_)
  · exact wc_otherwise_J22 cx _ _ (tm_has_sub hl [0] rfl)
  · refine tm_aload_n cx dX1_otherwise_7 (tm_has_at hl 0 rfl) ?_
    refine tg_X1_48 cx dX1_otherwise_8 ?_
    refine tm_aload_n cx dX1_otherwise_11 (tm_has_at hl 0 rfl) ?_
    refine tg_X1_136 cx dX1_otherwise_12 (fun q12 => ?_)
    refine tm_iconst cx dX1_otherwise_15 ?_
    refine tm_isub cx dX1_otherwise_16 (fun q16 => ?_)
    refine tm_bald cx tm_hC_119 q16 dX1_otherwise_17 (fun i17 q17 => ?_)
    refine tm_iconst cx dX1_otherwise_18 ?_
    refine tm_icmp_eq (tgt := 27) cx q17 (by decide) dX1_otherwise_19 (by decide) (fun c19 => ?_) (fun c19 => ?_)
    · exact wc_otherwise_J27 cx _ _ (tm_has_sub hl [0] rfl)
    · exact wc_otherwise_J22 cx _ _ (tm_has_sub hl [0] rfl)
def fc_close_J21 (σ : tm_S) : tm_R :=
  tm_bd (fc_fail 1 σ) fun _ _ => none
theorem wc_close_J21 {p : Program} {l : Launch} {e : Env} {R : Room} {s : State} {m : MethodId} {args : Array Value} {below : List Frame} {meth : Method} {c : Code} {K : tm_K} (cx : tm_C p l R s m args meth c K cX1_close 1 RX1 "close" none 7 121) (σ : tm_S) (ls : Array Slot) (hl : tm_has 0 ls 1 [(0, tm_rv K 0)]) : tm_J p l e R s m args below meth c K tm_xC 0 (fc_close_J21 σ) σ (F0 m 21 ls []) := by
  unfold fc_close_J21
  refine tm_aload_n cx dX1_close_21 (tm_has_at hl 0 rfl) ?_
  refine tm_iconst cx dX1_close_22 ?_
  refine tm_callV (n := 1) cx (cc_fail K l (tm_hst cx) 1 (by decide)) (lw_V q580 q582 qs10 q95 q583) ⟨rfl, by decide +kernel, by decide +kernel, by decide +kernel⟩ rfl tm_cd_X1 (fun h => (tm_hC_0 h).1) ⟨Nat.le_of_ble_eq_true rfl, Nat.le_of_ble_eq_true rfl⟩ rfl (Nat.le_of_ble_eq_true rfl) hl.1.1 dX1_close_23 (fun _ _ _ => ?_)
  exact tm_none
def fc_close (σ : tm_S) : tm_R :=
  if (tm_f σ 20 0) = 0 then
    fc_close_J21 σ
  else
    tm_gi ((tm_f σ 20 0) - 1) <|
    tm_gx ((tm_f σ 20 0) - 1) 12 <|
    if (tm_a σ 119 ((tm_f σ 20 0) - 1)) = 0 then
      fc_close_J21 σ
    else
      tm_gi ((tm_f σ 20 0) - 1) <|
      tm_rt 0 (tm_wf σ 20 0 ((tm_f σ 20 0) - 1))
theorem tm_fits_X1_close (K : tm_K) : (lg_sl [tm_rv K 0]).length ≤ 1 := (tm_sl_r _ _ _ _ (tm_sl_n _))
theorem cc_close (K : tm_K) (l : Launch) (hst : l.stackTraces = false) : tm_ct K tm_xC l yX1_close cX1_close 1 none 0 [tm_rv K 0] (fc_close) 7 121 := by
  refine tm_ct_of hst (by decide +kernel) (Nat.le_trans (tm_fits_X1_close K) (Nat.le_of_ble_eq_true rfl)) ?_
  intro p e R s m args below meth c cx σ ls hl0
  have hl : tm_has 0 ls 1 [(0, tm_rv K 0)] := ⟨by
    have h9 := hl0
    simp only [tm_args_r, tm_args_n, Nat.zero_add, Nat.reduceAdd] at h9
    exact h9, by
    intro q hq
    simp only [List.mem_cons, List.not_mem_nil, or_false] at hq
    rcases hq with rfl
    · exact Or.inl (tm_rv_cat K 0)⟩
  clear hl0
  unfold fc_close
  refine tm_aload_n cx dX1_close_0 (tm_has_at hl 0 rfl) ?_
  refine tg_X1_136 cx dX1_close_1 (fun q1 => ?_)
  refine tm_if_eq (tgt := 21) cx q1 dX1_close_4 (by decide) (fun c4 => ?_) (fun c4 => ?_)
  · exact wc_close_J21 cx _ _ (tm_has_sub hl [0] rfl)
  · refine tm_aload_n cx dX1_close_7 (tm_has_at hl 0 rfl) ?_
    refine tg_X1_48 cx dX1_close_8 ?_
    refine tm_aload_n cx dX1_close_11 (tm_has_at hl 0 rfl) ?_
    refine tg_X1_136 cx dX1_close_12 (fun q12 => ?_)
    refine tm_iconst cx dX1_close_15 ?_
    refine tm_isub cx dX1_close_16 (fun q16 => ?_)
    refine tm_bald cx tm_hC_119 q16 dX1_close_17 (fun i17 q17 => ?_)
    refine tm_if_ne (tgt := 26) cx q17 dX1_close_18 (by decide) (fun c18 => ?_) (fun c18 => ?_)
    · exact wc_close_J21 cx _ _ (tm_has_sub hl [0] rfl)
    · refine tm_aload_n cx dX1_close_26 (tm_has_at hl 0 rfl) ?_
      refine tm_dup_r cx dX1_close_27 ?_
      refine tg_X1_136 cx dX1_close_28 (fun q28 => ?_)
      refine tm_iconst cx dX1_close_31 ?_
      refine tm_isub cx dX1_close_32 (fun q32 => ?_)
      refine tp_X1_136 cx q32 dX1_close_33 ?_
      exact tm_vreturn cx dX1_close_36
def fc_codeOf (a1 : Int) (σ : tm_S) : tm_R :=
  tm_bd (fc_signOf a1 σ) fun u2 σ2 =>
  if u2 = (-1) then
    tm_rt 256 σ2
  else
    tm_rt (u2 % 256) σ2
theorem tm_fits_X1_codeOf (K : tm_K) (a1 : Int) : (lg_sl [tm_rv K 0, tm_iv a1]).length ≤ 2 := (tm_sl_r _ _ _ _ (tm_sl_i _ _ _ (tm_sl_n _)))
theorem cc_codeOf (K : tm_K) (l : Launch) (hst : l.stackTraces = false) (a1 : Int) (g1 : tm_in a1) : tm_ct K tm_xC l yX1_codeOf cX1_codeOf 3 (some .int) 1 [tm_rv K 0, tm_iv a1] (fc_codeOf a1) 6 128 := by
  refine tm_ct_of hst (by decide +kernel) (Nat.le_trans (tm_fits_X1_codeOf K a1) (Nat.le_of_ble_eq_true rfl)) ?_
  intro p e R s m args below meth c cx σ ls hl0
  have hl : tm_has 0 ls 3 [(0, tm_rv K 0), (1, tm_iv a1)] := ⟨by
    have h9 := hl0
    simp only [tm_args_r, tm_args_i, tm_args_n, Nat.zero_add, Nat.reduceAdd] at h9
    exact h9, by
    intro q hq
    simp only [List.mem_cons, List.not_mem_nil, or_false] at hq
    rcases hq with rfl | rfl
    · exact Or.inl (tm_rv_cat K 0)
    · exact Or.inl rfl⟩
  clear hl0
  unfold fc_codeOf
  refine tm_aload_n cx dX1_codeOf_0 (tm_has_at hl 0 rfl) ?_
  refine tm_iload_n cx dX1_codeOf_1 (tm_has_at hl 1 rfl) ?_
  refine tm_callV (n := 1) cx (cc_signOf K l (tm_hst cx) a1 g1) (lw_V q752 q754 qs32 q95 q755) ⟨rfl, by decide +kernel, by decide +kernel, by decide +kernel⟩ rfl tm_cd_X1 (fun h => (tm_hC_0 h).1) ⟨Nat.le_of_ble_eq_true rfl, Nat.le_of_ble_eq_true rfl⟩ rfl (Nat.le_of_ble_eq_true rfl) hl.1.1 dX1_codeOf_2 (fun u2 σ2 q2 => ?_)
  show tm_J p l e R s m args below meth c K tm_xC 1 _ _ (F0 m 5 ls [tm_iv u2])
  refine tm_istore_n (lv' := [(2, tm_iv u2), (0, tm_rv K 0), (1, tm_iv a1)]) cx dX1_codeOf_5 hl (by decide) (by decide) rfl (fun ls hl => ?_)
  refine tm_iload_n cx dX1_codeOf_6 (tm_has_at hl 0 rfl) ?_
  refine tm_iconst cx dX1_codeOf_7 ?_
  refine tm_icmp_ne (tgt := 17) cx q2 (by decide) dX1_codeOf_8 (by decide) (fun c8 => ?_) (fun c8 => ?_)
  · refine tm_sipush cx dX1_codeOf_11 (by decide) ?_
    refine tm_goto (tgt := 22) cx dX1_codeOf_14 (by decide) ?_
    exact tm_ireturn cx (by decide) dX1_codeOf_22
  · refine tm_iload_n cx dX1_codeOf_17 (tm_has_at hl 0 rfl) ?_
    refine tm_sipush cx dX1_codeOf_18 (by decide) ?_
    refine tm_iand255 cx q2 dX1_codeOf_21 (fun q21 => ?_)
    exact tm_ireturn cx q21 dX1_codeOf_22
def fc_X2_isLike (a0 : Int) (a1 : Int) (σ : tm_S) : tm_R :=
  tm_gq σ a0 <|
  tm_gq σ a1 <|
  if a0 = a1 then
    tm_rt 1 σ
  else
    tm_rt 0 σ
theorem tm_fits_X2_isLike (K : tm_K) (a0 : Int) (a1 : Int) : (lg_sl [tm_rv K a0, tm_rv K a1]).length ≤ 2 := (tm_sl_r _ _ _ _ (tm_sl_r _ _ _ _ (tm_sl_n _)))
theorem cc_X2_isLike (K : tm_K) (l : Launch) (hst : l.stackTraces = false) (a0 : Int) (g0 : tm_in a0) (a1 : Int) (g1 : tm_in a1) : tm_ct K tm_xC l yX2_isLike cX2_isLike 2 (some .boolean) 1 [tm_rv K a0, tm_rv K a1] (fc_X2_isLike a0 a1) 0 0 := by
  refine tm_ct_of hst (by decide +kernel) (Nat.le_trans (tm_fits_X2_isLike K a0 a1) (Nat.le_of_ble_eq_true rfl)) ?_
  intro p e R s m args below meth c cx σ ls hl0
  have hl : tm_has 0 ls 2 [(0, tm_rv K a0), (1, tm_rv K a1)] := ⟨by
    have h9 := hl0
    simp only [tm_args_r, tm_args_r, tm_args_n, Nat.zero_add, Nat.reduceAdd] at h9
    exact h9, by
    intro q hq
    simp only [List.mem_cons, List.not_mem_nil, or_false] at hq
    rcases hq with rfl | rfl
    · exact Or.inl (tm_rv_cat K a0)
    · exact Or.inl (tm_rv_cat K a1)⟩
  clear hl0
  unfold fc_X2_isLike
  refine tm_aload_n cx dX2_isLike_0 (tm_has_at hl 0 rfl) ?_
  refine tm_aload_n cx dX2_isLike_1 (tm_has_at hl 1 rfl) ?_
  refine tm_gq_ (fun r2x => ?_)
  refine tm_gq_ (fun r2y => ?_)
  refine tm_acmp_ne (tgt := 9) cx (fun _ => r2x) (fun _ => r2y) dX2_isLike_2 (by decide) (fun c2 => ?_) (fun c2 => ?_)
  · refine tm_iconst cx dX2_isLike_5 ?_
    refine tm_goto (tgt := 10) cx dX2_isLike_6 (by decide) ?_
    exact tm_zreturn cx (by decide) dX2_isLike_10
  · refine tm_iconst cx dX2_isLike_9 ?_
    exact tm_zreturn cx (by decide) dX2_isLike_10
def fc_X8_isLike (a0 : Int) (a1 : Int) (σ : tm_S) : tm_R :=
  if tm_k σ a1 = 5 then
    tm_gk (tm_k σ a0) 5 <|
    if (tm_f σ 256 a1) = (tm_f σ 256 a0) then
      tm_rt 1 σ
    else
      tm_rt 0 σ
  else
    tm_gm σ a1 <|
    tm_rt 0 σ
theorem tm_fits_X8_isLike (K : tm_K) (a0 : Int) (a1 : Int) : (lg_sl [tm_rv K a0, tm_rv K a1]).length ≤ 2 := (tm_sl_r _ _ _ _ (tm_sl_r _ _ _ _ (tm_sl_n _)))
theorem cc_X8_isLike (K : tm_K) (l : Launch) (hst : l.stackTraces = false) (a0 : Int) (g0 : tm_in a0) (a1 : Int) (g1 : tm_in a1) : tm_ct K tm_xC l yX8_isLike cX8_isLike 2 (some .boolean) 1 [tm_rv K a0, tm_rv K a1] (fc_X8_isLike a0 a1) 0 0 := by
  refine tm_ct_of hst (by decide +kernel) (Nat.le_trans (tm_fits_X8_isLike K a0 a1) (Nat.le_of_ble_eq_true rfl)) ?_
  intro p e R s m args below meth c cx σ ls hl0
  have hl : tm_has 0 ls 2 [(0, tm_rv K a0), (1, tm_rv K a1)] := ⟨by
    have h9 := hl0
    simp only [tm_args_r, tm_args_r, tm_args_n, Nat.zero_add, Nat.reduceAdd] at h9
    exact h9, by
    intro q hq
    simp only [List.mem_cons, List.not_mem_nil, or_false] at hq
    rcases hq with rfl | rfl
    · exact Or.inl (tm_rv_cat K a0)
    · exact Or.inl (tm_rv_cat K a1)⟩
  clear hl0
  unfold fc_X8_isLike
  refine tm_aload_n cx dX8_isLike_0 (tm_has_at hl 1 rfl) ?_
  refine tm_fork (fun c1 => ?_) (fun c1 => ?_)
  · refine tm_instY cx (k := 5) (Or.inl ⟨rfl, rfl⟩) c1 q785 dX8_isLike_1 ?_
    refine tm_if_eq_f (tgt := 25) cx (by decide) (by decide) dX8_isLike_4 (by decide) ?_
    refine tm_aload_n cx dX8_isLike_7 (tm_has_at hl 1 rfl) ?_
    refine tm_castO cx tm_cd_X8 (fun _ => c1) q785 dX8_isLike_8 ?_
    refine tg_X8_7 cx (fun _ => c1) dX8_isLike_11 (fun q11 => ?_)
    refine tm_aload_n cx dX8_isLike_14 (tm_has_at hl 0 rfl) ?_
    refine tm_gk_ (fun k15 => ?_)
    refine tg_X8_7 cx (fun _ => k15) dX8_isLike_15 (fun q15 => ?_)
    refine tm_icmp_ne (tgt := 25) cx q11 q15 dX8_isLike_18 (by decide) (fun c18 => ?_) (fun c18 => ?_)
    · refine tm_iconst cx dX8_isLike_21 ?_
      refine tm_goto (tgt := 26) cx dX8_isLike_22 (by decide) ?_
      exact tm_zreturn cx (by decide) dX8_isLike_26
    · refine tm_iconst cx dX8_isLike_25 ?_
      exact tm_zreturn cx (by decide) dX8_isLike_26
  · refine tm_gm_ (fun m1 => ?_)
    refine tm_instN cx (k := 5) (Or.inl ⟨rfl, rfl⟩) m1 c1 q785 dX8_isLike_1 ?_
    refine tm_if_eq_t (tgt := 25) cx (by decide) (by decide) dX8_isLike_4 (by decide) ?_
    refine tm_iconst cx dX8_isLike_25 ?_
    exact tm_zreturn cx (by decide) dX8_isLike_26
def fc_X7_alike_B15 (r15 : Int → Int → Int → Int → tm_S → tm_R) (v0 : Int) (v1 : Int) (v2 : Int) (v3 : Int) (σ : tm_S) : tm_R :=
  tm_gk (tm_k σ v0) 21 <|
  if v3 < (tm_n σ v0) then
    if v2 = 0 then
      tm_gz v2 (tm_rt v2 σ)
    else
      tm_gx v3 (tm_n σ v0) <|
      tm_gk (tm_k σ v1) 21 <|
      tm_gx v3 (tm_n σ v1) <|
      if (tm_a σ v0 v3) = (tm_a σ v1 v3) then
        tm_gi (v3 + 1) <|
        r15 v0 v1 1 (v3 + 1) σ
      else
        tm_gi (v3 + 1) <|
        r15 v0 v1 0 (v3 + 1) σ
  else
    tm_gz v2 (tm_rt v2 σ)
theorem wc_X7_alike_B15 {p : Program} {l : Launch} {e : Env} {R : Room} {s : State} {m : MethodId} {args : Array Value} {below : List Frame} {meth : Method} {c : Code} {K : tm_K} {r15 : Int → Int → Int → Int → tm_S → tm_R} (cx : tm_C p l R s m args meth c K cX7_alike 4 RX7 "alike" (some .boolean) 0 0) (h15 : ∀ (v0 : Int) (v1 : Int) (v2 : Int) (v3 : Int) (τ : tm_S) (ls : Array Slot), tm_in v0 → tm_in v1 → tm_in v2 → tm_in v3 → tm_has 0 ls 4 [(0, tm_rv K v0), (1, tm_rv K v1), (2, tm_iv v2), (3, tm_iv v3)] → tm_J p l e R s m args below meth c K tm_xC 1 (r15 v0 v1 v2 v3 τ) τ (F0 m 15 ls [])) (v0 : Int) (v1 : Int) (v2 : Int) (v3 : Int) (σ : tm_S) (ls : Array Slot) (g0 : tm_in v0) (g1 : tm_in v1) (g2 : tm_in v2) (g3 : tm_in v3) (hl : tm_has 0 ls 4 [(0, tm_rv K v0), (1, tm_rv K v1), (2, tm_iv v2), (3, tm_iv v3)]) : tm_J p l e R s m args below meth c K tm_xC 1 (fc_X7_alike_B15 r15 v0 v1 v2 v3 σ) σ (F0 m 15 ls []) := by
  unfold fc_X7_alike_B15
  refine tm_iload_n cx dX7_alike_15 (tm_has_at hl 3 rfl) ?_
  refine tm_aload_n cx dX7_alike_16 (tm_has_at hl 0 rfl) ?_
  refine tm_gk_ (fun k17 => ?_)
  refine tm_alen cx (fun _ => ⟨k17, rfl⟩) (by decide) dX7_alike_17 (fun q17 => ?_)
  refine tm_icmp_ge (tgt := 46) cx g3 (tm_in0 q17) dX7_alike_18 (by decide) (fun c18 => ?_) (fun c18 => ?_)
  · refine tm_iload_n cx dX7_alike_21 (tm_has_at hl 2 rfl) ?_
    refine tm_if_eq (tgt := 46) cx g2 dX7_alike_22 (by decide) (fun c22 => ?_) (fun c22 => ?_)
    · refine tm_iload_n cx dX7_alike_46 (tm_has_at hl 2 rfl) ?_
      exact tm_zreturnG cx dX7_alike_47
    · refine tm_aload_n cx dX7_alike_25 (tm_has_at hl 0 rfl) ?_
      refine tm_iload_n cx dX7_alike_26 (tm_has_at hl 3 rfl) ?_
      refine tm_sald cx (fun _ => ⟨k17, rfl⟩) g3 dX7_alike_27 (fun i27 q27 => ?_)
      refine tm_aload_n cx dX7_alike_28 (tm_has_at hl 1 rfl) ?_
      refine tm_iload_n cx dX7_alike_29 (tm_has_at hl 3 rfl) ?_
      refine tm_gk_ (fun k30 => ?_)
      refine tm_sald cx (fun _ => ⟨k30, rfl⟩) g3 dX7_alike_30 (fun i30 q30 => ?_)
      refine tm_icmp_ne (tgt := 38) cx q27 q30 dX7_alike_31 (by decide) (fun c31 => ?_) (fun c31 => ?_)
      · refine tm_iconst cx dX7_alike_34 ?_
        refine tm_goto (tgt := 39) cx dX7_alike_35 (by decide) ?_
        refine tm_istore_n (lv' := [(2, tm_iv 1), (0, tm_rv K v0), (1, tm_rv K v1), (3, tm_iv v3)]) cx dX7_alike_39 hl (by decide) (by decide) rfl (fun ls hl => ?_)
        refine tm_iinc (lv' := [(3, tm_iv (v3 + 1)), (2, tm_iv 1), (0, tm_rv K v0), (1, tm_rv K v1)]) cx dX7_alike_40 hl (j := 3) rfl (by decide) (by decide) rfl (fun q40 ls hl => ?_)
        refine tm_goto (tgt := 15) cx dX7_alike_43 (by decide) ?_
        exact h15 v0 v1 1 (v3 + 1) _ _ g0 g1 (by decide) q40 (tm_has_sub hl [2, 3, 1, 0] rfl)
      · refine tm_iconst cx dX7_alike_38 ?_
        refine tm_istore_n (lv' := [(2, tm_iv 0), (0, tm_rv K v0), (1, tm_rv K v1), (3, tm_iv v3)]) cx dX7_alike_39 hl (by decide) (by decide) rfl (fun ls hl => ?_)
        refine tm_iinc (lv' := [(3, tm_iv (v3 + 1)), (2, tm_iv 0), (0, tm_rv K v0), (1, tm_rv K v1)]) cx dX7_alike_40 hl (j := 3) rfl (by decide) (by decide) rfl (fun q40 ls hl => ?_)
        refine tm_goto (tgt := 15) cx dX7_alike_43 (by decide) ?_
        exact h15 v0 v1 0 (v3 + 1) _ _ g0 g1 (by decide) q40 (tm_has_sub hl [2, 3, 1, 0] rfl)
  · refine tm_iload_n cx dX7_alike_46 (tm_has_at hl 2 rfl) ?_
    exact tm_zreturnG cx dX7_alike_47
def fc_X7_alike_L15 : Nat → Int → Int → Int → Int → tm_S → tm_R
  | 0, _, _, _, _, _ => none
  | n + 1, v0, v1, v2, v3, σ => fc_X7_alike_B15 (fc_X7_alike_L15 n) v0 v1 v2 v3 σ
theorem wc_X7_alike_L15 {p : Program} {l : Launch} {e : Env} {R : Room} {s : State} {m : MethodId} {args : Array Value} {below : List Frame} {meth : Method} {c : Code} {K : tm_K} (cx : tm_C p l R s m args meth c K cX7_alike 4 RX7 "alike" (some .boolean) 0 0) : ∀ (n : Nat) (v0 : Int) (v1 : Int) (v2 : Int) (v3 : Int) (σ : tm_S) (ls : Array Slot), tm_in v0 → tm_in v1 → tm_in v2 → tm_in v3 → tm_has 0 ls 4 [(0, tm_rv K v0), (1, tm_rv K v1), (2, tm_iv v2), (3, tm_iv v3)] → tm_J p l e R s m args below meth c K tm_xC 1 (fc_X7_alike_L15 n v0 v1 v2 v3 σ) σ (F0 m 15 ls []) := by
  intro n
  induction n with
  | zero => intros; exact tm_none
  | succ n ih =>
    intro v0 v1 v2 v3 σ ls g0 g1 g2 g3 hl
    exact wc_X7_alike_B15 (r15 := fc_X7_alike_L15 n) cx ih v0 v1 v2 v3 σ ls g0 g1 g2 g3 hl
def fc_X7_alike (a1 : Int) (a2 : Int) (σ : tm_S) : tm_R :=
  tm_gk (tm_k σ a1) 21 <|
  tm_gk (tm_k σ a2) 21 <|
  if (tm_n σ a1) = (tm_n σ a2) then
    fc_X7_alike_L15 tm_FU a1 a2 1 0 σ
  else
    fc_X7_alike_L15 tm_FU a1 a2 0 0 σ
theorem tm_fits_X7_alike (K : tm_K) (a1 : Int) (a2 : Int) : (lg_sl [tm_rv K a1, tm_rv K a2]).length ≤ 2 := (tm_sl_r _ _ _ _ (tm_sl_r _ _ _ _ (tm_sl_n _)))
theorem cc_X7_alike (K : tm_K) (l : Launch) (hst : l.stackTraces = false) (a1 : Int) (g1 : tm_in a1) (a2 : Int) (g2 : tm_in a2) : tm_ct K tm_xC l yX7_alike cX7_alike 4 (some .boolean) 1 [tm_rv K a1, tm_rv K a2] (fc_X7_alike a1 a2) 0 0 := by
  refine tm_ct_of hst (by decide +kernel) (Nat.le_trans (tm_fits_X7_alike K a1 a2) (Nat.le_of_ble_eq_true rfl)) ?_
  intro p e R s m args below meth c cx σ ls hl0
  have hl : tm_has 0 ls 4 [(0, tm_rv K a1), (1, tm_rv K a2)] := ⟨by
    have h9 := hl0
    simp only [tm_args_r, tm_args_r, tm_args_n, Nat.zero_add, Nat.reduceAdd] at h9
    exact h9, by
    intro q hq
    simp only [List.mem_cons, List.not_mem_nil, or_false] at hq
    rcases hq with rfl | rfl
    · exact Or.inl (tm_rv_cat K a1)
    · exact Or.inl (tm_rv_cat K a2)⟩
  clear hl0
  unfold fc_X7_alike
  refine tm_aload_n cx dX7_alike_0 (tm_has_at hl 0 rfl) ?_
  refine tm_gk_ (fun k1 => ?_)
  refine tm_alen cx (fun _ => ⟨k1, rfl⟩) (by decide) dX7_alike_1 (fun q1 => ?_)
  refine tm_aload_n cx dX7_alike_2 (tm_has_at hl 1 rfl) ?_
  refine tm_gk_ (fun k3 => ?_)
  refine tm_alen cx (fun _ => ⟨k3, rfl⟩) (by decide) dX7_alike_3 (fun q3 => ?_)
  refine tm_icmp_ne (tgt := 11) cx (tm_in0 q1) (tm_in0 q3) dX7_alike_4 (by decide) (fun c4 => ?_) (fun c4 => ?_)
  · refine tm_iconst cx dX7_alike_7 ?_
    refine tm_goto (tgt := 12) cx dX7_alike_8 (by decide) ?_
    refine tm_istore_n (lv' := [(2, tm_iv 1), (0, tm_rv K a1), (1, tm_rv K a2)]) cx dX7_alike_12 hl (by decide) (by decide) rfl (fun ls hl => ?_)
    refine tm_iconst cx dX7_alike_13 ?_
    refine tm_istore_n (lv' := [(3, tm_iv 0), (2, tm_iv 1), (0, tm_rv K a1), (1, tm_rv K a2)]) cx dX7_alike_14 hl (by decide) (by decide) rfl (fun ls hl => ?_)
    exact wc_X7_alike_L15 cx tm_FU a1 a2 1 0 _ _ g1 g2 (by decide) (by decide) (tm_has_sub hl [2, 3, 1, 0] rfl)
  · refine tm_iconst cx dX7_alike_11 ?_
    refine tm_istore_n (lv' := [(2, tm_iv 0), (0, tm_rv K a1), (1, tm_rv K a2)]) cx dX7_alike_12 hl (by decide) (by decide) rfl (fun ls hl => ?_)
    refine tm_iconst cx dX7_alike_13 ?_
    refine tm_istore_n (lv' := [(3, tm_iv 0), (2, tm_iv 0), (0, tm_rv K a1), (1, tm_rv K a2)]) cx dX7_alike_14 hl (by decide) (by decide) rfl (fun ls hl => ?_)
    exact wc_X7_alike_L15 cx tm_FU a1 a2 0 0 _ _ g1 g2 (by decide) (by decide) (tm_has_sub hl [2, 3, 1, 0] rfl)
def fc_X7_isLike (a0 : Int) (a1 : Int) (σ : tm_S) : tm_R :=
  if tm_k σ a1 = 6 then
    tm_gk (tm_k σ a0) 6 <|
    tm_bd (fc_X7_alike (tm_f σ 320 a1) (tm_f σ 320 a0) σ) fun u18 σ18 =>
    if u18 = 0 then
      tm_rt 0 σ18
    else
      tm_gk (tm_k σ18 a1) 6 <|
      tm_gk (tm_k σ18 a0) 6 <|
      tm_bd (fc_X7_alike (tm_f σ18 321 a1) (tm_f σ18 321 a0) σ18) fun u35 σ35 =>
      if u35 = 0 then
        tm_rt 0 σ35
      else
        tm_rt 1 σ35
  else
    tm_gm σ a1 <|
    tm_rt 0 σ
theorem tm_fits_X7_isLike (K : tm_K) (a0 : Int) (a1 : Int) : (lg_sl [tm_rv K a0, tm_rv K a1]).length ≤ 2 := (tm_sl_r _ _ _ _ (tm_sl_r _ _ _ _ (tm_sl_n _)))
theorem cc_X7_isLike (K : tm_K) (l : Launch) (hst : l.stackTraces = false) (a0 : Int) (g0 : tm_in a0) (a1 : Int) (g1 : tm_in a1) : tm_ct K tm_xC l yX7_isLike cX7_isLike 2 (some .boolean) 1 [tm_rv K a0, tm_rv K a1] (fc_X7_isLike a0 a1) 1 23 := by
  refine tm_ct_of hst (by decide +kernel) (Nat.le_trans (tm_fits_X7_isLike K a0 a1) (Nat.le_of_ble_eq_true rfl)) ?_
  intro p e R s m args below meth c cx σ ls hl0
  have hl : tm_has 0 ls 2 [(0, tm_rv K a0), (1, tm_rv K a1)] := ⟨by
    have h9 := hl0
    simp only [tm_args_r, tm_args_r, tm_args_n, Nat.zero_add, Nat.reduceAdd] at h9
    exact h9, by
    intro q hq
    simp only [List.mem_cons, List.not_mem_nil, or_false] at hq
    rcases hq with rfl | rfl
    · exact Or.inl (tm_rv_cat K a0)
    · exact Or.inl (tm_rv_cat K a1)⟩
  clear hl0
  unfold fc_X7_isLike
  refine tm_aload_n cx dX7_isLike_0 (tm_has_at hl 1 rfl) ?_
  refine tm_fork (fun c1 => ?_) (fun c1 => ?_)
  · refine tm_instY cx (k := 6) (Or.inr (Or.inl ⟨rfl, rfl⟩)) c1 q776 dX7_isLike_1 ?_
    refine tm_if_eq_f (tgt := 45) cx (by decide) (by decide) dX7_isLike_4 (by decide) ?_
    refine tm_aload_n cx dX7_isLike_7 (tm_has_at hl 1 rfl) ?_
    refine tm_castO cx tm_cd_X7 (fun _ => c1) q776 dX7_isLike_8 ?_
    refine tg_X7_15 cx (fun _ => c1) dX7_isLike_11 (fun q11 => ?_)
    refine tm_aload_n cx dX7_isLike_14 (tm_has_at hl 0 rfl) ?_
    refine tm_gk_ (fun k15 => ?_)
    refine tg_X7_15 cx (fun _ => k15) dX7_isLike_15 (fun q15 => ?_)
    refine tm_callS (n := 2) cx (cc_X7_alike K l (tm_hst cx) (tm_f σ 320 a1) q11 (tm_f σ 320 a0) q15) (lw_S q777 q778 q119 q779) ⟨by decide +kernel, by decide +kernel, by decide +kernel⟩ rfl ⟨Nat.le_of_ble_eq_true rfl, Nat.le_of_ble_eq_true rfl⟩ rfl (Nat.le_of_ble_eq_true rfl) hl.1.1 dX7_isLike_18 (fun u18 σ18 q18 => ?_)
    show tm_J p l e R s m args below meth c K tm_xC 1 _ _ (F0 m 21 ls [tm_iv u18])
    refine tm_if_eq (tgt := 45) cx q18 dX7_isLike_21 (by decide) (fun c21 => ?_) (fun c21 => ?_)
    · refine tm_iconst cx dX7_isLike_45 ?_
      exact tm_zreturn cx (by decide) dX7_isLike_46
    · refine tm_aload_n cx dX7_isLike_24 (tm_has_at hl 1 rfl) ?_
      refine tm_gk_ (fun k25 => ?_)
      refine tm_castO cx tm_cd_X7 (fun _ => k25) q776 dX7_isLike_25 ?_
      refine tg_X7_21 cx (fun _ => k25) dX7_isLike_28 (fun q28 => ?_)
      refine tm_aload_n cx dX7_isLike_31 (tm_has_at hl 0 rfl) ?_
      refine tm_gk_ (fun k32 => ?_)
      refine tg_X7_21 cx (fun _ => k32) dX7_isLike_32 (fun q32 => ?_)
      refine tm_callS (n := 2) cx (cc_X7_alike K l (tm_hst cx) (tm_f σ18 321 a1) q28 (tm_f σ18 321 a0) q32) (lw_S q777 q778 q119 q779) ⟨by decide +kernel, by decide +kernel, by decide +kernel⟩ rfl ⟨Nat.le_of_ble_eq_true rfl, Nat.le_of_ble_eq_true rfl⟩ rfl (Nat.le_of_ble_eq_true rfl) hl.1.1 dX7_isLike_35 (fun u35 σ35 q35 => ?_)
      show tm_J p l e R s m args below meth c K tm_xC 1 _ _ (F0 m 38 ls [tm_iv u35])
      refine tm_if_eq (tgt := 45) cx q35 dX7_isLike_38 (by decide) (fun c38 => ?_) (fun c38 => ?_)
      · refine tm_iconst cx dX7_isLike_45 ?_
        exact tm_zreturn cx (by decide) dX7_isLike_46
      · refine tm_iconst cx dX7_isLike_41 ?_
        refine tm_goto (tgt := 46) cx dX7_isLike_42 (by decide) ?_
        exact tm_zreturn cx (by decide) dX7_isLike_46
  · refine tm_gm_ (fun m1 => ?_)
    refine tm_instN cx (k := 6) (Or.inr (Or.inl ⟨rfl, rfl⟩)) m1 c1 q776 dX7_isLike_1 ?_
    refine tm_if_eq_t (tgt := 45) cx (by decide) (by decide) dX7_isLike_4 (by decide) ?_
    refine tm_iconst cx dX7_isLike_45 ?_
    exact tm_zreturn cx (by decide) dX7_isLike_46
def fc_meansSame_J24 (v3 : Int) (v4 : Int) (σ : tm_S) : tm_R :=
  if v3 = v4 then
    tm_rt 1 σ
  else
    tm_rt 0 σ
theorem wc_meansSame_J24 {p : Program} {l : Launch} {e : Env} {R : Room} {s : State} {m : MethodId} {args : Array Value} {below : List Frame} {meth : Method} {c : Code} {K : tm_K} (cx : tm_C p l R s m args meth c K cX1_meansSame 6 RX1 "meansSame" (some .boolean) 6 128) (v3 : Int) (v4 : Int) (σ : tm_S) (ls : Array Slot) (g3 : tm_in v3) (g4 : tm_in v4) (hl : tm_has 0 ls 6 [(3, tm_iv v3), (4, tm_iv v4)]) : tm_J p l e R s m args below meth c K tm_xC 1 (fc_meansSame_J24 v3 v4 σ) σ (F0 m 24 ls []) := by
  unfold fc_meansSame_J24
  refine tm_iload_n cx dX1_meansSame_24 (tm_has_at hl 0 rfl) ?_
  refine tm_iload cx dX1_meansSame_25 (tm_has_at hl 1 rfl) ?_
  refine tm_icmp_ne (tgt := 34) cx g3 g4 dX1_meansSame_27 (by decide) (fun c27 => ?_) (fun c27 => ?_)
  · refine tm_iconst cx dX1_meansSame_30 ?_
    refine tm_goto (tgt := 35) cx dX1_meansSame_31 (by decide) ?_
    exact tm_zreturn cx (by decide) dX1_meansSame_35
  · refine tm_iconst cx dX1_meansSame_34 ?_
    exact tm_zreturn cx (by decide) dX1_meansSame_35
def fc_meansSame (a1 : Int) (a2 : Int) (σ : tm_S) : tm_R :=
  tm_bd (fc_signOf a1 σ) fun u2 σ2 =>
  tm_bd (fc_signOf a2 σ2) fun u8 σ8 =>
  if u2 = (-1) then
    if u8 = (-1) then
      tm_bd (fc_meaningOf a1 σ8) fun u38 σ38 =>
      if u38 < 0 then
        tm_bd (fc_meaningOf a2 σ38) fun u50 σ50 =>
        if u50 < 0 then
          tm_rt 1 σ50
        else
          tm_rt 0 σ50
      else
        tm_bd (fc_meaningOf a2 σ38) fun u66 σ66 =>
        if u66 < 0 then
          tm_rt 0 σ66
        else
          tm_bd (fc_meaningOf a2 σ66) fun u76 σ76 =>
          tm_bd (tm_m3 (tm_k σ76 u38) (fc_X2_isLike u38 u76 σ76) (fc_X8_isLike u38 u76 σ76) (fc_X7_isLike u38 u76 σ76)) fun u79 σ79 =>
          if u79 = 0 then
            tm_rt 0 σ79
          else
            tm_rt 1 σ79
    else
      fc_meansSame_J24 u2 u8 σ8
  else
    fc_meansSame_J24 u2 u8 σ8
theorem tm_fits_X1_meansSame (K : tm_K) (a1 : Int) (a2 : Int) : (lg_sl [tm_rv K 0, tm_iv a1, tm_iv a2]).length ≤ 3 := (tm_sl_r _ _ _ _ (tm_sl_i _ _ _ (tm_sl_i _ _ _ (tm_sl_n _))))
theorem cc_meansSame (K : tm_K) (l : Launch) (hst : l.stackTraces = false) (a1 : Int) (g1 : tm_in a1) (a2 : Int) (g2 : tm_in a2) : tm_ct K tm_xC l yX1_meansSame cX1_meansSame 6 (some .boolean) 1 [tm_rv K 0, tm_iv a1, tm_iv a2] (fc_meansSame a1 a2) 6 128 := by
  refine tm_ct_of hst (by decide +kernel) (Nat.le_trans (tm_fits_X1_meansSame K a1 a2) (Nat.le_of_ble_eq_true rfl)) ?_
  intro p e R s m args below meth c cx σ ls hl0
  have hl : tm_has 0 ls 6 [(0, tm_rv K 0), (1, tm_iv a1), (2, tm_iv a2)] := ⟨by
    have h9 := hl0
    simp only [tm_args_r, tm_args_i, tm_args_i, tm_args_n, Nat.zero_add, Nat.reduceAdd] at h9
    exact h9, by
    intro q hq
    simp only [List.mem_cons, List.not_mem_nil, or_false] at hq
    rcases hq with rfl | rfl | rfl
    · exact Or.inl (tm_rv_cat K 0)
    · exact Or.inl rfl
    · exact Or.inl rfl⟩
  clear hl0
  unfold fc_meansSame
  refine tm_aload_n cx dX1_meansSame_0 (tm_has_at hl 0 rfl) ?_
  refine tm_iload_n cx dX1_meansSame_1 (tm_has_at hl 1 rfl) ?_
  refine tm_callV (n := 1) cx (cc_signOf K l (tm_hst cx) a1 g1) (lw_V q752 q754 qs32 q95 q755) ⟨rfl, by decide +kernel, by decide +kernel, by decide +kernel⟩ rfl tm_cd_X1 (fun h => (tm_hC_0 h).1) ⟨Nat.le_of_ble_eq_true rfl, Nat.le_of_ble_eq_true rfl⟩ rfl (Nat.le_of_ble_eq_true rfl) hl.1.1 dX1_meansSame_2 (fun u2 σ2 q2 => ?_)
  show tm_J p l e R s m args below meth c K tm_xC 1 _ _ (F0 m 5 ls [tm_iv u2])
  refine tm_istore_n (lv' := [(3, tm_iv u2), (0, tm_rv K 0), (1, tm_iv a1), (2, tm_iv a2)]) cx dX1_meansSame_5 hl (by decide) (by decide) rfl (fun ls hl => ?_)
  refine tm_aload_n cx dX1_meansSame_6 (tm_has_at hl 1 rfl) ?_
  refine tm_iload_n cx dX1_meansSame_7 (tm_has_at hl 3 rfl) ?_
  refine tm_callV (n := 1) cx (cc_signOf K l (tm_hst cx) a2 g2) (lw_V q752 q754 qs32 q95 q755) ⟨rfl, by decide +kernel, by decide +kernel, by decide +kernel⟩ rfl tm_cd_X1 (fun h => (tm_hC_0 h).1) ⟨Nat.le_of_ble_eq_true rfl, Nat.le_of_ble_eq_true rfl⟩ rfl (Nat.le_of_ble_eq_true rfl) hl.1.1 dX1_meansSame_8 (fun u8 σ8 q8 => ?_)
  show tm_J p l e R s m args below meth c K tm_xC 1 _ _ (F0 m 11 ls [tm_iv u8])
  refine tm_istore (lv' := [(4, tm_iv u8), (3, tm_iv u2), (0, tm_rv K 0), (1, tm_iv a1), (2, tm_iv a2)]) cx dX1_meansSame_11 hl (by decide) (by decide) rfl (fun ls hl => ?_)
  refine tm_iload_n cx dX1_meansSame_13 (tm_has_at hl 1 rfl) ?_
  refine tm_iconst cx dX1_meansSame_14 ?_
  refine tm_icmp_ne (tgt := 24) cx q2 (by decide) dX1_meansSame_15 (by decide) (fun c15 => ?_) (fun c15 => ?_)
  · refine tm_iload cx dX1_meansSame_18 (tm_has_at hl 0 rfl) ?_
    refine tm_iconst cx dX1_meansSame_20 ?_
    refine tm_icmp_eq (tgt := 36) cx q8 (by decide) dX1_meansSame_21 (by decide) (fun c21 => ?_) (fun c21 => ?_)
    · refine tm_aload_n cx dX1_meansSame_36 (tm_has_at hl 2 rfl) ?_
      refine tm_iload_n cx dX1_meansSame_37 (tm_has_at hl 3 rfl) ?_
      refine tm_callV (n := 1) cx (cc_meaningOf K l (tm_hst cx) a1 g1) (lw_V q607 q609 qs15 q95 q610) ⟨rfl, by decide +kernel, by decide +kernel, by decide +kernel⟩ rfl tm_cd_X1 (fun h => (tm_hC_0 h).1) ⟨Nat.le_of_ble_eq_true rfl, Nat.le_of_ble_eq_true rfl⟩ rfl (Nat.le_of_ble_eq_true rfl) hl.1.1 dX1_meansSame_38 (fun u38 σ38 q38 => ?_)
      show tm_J p l e R s m args below meth c K tm_xC 1 _ _ (F0 m 41 ls [tm_rv K u38])
      refine tm_astore (lv' := [(5, tm_rv K u38), (4, tm_iv u8), (3, tm_iv u2), (0, tm_rv K 0), (1, tm_iv a1), (2, tm_iv a2)]) cx dX1_meansSame_41 hl (by decide) (by decide) rfl (fun ls hl => ?_)
      refine tm_aload cx dX1_meansSame_43 (tm_has_at hl 0 rfl) ?_
      refine tm_ifnonnull (tgt := 64) cx dX1_meansSame_45 (by decide) (fun c45 => ?_) (fun c45 => ?_)
      · refine tm_aload_n cx dX1_meansSame_48 (tm_has_at hl 3 rfl) ?_
        refine tm_iload_n cx dX1_meansSame_49 (tm_has_at hl 5 rfl) ?_
        refine tm_callV (n := 1) cx (cc_meaningOf K l (tm_hst cx) a2 g2) (lw_V q607 q609 qs15 q95 q610) ⟨rfl, by decide +kernel, by decide +kernel, by decide +kernel⟩ rfl tm_cd_X1 (fun h => (tm_hC_0 h).1) ⟨Nat.le_of_ble_eq_true rfl, Nat.le_of_ble_eq_true rfl⟩ rfl (Nat.le_of_ble_eq_true rfl) hl.1.1 dX1_meansSame_50 (fun u50 σ50 q50 => ?_)
        show tm_J p l e R s m args below meth c K tm_xC 1 _ _ (F0 m 53 ls [tm_rv K u50])
        refine tm_ifnonnull (tgt := 60) cx dX1_meansSame_53 (by decide) (fun c53 => ?_) (fun c53 => ?_)
        · refine tm_iconst cx dX1_meansSame_56 ?_
          refine tm_goto (tgt := 92) cx dX1_meansSame_57 (by decide) ?_
          exact tm_zreturn cx (by decide) dX1_meansSame_92
        · refine tm_iconst cx dX1_meansSame_60 ?_
          refine tm_goto (tgt := 92) cx dX1_meansSame_61 (by decide) ?_
          exact tm_zreturn cx (by decide) dX1_meansSame_92
      · refine tm_aload_n cx dX1_meansSame_64 (tm_has_at hl 3 rfl) ?_
        refine tm_iload_n cx dX1_meansSame_65 (tm_has_at hl 5 rfl) ?_
        refine tm_callV (n := 1) cx (cc_meaningOf K l (tm_hst cx) a2 g2) (lw_V q607 q609 qs15 q95 q610) ⟨rfl, by decide +kernel, by decide +kernel, by decide +kernel⟩ rfl tm_cd_X1 (fun h => (tm_hC_0 h).1) ⟨Nat.le_of_ble_eq_true rfl, Nat.le_of_ble_eq_true rfl⟩ rfl (Nat.le_of_ble_eq_true rfl) hl.1.1 dX1_meansSame_66 (fun u66 σ66 q66 => ?_)
        show tm_J p l e R s m args below meth c K tm_xC 1 _ _ (F0 m 69 ls [tm_rv K u66])
        refine tm_ifnull (tgt := 91) cx dX1_meansSame_69 (by decide) (fun c69 => ?_) (fun c69 => ?_)
        · refine tm_iconst cx dX1_meansSame_91 ?_
          exact tm_zreturn cx (by decide) dX1_meansSame_92
        · refine tm_aload cx dX1_meansSame_72 (tm_has_at hl 0 rfl) ?_
          refine tm_aload_n cx dX1_meansSame_74 (tm_has_at hl 3 rfl) ?_
          refine tm_iload_n cx dX1_meansSame_75 (tm_has_at hl 5 rfl) ?_
          refine tm_callV (n := 1) cx (cc_meaningOf K l (tm_hst cx) a2 g2) (lw_V q607 q609 qs15 q95 q610) ⟨rfl, by decide +kernel, by decide +kernel, by decide +kernel⟩ rfl tm_cd_X1 (fun h => (tm_hC_0 h).1) ⟨Nat.le_of_ble_eq_true rfl, Nat.le_of_ble_eq_true rfl⟩ rfl (Nat.le_of_ble_eq_true rfl) hl.1.1 dX1_meansSame_76 (fun u76 σ76 q76 => ?_)
          show tm_J p l e R s m args below meth c K tm_xC 1 _ _ (F0 m 79 ls [tm_rv K u76, tm_rv K u38])
          refine tm_callF (n := 1) cx (cc_X2_isLike K l (tm_hst cx) u38 q38 u76 q76) (cc_X8_isLike K l (tm_hst cx) u38 q38 u76 q76) (cc_X7_isLike K l (tm_hst cx) u38 q38 u76 q76) (tm_lwF q763 q766 q768 q97 q770) (tm_lwF q763 q780 q782 q120 q784) (tm_lwF q763 q771 q773 q119 q775) (List.mem_of_getElem? (i := 2) rfl) (List.mem_of_getElem? (i := 6) rfl) (List.mem_of_getElem? (i := 10) rfl) ⟨by decide +kernel, by decide +kernel, by decide +kernel⟩ rfl ⟨Nat.le_of_ble_eq_true rfl, Nat.le_of_ble_eq_true rfl⟩ ⟨Nat.le_of_ble_eq_true rfl, Nat.le_of_ble_eq_true rfl⟩ ⟨Nat.le_of_ble_eq_true rfl, Nat.le_of_ble_eq_true rfl⟩ rfl (Nat.le_of_ble_eq_true rfl) hl.1.1 dX1_meansSame_79 (fun u79 σ79 q79 => ?_)
          show tm_J p l e R s m args below meth c K tm_xC 1 _ _ (F0 m 84 ls [tm_iv u79])
          refine tm_if_eq (tgt := 91) cx q79 dX1_meansSame_84 (by decide) (fun c84 => ?_) (fun c84 => ?_)
          · refine tm_iconst cx dX1_meansSame_91 ?_
            exact tm_zreturn cx (by decide) dX1_meansSame_92
          · refine tm_iconst cx dX1_meansSame_87 ?_
            refine tm_goto (tgt := 92) cx dX1_meansSame_88 (by decide) ?_
            exact tm_zreturn cx (by decide) dX1_meansSame_92
    · exact wc_meansSame_J24 cx u2 u8 _ _ q2 q8 (tm_has_sub hl [1, 0] rfl)
  · exact wc_meansSame_J24 cx u2 u8 _ _ q2 q8 (tm_has_sub hl [1, 0] rfl)
def fc_same (a1 : Int) (a2 : Int) (σ : tm_S) : tm_R :=
  tm_bd (fc_plain a1 σ) fun u1 σ1 =>
  tm_bd (fc_plain a2 σ1) fun u5 σ5 =>
  if u1 = u5 then
    tm_rt 1 σ5
  else
    tm_rt 0 σ5
theorem tm_fits_X1_same (K : tm_K) (a1 : Int) (a2 : Int) : (lg_sl [tm_iv a1, tm_iv a2]).length ≤ 2 := (tm_sl_i _ _ _ (tm_sl_i _ _ _ (tm_sl_n _)))
theorem cc_same (K : tm_K) (l : Launch) (hst : l.stackTraces = false) (a1 : Int) (g1 : tm_in a1) (a2 : Int) (g2 : tm_in a2) : tm_ct K tm_xC l yX1_same cX1_same 2 (some .boolean) 1 [tm_iv a1, tm_iv a2] (fc_same a1 a2) 1 20 := by
  refine tm_ct_of hst (by decide +kernel) (Nat.le_trans (tm_fits_X1_same K a1 a2) (Nat.le_of_ble_eq_true rfl)) ?_
  intro p e R s m args below meth c cx σ ls hl0
  have hl : tm_has 0 ls 2 [(0, tm_iv a1), (1, tm_iv a2)] := ⟨by
    have h9 := hl0
    simp only [tm_args_i, tm_args_i, tm_args_n, Nat.zero_add, Nat.reduceAdd] at h9
    exact h9, by
    intro q hq
    simp only [List.mem_cons, List.not_mem_nil, or_false] at hq
    rcases hq with rfl | rfl
    · exact Or.inl rfl
    · exact Or.inl rfl⟩
  clear hl0
  unfold fc_same
  refine tm_iload_n cx dX1_same_0 (tm_has_at hl 0 rfl) ?_
  refine tm_callS (n := 1) cx (cc_plain K l (tm_hst cx) a1 g1) (lw_S q795 q796 q95 q797) ⟨by decide +kernel, by decide +kernel, by decide +kernel⟩ rfl ⟨Nat.le_of_ble_eq_true rfl, Nat.le_of_ble_eq_true rfl⟩ rfl (Nat.le_of_ble_eq_true rfl) hl.1.1 dX1_same_1 (fun u1 σ1 q1 => ?_)
  show tm_J p l e R s m args below meth c K tm_xC 1 _ _ (F0 m 4 ls [tm_iv u1])
  refine tm_iload_n cx dX1_same_4 (tm_has_at hl 1 rfl) ?_
  refine tm_callS (n := 1) cx (cc_plain K l (tm_hst cx) a2 g2) (lw_S q795 q796 q95 q797) ⟨by decide +kernel, by decide +kernel, by decide +kernel⟩ rfl ⟨Nat.le_of_ble_eq_true rfl, Nat.le_of_ble_eq_true rfl⟩ rfl (Nat.le_of_ble_eq_true rfl) hl.1.1 dX1_same_5 (fun u5 σ5 q5 => ?_)
  show tm_J p l e R s m args below meth c K tm_xC 1 _ _ (F0 m 8 ls [tm_iv u5, tm_iv u1])
  refine tm_icmp_ne (tgt := 15) cx q1 q5 dX1_same_8 (by decide) (fun c8 => ?_) (fun c8 => ?_)
  · refine tm_iconst cx dX1_same_11 ?_
    refine tm_goto (tgt := 16) cx dX1_same_12 (by decide) ?_
    exact tm_zreturn cx (by decide) dX1_same_16
  · refine tm_iconst cx dX1_same_15 ?_
    exact tm_zreturn cx (by decide) dX1_same_16
def fc_argued_B23 (r23 : Int → Int → Int → Int → Int → tm_S → tm_R) (v2 : Int) (v4 : Int) (v5 : Int) (v6 : Int) (v7 : Int) (σ : tm_S) : tm_R :=
  if v7 < v4 then
    if v6 = 0 then
      tm_gk (tm_k σ v2) 21 <|
      tm_gx v7 (tm_n σ v2) <|
      tm_bd (fc_same v5 (tm_a σ v2 v7) σ) fun u41 σ41 =>
      if u41 = 0 then
        tm_gi (v7 + 1) <|
        r23 v2 v4 v5 0 (v7 + 1) σ41
      else
        tm_gi (v7 + 1) <|
        r23 v2 v4 v5 1 (v7 + 1) σ41
    else
      tm_gi (v7 + 1) <|
      r23 v2 v4 v5 1 (v7 + 1) σ
  else
    tm_bd (fc_same v5 4096 σ) fun u65 σ65 =>
    if u65 = 0 then
      tm_rt v5 σ65
    else
      if v6 = 0 then
        tm_bd (fc_fail 7 σ65) fun _ _ => none
      else
        tm_rt v5 σ65
theorem wc_argued_B23 {p : Program} {l : Launch} {e : Env} {R : Room} {s : State} {m : MethodId} {args : Array Value} {below : List Frame} {meth : Method} {c : Code} {K : tm_K} {r23 : Int → Int → Int → Int → Int → tm_S → tm_R} (cx : tm_C p l R s m args meth c K cX1_argued 8 RX1 "argued" (some .int) 13 320) (h23 : ∀ (v2 : Int) (v4 : Int) (v5 : Int) (v6 : Int) (v7 : Int) (τ : tm_S) (ls : Array Slot), tm_in v2 → tm_in v4 → tm_in v5 → tm_in v6 → tm_in v7 → tm_has 0 ls 8 [(0, tm_rv K 0), (2, tm_rv K v2), (4, tm_iv v4), (5, tm_iv v5), (6, tm_iv v6), (7, tm_iv v7)] → tm_J p l e R s m args below meth c K tm_xC 1 (r23 v2 v4 v5 v6 v7 τ) τ (F0 m 23 ls [])) (v2 : Int) (v4 : Int) (v5 : Int) (v6 : Int) (v7 : Int) (σ : tm_S) (ls : Array Slot) (g2 : tm_in v2) (g4 : tm_in v4) (g5 : tm_in v5) (g6 : tm_in v6) (g7 : tm_in v7) (hl : tm_has 0 ls 8 [(0, tm_rv K 0), (2, tm_rv K v2), (4, tm_iv v4), (5, tm_iv v5), (6, tm_iv v6), (7, tm_iv v7)]) : tm_J p l e R s m args below meth c K tm_xC 1 (fc_argued_B23 r23 v2 v4 v5 v6 v7 σ) σ (F0 m 23 ls []) := by
  unfold fc_argued_B23
  refine tm_iload cx dX1_argued_23 (tm_has_at hl 5 rfl) ?_
  refine tm_iload cx dX1_argued_25 (tm_has_at hl 2 rfl) ?_
  refine tm_icmp_ge (tgt := 60) cx g7 g4 dX1_argued_27 (by decide) (fun c27 => ?_) (fun c27 => ?_)
  · refine tm_iload cx dX1_argued_30 (tm_has_at hl 4 rfl) ?_
    refine tm_if_ne (tgt := 47) cx g6 dX1_argued_32 (by decide) (fun c32 => ?_) (fun c32 => ?_)
    · refine tm_iload cx dX1_argued_35 (tm_has_at hl 3 rfl) ?_
      refine tm_aload_n cx dX1_argued_37 (tm_has_at hl 1 rfl) ?_
      refine tm_iload cx dX1_argued_38 (tm_has_at hl 5 rfl) ?_
      refine tm_gk_ (fun k40 => ?_)
      refine tm_sald cx (fun _ => ⟨k40, rfl⟩) g7 dX1_argued_40 (fun i40 q40 => ?_)
      refine tm_callS (n := 2) cx (cc_same K l (tm_hst cx) v5 g5 (tm_a σ v2 v7) q40) (lw_S q807 q793 q95 q794) ⟨by decide +kernel, by decide +kernel, by decide +kernel⟩ rfl ⟨Nat.le_of_ble_eq_true rfl, Nat.le_of_ble_eq_true rfl⟩ rfl (Nat.le_of_ble_eq_true rfl) hl.1.1 dX1_argued_41 (fun u41 σ41 q41 => ?_)
      show tm_J p l e R s m args below meth c K tm_xC 1 _ _ (F0 m 44 ls [tm_iv u41])
      refine tm_if_eq (tgt := 51) cx q41 dX1_argued_44 (by decide) (fun c44 => ?_) (fun c44 => ?_)
      · refine tm_iconst cx dX1_argued_51 ?_
        refine tm_istore (lv' := [(6, tm_iv 0), (0, tm_rv K 0), (2, tm_rv K v2), (4, tm_iv v4), (5, tm_iv v5), (7, tm_iv v7)]) cx dX1_argued_52 hl (by decide) (by decide) rfl (fun ls hl => ?_)
        refine tm_iinc (lv' := [(7, tm_iv (v7 + 1)), (6, tm_iv 0), (0, tm_rv K 0), (2, tm_rv K v2), (4, tm_iv v4), (5, tm_iv v5)]) cx dX1_argued_54 hl (j := 5) rfl (by decide) (by decide) rfl (fun q54 ls hl => ?_)
        refine tm_goto (tgt := 23) cx dX1_argued_57 (by decide) ?_
        exact h23 v2 v4 v5 0 (v7 + 1) _ _ g2 g4 g5 (by decide) q54 (tm_has_sub hl [2, 3, 4, 5, 1, 0] rfl)
      · refine tm_iconst cx dX1_argued_47 ?_
        refine tm_goto (tgt := 52) cx dX1_argued_48 (by decide) ?_
        refine tm_istore (lv' := [(6, tm_iv 1), (0, tm_rv K 0), (2, tm_rv K v2), (4, tm_iv v4), (5, tm_iv v5), (7, tm_iv v7)]) cx dX1_argued_52 hl (by decide) (by decide) rfl (fun ls hl => ?_)
        refine tm_iinc (lv' := [(7, tm_iv (v7 + 1)), (6, tm_iv 1), (0, tm_rv K 0), (2, tm_rv K v2), (4, tm_iv v4), (5, tm_iv v5)]) cx dX1_argued_54 hl (j := 5) rfl (by decide) (by decide) rfl (fun q54 ls hl => ?_)
        refine tm_goto (tgt := 23) cx dX1_argued_57 (by decide) ?_
        exact h23 v2 v4 v5 1 (v7 + 1) _ _ g2 g4 g5 (by decide) q54 (tm_has_sub hl [2, 3, 4, 5, 1, 0] rfl)
    · refine tm_iconst cx dX1_argued_47 ?_
      refine tm_goto (tgt := 52) cx dX1_argued_48 (by decide) ?_
      refine tm_istore (lv' := [(6, tm_iv 1), (0, tm_rv K 0), (2, tm_rv K v2), (4, tm_iv v4), (5, tm_iv v5), (7, tm_iv v7)]) cx dX1_argued_52 hl (by decide) (by decide) rfl (fun ls hl => ?_)
      refine tm_iinc (lv' := [(7, tm_iv (v7 + 1)), (6, tm_iv 1), (0, tm_rv K 0), (2, tm_rv K v2), (4, tm_iv v4), (5, tm_iv v5)]) cx dX1_argued_54 hl (j := 5) rfl (by decide) (by decide) rfl (fun q54 ls hl => ?_)
      refine tm_goto (tgt := 23) cx dX1_argued_57 (by decide) ?_
      exact h23 v2 v4 v5 1 (v7 + 1) _ _ g2 g4 g5 (by decide) q54 (tm_has_sub hl [2, 3, 4, 5, 1, 0] rfl)
  · refine tm_iload cx dX1_argued_60 (tm_has_at hl 3 rfl) ?_
    refine tm_sipush cx dX1_argued_62 (by decide) ?_
    refine tm_callS (n := 2) cx (cc_same K l (tm_hst cx) v5 g5 4096 (by decide)) (lw_S q807 q793 q95 q794) ⟨by decide +kernel, by decide +kernel, by decide +kernel⟩ rfl ⟨Nat.le_of_ble_eq_true rfl, Nat.le_of_ble_eq_true rfl⟩ rfl (Nat.le_of_ble_eq_true rfl) hl.1.1 dX1_argued_65 (fun u65 σ65 q65 => ?_)
    show tm_J p l e R s m args below meth c K tm_xC 1 _ _ (F0 m 68 ls [tm_iv u65])
    refine tm_if_eq (tgt := 82) cx q65 dX1_argued_68 (by decide) (fun c68 => ?_) (fun c68 => ?_)
    · refine tm_iload cx dX1_argued_82 (tm_has_at hl 3 rfl) ?_
      exact tm_ireturn cx g5 dX1_argued_84
    · refine tm_iload cx dX1_argued_71 (tm_has_at hl 4 rfl) ?_
      refine tm_if_ne (tgt := 82) cx g6 dX1_argued_73 (by decide) (fun c73 => ?_) (fun c73 => ?_)
      · refine tm_aload_n cx dX1_argued_76 (tm_has_at hl 0 rfl) ?_
        refine tm_bipush cx dX1_argued_77 (by decide) ?_
        refine tm_callV (n := 1) cx (cc_fail K l (tm_hst cx) 7 (by decide)) (lw_V q580 q582 qs10 q95 q583) ⟨rfl, by decide +kernel, by decide +kernel, by decide +kernel⟩ rfl tm_cd_X1 (fun h => (tm_hC_0 h).1) ⟨Nat.le_of_ble_eq_true rfl, Nat.le_of_ble_eq_true rfl⟩ rfl (Nat.le_of_ble_eq_true rfl) hl.1.1 dX1_argued_79 (fun _ _ _ => ?_)
        exact tm_none
      · refine tm_iload cx dX1_argued_82 (tm_has_at hl 3 rfl) ?_
        exact tm_ireturn cx g5 dX1_argued_84
def fc_argued_L23 : Nat → Int → Int → Int → Int → Int → tm_S → tm_R
  | 0, _, _, _, _, _, _ => none
  | n + 1, v2, v4, v5, v6, v7, σ => fc_argued_B23 (fc_argued_L23 n) v2 v4 v5 v6 v7 σ
theorem wc_argued_L23 {p : Program} {l : Launch} {e : Env} {R : Room} {s : State} {m : MethodId} {args : Array Value} {below : List Frame} {meth : Method} {c : Code} {K : tm_K} (cx : tm_C p l R s m args meth c K cX1_argued 8 RX1 "argued" (some .int) 13 320) : ∀ (n : Nat) (v2 : Int) (v4 : Int) (v5 : Int) (v6 : Int) (v7 : Int) (σ : tm_S) (ls : Array Slot), tm_in v2 → tm_in v4 → tm_in v5 → tm_in v6 → tm_in v7 → tm_has 0 ls 8 [(0, tm_rv K 0), (2, tm_rv K v2), (4, tm_iv v4), (5, tm_iv v5), (6, tm_iv v6), (7, tm_iv v7)] → tm_J p l e R s m args below meth c K tm_xC 1 (fc_argued_L23 n v2 v4 v5 v6 v7 σ) σ (F0 m 23 ls []) := by
  intro n
  induction n with
  | zero => intros; exact tm_none
  | succ n ih =>
    intro v2 v4 v5 v6 v7 σ ls g2 g4 g5 g6 g7 hl
    exact wc_argued_B23 (r23 := fc_argued_L23 n) cx ih v2 v4 v5 v6 v7 σ ls g2 g4 g5 g6 g7 hl
def fc_argued (a1 : Int) (a2 : Int) (a3 : Int) (a4 : Int) (σ : tm_S) : tm_R :=
  tm_bd (fc_need σ) fun u1 σ1 =>
  if a1 = 40 then
    tm_bd (fc_fail 5 σ1) fun _ _ => none
  else
    fc_argued_L23 tm_FU a2 a4 u1 0 a3 σ1
theorem tm_fits_X1_argued (K : tm_K) (a1 : Int) (a2 : Int) (a3 : Int) (a4 : Int) : (lg_sl [tm_rv K 0, tm_iv a1, tm_rv K a2, tm_iv a3, tm_iv a4]).length ≤ 5 := (tm_sl_r _ _ _ _ (tm_sl_i _ _ _ (tm_sl_r _ _ _ _ (tm_sl_i _ _ _ (tm_sl_i _ _ _ (tm_sl_n _))))))
theorem cc_argued (K : tm_K) (l : Launch) (hst : l.stackTraces = false) (a1 : Int) (g1 : tm_in a1) (a2 : Int) (g2 : tm_in a2) (a3 : Int) (g3 : tm_in a3) (a4 : Int) (g4 : tm_in a4) : tm_ct K tm_xC l yX1_argued cX1_argued 8 (some .int) 1 [tm_rv K 0, tm_iv a1, tm_rv K a2, tm_iv a3, tm_iv a4] (fc_argued a1 a2 a3 a4) 13 320 := by
  refine tm_ct_of hst (by decide +kernel) (Nat.le_trans (tm_fits_X1_argued K a1 a2 a3 a4) (Nat.le_of_ble_eq_true rfl)) ?_
  intro p e R s m args below meth c cx σ ls hl0
  have hl : tm_has 0 ls 8 [(0, tm_rv K 0), (1, tm_iv a1), (2, tm_rv K a2), (3, tm_iv a3), (4, tm_iv a4)] := ⟨by
    have h9 := hl0
    simp only [tm_args_r, tm_args_i, tm_args_r, tm_args_i, tm_args_i, tm_args_n, Nat.zero_add, Nat.reduceAdd] at h9
    exact h9, by
    intro q hq
    simp only [List.mem_cons, List.not_mem_nil, or_false] at hq
    rcases hq with rfl | rfl | rfl | rfl | rfl
    · exact Or.inl (tm_rv_cat K 0)
    · exact Or.inl rfl
    · exact Or.inl (tm_rv_cat K a2)
    · exact Or.inl rfl
    · exact Or.inl rfl⟩
  clear hl0
  unfold fc_argued
  refine tm_aload_n cx dX1_argued_0 (tm_has_at hl 0 rfl) ?_
  refine tm_callV (n := 0) cx (cc_need K l (tm_hst cx)) (lw_V q686 q688 qs19 q95 q689) ⟨rfl, by decide +kernel, by decide +kernel, by decide +kernel⟩ rfl tm_cd_X1 (fun h => (tm_hC_0 h).1) ⟨Nat.le_of_ble_eq_true rfl, Nat.le_of_ble_eq_true rfl⟩ rfl (Nat.le_of_ble_eq_true rfl) hl.1.1 dX1_argued_1 (fun u1 σ1 q1 => ?_)
  show tm_J p l e R s m args below meth c K tm_xC 1 _ _ (F0 m 4 ls [tm_iv u1])
  refine tm_istore (lv' := [(5, tm_iv u1), (0, tm_rv K 0), (1, tm_iv a1), (2, tm_rv K a2), (3, tm_iv a3), (4, tm_iv a4)]) cx dX1_argued_4 hl (by decide) (by decide) rfl (fun ls hl => ?_)
  refine tm_iload_n cx dX1_argued_6 (tm_has_at hl 2 rfl) ?_
  refine tm_bipush cx dX1_argued_7 (by decide) ?_
  refine tm_icmp_ne (tgt := 17) cx g1 (by decide) dX1_argued_9 (by decide) (fun c9 => ?_) (fun c9 => ?_)
  · refine tm_aload_n cx dX1_argued_12 (tm_has_at hl 1 rfl) ?_
    refine tm_iconst cx dX1_argued_13 ?_
    refine tm_callV (n := 1) cx (cc_fail K l (tm_hst cx) 5 (by decide)) (lw_V q580 q582 qs10 q95 q583) ⟨rfl, by decide +kernel, by decide +kernel, by decide +kernel⟩ rfl tm_cd_X1 (fun h => (tm_hC_0 h).1) ⟨Nat.le_of_ble_eq_true rfl, Nat.le_of_ble_eq_true rfl⟩ rfl (Nat.le_of_ble_eq_true rfl) hl.1.1 dX1_argued_14 (fun _ _ _ => ?_)
    exact tm_none
  · refine tm_iconst cx dX1_argued_17 ?_
    refine tm_istore (lv' := [(6, tm_iv 0), (5, tm_iv u1), (0, tm_rv K 0), (1, tm_iv a1), (2, tm_rv K a2), (3, tm_iv a3), (4, tm_iv a4)]) cx dX1_argued_18 hl (by decide) (by decide) rfl (fun ls hl => ?_)
    refine tm_iload_n cx dX1_argued_20 (tm_has_at hl 5 rfl) ?_
    refine tm_istore (lv' := [(7, tm_iv a3), (6, tm_iv 0), (5, tm_iv u1), (0, tm_rv K 0), (1, tm_iv a1), (2, tm_rv K a2), (3, tm_iv a3), (4, tm_iv a4)]) cx dX1_argued_21 hl (by decide) (by decide) rfl (fun ls hl => ?_)
    exact wc_argued_L23 cx tm_FU a2 a4 u1 0 a3 _ _ g2 g4 q1 (by decide) g3 (tm_has_sub hl [3, 5, 7, 2, 1, 0] rfl)
def fc_undelimited_B68 (r68 : Int → Int → Int → tm_S → tm_R) (v1 : Int) (v3 : Int) (v4 : Int) (σ : tm_S) : tm_R :=
  if 0 < v3 then
    tm_bd (fc_argued v4 (-1) 0 0 σ) fun u78 σ78 =>
    tm_bd (fc_levelOf u78 σ78) fun u84 σ84 =>
    tm_gi (v3 + u84) <|
    tm_lt (v3 + u84) fun x88 =>
    if 0 < x88 then
      tm_gk (tm_k σ84 v1) 3 <|
      tm_bd (fc_X3_add v1 u78 40 σ84) fun u97 σ97 =>
      tm_gi (v4 + 1) <|
      r68 v1 x88 (v4 + 1) σ97
    else
      tm_gi (v4 + 1) <|
      r68 v1 x88 (v4 + 1) σ84
  else
    tm_rt 0 σ
theorem wc_undelimited_B68 {p : Program} {l : Launch} {e : Env} {R : Room} {s : State} {m : MethodId} {args : Array Value} {below : List Frame} {meth : Method} {c : Code} {K : tm_K} {r68 : Int → Int → Int → tm_S → tm_R} (cx : tm_C p l R s m args meth c K cX1_undelimited 5 RX1 "undelimited" none 14 347) (h68 : ∀ (v1 : Int) (v3 : Int) (v4 : Int) (τ : tm_S) (ls : Array Slot), tm_in v1 → tm_in v3 → tm_in v4 → tm_has 0 ls 5 [(0, tm_rv K 0), (1, tm_rv K v1), (3, tm_iv v3), (4, tm_iv v4)] → tm_J p l e R s m args below meth c K tm_xC 0 (r68 v1 v3 v4 τ) τ (F0 m 68 ls [])) (v1 : Int) (v3 : Int) (v4 : Int) (σ : tm_S) (ls : Array Slot) (g1 : tm_in v1) (g3 : tm_in v3) (g4 : tm_in v4) (hl : tm_has 0 ls 5 [(0, tm_rv K 0), (1, tm_rv K v1), (3, tm_iv v3), (4, tm_iv v4)]) : tm_J p l e R s m args below meth c K tm_xC 0 (fc_undelimited_B68 r68 v1 v3 v4 σ) σ (F0 m 68 ls []) := by
  unfold fc_undelimited_B68
  refine tm_iload_n cx dX1_undelimited_68 (tm_has_at hl 2 rfl) ?_
  refine tm_if_le (tgt := 107) cx g3 dX1_undelimited_69 (by decide) (fun c69 => ?_) (fun c69 => ?_)
  · refine tm_aload_n cx dX1_undelimited_72 (tm_has_at hl 0 rfl) ?_
    refine tm_iload cx dX1_undelimited_73 (tm_has_at hl 3 rfl) ?_
    refine tm_null cx dX1_undelimited_75 ?_
    refine tm_iconst cx dX1_undelimited_76 ?_
    refine tm_iconst cx dX1_undelimited_77 ?_
    refine tm_callV (n := 4) cx (cc_argued K l (tm_hst cx) v4 g4 (-1) (by decide) 0 (by decide) 0 (by decide)) (lw_V q803 q805 qs35 q95 q806) ⟨rfl, by decide +kernel, by decide +kernel, by decide +kernel⟩ rfl tm_cd_X1 (fun h => (tm_hC_0 h).1) ⟨Nat.le_of_ble_eq_true rfl, Nat.le_of_ble_eq_true rfl⟩ rfl (Nat.le_of_ble_eq_true rfl) hl.1.1 dX1_undelimited_78 (fun u78 σ78 q78 => ?_)
    show tm_J p l e R s m args below meth c K tm_xC 0 _ _ (F0 m 81 ls [tm_iv u78])
    refine tm_istore_n (lv' := [(2, tm_iv u78), (0, tm_rv K 0), (1, tm_rv K v1), (3, tm_iv v3), (4, tm_iv v4)]) cx dX1_undelimited_81 hl (by decide) (by decide) rfl (fun ls hl => ?_)
    refine tm_iload_n cx dX1_undelimited_82 (tm_has_at hl 3 rfl) ?_
    refine tm_iload_n cx dX1_undelimited_83 (tm_has_at hl 0 rfl) ?_
    refine tm_callS (n := 1) cx (cc_levelOf K l (tm_hst cx) u78 q78) (lw_S q808 q809 q95 q810) ⟨by decide +kernel, by decide +kernel, by decide +kernel⟩ rfl ⟨Nat.le_of_ble_eq_true rfl, Nat.le_of_ble_eq_true rfl⟩ rfl (Nat.le_of_ble_eq_true rfl) hl.1.1 dX1_undelimited_84 (fun u84 σ84 q84 => ?_)
    show tm_J p l e R s m args below meth c K tm_xC 0 _ _ (F0 m 87 ls [tm_iv u84, tm_iv v3])
    refine tm_iadd cx dX1_undelimited_87 (fun q87 => ?_)
    refine tm_lt_ q87 (fun x88 q88 => ?_)
    refine tm_istore_n (lv' := [(3, tm_iv x88), (2, tm_iv u78), (0, tm_rv K 0), (1, tm_rv K v1), (4, tm_iv v4)]) cx dX1_undelimited_88 hl (by decide) (by decide) rfl (fun ls hl => ?_)
    refine tm_iload_n cx dX1_undelimited_89 (tm_has_at hl 0 rfl) ?_
    refine tm_if_le (tgt := 101) cx q88 dX1_undelimited_90 (by decide) (fun c90 => ?_) (fun c90 => ?_)
    · refine tm_aload_n cx dX1_undelimited_93 (tm_has_at hl 3 rfl) ?_
      refine tm_iload_n cx dX1_undelimited_94 (tm_has_at hl 1 rfl) ?_
      refine tm_bipush cx dX1_undelimited_95 (by decide) ?_
      refine tm_gk_ (fun k97 => ?_)
      refine tm_callV (n := 2) cx (cc_X3_add K l (tm_hst cx) v1 g1 u78 q78 40 (by decide)) (lw_V q814 q815 q816 q101 q817) ⟨rfl, by decide +kernel, by decide +kernel, by decide +kernel⟩ rfl tm_cd_X3 (fun _ => k97) ⟨Nat.le_of_ble_eq_true rfl, Nat.le_of_ble_eq_true rfl⟩ rfl (Nat.le_of_ble_eq_true rfl) hl.1.1 dX1_undelimited_97 (fun u97 σ97 q97 => ?_)
      show tm_J p l e R s m args below meth c K tm_xC 0 _ _ (F0 m 100 ls [tm_iv u97])
      refine tm_pop_i cx dX1_undelimited_100 ?_
      refine tm_iinc (lv' := [(4, tm_iv (v4 + 1)), (3, tm_iv x88), (2, tm_iv u78), (0, tm_rv K 0), (1, tm_rv K v1)]) cx dX1_undelimited_101 hl (j := 4) rfl (by decide) (by decide) rfl (fun q101 ls hl => ?_)
      refine tm_goto (tgt := 68) cx dX1_undelimited_104 (by decide) ?_
      exact h68 v1 x88 (v4 + 1) _ _ g1 q88 q101 (tm_has_sub hl [3, 4, 1, 0] rfl)
    · refine tm_iinc (lv' := [(4, tm_iv (v4 + 1)), (3, tm_iv x88), (2, tm_iv u78), (0, tm_rv K 0), (1, tm_rv K v1)]) cx dX1_undelimited_101 hl (j := 4) rfl (by decide) (by decide) rfl (fun q101 ls hl => ?_)
      refine tm_goto (tgt := 68) cx dX1_undelimited_104 (by decide) ?_
      exact h68 v1 x88 (v4 + 1) _ _ g1 q88 q101 (tm_has_sub hl [3, 4, 1, 0] rfl)
  · exact tm_vreturn cx dX1_undelimited_107
def fc_undelimited_L68 : Nat → Int → Int → Int → tm_S → tm_R
  | 0, _, _, _, _ => none
  | n + 1, v1, v3, v4, σ => fc_undelimited_B68 (fc_undelimited_L68 n) v1 v3 v4 σ
theorem wc_undelimited_L68 {p : Program} {l : Launch} {e : Env} {R : Room} {s : State} {m : MethodId} {args : Array Value} {below : List Frame} {meth : Method} {c : Code} {K : tm_K} (cx : tm_C p l R s m args meth c K cX1_undelimited 5 RX1 "undelimited" none 14 347) : ∀ (n : Nat) (v1 : Int) (v3 : Int) (v4 : Int) (σ : tm_S) (ls : Array Slot), tm_in v1 → tm_in v3 → tm_in v4 → tm_has 0 ls 5 [(0, tm_rv K 0), (1, tm_rv K v1), (3, tm_iv v3), (4, tm_iv v4)] → tm_J p l e R s m args below meth c K tm_xC 0 (fc_undelimited_L68 n v1 v3 v4 σ) σ (F0 m 68 ls []) := by
  intro n
  induction n with
  | zero => intros; exact tm_none
  | succ n ih =>
    intro v1 v3 v4 σ ls g1 g3 g4 hl
    exact wc_undelimited_B68 (r68 := fc_undelimited_L68 n) cx ih v1 v3 v4 σ ls g1 g3 g4 hl
def fc_undelimited_J53 (v1 : Int) (v2 : Int) (v3 : Int) (σ : tm_S) : tm_R :=
  if v3 = 0 then
    tm_gk (tm_k σ v1) 3 <|
    tm_bd (fc_X3_add v1 v2 40 σ) fun u61 σ61 =>
    fc_undelimited_L68 tm_FU v1 v3 1 σ61
  else
    fc_undelimited_L68 tm_FU v1 v3 1 σ
theorem wc_undelimited_J53 {p : Program} {l : Launch} {e : Env} {R : Room} {s : State} {m : MethodId} {args : Array Value} {below : List Frame} {meth : Method} {c : Code} {K : tm_K} (cx : tm_C p l R s m args meth c K cX1_undelimited 5 RX1 "undelimited" none 14 347) (v1 : Int) (v2 : Int) (v3 : Int) (σ : tm_S) (ls : Array Slot) (g1 : tm_in v1) (g2 : tm_in v2) (g3 : tm_in v3) (hl : tm_has 0 ls 5 [(0, tm_rv K 0), (1, tm_rv K v1), (2, tm_iv v2), (3, tm_iv v3)]) : tm_J p l e R s m args below meth c K tm_xC 0 (fc_undelimited_J53 v1 v2 v3 σ) σ (F0 m 53 ls []) := by
  unfold fc_undelimited_J53
  refine tm_iload_n cx dX1_undelimited_53 (tm_has_at hl 3 rfl) ?_
  refine tm_if_ne (tgt := 65) cx g3 dX1_undelimited_54 (by decide) (fun c54 => ?_) (fun c54 => ?_)
  · refine tm_aload_n cx dX1_undelimited_57 (tm_has_at hl 1 rfl) ?_
    refine tm_iload_n cx dX1_undelimited_58 (tm_has_at hl 2 rfl) ?_
    refine tm_bipush cx dX1_undelimited_59 (by decide) ?_
    refine tm_gk_ (fun k61 => ?_)
    refine tm_callV (n := 2) cx (cc_X3_add K l (tm_hst cx) v1 g1 v2 g2 40 (by decide)) (lw_V q814 q815 q816 q101 q817) ⟨rfl, by decide +kernel, by decide +kernel, by decide +kernel⟩ rfl tm_cd_X3 (fun _ => k61) ⟨Nat.le_of_ble_eq_true rfl, Nat.le_of_ble_eq_true rfl⟩ rfl (Nat.le_of_ble_eq_true rfl) hl.1.1 dX1_undelimited_61 (fun u61 σ61 q61 => ?_)
    show tm_J p l e R s m args below meth c K tm_xC 0 _ _ (F0 m 64 ls [tm_iv u61])
    refine tm_pop_i cx dX1_undelimited_64 ?_
    refine tm_iconst cx dX1_undelimited_65 ?_
    refine tm_istore (lv' := [(4, tm_iv 1), (0, tm_rv K 0), (1, tm_rv K v1), (2, tm_iv v2), (3, tm_iv v3)]) cx dX1_undelimited_66 hl (by decide) (by decide) rfl (fun ls hl => ?_)
    exact wc_undelimited_L68 cx tm_FU v1 v3 1 _ _ g1 g3 (by decide) (tm_has_sub hl [1, 2, 4, 0] rfl)
  · refine tm_iconst cx dX1_undelimited_65 ?_
    refine tm_istore (lv' := [(4, tm_iv 1), (0, tm_rv K 0), (1, tm_rv K v1), (2, tm_iv v2), (3, tm_iv v3)]) cx dX1_undelimited_66 hl (by decide) (by decide) rfl (fun ls hl => ?_)
    exact wc_undelimited_L68 cx tm_FU v1 v3 1 _ _ g1 g3 (by decide) (tm_has_sub hl [1, 2, 4, 0] rfl)
def fc_undelimited_B10 (r10 : Int → Int → tm_S → tm_R) (v1 : Int) (v2 : Int) (σ : tm_S) : tm_R :=
  if v2 = 2592 then
    tm_bd (fc_need σ) fun u18 σ18 =>
    r10 v1 u18 σ18
  else
    tm_bd (fc_back v2 σ) fun u27 σ27 =>
    tm_bd (fc_argued 0 (-1) 0 0 σ27) fun u35 σ35 =>
    tm_bd (fc_levelOf u35 σ35) fun u40 σ40 =>
    if u40 < 0 then
      tm_bd (fc_fail 1 σ40) fun _ _ => none
    else
      fc_undelimited_J53 v1 u35 u40 σ40
theorem wc_undelimited_B10 {p : Program} {l : Launch} {e : Env} {R : Room} {s : State} {m : MethodId} {args : Array Value} {below : List Frame} {meth : Method} {c : Code} {K : tm_K} {r10 : Int → Int → tm_S → tm_R} (cx : tm_C p l R s m args meth c K cX1_undelimited 5 RX1 "undelimited" none 14 347) (h10 : ∀ (v1 : Int) (v2 : Int) (τ : tm_S) (ls : Array Slot), tm_in v1 → tm_in v2 → tm_has 0 ls 5 [(0, tm_rv K 0), (1, tm_rv K v1), (2, tm_iv v2)] → tm_J p l e R s m args below meth c K tm_xC 0 (r10 v1 v2 τ) τ (F0 m 10 ls [])) (v1 : Int) (v2 : Int) (σ : tm_S) (ls : Array Slot) (g1 : tm_in v1) (g2 : tm_in v2) (hl : tm_has 0 ls 5 [(0, tm_rv K 0), (1, tm_rv K v1), (2, tm_iv v2)]) : tm_J p l e R s m args below meth c K tm_xC 0 (fc_undelimited_B10 r10 v1 v2 σ) σ (F0 m 10 ls []) := by
  unfold fc_undelimited_B10
  refine tm_iload_n cx dX1_undelimited_10 (tm_has_at hl 2 rfl) ?_
  refine tm_sipush cx dX1_undelimited_11 (by decide) ?_
  refine tm_icmp_ne (tgt := 25) cx g2 (by decide) dX1_undelimited_14 (by decide) (fun c14 => ?_) (fun c14 => ?_)
  · refine tm_aload_n cx dX1_undelimited_17 (tm_has_at hl 0 rfl) ?_
    refine tm_callV (n := 0) cx (cc_need K l (tm_hst cx)) (lw_V q686 q688 qs19 q95 q689) ⟨rfl, by decide +kernel, by decide +kernel, by decide +kernel⟩ rfl tm_cd_X1 (fun h => (tm_hC_0 h).1) ⟨Nat.le_of_ble_eq_true rfl, Nat.le_of_ble_eq_true rfl⟩ rfl (Nat.le_of_ble_eq_true rfl) hl.1.1 dX1_undelimited_18 (fun u18 σ18 q18 => ?_)
    show tm_J p l e R s m args below meth c K tm_xC 0 _ _ (F0 m 21 ls [tm_iv u18])
    refine tm_istore_n (lv' := [(2, tm_iv u18), (0, tm_rv K 0), (1, tm_rv K v1)]) cx dX1_undelimited_21 hl (by decide) (by decide) rfl (fun ls hl => ?_)
    refine tm_goto (tgt := 10) cx dX1_undelimited_22 (by decide) ?_
    exact h10 v1 u18 _ _ g1 q18 (tm_has_sub hl [1, 2, 0] rfl)
  · refine tm_aload_n cx dX1_undelimited_25 (tm_has_at hl 0 rfl) ?_
    refine tm_iload_n cx dX1_undelimited_26 (tm_has_at hl 2 rfl) ?_
    refine tm_callV (n := 1) cx (cc_back K l (tm_hst cx) v2 g2) (lw_V q690 q692 qs20 q95 q693) ⟨rfl, by decide +kernel, by decide +kernel, by decide +kernel⟩ rfl tm_cd_X1 (fun h => (tm_hC_0 h).1) ⟨Nat.le_of_ble_eq_true rfl, Nat.le_of_ble_eq_true rfl⟩ rfl (Nat.le_of_ble_eq_true rfl) hl.1.1 dX1_undelimited_27 (fun u27 σ27 q27 => ?_)
    show tm_J p l e R s m args below meth c K tm_xC 0 _ _ (F0 m 30 ls [])
    refine tm_aload_n cx dX1_undelimited_30 (tm_has_at hl 0 rfl) ?_
    refine tm_iconst cx dX1_undelimited_31 ?_
    refine tm_null cx dX1_undelimited_32 ?_
    refine tm_iconst cx dX1_undelimited_33 ?_
    refine tm_iconst cx dX1_undelimited_34 ?_
    refine tm_callV (n := 4) cx (cc_argued K l (tm_hst cx) 0 (by decide) (-1) (by decide) 0 (by decide) 0 (by decide)) (lw_V q803 q805 qs35 q95 q806) ⟨rfl, by decide +kernel, by decide +kernel, by decide +kernel⟩ rfl tm_cd_X1 (fun h => (tm_hC_0 h).1) ⟨Nat.le_of_ble_eq_true rfl, Nat.le_of_ble_eq_true rfl⟩ rfl (Nat.le_of_ble_eq_true rfl) hl.1.1 dX1_undelimited_35 (fun u35 σ35 q35 => ?_)
    show tm_J p l e R s m args below meth c K tm_xC 0 _ _ (F0 m 38 ls [tm_iv u35])
    refine tm_istore_n (lv' := [(2, tm_iv u35), (0, tm_rv K 0), (1, tm_rv K v1)]) cx dX1_undelimited_38 hl (by decide) (by decide) rfl (fun ls hl => ?_)
    refine tm_iload_n cx dX1_undelimited_39 (tm_has_at hl 0 rfl) ?_
    refine tm_callS (n := 1) cx (cc_levelOf K l (tm_hst cx) u35 q35) (lw_S q808 q809 q95 q810) ⟨by decide +kernel, by decide +kernel, by decide +kernel⟩ rfl ⟨Nat.le_of_ble_eq_true rfl, Nat.le_of_ble_eq_true rfl⟩ rfl (Nat.le_of_ble_eq_true rfl) hl.1.1 dX1_undelimited_40 (fun u40 σ40 q40 => ?_)
    show tm_J p l e R s m args below meth c K tm_xC 0 _ _ (F0 m 43 ls [tm_iv u40])
    refine tm_istore_n (lv' := [(3, tm_iv u40), (2, tm_iv u35), (0, tm_rv K 0), (1, tm_rv K v1)]) cx dX1_undelimited_43 hl (by decide) (by decide) rfl (fun ls hl => ?_)
    refine tm_iload_n cx dX1_undelimited_44 (tm_has_at hl 0 rfl) ?_
    refine tm_if_ge (tgt := 53) cx q40 dX1_undelimited_45 (by decide) (fun c45 => ?_) (fun c45 => ?_)
    · refine tm_aload_n cx dX1_undelimited_48 (tm_has_at hl 2 rfl) ?_
      refine tm_iconst cx dX1_undelimited_49 ?_
      refine tm_callV (n := 1) cx (cc_fail K l (tm_hst cx) 1 (by decide)) (lw_V q580 q582 qs10 q95 q583) ⟨rfl, by decide +kernel, by decide +kernel, by decide +kernel⟩ rfl tm_cd_X1 (fun h => (tm_hC_0 h).1) ⟨Nat.le_of_ble_eq_true rfl, Nat.le_of_ble_eq_true rfl⟩ rfl (Nat.le_of_ble_eq_true rfl) hl.1.1 dX1_undelimited_50 (fun _ _ _ => ?_)
      exact tm_none
    · exact wc_undelimited_J53 cx v1 u35 u40 _ _ g1 q35 q40 (tm_has_sub hl [2, 3, 1, 0] rfl)
def fc_undelimited_L10 : Nat → Int → Int → tm_S → tm_R
  | 0, _, _, _ => none
  | n + 1, v1, v2, σ => fc_undelimited_B10 (fc_undelimited_L10 n) v1 v2 σ
theorem wc_undelimited_L10 {p : Program} {l : Launch} {e : Env} {R : Room} {s : State} {m : MethodId} {args : Array Value} {below : List Frame} {meth : Method} {c : Code} {K : tm_K} (cx : tm_C p l R s m args meth c K cX1_undelimited 5 RX1 "undelimited" none 14 347) : ∀ (n : Nat) (v1 : Int) (v2 : Int) (σ : tm_S) (ls : Array Slot), tm_in v1 → tm_in v2 → tm_has 0 ls 5 [(0, tm_rv K 0), (1, tm_rv K v1), (2, tm_iv v2)] → tm_J p l e R s m args below meth c K tm_xC 0 (fc_undelimited_L10 n v1 v2 σ) σ (F0 m 10 ls []) := by
  intro n
  induction n with
  | zero => intros; exact tm_none
  | succ n ih =>
    intro v1 v2 σ ls g1 g2 hl
    exact wc_undelimited_B10 (r10 := fc_undelimited_L10 n) cx ih v1 v2 σ ls g1 g2 hl
def fc_undelimited (a1 : Int) (σ : tm_S) : tm_R :=
  tm_gk (tm_k σ a1) 3 <|
  tm_bd (fc_need (tm_wf σ 129 a1 0)) fun u6 σ6 =>
  fc_undelimited_L10 tm_FU a1 u6 σ6
theorem tm_fits_X1_undelimited (K : tm_K) (a1 : Int) : (lg_sl [tm_rv K 0, tm_rv K a1]).length ≤ 2 := (tm_sl_r _ _ _ _ (tm_sl_r _ _ _ _ (tm_sl_n _)))
theorem cc_undelimited (K : tm_K) (l : Launch) (hst : l.stackTraces = false) (a1 : Int) (g1 : tm_in a1) : tm_ct K tm_xC l yX1_undelimited cX1_undelimited 5 none 0 [tm_rv K 0, tm_rv K a1] (fc_undelimited a1) 14 347 := by
  refine tm_ct_of hst (by decide +kernel) (Nat.le_trans (tm_fits_X1_undelimited K a1) (Nat.le_of_ble_eq_true rfl)) ?_
  intro p e R s m args below meth c cx σ ls hl0
  have hl : tm_has 0 ls 5 [(0, tm_rv K 0), (1, tm_rv K a1)] := ⟨by
    have h9 := hl0
    simp only [tm_args_r, tm_args_r, tm_args_n, Nat.zero_add, Nat.reduceAdd] at h9
    exact h9, by
    intro q hq
    simp only [List.mem_cons, List.not_mem_nil, or_false] at hq
    rcases hq with rfl | rfl
    · exact Or.inl (tm_rv_cat K 0)
    · exact Or.inl (tm_rv_cat K a1)⟩
  clear hl0
  unfold fc_undelimited
  refine tm_aload_n cx dX1_undelimited_0 (tm_has_at hl 1 rfl) ?_
  refine tm_iconst cx dX1_undelimited_1 ?_
  refine tm_gk_ (fun k2 => ?_)
  refine tp_X1_265 cx (fun _ => k2) (by decide) dX1_undelimited_2 ?_
  refine tm_aload_n cx dX1_undelimited_5 (tm_has_at hl 0 rfl) ?_
  refine tm_callV (n := 0) cx (cc_need K l (tm_hst cx)) (lw_V q686 q688 qs19 q95 q689) ⟨rfl, by decide +kernel, by decide +kernel, by decide +kernel⟩ rfl tm_cd_X1 (fun h => (tm_hC_0 h).1) ⟨Nat.le_of_ble_eq_true rfl, Nat.le_of_ble_eq_true rfl⟩ rfl (Nat.le_of_ble_eq_true rfl) hl.1.1 dX1_undelimited_6 (fun u6 σ6 q6 => ?_)
  show tm_J p l e R s m args below meth c K tm_xC 0 _ _ (F0 m 9 ls [tm_iv u6])
  refine tm_istore_n (lv' := [(2, tm_iv u6), (0, tm_rv K 0), (1, tm_rv K a1)]) cx dX1_undelimited_9 hl (by decide) (by decide) rfl (fun ls hl => ?_)
  exact wc_undelimited_L10 cx tm_FU a1 u6 _ _ g1 q6 (tm_has_sub hl [1, 2, 0] rfl)
