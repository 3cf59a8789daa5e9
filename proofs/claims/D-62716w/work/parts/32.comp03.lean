set_option maxRecDepth 100000
def fc_signOf (a1 : Int) (σ : tm_S) : tm_R :=
  tm_bd (fc_isCharacter a1 σ) fun u1 σ1 =>
  if u1 = 0 then
    tm_bd (fc_meaningOf a1 σ1) fun u11 σ11 =>
    if tm_k σ11 u11 = 5 then
      tm_rt (tm_f σ11 256 u11) σ11
    else
      tm_gm σ11 u11 <|
      tm_rt (-1) σ11
  else
    tm_rt a1 σ1
theorem tm_fits_X1_signOf (K : tm_K) (a1 : Int) : (lg_sl [tm_rv K 0, tm_iv a1]).length ≤ 2 := (tm_sl_r _ _ _ _ (tm_sl_i _ _ _ (tm_sl_n _)))
theorem cc_signOf (K : tm_K) (l : Launch) (hst : l.stackTraces = false) (a1 : Int) (g1 : tm_in a1) : tm_ct K tm_xC l yX1_signOf cX1_signOf 3 (some .int) 1 [tm_rv K 0, tm_iv a1] (fc_signOf a1) 5 106 := by
  refine tm_ct_of hst (by decide +kernel) (Nat.le_trans (tm_fits_X1_signOf K a1) (Nat.le_of_ble_eq_true rfl)) ?_
  intro p e R s m args below meth c cx σ ls hl0
  have hl : tm_has 0 ls 3 [(0, tm_rv K 0), (1, tm_iv a1)] := ⟨by
    have h9 := hl0
    simp only [tm_args_r, tm_args_i, tm_args_n, Nat.zero_add, Nat.reduceAdd] at h9
    exact h9, by
    intro q hq
    simp only [List.mem_cons, List.not_mem_nil, or_false] at hq
    rcases hq with rfl | rfl
    · exact Or.inl (tm_rv_cat K 0)
    · exact Or.inl rfl⟩
  clear hl0
  unfold fc_signOf
  refine tm_iload_n cx dX1_signOf_0 (tm_has_at hl 1 rfl) ?_
  refine tm_callS (n := 1) cx (cc_isCharacter K l (tm_hst cx) a1 g1) (lw_S q708 q709 q95 q710) ⟨by decide +kernel, by decide +kernel, by decide +kernel⟩ rfl ⟨Nat.le_of_ble_eq_true rfl, Nat.le_of_ble_eq_true rfl⟩ rfl (Nat.le_of_ble_eq_true rfl) hl.1.1 dX1_signOf_1 (fun u1 σ1 q1 => ?_)
  show tm_J p l e R s m args below meth c K tm_xC 1 _ _ (F0 m 4 ls [tm_iv u1])
  refine tm_if_eq (tgt := 9) cx q1 dX1_signOf_4 (by decide) (fun c4 => ?_) (fun c4 => ?_)
  · refine tm_aload_n cx dX1_signOf_9 (tm_has_at hl 0 rfl) ?_
    refine tm_iload_n cx dX1_signOf_10 (tm_has_at hl 1 rfl) ?_
    refine tm_callV (n := 1) cx (cc_meaningOf K l (tm_hst cx) a1 g1) (lw_V q607 q609 qs15 q95 q610) ⟨rfl, by decide +kernel, by decide +kernel, by decide +kernel⟩ rfl tm_cd_X1 (fun h => (tm_hC_0 h).1) ⟨Nat.le_of_ble_eq_true rfl, Nat.le_of_ble_eq_true rfl⟩ rfl (Nat.le_of_ble_eq_true rfl) hl.1.1 dX1_signOf_11 (fun u11 σ11 q11 => ?_)
    show tm_J p l e R s m args below meth c K tm_xC 1 _ _ (F0 m 14 ls [tm_rv K u11])
    refine tm_astore_n (lv' := [(2, tm_rv K u11), (0, tm_rv K 0), (1, tm_iv a1)]) cx dX1_signOf_14 hl (by decide) (by decide) rfl (fun ls hl => ?_)
    refine tm_aload_n cx dX1_signOf_15 (tm_has_at hl 0 rfl) ?_
    refine tm_fork (fun c16 => ?_) (fun c16 => ?_)
    · refine tm_instY cx (k := 5) (Or.inl ⟨rfl, rfl⟩) c16 q756 dX1_signOf_16 ?_
      refine tm_if_eq_f (tgt := 32) cx (by decide) (by decide) dX1_signOf_19 (by decide) ?_
      refine tm_aload_n cx dX1_signOf_22 (tm_has_at hl 0 rfl) ?_
      refine tm_castO cx tm_cd_X8 (fun _ => c16) q756 dX1_signOf_23 ?_
      refine tg_X1_188 cx (fun _ => c16) dX1_signOf_26 (fun q26 => ?_)
      refine tm_goto (tgt := 33) cx dX1_signOf_29 (by decide) ?_
      exact tm_ireturn cx q26 dX1_signOf_33
    · refine tm_gm_ (fun m16 => ?_)
      refine tm_instN cx (k := 5) (Or.inl ⟨rfl, rfl⟩) m16 c16 q756 dX1_signOf_16 ?_
      refine tm_if_eq_t (tgt := 32) cx (by decide) (by decide) dX1_signOf_19 (by decide) ?_
      refine tm_iconst cx dX1_signOf_32 ?_
      exact tm_ireturn cx (by decide) dX1_signOf_33
  · refine tm_iload_n cx dX1_signOf_7 (tm_has_at hl 1 rfl) ?_
    exact tm_ireturn cx g1 dX1_signOf_8
def fc_isOf (a1 : Int) (a2 : Int) (σ : tm_S) : tm_R :=
  tm_bd (fc_isCharacter a1 σ) fun u1 σ1 =>
  if u1 = 0 then
    tm_rt 0 σ1
  else
    if (a1 / 256) = a2 then
      tm_rt 1 σ1
    else
      tm_rt 0 σ1
theorem tm_fits_X1_isOf (K : tm_K) (a1 : Int) (a2 : Int) : (lg_sl [tm_iv a1, tm_iv a2]).length ≤ 2 := (tm_sl_i _ _ _ (tm_sl_i _ _ _ (tm_sl_n _)))
theorem cc_isOf (K : tm_K) (l : Launch) (hst : l.stackTraces = false) (a1 : Int) (g1 : tm_in a1) (a2 : Int) (g2 : tm_in a2) : tm_ct K tm_xC l yX1_isOf cX1_isOf 2 (some .boolean) 1 [tm_iv a1, tm_iv a2] (fc_isOf a1 a2) 1 20 := by
  refine tm_ct_of hst (by decide +kernel) (Nat.le_trans (tm_fits_X1_isOf K a1 a2) (Nat.le_of_ble_eq_true rfl)) ?_
  intro p e R s m args below meth c cx σ ls hl0
  have hl : tm_has 0 ls 2 [(0, tm_iv a1), (1, tm_iv a2)] := ⟨by
    have h9 := hl0
    simp only [tm_args_i, tm_args_i, tm_args_n, Nat.zero_add, Nat.reduceAdd] at h9
    exact h9, by
    intro q hq
    simp only [List.mem_cons, List.not_mem_nil, or_false] at hq
    rcases hq with rfl | rfl
    · exact Or.inl rfl
    · exact Or.inl rfl⟩
  clear hl0
  unfold fc_isOf
  refine tm_iload_n cx dX1_isOf_0 (tm_has_at hl 0 rfl) ?_
  refine tm_callS (n := 1) cx (cc_isCharacter K l (tm_hst cx) a1 g1) (lw_S q708 q709 q95 q710) ⟨by decide +kernel, by decide +kernel, by decide +kernel⟩ rfl ⟨Nat.le_of_ble_eq_true rfl, Nat.le_of_ble_eq_true rfl⟩ rfl (Nat.le_of_ble_eq_true rfl) hl.1.1 dX1_isOf_1 (fun u1 σ1 q1 => ?_)
  show tm_J p l e R s m args below meth c K tm_xC 1 _ _ (F0 m 4 ls [tm_iv u1])
  refine tm_if_eq (tgt := 19) cx q1 dX1_isOf_4 (by decide) (fun c4 => ?_) (fun c4 => ?_)
  · refine tm_iconst cx dX1_isOf_19 ?_
    exact tm_zreturn cx (by decide) dX1_isOf_20
  · refine tm_iload_n cx dX1_isOf_7 (tm_has_at hl 0 rfl) ?_
    refine tm_bipush cx dX1_isOf_8 (by decide) ?_
    refine tm_ishr8 cx g1 dX1_isOf_10 (fun q10 => ?_)
    refine tm_iload_n cx dX1_isOf_11 (tm_has_at hl 1 rfl) ?_
    refine tm_icmp_ne (tgt := 19) cx q10 g2 dX1_isOf_12 (by decide) (fun c12 => ?_) (fun c12 => ?_)
    · refine tm_iconst cx dX1_isOf_15 ?_
      refine tm_goto (tgt := 20) cx dX1_isOf_16 (by decide) ?_
      exact tm_zreturn cx (by decide) dX1_isOf_20
    · refine tm_iconst cx dX1_isOf_19 ?_
      exact tm_zreturn cx (by decide) dX1_isOf_20
def fc_undo_B0 (r0 : tm_S → tm_R) (σ : tm_S) : tm_R :=
  if 0 < (tm_f σ 22 0) then
    tm_gi ((tm_f σ 22 0) - 1) <|
    tm_gx ((tm_f σ 22 0) - 1) 60 <|
    tm_gk (tm_k σ (200 + ((tm_f σ 22 0) - 1))) 2 <|
    if (tm_f σ 68 (200 + ((tm_f σ 22 0) - 1))) = (tm_f σ 14 0) then
      tm_gi ((tm_f σ 22 0) - 1) <|
      tm_gx (tm_f (tm_wf σ 22 0 ((tm_f σ 22 0) - 1)) 22 0) 60 <|
      tm_lt (200 + (tm_f (tm_wf σ 22 0 ((tm_f σ 22 0) - 1)) 22 0)) fun x47 =>
      tm_gk (tm_k (tm_wf σ 22 0 ((tm_f σ 22 0) - 1)) x47) 2 <|
      if (tm_f (tm_wf σ 22 0 ((tm_f σ 22 0) - 1)) 64 x47) < 0 then
        tm_gb (tm_f (tm_wf σ 22 0 ((tm_f σ 22 0) - 1)) 67 x47) <|
        tm_gx (tm_f (tm_wf σ 22 0 ((tm_f σ 22 0) - 1)) 66 x47) 128 <|
        tm_gb (tm_f (tm_wf σ 22 0 ((tm_f σ 22 0) - 1)) 67 x47) <|
        r0 (tm_wa (tm_wf σ 22 0 ((tm_f σ 22 0) - 1)) 104 (tm_f (tm_wf σ 22 0 ((tm_f σ 22 0) - 1)) 66 x47) (tm_f (tm_wf σ 22 0 ((tm_f σ 22 0) - 1)) 67 x47))
      else
        tm_gk (tm_k (tm_wf σ 22 0 ((tm_f σ 22 0) - 1)) (tm_f (tm_wf σ 22 0 ((tm_f σ 22 0) - 1)) 64 x47)) 4 <|
        r0 (tm_wf (tm_wf σ 22 0 ((tm_f σ 22 0) - 1)) 195 (tm_f (tm_wf σ 22 0 ((tm_f σ 22 0) - 1)) 64 x47) (tm_f (tm_wf σ 22 0 ((tm_f σ 22 0) - 1)) 65 x47))
    else
      tm_rt 0 σ
  else
    tm_rt 0 σ
theorem wc_undo_B0 {p : Program} {l : Launch} {e : Env} {R : Room} {s : State} {m : MethodId} {args : Array Value} {below : List Frame} {meth : Method} {c : Code} {K : tm_K} {r0 : tm_S → tm_R} (cx : tm_C p l R s m args meth c K cX1_undo 2 RX1 "undo" none 0 0) (h0 : ∀  (τ : tm_S) (ls : Array Slot), tm_has 0 ls 2 [(0, tm_rv K 0)] → tm_J p l e R s m args below meth c K tm_xC 0 (r0 τ) τ (F0 m 0 ls [])) (σ : tm_S) (ls : Array Slot) (hl : tm_has 0 ls 2 [(0, tm_rv K 0)]) : tm_J p l e R s m args below meth c K tm_xC 0 (fc_undo_B0 r0 σ) σ (F0 m 0 ls []) := by
  unfold fc_undo_B0
  refine tm_aload_n cx dX1_undo_0 (tm_has_at hl 0 rfl) ?_
  refine tg_X1_139 cx dX1_undo_1 (fun q1 => ?_)
  refine tm_if_le (tgt := 86) cx q1 dX1_undo_4 (by decide) (fun c4 => ?_) (fun c4 => ?_)
  · refine tm_aload_n cx dX1_undo_7 (tm_has_at hl 0 rfl) ?_
    refine tg_X1_53 cx dX1_undo_8 ?_
    refine tm_aload_n cx dX1_undo_11 (tm_has_at hl 0 rfl) ?_
    refine tg_X1_139 cx dX1_undo_12 (fun q12 => ?_)
    refine tm_iconst cx dX1_undo_15 ?_
    refine tm_isub cx dX1_undo_16 (fun q16 => ?_)
    refine tm_aald cx (by decide) tm_hC_121 q16 dX1_undo_17 (fun i17 q17 f17 => ?_)
    rw [tm_aC_121 f17 _ i17] at q17 ⊢
    refine tm_gk_ (fun k18 => ?_)
    refine tg_X1_382 cx (fun _ => k18) dX1_undo_18 (fun q18 => ?_)
    refine tm_aload_n cx dX1_undo_21 (tm_has_at hl 0 rfl) ?_
    refine tg_X1_127 cx dX1_undo_22 (fun q22 => ?_)
    refine tm_icmp_ne (tgt := 86) cx q18 q22 dX1_undo_25 (by decide) (fun c25 => ?_) (fun c25 => ?_)
    · refine tm_aload_n cx dX1_undo_28 (tm_has_at hl 0 rfl) ?_
      refine tm_dup_r cx dX1_undo_29 ?_
      refine tg_X1_139 cx dX1_undo_30 (fun q30 => ?_)
      refine tm_iconst cx dX1_undo_33 ?_
      refine tm_isub cx dX1_undo_34 (fun q34 => ?_)
      refine tp_X1_139 cx q34 dX1_undo_35 ?_
      refine tm_aload_n cx dX1_undo_38 (tm_has_at hl 0 rfl) ?_
      refine tg_X1_53 cx dX1_undo_39 ?_
      refine tm_aload_n cx dX1_undo_42 (tm_has_at hl 0 rfl) ?_
      refine tg_X1_139 cx dX1_undo_43 (fun q43 => ?_)
      refine tm_aald cx (by decide) tm_hC_121 q43 dX1_undo_46 (fun i46 q46 f46 => ?_)
      rw [tm_aC_121 f46 _ i46] at q46 ⊢
      refine tm_ltr_ q46 (fun x47 q47 => ?_)
      refine tm_astore_n (lv' := [(1, tm_rv K x47), (0, tm_rv K 0)]) cx dX1_undo_47 hl (by decide) (by decide) rfl (fun ls hl => ?_)
      refine tm_aload_n cx dX1_undo_48 (tm_has_at hl 0 rfl) ?_
      refine tm_gk_ (fun k49 => ?_)
      refine tg_X1_364 cx (fun _ => k49) dX1_undo_49 (fun q49 => ?_)
      refine tm_ifnonnull (tgt := 72) cx dX1_undo_52 (by decide) (fun c52 => ?_) (fun c52 => ?_)
      · refine tm_aload_n cx dX1_undo_55 (tm_has_at hl 1 rfl) ?_
        refine tg_X1_13 cx dX1_undo_56 ?_
        refine tm_aload_n cx dX1_undo_59 (tm_has_at hl 0 rfl) ?_
        refine tg_X1_385 cx (fun _ => k49) dX1_undo_60 (fun q60 => ?_)
        refine tm_aload_n cx dX1_undo_63 (tm_has_at hl 0 rfl) ?_
        refine tg_X1_388 cx (fun _ => k49) dX1_undo_64 (fun q64 => ?_)
        refine tm_i2b cx dX1_undo_67 ?_
        refine tm_bast cx tm_famC tm_hC_104 q60 q64 dX1_undo_68 ?_
        refine tm_goto (tgt := 83) cx dX1_undo_69 (by decide) ?_
        refine tm_goto (tgt := 0) cx dX1_undo_83 (by decide) ?_
        exact h0 _ _ (tm_has_sub hl [1] rfl)
      · refine tm_aload_n cx dX1_undo_72 (tm_has_at hl 0 rfl) ?_
        refine tg_X1_364 cx (fun _ => k49) dX1_undo_73 (fun q73 => ?_)
        refine tm_aload_n cx dX1_undo_76 (tm_has_at hl 0 rfl) ?_
        refine tg_X1_368 cx (fun _ => k49) dX1_undo_77 (fun q77 => ?_)
        refine tm_gk_ (fun k80 => ?_)
        refine tp_X1_114 cx (fun _ => k80) q77 dX1_undo_80 ?_
        refine tm_goto (tgt := 0) cx dX1_undo_83 (by decide) ?_
        exact h0 _ _ (tm_has_sub hl [1] rfl)
    · exact tm_vreturn cx dX1_undo_86
  · exact tm_vreturn cx dX1_undo_86
def fc_undo_L0 : Nat → tm_S → tm_R
  | 0, _ => none
  | n + 1, σ => fc_undo_B0 (fc_undo_L0 n) σ
theorem wc_undo_L0 {p : Program} {l : Launch} {e : Env} {R : Room} {s : State} {m : MethodId} {args : Array Value} {below : List Frame} {meth : Method} {c : Code} {K : tm_K} (cx : tm_C p l R s m args meth c K cX1_undo 2 RX1 "undo" none 0 0) : ∀ (n : Nat) (σ : tm_S) (ls : Array Slot), tm_has 0 ls 2 [(0, tm_rv K 0)] → tm_J p l e R s m args below meth c K tm_xC 0 (fc_undo_L0 n σ) σ (F0 m 0 ls []) := by
  intro n
  induction n with
  | zero => intros; exact tm_none
  | succ n ih =>
    intro σ ls hl
    exact wc_undo_B0 (r0 := fc_undo_L0 n) cx ih σ ls hl
def fc_undo (σ : tm_S) : tm_R :=
  fc_undo_L0 tm_FU σ
theorem tm_fits_X1_undo (K : tm_K) : (lg_sl [tm_rv K 0]).length ≤ 1 := (tm_sl_r _ _ _ _ (tm_sl_n _))
theorem cc_undo (K : tm_K) (l : Launch) (hst : l.stackTraces = false) : tm_ct K tm_xC l yX1_undo cX1_undo 2 none 0 [tm_rv K 0] (fc_undo) 0 0 := by
  refine tm_ct_of hst (by decide +kernel) (Nat.le_trans (tm_fits_X1_undo K) (Nat.le_of_ble_eq_true rfl)) ?_
  intro p e R s m args below meth c cx σ ls hl0
  have hl : tm_has 0 ls 2 [(0, tm_rv K 0)] := ⟨by
    have h9 := hl0
    simp only [tm_args_r, tm_args_n, Nat.zero_add, Nat.reduceAdd] at h9
    exact h9, by
    intro q hq
    simp only [List.mem_cons, List.not_mem_nil, or_false] at hq
    rcases hq with rfl
    · exact Or.inl (tm_rv_cat K 0)⟩
  clear hl0
  unfold fc_undo
  exact wc_undo_L0 cx tm_FU _ _ (tm_has_sub hl [0] rfl)
def fc_put_J15 (v1 : Int) (σ : tm_S) : tm_R :=
  tm_gs v1 <|
  tm_gx (tm_f σ 12 0) 200 <|
  tm_gs v1 <|
  tm_gi ((tm_f (tm_wa σ 111 (tm_f σ 12 0) v1) 12 0) + 1) <|
  tm_rt 0 (tm_wf (tm_wa σ 111 (tm_f σ 12 0) v1) 12 0 ((tm_f (tm_wa σ 111 (tm_f σ 12 0) v1) 12 0) + 1))
theorem wc_put_J15 {p : Program} {l : Launch} {e : Env} {R : Room} {s : State} {m : MethodId} {args : Array Value} {below : List Frame} {meth : Method} {c : Code} {K : tm_K} (cx : tm_C p l R s m args meth c K cX1_put 2 RX1 "put" none 7 121) (v1 : Int) (σ : tm_S) (ls : Array Slot) (g1 : tm_in v1) (hl : tm_has 0 ls 2 [(0, tm_rv K 0), (1, tm_iv v1)]) : tm_J p l e R s m args below meth c K tm_xC 0 (fc_put_J15 v1 σ) σ (F0 m 15 ls []) := by
  unfold fc_put_J15
  refine tm_aload_n cx dX1_put_15 (tm_has_at hl 0 rfl) ?_
  refine tg_X1_45 cx dX1_put_16 ?_
  refine tm_aload_n cx dX1_put_19 (tm_has_at hl 0 rfl) ?_
  refine tg_X1_121 cx dX1_put_20 (fun q20 => ?_)
  refine tm_iload_n cx dX1_put_23 (tm_has_at hl 1 rfl) ?_
  refine tm_i2s cx dX1_put_24 ?_
  refine tm_sast cx tm_famC tm_hC_111 q20 g1 dX1_put_25 ?_
  refine tm_aload_n cx dX1_put_26 (tm_has_at hl 0 rfl) ?_
  refine tm_dup_r cx dX1_put_27 ?_
  refine tg_X1_121 cx dX1_put_28 (fun q28 => ?_)
  refine tm_iconst cx dX1_put_31 ?_
  refine tm_iadd cx dX1_put_32 (fun q32 => ?_)
  refine tp_X1_121 cx q32 dX1_put_33 ?_
  exact tm_vreturn cx dX1_put_36
def fc_put (a1 : Int) (σ : tm_S) : tm_R :=
  if (tm_f σ 12 0) = 200 then
    tm_bd (fc_fail 5 σ) fun _ _ => none
  else
    fc_put_J15 a1 σ
theorem tm_fits_X1_put (K : tm_K) (a1 : Int) : (lg_sl [tm_rv K 0, tm_iv a1]).length ≤ 2 := (tm_sl_r _ _ _ _ (tm_sl_i _ _ _ (tm_sl_n _)))
theorem cc_put (K : tm_K) (l : Launch) (hst : l.stackTraces = false) (a1 : Int) (g1 : tm_in a1) : tm_ct K tm_xC l yX1_put cX1_put 2 none 0 [tm_rv K 0, tm_iv a1] (fc_put a1) 7 121 := by
  refine tm_ct_of hst (by decide +kernel) (Nat.le_trans (tm_fits_X1_put K a1) (Nat.le_of_ble_eq_true rfl)) ?_
  intro p e R s m args below meth c cx σ ls hl0
  have hl : tm_has 0 ls 2 [(0, tm_rv K 0), (1, tm_iv a1)] := ⟨by
    have h9 := hl0
    simp only [tm_args_r, tm_args_i, tm_args_n, Nat.zero_add, Nat.reduceAdd] at h9
    exact h9, by
    intro q hq
    simp only [List.mem_cons, List.not_mem_nil, or_false] at hq
    rcases hq with rfl | rfl
    · exact Or.inl (tm_rv_cat K 0)
    · exact Or.inl rfl⟩
  clear hl0
  unfold fc_put
  refine tm_aload_n cx dX1_put_0 (tm_has_at hl 0 rfl) ?_
  refine tg_X1_121 cx dX1_put_1 (fun q1 => ?_)
  refine tm_sipush cx dX1_put_4 (by decide) ?_
  refine tm_icmp_ne (tgt := 15) cx q1 (by decide) dX1_put_7 (by decide) (fun c7 => ?_) (fun c7 => ?_)
  · refine tm_aload_n cx dX1_put_10 (tm_has_at hl 0 rfl) ?_
    refine tm_iconst cx dX1_put_11 ?_
    refine tm_callV (n := 1) cx (cc_fail K l (tm_hst cx) 5 (by decide)) (lw_V q580 q582 qs10 q95 q583) ⟨rfl, by decide +kernel, by decide +kernel, by decide +kernel⟩ rfl tm_cd_X1 (fun h => (tm_hC_0 h).1) ⟨Nat.le_of_ble_eq_true rfl, Nat.le_of_ble_eq_true rfl⟩ rfl (Nat.le_of_ble_eq_true rfl) hl.1.1 dX1_put_12 (fun _ _ _ => ?_)
    exact tm_none
  · exact wc_put_J15 cx a1 _ _ g1 (tm_has_sub hl [0, 1] rfl)
def fc_place_J55 (σ : tm_S) : tm_R :=
  tm_bd (fc_undo σ) fun u56 σ56 =>
  tm_gi ((tm_f σ56 14 0) - 1) <|
  tm_rt 0 (tm_wf σ56 14 0 ((tm_f σ56 14 0) - 1))
theorem wc_place_J55 {p : Program} {l : Launch} {e : Env} {R : Room} {s : State} {m : MethodId} {args : Array Value} {below : List Frame} {meth : Method} {c : Code} {K : tm_K} (cx : tm_C p l R s m args meth c K cX1_place 2 RX1 "place" none 8 142) (σ : tm_S) (ls : Array Slot) (hl : tm_has 0 ls 2 [(0, tm_rv K 0)]) : tm_J p l e R s m args below meth c K tm_xC 0 (fc_place_J55 σ) σ (F0 m 55 ls []) := by
  unfold fc_place_J55
  refine tm_aload_n cx dX1_place_55 (tm_has_at hl 0 rfl) ?_
  refine tm_callV (n := 0) cx (cc_undo K l (tm_hst cx)) (lw_V q855 q857 qs39 q95 q858) ⟨rfl, by decide +kernel, by decide +kernel, by decide +kernel⟩ rfl tm_cd_X1 (fun h => (tm_hC_0 h).1) ⟨Nat.le_of_ble_eq_true rfl, Nat.le_of_ble_eq_true rfl⟩ rfl (Nat.le_of_ble_eq_true rfl) hl.1.1 dX1_place_56 (fun u56 σ56 q56 => ?_)
  show tm_J p l e R s m args below meth c K tm_xC 0 _ _ (F0 m 59 ls [])
  refine tm_aload_n cx dX1_place_59 (tm_has_at hl 0 rfl) ?_
  refine tm_dup_r cx dX1_place_60 ?_
  refine tg_X1_127 cx dX1_place_61 (fun q61 => ?_)
  refine tm_iconst cx dX1_place_64 ?_
  refine tm_isub cx dX1_place_65 (fun q65 => ?_)
  refine tp_X1_127 cx q65 dX1_place_66 ?_
  refine tm_goto (tgt := 77) cx dX1_place_69 (by decide) ?_
  exact tm_vreturn cx dX1_place_77
def fc_place (a1 : Int) (σ : tm_S) : tm_R :=
  tm_bd (fc_isOf a1 1 σ) fun u2 σ2 =>
  if u2 = 0 then
    tm_bd (fc_isOf a1 2 σ2) fun u37 σ37 =>
    if u37 = 0 then
      tm_bd (fc_put a1 σ37) fun u74 σ74 =>
      tm_rt 0 σ74
    else
      if (tm_f σ37 14 0) = 0 then
        tm_bd (fc_fail 1 σ37) fun _ _ => none
      else
        fc_place_J55 σ37
  else
    if (tm_f σ2 14 0) = 30 then
      tm_bd (fc_fail 5 σ2) fun _ _ => none
    else
      tm_gi ((tm_f σ2 14 0) + 1) <|
      tm_rt 0 (tm_wf σ2 14 0 ((tm_f σ2 14 0) + 1))
theorem tm_fits_X1_place (K : tm_K) (a1 : Int) : (lg_sl [tm_rv K 0, tm_iv a1]).length ≤ 2 := (tm_sl_r _ _ _ _ (tm_sl_i _ _ _ (tm_sl_n _)))
theorem cc_place (K : tm_K) (l : Launch) (hst : l.stackTraces = false) (a1 : Int) (g1 : tm_in a1) : tm_ct K tm_xC l yX1_place cX1_place 2 none 0 [tm_rv K 0, tm_iv a1] (fc_place a1) 8 142 := by
  refine tm_ct_of hst (by decide +kernel) (Nat.le_trans (tm_fits_X1_place K a1) (Nat.le_of_ble_eq_true rfl)) ?_
  intro p e R s m args below meth c cx σ ls hl0
  have hl : tm_has 0 ls 2 [(0, tm_rv K 0), (1, tm_iv a1)] := ⟨by
    have h9 := hl0
    simp only [tm_args_r, tm_args_i, tm_args_n, Nat.zero_add, Nat.reduceAdd] at h9
    exact h9, by
    intro q hq
    simp only [List.mem_cons, List.not_mem_nil, or_false] at hq
    rcases hq with rfl | rfl
    · exact Or.inl (tm_rv_cat K 0)
    · exact Or.inl rfl⟩
  clear hl0
  unfold fc_place
  refine tm_iload_n cx dX1_place_0 (tm_has_at hl 1 rfl) ?_
  refine tm_iconst cx dX1_place_1 ?_
  refine tm_callS (n := 2) cx (cc_isOf K l (tm_hst cx) a1 g1 1 (by decide)) (lw_S q811 q812 q95 q813) ⟨by decide +kernel, by decide +kernel, by decide +kernel⟩ rfl ⟨Nat.le_of_ble_eq_true rfl, Nat.le_of_ble_eq_true rfl⟩ rfl (Nat.le_of_ble_eq_true rfl) hl.1.1 dX1_place_2 (fun u2 σ2 q2 => ?_)
  show tm_J p l e R s m args below meth c K tm_xC 0 _ _ (F0 m 5 ls [tm_iv u2])
  refine tm_if_eq (tgt := 35) cx q2 dX1_place_5 (by decide) (fun c5 => ?_) (fun c5 => ?_)
  · refine tm_iload_n cx dX1_place_35 (tm_has_at hl 1 rfl) ?_
    refine tm_iconst cx dX1_place_36 ?_
    refine tm_callS (n := 2) cx (cc_isOf K l (tm_hst cx) a1 g1 2 (by decide)) (lw_S q811 q812 q95 q813) ⟨by decide +kernel, by decide +kernel, by decide +kernel⟩ rfl ⟨Nat.le_of_ble_eq_true rfl, Nat.le_of_ble_eq_true rfl⟩ rfl (Nat.le_of_ble_eq_true rfl) hl.1.1 dX1_place_37 (fun u37 σ37 q37 => ?_)
    show tm_J p l e R s m args below meth c K tm_xC 0 _ _ (F0 m 40 ls [tm_iv u37])
    refine tm_if_eq (tgt := 72) cx q37 dX1_place_40 (by decide) (fun c40 => ?_) (fun c40 => ?_)
    · refine tm_aload_n cx dX1_place_72 (tm_has_at hl 0 rfl) ?_
      refine tm_iload_n cx dX1_place_73 (tm_has_at hl 1 rfl) ?_
      refine tm_callV (n := 1) cx (cc_put K l (tm_hst cx) a1 g1) (lw_V q859 q861 qs40 q95 q862) ⟨rfl, by decide +kernel, by decide +kernel, by decide +kernel⟩ rfl tm_cd_X1 (fun h => (tm_hC_0 h).1) ⟨Nat.le_of_ble_eq_true rfl, Nat.le_of_ble_eq_true rfl⟩ rfl (Nat.le_of_ble_eq_true rfl) hl.1.1 dX1_place_74 (fun u74 σ74 q74 => ?_)
      show tm_J p l e R s m args below meth c K tm_xC 0 _ _ (F0 m 77 ls [])
      exact tm_vreturn cx dX1_place_77
    · refine tm_aload_n cx dX1_place_43 (tm_has_at hl 0 rfl) ?_
      refine tg_X1_127 cx dX1_place_44 (fun q44 => ?_)
      refine tm_if_ne (tgt := 55) cx q44 dX1_place_47 (by decide) (fun c47 => ?_) (fun c47 => ?_)
      · refine tm_aload_n cx dX1_place_50 (tm_has_at hl 0 rfl) ?_
        refine tm_iconst cx dX1_place_51 ?_
        refine tm_callV (n := 1) cx (cc_fail K l (tm_hst cx) 1 (by decide)) (lw_V q580 q582 qs10 q95 q583) ⟨rfl, by decide +kernel, by decide +kernel, by decide +kernel⟩ rfl tm_cd_X1 (fun h => (tm_hC_0 h).1) ⟨Nat.le_of_ble_eq_true rfl, Nat.le_of_ble_eq_true rfl⟩ rfl (Nat.le_of_ble_eq_true rfl) hl.1.1 dX1_place_52 (fun _ _ _ => ?_)
        exact tm_none
      · exact wc_place_J55 cx _ _ (tm_has_sub hl [0] rfl)
  · refine tm_aload_n cx dX1_place_8 (tm_has_at hl 0 rfl) ?_
    refine tg_X1_127 cx dX1_place_9 (fun q9 => ?_)
    refine tm_bipush cx dX1_place_12 (by decide) ?_
    refine tm_icmp_ne (tgt := 22) cx q9 (by decide) dX1_place_14 (by decide) (fun c14 => ?_) (fun c14 => ?_)
    · refine tm_aload_n cx dX1_place_17 (tm_has_at hl 0 rfl) ?_
      refine tm_iconst cx dX1_place_18 ?_
      refine tm_callV (n := 1) cx (cc_fail K l (tm_hst cx) 5 (by decide)) (lw_V q580 q582 qs10 q95 q583) ⟨rfl, by decide +kernel, by decide +kernel, by decide +kernel⟩ rfl tm_cd_X1 (fun h => (tm_hC_0 h).1) ⟨Nat.le_of_ble_eq_true rfl, Nat.le_of_ble_eq_true rfl⟩ rfl (Nat.le_of_ble_eq_true rfl) hl.1.1 dX1_place_19 (fun _ _ _ => ?_)
      exact tm_none
    · refine tm_aload_n cx dX1_place_22 (tm_has_at hl 0 rfl) ?_
      refine tm_dup_r cx dX1_place_23 ?_
      refine tg_X1_127 cx dX1_place_24 (fun q24 => ?_)
      refine tm_iconst cx dX1_place_27 ?_
      refine tm_iadd cx dX1_place_28 (fun q28 => ?_)
      refine tp_X1_127 cx q28 dX1_place_29 ?_
      refine tm_goto (tgt := 77) cx dX1_place_32 (by decide) ?_
      exact tm_vreturn cx dX1_place_77
def fc_need (σ : tm_S) : tm_R :=
  tm_bd (fc_get σ) fun u1 σ1 =>
  if u1 = (-1) then
    tm_bd (fc_fail 3 σ1) fun _ _ => none
  else
    tm_rt u1 σ1
theorem tm_fits_X1_need (K : tm_K) : (lg_sl [tm_rv K 0]).length ≤ 1 := (tm_sl_r _ _ _ _ (tm_sl_n _))
theorem cc_need (K : tm_K) (l : Launch) (hst : l.stackTraces = false) : tm_ct K tm_xC l yX1_need cX1_need 2 (some .int) 1 [tm_rv K 0] (fc_need) 12 299 := by
  refine tm_ct_of hst (by decide +kernel) (Nat.le_trans (tm_fits_X1_need K) (Nat.le_of_ble_eq_true rfl)) ?_
  intro p e R s m args below meth c cx σ ls hl0
  have hl : tm_has 0 ls 2 [(0, tm_rv K 0)] := ⟨by
    have h9 := hl0
    simp only [tm_args_r, tm_args_n, Nat.zero_add, Nat.reduceAdd] at h9
    exact h9, by
    intro q hq
    simp only [List.mem_cons, List.not_mem_nil, or_false] at hq
    rcases hq with rfl
    · exact Or.inl (tm_rv_cat K 0)⟩
  clear hl0
  unfold fc_need
  refine tm_aload_n cx dX1_need_0 (tm_has_at hl 0 rfl) ?_
  refine tm_callV (n := 0) cx (cc_get K l (tm_hst cx)) (lw_V q568 q570 qs7 q95 q571) ⟨rfl, by decide +kernel, by decide +kernel, by decide +kernel⟩ rfl tm_cd_X1 (fun h => (tm_hC_0 h).1) ⟨Nat.le_of_ble_eq_true rfl, Nat.le_of_ble_eq_true rfl⟩ rfl (Nat.le_of_ble_eq_true rfl) hl.1.1 dX1_need_1 (fun u1 σ1 q1 => ?_)
  show tm_J p l e R s m args below meth c K tm_xC 1 _ _ (F0 m 4 ls [tm_iv u1])
  refine tm_istore_n (lv' := [(1, tm_iv u1), (0, tm_rv K 0)]) cx dX1_need_4 hl (by decide) (by decide) rfl (fun ls hl => ?_)
  refine tm_iload_n cx dX1_need_5 (tm_has_at hl 0 rfl) ?_
  refine tm_iconst cx dX1_need_6 ?_
  refine tm_icmp_ne (tgt := 15) cx q1 (by decide) dX1_need_7 (by decide) (fun c7 => ?_) (fun c7 => ?_)
  · refine tm_aload_n cx dX1_need_10 (tm_has_at hl 1 rfl) ?_
    refine tm_iconst cx dX1_need_11 ?_
    refine tm_callV (n := 1) cx (cc_fail K l (tm_hst cx) 3 (by decide)) (lw_V q580 q582 qs10 q95 q583) ⟨rfl, by decide +kernel, by decide +kernel, by decide +kernel⟩ rfl tm_cd_X1 (fun h => (tm_hC_0 h).1) ⟨Nat.le_of_ble_eq_true rfl, Nat.le_of_ble_eq_true rfl⟩ rfl (Nat.le_of_ble_eq_true rfl) hl.1.1 dX1_need_12 (fun _ _ _ => ?_)
    exact tm_none
  · refine tm_iload_n cx dX1_need_15 (tm_has_at hl 0 rfl) ?_
    exact tm_ireturn cx q1 dX1_need_16
def fc_neededName_J17 (v1 : Int) (σ : tm_S) : tm_R :=
  tm_bd (fc_nameOf v1 σ) fun u19 σ19 =>
  tm_rt u19 σ19
theorem wc_neededName_J17 {p : Program} {l : Launch} {e : Env} {R : Room} {s : State} {m : MethodId} {args : Array Value} {below : List Frame} {meth : Method} {c : Code} {K : tm_K} (cx : tm_C p l R s m args meth c K cX1_neededName 2 RX1 "neededName" (some (.object "TokenMouth$Name")) 13 320) (v1 : Int) (σ : tm_S) (ls : Array Slot) (g1 : tm_in v1) (hl : tm_has 0 ls 2 [(0, tm_rv K 0), (1, tm_iv v1)]) : tm_J p l e R s m args below meth c K tm_xC 2 (fc_neededName_J17 v1 σ) σ (F0 m 17 ls []) := by
  unfold fc_neededName_J17
  refine tm_aload_n cx dX1_neededName_17 (tm_has_at hl 0 rfl) ?_
  refine tm_iload_n cx dX1_neededName_18 (tm_has_at hl 1 rfl) ?_
  refine tm_callV (n := 1) cx (cc_nameOf K l (tm_hst cx) v1 g1) (lw_V q613 q615 qs16 q95 q616) ⟨rfl, by decide +kernel, by decide +kernel, by decide +kernel⟩ rfl tm_cd_X1 (fun h => (tm_hC_0 h).1) ⟨Nat.le_of_ble_eq_true rfl, Nat.le_of_ble_eq_true rfl⟩ rfl (Nat.le_of_ble_eq_true rfl) hl.1.1 dX1_neededName_19 (fun u19 σ19 q19 => ?_)
  show tm_J p l e R s m args below meth c K tm_xC 2 _ _ (F0 m 22 ls [tm_rv K u19])
  exact tm_areturn cx ⟨_, rfl, Or.inl ⟨_, rfl⟩⟩ q19 dX1_neededName_22
def fc_neededName (σ : tm_S) : tm_R :=
  tm_bd (fc_need σ) fun u1 σ1 =>
  tm_bd (fc_isCharacter u1 σ1) fun u6 σ6 =>
  if u6 = 0 then
    fc_neededName_J17 u1 σ6
  else
    tm_bd (fc_fail 4 σ6) fun _ _ => none
theorem tm_fits_X1_neededName (K : tm_K) : (lg_sl [tm_rv K 0]).length ≤ 1 := (tm_sl_r _ _ _ _ (tm_sl_n _))
theorem cc_neededName (K : tm_K) (l : Launch) (hst : l.stackTraces = false) : tm_ct K tm_xC l yX1_neededName cX1_neededName 2 (some (.object "TokenMouth$Name")) 2 [tm_rv K 0] (fc_neededName) 13 320 := by
  refine tm_ct_of hst (by decide +kernel) (Nat.le_trans (tm_fits_X1_neededName K) (Nat.le_of_ble_eq_true rfl)) ?_
  intro p e R s m args below meth c cx σ ls hl0
  have hl : tm_has 0 ls 2 [(0, tm_rv K 0)] := ⟨by
    have h9 := hl0
    simp only [tm_args_r, tm_args_n, Nat.zero_add, Nat.reduceAdd] at h9
    exact h9, by
    intro q hq
    simp only [List.mem_cons, List.not_mem_nil, or_false] at hq
    rcases hq with rfl
    · exact Or.inl (tm_rv_cat K 0)⟩
  clear hl0
  unfold fc_neededName
  refine tm_aload_n cx dX1_neededName_0 (tm_has_at hl 0 rfl) ?_
  refine tm_callV (n := 0) cx (cc_need K l (tm_hst cx)) (lw_V q686 q688 qs19 q95 q689) ⟨rfl, by decide +kernel, by decide +kernel, by decide +kernel⟩ rfl tm_cd_X1 (fun h => (tm_hC_0 h).1) ⟨Nat.le_of_ble_eq_true rfl, Nat.le_of_ble_eq_true rfl⟩ rfl (Nat.le_of_ble_eq_true rfl) hl.1.1 dX1_neededName_1 (fun u1 σ1 q1 => ?_)
  show tm_J p l e R s m args below meth c K tm_xC 2 _ _ (F0 m 4 ls [tm_iv u1])
  refine tm_istore_n (lv' := [(1, tm_iv u1), (0, tm_rv K 0)]) cx dX1_neededName_4 hl (by decide) (by decide) rfl (fun ls hl => ?_)
  refine tm_iload_n cx dX1_neededName_5 (tm_has_at hl 0 rfl) ?_
  refine tm_callS (n := 1) cx (cc_isCharacter K l (tm_hst cx) u1 q1) (lw_S q708 q709 q95 q710) ⟨by decide +kernel, by decide +kernel, by decide +kernel⟩ rfl ⟨Nat.le_of_ble_eq_true rfl, Nat.le_of_ble_eq_true rfl⟩ rfl (Nat.le_of_ble_eq_true rfl) hl.1.1 dX1_neededName_6 (fun u6 σ6 q6 => ?_)
  show tm_J p l e R s m args below meth c K tm_xC 2 _ _ (F0 m 9 ls [tm_iv u6])
  refine tm_if_eq (tgt := 17) cx q6 dX1_neededName_9 (by decide) (fun c9 => ?_) (fun c9 => ?_)
  · exact wc_neededName_J17 cx u1 _ _ q1 (tm_has_sub hl [1, 0] rfl)
  · refine tm_aload_n cx dX1_neededName_12 (tm_has_at hl 1 rfl) ?_
    refine tm_iconst cx dX1_neededName_13 ?_
    refine tm_callV (n := 1) cx (cc_fail K l (tm_hst cx) 4 (by decide)) (lw_V q580 q582 qs10 q95 q583) ⟨rfl, by decide +kernel, by decide +kernel, by decide +kernel⟩ rfl tm_cd_X1 (fun h => (tm_hC_0 h).1) ⟨Nat.le_of_ble_eq_true rfl, Nat.le_of_ble_eq_true rfl⟩ rfl (Nat.le_of_ble_eq_true rfl) hl.1.1 dX1_neededName_14 (fun _ _ _ => ?_)
    exact tm_none
def fc_plain (a1 : Int) (σ : tm_S) : tm_R :=
  if a1 < 4096 then
    tm_rt a1 σ
  else
    tm_rt (a1 - a1 % 2) σ
theorem tm_fits_X1_plain (K : tm_K) (a1 : Int) : (lg_sl [tm_iv a1]).length ≤ 1 := (tm_sl_i _ _ _ (tm_sl_n _))
theorem cc_plain (K : tm_K) (l : Launch) (hst : l.stackTraces = false) (a1 : Int) (g1 : tm_in a1) : tm_ct K tm_xC l yX1_plain cX1_plain 1 (some .int) 1 [tm_iv a1] (fc_plain a1) 0 0 := by
  refine tm_ct_of hst (by decide +kernel) (Nat.le_trans (tm_fits_X1_plain K a1) (Nat.le_of_ble_eq_true rfl)) ?_
  intro p e R s m args below meth c cx σ ls hl0
  have hl : tm_has 0 ls 1 [(0, tm_iv a1)] := ⟨by
    have h9 := hl0
    simp only [tm_args_i, tm_args_n, Nat.zero_add, Nat.reduceAdd] at h9
    exact h9, by
    intro q hq
    simp only [List.mem_cons, List.not_mem_nil, or_false] at hq
    rcases hq with rfl
    · exact Or.inl rfl⟩
  clear hl0
  unfold fc_plain
  refine tm_iload_n cx dX1_plain_0 (tm_has_at hl 0 rfl) ?_
  refine tm_sipush cx dX1_plain_1 (by decide) ?_
  refine tm_icmp_lt (tgt := 14) cx g1 (by decide) dX1_plain_4 (by decide) (fun c4 => ?_) (fun c4 => ?_)
  · refine tm_iload_n cx dX1_plain_14 (tm_has_at hl 0 rfl) ?_
    exact tm_ireturn cx g1 dX1_plain_15
  · refine tm_iload_n cx dX1_plain_7 (tm_has_at hl 0 rfl) ?_
    refine tm_bipush cx dX1_plain_8 (by decide) ?_
    refine tm_iandm2 cx g1 dX1_plain_10 (fun q10 => ?_)
    refine tm_goto (tgt := 15) cx dX1_plain_11 (by decide) ?_
    exact tm_ireturn cx q10 dX1_plain_15
def fc_X3_add (a0 : Int) (a1 : Int) (a2 : Int) (σ : tm_S) : tm_R :=
  tm_gk (tm_k σ a0) 3 <|
  if (tm_f σ 129 a0) = a2 then
    tm_rt 0 σ
  else
    tm_bd (fc_plain a1 σ) fun u19 σ19 =>
    tm_gs u19 <|
    tm_gk (tm_k σ19 (tm_f σ 128 a0)) 21 <|
    tm_gx (tm_f σ 129 a0) (tm_n σ19 (tm_f σ 128 a0)) <|
    tm_gs u19 <|
    tm_gk (tm_k (tm_wa σ19 (tm_f σ 128 a0) (tm_f σ 129 a0) u19) a0) 3 <|
    tm_gi ((tm_f (tm_wa σ19 (tm_f σ 128 a0) (tm_f σ 129 a0) u19) 129 a0) + 1) <|
    tm_rt 1 (tm_wf (tm_wa σ19 (tm_f σ 128 a0) (tm_f σ 129 a0) u19) 129 a0 ((tm_f (tm_wa σ19 (tm_f σ 128 a0) (tm_f σ 129 a0) u19) 129 a0) + 1))
theorem tm_fits_X3_add (K : tm_K) (a0 : Int) (a1 : Int) (a2 : Int) : (lg_sl [tm_rv K a0, tm_iv a1, tm_iv a2]).length ≤ 3 := (tm_sl_r _ _ _ _ (tm_sl_i _ _ _ (tm_sl_i _ _ _ (tm_sl_n _))))
theorem cc_X3_add (K : tm_K) (l : Launch) (hst : l.stackTraces = false) (a0 : Int) (g0 : tm_in a0) (a1 : Int) (g1 : tm_in a1) (a2 : Int) (g2 : tm_in a2) : tm_ct K tm_xC l yX3_add cX3_add 3 (some .boolean) 1 [tm_rv K a0, tm_iv a1, tm_iv a2] (fc_X3_add a0 a1 a2) 1 20 := by
  refine tm_ct_of hst (by decide +kernel) (Nat.le_trans (tm_fits_X3_add K a0 a1 a2) (Nat.le_of_ble_eq_true rfl)) ?_
  intro p e R s m args below meth c cx σ ls hl0
  have hl : tm_has 0 ls 3 [(0, tm_rv K a0), (1, tm_iv a1), (2, tm_iv a2)] := ⟨by
    have h9 := hl0
    simp only [tm_args_r, tm_args_i, tm_args_i, tm_args_n, Nat.zero_add, Nat.reduceAdd] at h9
    exact h9, by
    intro q hq
    simp only [List.mem_cons, List.not_mem_nil, or_false] at hq
    rcases hq with rfl | rfl | rfl
    · exact Or.inl (tm_rv_cat K a0)
    · exact Or.inl rfl
    · exact Or.inl rfl⟩
  clear hl0
  unfold fc_X3_add
  refine tm_aload_n cx dX3_add_0 (tm_has_at hl 0 rfl) ?_
  refine tm_gk_ (fun k1 => ?_)
  refine tg_X3_13 cx (fun _ => k1) dX3_add_1 (fun q1 => ?_)
  refine tm_iload_n cx dX3_add_4 (tm_has_at hl 2 rfl) ?_
  refine tm_icmp_ne (tgt := 10) cx q1 g2 dX3_add_5 (by decide) (fun c5 => ?_) (fun c5 => ?_)
  · refine tm_iconst cx dX3_add_8 ?_
    exact tm_zreturn cx (by decide) dX3_add_9
  · refine tm_aload_n cx dX3_add_10 (tm_has_at hl 0 rfl) ?_
    refine tg_X3_7 cx (fun _ => k1) dX3_add_11 (fun q11 => ?_)
    refine tm_aload_n cx dX3_add_14 (tm_has_at hl 0 rfl) ?_
    refine tg_X3_13 cx (fun _ => k1) dX3_add_15 (fun q15 => ?_)
    refine tm_iload_n cx dX3_add_18 (tm_has_at hl 1 rfl) ?_
    refine tm_callSN (n := 1) (host := "TokenMouth") cx (cc_plain K l (tm_hst cx) a1 g1) q797 q95 q796 (List.mem_of_getElem? (i := 9) rfl) ⟨by decide +kernel, by decide +kernel, by decide +kernel⟩ rfl ⟨Nat.le_of_ble_eq_true rfl, Nat.le_of_ble_eq_true rfl⟩ rfl (Nat.le_of_ble_eq_true rfl) hl.1.1 dX3_add_19 (fun u19 σ19 q19 => ?_)
    show tm_J p l e R s m args below meth c K tm_xC 1 _ _ (F0 m 22 ls [tm_iv u19, tm_iv (tm_f σ 129 a0), tm_rv K (tm_f σ 128 a0)])
    refine tm_i2s cx dX3_add_22 ?_
    refine tm_gk_ (fun k23 => ?_)
    refine tm_sast cx tm_famC (fun _ => ⟨k23, rfl⟩) q15 q19 dX3_add_23 ?_
    refine tm_aload_n cx dX3_add_24 (tm_has_at hl 0 rfl) ?_
    refine tm_dup_r cx dX3_add_25 ?_
    refine tm_gk_ (fun k26 => ?_)
    refine tg_X3_13 cx (fun _ => k26) dX3_add_26 (fun q26 => ?_)
    refine tm_iconst cx dX3_add_29 ?_
    refine tm_iadd cx dX3_add_30 (fun q30 => ?_)
    refine tp_X3_13 cx (fun _ => k26) q30 dX3_add_31 ?_
    refine tm_iconst cx dX3_add_34 ?_
    exact tm_zreturn cx (by decide) dX3_add_35
def fc_headOf_J103 (r15 : Int → Int → tm_S → tm_R) (v1 : Int) (σ : tm_S) : tm_R :=
  tm_bd (fc_need σ) fun u104 σ104 =>
  r15 v1 u104 σ104
theorem wc_headOf_J103 {p : Program} {l : Launch} {e : Env} {R : Room} {s : State} {m : MethodId} {args : Array Value} {below : List Frame} {meth : Method} {c : Code} {K : tm_K} {r15 : Int → Int → tm_S → tm_R} (cx : tm_C p l R s m args meth c K cX1_headOf 4 RX1 "headOf" (some .int) 13 320) (h15 : ∀ (v1 : Int) (v2 : Int) (τ : tm_S) (ls : Array Slot), tm_in v1 → tm_in v2 → tm_has 0 ls 4 [(0, tm_rv K 0), (1, tm_iv v1), (2, tm_iv v2)] → tm_J p l e R s m args below meth c K tm_xC 1 (r15 v1 v2 τ) τ (F0 m 15 ls [])) (v1 : Int) (σ : tm_S) (ls : Array Slot) (g1 : tm_in v1) (hl : tm_has 0 ls 4 [(0, tm_rv K 0), (1, tm_iv v1)]) : tm_J p l e R s m args below meth c K tm_xC 1 (fc_headOf_J103 r15 v1 σ) σ (F0 m 103 ls []) := by
  unfold fc_headOf_J103
  refine tm_aload_n cx dX1_headOf_103 (tm_has_at hl 0 rfl) ?_
  refine tm_callV (n := 0) cx (cc_need K l (tm_hst cx)) (lw_V q686 q688 qs19 q95 q689) ⟨rfl, by decide +kernel, by decide +kernel, by decide +kernel⟩ rfl tm_cd_X1 (fun h => (tm_hC_0 h).1) ⟨Nat.le_of_ble_eq_true rfl, Nat.le_of_ble_eq_true rfl⟩ rfl (Nat.le_of_ble_eq_true rfl) hl.1.1 dX1_headOf_104 (fun u104 σ104 q104 => ?_)
  show tm_J p l e R s m args below meth c K tm_xC 1 _ _ (F0 m 107 ls [tm_iv u104])
  refine tm_istore_n (lv' := [(2, tm_iv u104), (0, tm_rv K 0), (1, tm_iv v1)]) cx dX1_headOf_107 hl (by decide) (by decide) rfl (fun ls hl => ?_)
  refine tm_goto (tgt := 15) cx dX1_headOf_108 (by decide) ?_
  exact h15 v1 u104 _ _ g1 q104 (tm_has_sub hl [1, 2, 0] rfl)
def fc_headOf_J85 (r15 : Int → Int → tm_S → tm_R) (v1 : Int) (v2 : Int) (σ : tm_S) : tm_R :=
  tm_bd (fc_X3_add 124 v2 12 σ) fun u92 σ92 =>
  if u92 = 0 then
    tm_bd (fc_fail 5 σ92) fun _ _ => none
  else
    fc_headOf_J103 r15 v1 σ92
theorem wc_headOf_J85 {p : Program} {l : Launch} {e : Env} {R : Room} {s : State} {m : MethodId} {args : Array Value} {below : List Frame} {meth : Method} {c : Code} {K : tm_K} {r15 : Int → Int → tm_S → tm_R} (cx : tm_C p l R s m args meth c K cX1_headOf 4 RX1 "headOf" (some .int) 13 320) (h15 : ∀ (v1 : Int) (v2 : Int) (τ : tm_S) (ls : Array Slot), tm_in v1 → tm_in v2 → tm_has 0 ls 4 [(0, tm_rv K 0), (1, tm_iv v1), (2, tm_iv v2)] → tm_J p l e R s m args below meth c K tm_xC 1 (r15 v1 v2 τ) τ (F0 m 15 ls [])) (v1 : Int) (v2 : Int) (σ : tm_S) (ls : Array Slot) (g1 : tm_in v1) (g2 : tm_in v2) (hl : tm_has 0 ls 4 [(0, tm_rv K 0), (1, tm_iv v1), (2, tm_iv v2)]) : tm_J p l e R s m args below meth c K tm_xC 1 (fc_headOf_J85 r15 v1 v2 σ) σ (F0 m 85 ls []) := by
  unfold fc_headOf_J85
  refine tm_aload_n cx dX1_headOf_85 (tm_has_at hl 0 rfl) ?_
  refine tg_X1_64 cx dX1_headOf_86 ?_
  refine tm_iload_n cx dX1_headOf_89 (tm_has_at hl 2 rfl) ?_
  refine tm_bipush cx dX1_headOf_90 (by decide) ?_
  refine tm_callV (n := 2) cx (cc_X3_add K l (tm_hst cx) 124 (by decide) v2 g2 12 (by decide)) (lw_V q814 q815 q816 q101 q817) ⟨rfl, by decide +kernel, by decide +kernel, by decide +kernel⟩ rfl tm_cd_X3 (fun h => (tm_hC_124 h).1) ⟨Nat.le_of_ble_eq_true rfl, Nat.le_of_ble_eq_true rfl⟩ rfl (Nat.le_of_ble_eq_true rfl) hl.1.1 dX1_headOf_92 (fun u92 σ92 q92 => ?_)
  show tm_J p l e R s m args below meth c K tm_xC 1 _ _ (F0 m 95 ls [tm_iv u92])
  refine tm_if_ne (tgt := 103) cx q92 dX1_headOf_95 (by decide) (fun c95 => ?_) (fun c95 => ?_)
  · refine tm_aload_n cx dX1_headOf_98 (tm_has_at hl 0 rfl) ?_
    refine tm_iconst cx dX1_headOf_99 ?_
    refine tm_callV (n := 1) cx (cc_fail K l (tm_hst cx) 5 (by decide)) (lw_V q580 q582 qs10 q95 q583) ⟨rfl, by decide +kernel, by decide +kernel, by decide +kernel⟩ rfl tm_cd_X1 (fun h => (tm_hC_0 h).1) ⟨Nat.le_of_ble_eq_true rfl, Nat.le_of_ble_eq_true rfl⟩ rfl (Nat.le_of_ble_eq_true rfl) hl.1.1 dX1_headOf_100 (fun _ _ _ => ?_)
    exact tm_none
  · exact wc_headOf_J103 cx h15 v1 _ _ g1 (tm_has_sub hl [0, 1] rfl)
def fc_headOf_J74 (r15 : Int → Int → tm_S → tm_R) (v1 : Int) (σ : tm_S) : tm_R :=
  tm_bd (fc_fail 4 σ) fun _ _ => none
theorem wc_headOf_J74 {p : Program} {l : Launch} {e : Env} {R : Room} {s : State} {m : MethodId} {args : Array Value} {below : List Frame} {meth : Method} {c : Code} {K : tm_K} {r15 : Int → Int → tm_S → tm_R} (cx : tm_C p l R s m args meth c K cX1_headOf 4 RX1 "headOf" (some .int) 13 320) (h15 : ∀ (v1 : Int) (v2 : Int) (τ : tm_S) (ls : Array Slot), tm_in v1 → tm_in v2 → tm_has 0 ls 4 [(0, tm_rv K 0), (1, tm_iv v1), (2, tm_iv v2)] → tm_J p l e R s m args below meth c K tm_xC 1 (r15 v1 v2 τ) τ (F0 m 15 ls [])) (v1 : Int) (σ : tm_S) (ls : Array Slot) (g1 : tm_in v1) (hl : tm_has 0 ls 4 [(0, tm_rv K 0), (1, tm_iv v1)]) : tm_J p l e R s m args below meth c K tm_xC 1 (fc_headOf_J74 r15 v1 σ) σ (F0 m 74 ls []) := by
  unfold fc_headOf_J74
  refine tm_aload_n cx dX1_headOf_74 (tm_has_at hl 0 rfl) ?_
  refine tm_iconst cx dX1_headOf_75 ?_
  refine tm_callV (n := 1) cx (cc_fail K l (tm_hst cx) 4 (by decide)) (lw_V q580 q582 qs10 q95 q583) ⟨rfl, by decide +kernel, by decide +kernel, by decide +kernel⟩ rfl tm_cd_X1 (fun h => (tm_hC_0 h).1) ⟨Nat.le_of_ble_eq_true rfl, Nat.le_of_ble_eq_true rfl⟩ rfl (Nat.le_of_ble_eq_true rfl) hl.1.1 dX1_headOf_76 (fun _ _ _ => ?_)
  exact tm_none
def fc_headOf_J36 (r15 : Int → Int → tm_S → tm_R) (v1 : Int) (v2 : Int) (σ : tm_S) : tm_R :=
  tm_bd (fc_isOf v2 6 σ) fun u39 σ39 =>
  if u39 = 0 then
    fc_headOf_J85 r15 v1 v2 σ39
  else
    tm_bd (fc_need σ39) fun u46 σ46 =>
    if v1 = 4 then
      fc_headOf_J74 r15 v1 σ46
    else
      tm_bd (fc_isCharacter u46 σ46) fun u56 σ56 =>
      if u56 = 0 then
        fc_headOf_J74 r15 v1 σ56
      else
        tm_gi (49 + v1) <|
        if (u46 % 256) = (49 + v1) then
          tm_gi (v1 + 1) <|
          tm_gi (-(v1 + 1)) <|
          tm_lt (-(v1 + 1)) fun x84 =>
          fc_headOf_J85 r15 (v1 + 1) x84 σ56
        else
          fc_headOf_J74 r15 v1 σ56
theorem wc_headOf_J36 {p : Program} {l : Launch} {e : Env} {R : Room} {s : State} {m : MethodId} {args : Array Value} {below : List Frame} {meth : Method} {c : Code} {K : tm_K} {r15 : Int → Int → tm_S → tm_R} (cx : tm_C p l R s m args meth c K cX1_headOf 4 RX1 "headOf" (some .int) 13 320) (h15 : ∀ (v1 : Int) (v2 : Int) (τ : tm_S) (ls : Array Slot), tm_in v1 → tm_in v2 → tm_has 0 ls 4 [(0, tm_rv K 0), (1, tm_iv v1), (2, tm_iv v2)] → tm_J p l e R s m args below meth c K tm_xC 1 (r15 v1 v2 τ) τ (F0 m 15 ls [])) (v1 : Int) (v2 : Int) (σ : tm_S) (ls : Array Slot) (g1 : tm_in v1) (g2 : tm_in v2) (hl : tm_has 0 ls 4 [(0, tm_rv K 0), (1, tm_iv v1), (2, tm_iv v2)]) : tm_J p l e R s m args below meth c K tm_xC 1 (fc_headOf_J36 r15 v1 v2 σ) σ (F0 m 36 ls []) := by
  unfold fc_headOf_J36
  refine tm_iload_n cx dX1_headOf_36 (tm_has_at hl 2 rfl) ?_
  refine tm_bipush cx dX1_headOf_37 (by decide) ?_
  refine tm_callS (n := 2) cx (cc_isOf K l (tm_hst cx) v2 g2 6 (by decide)) (lw_S q811 q812 q95 q813) ⟨by decide +kernel, by decide +kernel, by decide +kernel⟩ rfl ⟨Nat.le_of_ble_eq_true rfl, Nat.le_of_ble_eq_true rfl⟩ rfl (Nat.le_of_ble_eq_true rfl) hl.1.1 dX1_headOf_39 (fun u39 σ39 q39 => ?_)
  show tm_J p l e R s m args below meth c K tm_xC 1 _ _ (F0 m 42 ls [tm_iv u39])
  refine tm_if_eq (tgt := 85) cx q39 dX1_headOf_42 (by decide) (fun c42 => ?_) (fun c42 => ?_)
  · exact wc_headOf_J85 cx h15 v1 v2 _ _ g1 g2 (tm_has_sub hl [0, 1, 2] rfl)
  · refine tm_aload_n cx dX1_headOf_45 (tm_has_at hl 0 rfl) ?_
    refine tm_callV (n := 0) cx (cc_need K l (tm_hst cx)) (lw_V q686 q688 qs19 q95 q689) ⟨rfl, by decide +kernel, by decide +kernel, by decide +kernel⟩ rfl tm_cd_X1 (fun h => (tm_hC_0 h).1) ⟨Nat.le_of_ble_eq_true rfl, Nat.le_of_ble_eq_true rfl⟩ rfl (Nat.le_of_ble_eq_true rfl) hl.1.1 dX1_headOf_46 (fun u46 σ46 q46 => ?_)
    show tm_J p l e R s m args below meth c K tm_xC 1 _ _ (F0 m 49 ls [tm_iv u46])
    refine tm_istore_n (lv' := [(3, tm_iv u46), (0, tm_rv K 0), (1, tm_iv v1), (2, tm_iv v2)]) cx dX1_headOf_49 hl (by decide) (by decide) rfl (fun ls hl => ?_)
    refine tm_iload_n cx dX1_headOf_50 (tm_has_at hl 2 rfl) ?_
    refine tm_iconst cx dX1_headOf_51 ?_
    refine tm_icmp_eq (tgt := 74) cx g1 (by decide) dX1_headOf_52 (by decide) (fun c52 => ?_) (fun c52 => ?_)
    · exact wc_headOf_J74 cx h15 v1 _ _ g1 (tm_has_sub hl [1, 2] rfl)
    · refine tm_iload_n cx dX1_headOf_55 (tm_has_at hl 0 rfl) ?_
      refine tm_callS (n := 1) cx (cc_isCharacter K l (tm_hst cx) u46 q46) (lw_S q708 q709 q95 q710) ⟨by decide +kernel, by decide +kernel, by decide +kernel⟩ rfl ⟨Nat.le_of_ble_eq_true rfl, Nat.le_of_ble_eq_true rfl⟩ rfl (Nat.le_of_ble_eq_true rfl) hl.1.1 dX1_headOf_56 (fun u56 σ56 q56 => ?_)
      show tm_J p l e R s m args below meth c K tm_xC 1 _ _ (F0 m 59 ls [tm_iv u56])
      refine tm_if_eq (tgt := 74) cx q56 dX1_headOf_59 (by decide) (fun c59 => ?_) (fun c59 => ?_)
      · exact wc_headOf_J74 cx h15 v1 _ _ g1 (tm_has_sub hl [1, 2] rfl)
      · refine tm_iload_n cx dX1_headOf_62 (tm_has_at hl 0 rfl) ?_
        refine tm_sipush cx dX1_headOf_63 (by decide) ?_
        refine tm_iand255 cx q46 dX1_headOf_66 (fun q66 => ?_)
        refine tm_bipush cx dX1_headOf_67 (by decide) ?_
        refine tm_iload_n cx dX1_headOf_69 (tm_has_at hl 2 rfl) ?_
        refine tm_iadd cx dX1_headOf_70 (fun q70 => ?_)
        refine tm_icmp_eq (tgt := 79) cx q66 q70 dX1_headOf_71 (by decide) (fun c71 => ?_) (fun c71 => ?_)
        · refine tm_iinc (lv' := [(1, tm_iv (v1 + 1)), (3, tm_iv u46), (0, tm_rv K 0), (2, tm_iv v2)]) cx dX1_headOf_79 hl (j := 2) rfl (by decide) (by decide) rfl (fun q79 ls hl => ?_)
          refine tm_iload_n cx dX1_headOf_82 (tm_has_at hl 0 rfl) ?_
          refine tm_ineg cx dX1_headOf_83 (fun q83 => ?_)
          refine tm_lt_ q83 (fun x84 q84 => ?_)
          refine tm_istore_n (lv' := [(2, tm_iv x84), (1, tm_iv (v1 + 1)), (3, tm_iv u46), (0, tm_rv K 0)]) cx dX1_headOf_84 hl (by decide) (by decide) rfl (fun ls hl => ?_)
          exact wc_headOf_J85 cx h15 (v1 + 1) x84 _ _ q79 q84 (tm_has_sub hl [3, 1, 0] rfl)
        · exact wc_headOf_J74 cx h15 v1 _ _ g1 (tm_has_sub hl [1, 2] rfl)
def fc_headOf_B15 (r15 : Int → Int → tm_S → tm_R) (v1 : Int) (v2 : Int) (σ : tm_S) : tm_R :=
  tm_bd (fc_isOf v2 1 σ) fun u17 σ17 =>
  if u17 = 0 then
    tm_bd (fc_isOf v2 2 σ17) fun u25 σ25 =>
    if u25 = 0 then
      fc_headOf_J36 r15 v1 v2 σ25
    else
      tm_bd (fc_fail 1 σ25) fun _ _ => none
  else
    tm_rt v1 σ17
theorem wc_headOf_B15 {p : Program} {l : Launch} {e : Env} {R : Room} {s : State} {m : MethodId} {args : Array Value} {below : List Frame} {meth : Method} {c : Code} {K : tm_K} {r15 : Int → Int → tm_S → tm_R} (cx : tm_C p l R s m args meth c K cX1_headOf 4 RX1 "headOf" (some .int) 13 320) (h15 : ∀ (v1 : Int) (v2 : Int) (τ : tm_S) (ls : Array Slot), tm_in v1 → tm_in v2 → tm_has 0 ls 4 [(0, tm_rv K 0), (1, tm_iv v1), (2, tm_iv v2)] → tm_J p l e R s m args below meth c K tm_xC 1 (r15 v1 v2 τ) τ (F0 m 15 ls [])) (v1 : Int) (v2 : Int) (σ : tm_S) (ls : Array Slot) (g1 : tm_in v1) (g2 : tm_in v2) (hl : tm_has 0 ls 4 [(0, tm_rv K 0), (1, tm_iv v1), (2, tm_iv v2)]) : tm_J p l e R s m args below meth c K tm_xC 1 (fc_headOf_B15 r15 v1 v2 σ) σ (F0 m 15 ls []) := by
  unfold fc_headOf_B15
  refine tm_iload_n cx dX1_headOf_15 (tm_has_at hl 2 rfl) ?_
  refine tm_iconst cx dX1_headOf_16 ?_
  refine tm_callS (n := 2) cx (cc_isOf K l (tm_hst cx) v2 g2 1 (by decide)) (lw_S q811 q812 q95 q813) ⟨by decide +kernel, by decide +kernel, by decide +kernel⟩ rfl ⟨Nat.le_of_ble_eq_true rfl, Nat.le_of_ble_eq_true rfl⟩ rfl (Nat.le_of_ble_eq_true rfl) hl.1.1 dX1_headOf_17 (fun u17 σ17 q17 => ?_)
  show tm_J p l e R s m args below meth c K tm_xC 1 _ _ (F0 m 20 ls [tm_iv u17])
  refine tm_if_ne (tgt := 111) cx q17 dX1_headOf_20 (by decide) (fun c20 => ?_) (fun c20 => ?_)
  · refine tm_iload_n cx dX1_headOf_23 (tm_has_at hl 2 rfl) ?_
    refine tm_iconst cx dX1_headOf_24 ?_
    refine tm_callS (n := 2) cx (cc_isOf K l (tm_hst cx) v2 g2 2 (by decide)) (lw_S q811 q812 q95 q813) ⟨by decide +kernel, by decide +kernel, by decide +kernel⟩ rfl ⟨Nat.le_of_ble_eq_true rfl, Nat.le_of_ble_eq_true rfl⟩ rfl (Nat.le_of_ble_eq_true rfl) hl.1.1 dX1_headOf_25 (fun u25 σ25 q25 => ?_)
    show tm_J p l e R s m args below meth c K tm_xC 1 _ _ (F0 m 28 ls [tm_iv u25])
    refine tm_if_eq (tgt := 36) cx q25 dX1_headOf_28 (by decide) (fun c28 => ?_) (fun c28 => ?_)
    · exact wc_headOf_J36 cx h15 v1 v2 _ _ g1 g2 (tm_has_sub hl [0, 1, 2] rfl)
    · refine tm_aload_n cx dX1_headOf_31 (tm_has_at hl 0 rfl) ?_
      refine tm_iconst cx dX1_headOf_32 ?_
      refine tm_callV (n := 1) cx (cc_fail K l (tm_hst cx) 1 (by decide)) (lw_V q580 q582 qs10 q95 q583) ⟨rfl, by decide +kernel, by decide +kernel, by decide +kernel⟩ rfl tm_cd_X1 (fun h => (tm_hC_0 h).1) ⟨Nat.le_of_ble_eq_true rfl, Nat.le_of_ble_eq_true rfl⟩ rfl (Nat.le_of_ble_eq_true rfl) hl.1.1 dX1_headOf_33 (fun _ _ _ => ?_)
      exact tm_none
  · refine tm_iload_n cx dX1_headOf_111 (tm_has_at hl 1 rfl) ?_
    exact tm_ireturn cx g1 dX1_headOf_112
def fc_headOf_L15 : Nat → Int → Int → tm_S → tm_R
  | 0, _, _, _ => none
  | n + 1, v1, v2, σ => fc_headOf_B15 (fc_headOf_L15 n) v1 v2 σ
theorem wc_headOf_L15 {p : Program} {l : Launch} {e : Env} {R : Room} {s : State} {m : MethodId} {args : Array Value} {below : List Frame} {meth : Method} {c : Code} {K : tm_K} (cx : tm_C p l R s m args meth c K cX1_headOf 4 RX1 "headOf" (some .int) 13 320) : ∀ (n : Nat) (v1 : Int) (v2 : Int) (σ : tm_S) (ls : Array Slot), tm_in v1 → tm_in v2 → tm_has 0 ls 4 [(0, tm_rv K 0), (1, tm_iv v1), (2, tm_iv v2)] → tm_J p l e R s m args below meth c K tm_xC 1 (fc_headOf_L15 n v1 v2 σ) σ (F0 m 15 ls []) := by
  intro n
  induction n with
  | zero => intros; exact tm_none
  | succ n ih =>
    intro v1 v2 σ ls g1 g2 hl
    exact wc_headOf_B15 (r15 := fc_headOf_L15 n) cx ih v1 v2 σ ls g1 g2 hl
def fc_headOf (σ : tm_S) : tm_R :=
  tm_bd (fc_need (tm_wf σ 129 124 0)) fun u11 σ11 =>
  fc_headOf_L15 tm_FU 0 u11 σ11
theorem tm_fits_X1_headOf (K : tm_K) : (lg_sl [tm_rv K 0]).length ≤ 1 := (tm_sl_r _ _ _ _ (tm_sl_n _))
theorem cc_headOf (K : tm_K) (l : Launch) (hst : l.stackTraces = false) : tm_ct K tm_xC l yX1_headOf cX1_headOf 4 (some .int) 1 [tm_rv K 0] (fc_headOf) 13 320 := by
  refine tm_ct_of hst (by decide +kernel) (Nat.le_trans (tm_fits_X1_headOf K) (Nat.le_of_ble_eq_true rfl)) ?_
  intro p e R s m args below meth c cx σ ls hl0
  have hl : tm_has 0 ls 4 [(0, tm_rv K 0)] := ⟨by
    have h9 := hl0
    simp only [tm_args_r, tm_args_n, Nat.zero_add, Nat.reduceAdd] at h9
    exact h9, by
    intro q hq
    simp only [List.mem_cons, List.not_mem_nil, or_false] at hq
    rcases hq with rfl
    · exact Or.inl (tm_rv_cat K 0)⟩
  clear hl0
  unfold fc_headOf
  refine tm_aload_n cx dX1_headOf_0 (tm_has_at hl 0 rfl) ?_
  refine tg_X1_64 cx dX1_headOf_1 ?_
  refine tm_iconst cx dX1_headOf_4 ?_
  refine tp_X1_265 cx (fun h => (tm_hC_124 h).1) (by decide) dX1_headOf_5 ?_
  refine tm_iconst cx dX1_headOf_8 ?_
  refine tm_istore_n (lv' := [(1, tm_iv 0), (0, tm_rv K 0)]) cx dX1_headOf_9 hl (by decide) (by decide) rfl (fun ls hl => ?_)
  refine tm_aload_n cx dX1_headOf_10 (tm_has_at hl 1 rfl) ?_
  refine tm_callV (n := 0) cx (cc_need K l (tm_hst cx)) (lw_V q686 q688 qs19 q95 q689) ⟨rfl, by decide +kernel, by decide +kernel, by decide +kernel⟩ rfl tm_cd_X1 (fun h => (tm_hC_0 h).1) ⟨Nat.le_of_ble_eq_true rfl, Nat.le_of_ble_eq_true rfl⟩ rfl (Nat.le_of_ble_eq_true rfl) hl.1.1 dX1_headOf_11 (fun u11 σ11 q11 => ?_)
  show tm_J p l e R s m args below meth c K tm_xC 1 _ _ (F0 m 14 ls [tm_iv u11])
  refine tm_istore_n (lv' := [(2, tm_iv u11), (1, tm_iv 0), (0, tm_rv K 0)]) cx dX1_headOf_14 hl (by decide) (by decide) rfl (fun ls hl => ?_)
  exact wc_headOf_L15 cx tm_FU 0 u11 _ _ (by decide) q11 (tm_has_sub hl [2, 1, 0] rfl)
def fc_levelOf (a1 : Int) (σ : tm_S) : tm_R :=
  tm_bd (fc_isOf a1 1 σ) fun u2 σ2 =>
  if u2 = 0 then
    tm_bd (fc_isOf a1 2 σ2) fun u14 σ14 =>
    if u14 = 0 then
      tm_rt 0 σ14
    else
      tm_rt (-1) σ14
  else
    tm_rt 1 σ2
theorem tm_fits_X1_levelOf (K : tm_K) (a1 : Int) : (lg_sl [tm_iv a1]).length ≤ 1 := (tm_sl_i _ _ _ (tm_sl_n _))
theorem cc_levelOf (K : tm_K) (l : Launch) (hst : l.stackTraces = false) (a1 : Int) (g1 : tm_in a1) : tm_ct K tm_xC l yX1_levelOf cX1_levelOf 1 (some .int) 1 [tm_iv a1] (fc_levelOf a1) 2 41 := by
  refine tm_ct_of hst (by decide +kernel) (Nat.le_trans (tm_fits_X1_levelOf K a1) (Nat.le_of_ble_eq_true rfl)) ?_
  intro p e R s m args below meth c cx σ ls hl0
  have hl : tm_has 0 ls 1 [(0, tm_iv a1)] := ⟨by
    have h9 := hl0
    simp only [tm_args_i, tm_args_n, Nat.zero_add, Nat.reduceAdd] at h9
    exact h9, by
    intro q hq
    simp only [List.mem_cons, List.not_mem_nil, or_false] at hq
    rcases hq with rfl
    · exact Or.inl rfl⟩
  clear hl0
  unfold fc_levelOf
  refine tm_iload_n cx dX1_levelOf_0 (tm_has_at hl 0 rfl) ?_
  refine tm_iconst cx dX1_levelOf_1 ?_
  refine tm_callS (n := 2) cx (cc_isOf K l (tm_hst cx) a1 g1 1 (by decide)) (lw_S q811 q812 q95 q813) ⟨by decide +kernel, by decide +kernel, by decide +kernel⟩ rfl ⟨Nat.le_of_ble_eq_true rfl, Nat.le_of_ble_eq_true rfl⟩ rfl (Nat.le_of_ble_eq_true rfl) hl.1.1 dX1_levelOf_2 (fun u2 σ2 q2 => ?_)
  show tm_J p l e R s m args below meth c K tm_xC 1 _ _ (F0 m 5 ls [tm_iv u2])
  refine tm_if_eq (tgt := 12) cx q2 dX1_levelOf_5 (by decide) (fun c5 => ?_) (fun c5 => ?_)
  · refine tm_iload_n cx dX1_levelOf_12 (tm_has_at hl 0 rfl) ?_
    refine tm_iconst cx dX1_levelOf_13 ?_
    refine tm_callS (n := 2) cx (cc_isOf K l (tm_hst cx) a1 g1 2 (by decide)) (lw_S q811 q812 q95 q813) ⟨by decide +kernel, by decide +kernel, by decide +kernel⟩ rfl ⟨Nat.le_of_ble_eq_true rfl, Nat.le_of_ble_eq_true rfl⟩ rfl (Nat.le_of_ble_eq_true rfl) hl.1.1 dX1_levelOf_14 (fun u14 σ14 q14 => ?_)
    show tm_J p l e R s m args below meth c K tm_xC 1 _ _ (F0 m 17 ls [tm_iv u14])
    refine tm_if_eq (tgt := 24) cx q14 dX1_levelOf_17 (by decide) (fun c17 => ?_) (fun c17 => ?_)
    · refine tm_iconst cx dX1_levelOf_24 ?_
      exact tm_ireturn cx (by decide) dX1_levelOf_25
    · refine tm_iconst cx dX1_levelOf_20 ?_
      refine tm_goto (tgt := 25) cx dX1_levelOf_21 (by decide) ?_
      exact tm_ireturn cx (by decide) dX1_levelOf_25
  · refine tm_iconst cx dX1_levelOf_8 ?_
    refine tm_goto (tgt := 25) cx dX1_levelOf_9 (by decide) ?_
    exact tm_ireturn cx (by decide) dX1_levelOf_25
def fc_behindHash_J41 (v3 : Int) (σ : tm_S) : tm_R :=
  tm_bd (fc_fail 4 σ) fun _ _ => none
theorem wc_behindHash_J41 {p : Program} {l : Launch} {e : Env} {R : Room} {s : State} {m : MethodId} {args : Array Value} {below : List Frame} {meth : Method} {c : Code} {K : tm_K} (cx : tm_C p l R s m args meth c K cX1_behindHash 4 RX1 "behindHash" (some .int) 7 121) (v3 : Int) (σ : tm_S) (ls : Array Slot) (g3 : tm_in v3) (hl : tm_has 0 ls 4 [(0, tm_rv K 0), (3, tm_iv v3)]) : tm_J p l e R s m args below meth c K tm_xC 1 (fc_behindHash_J41 v3 σ) σ (F0 m 41 ls []) := by
  unfold fc_behindHash_J41
  refine tm_aload_n cx dX1_behindHash_41 (tm_has_at hl 0 rfl) ?_
  refine tm_iconst cx dX1_behindHash_42 ?_
  refine tm_callV (n := 1) cx (cc_fail K l (tm_hst cx) 4 (by decide)) (lw_V q580 q582 qs10 q95 q583) ⟨rfl, by decide +kernel, by decide +kernel, by decide +kernel⟩ rfl tm_cd_X1 (fun h => (tm_hC_0 h).1) ⟨Nat.le_of_ble_eq_true rfl, Nat.le_of_ble_eq_true rfl⟩ rfl (Nat.le_of_ble_eq_true rfl) hl.1.1 dX1_behindHash_43 (fun _ _ _ => ?_)
  exact tm_none
def fc_behindHash_J30 (v2 : Int) (vs0 : Int) (σ : tm_S) : tm_R :=
  if vs0 < 1 then
    fc_behindHash_J41 vs0 σ
  else
    if v2 < vs0 then
      fc_behindHash_J41 vs0 σ
    else
      tm_gi (-vs0) <|
      tm_rt (-vs0) σ
theorem wc_behindHash_J30 {p : Program} {l : Launch} {e : Env} {R : Room} {s : State} {m : MethodId} {args : Array Value} {below : List Frame} {meth : Method} {c : Code} {K : tm_K} (cx : tm_C p l R s m args meth c K cX1_behindHash 4 RX1 "behindHash" (some .int) 7 121) (v2 : Int) (vs0 : Int) (σ : tm_S) (ls : Array Slot) (g2 : tm_in v2) (gs0 : tm_in vs0) (hl : tm_has 0 ls 4 [(0, tm_rv K 0), (2, tm_iv v2)]) : tm_J p l e R s m args below meth c K tm_xC 1 (fc_behindHash_J30 v2 vs0 σ) σ (F0 m 30 ls [tm_iv vs0]) := by
  unfold fc_behindHash_J30
  refine tm_istore_n (lv' := [(3, tm_iv vs0), (0, tm_rv K 0), (2, tm_iv v2)]) cx dX1_behindHash_30 hl (by decide) (by decide) rfl (fun ls hl => ?_)
  refine tm_iload_n cx dX1_behindHash_31 (tm_has_at hl 0 rfl) ?_
  refine tm_iconst cx dX1_behindHash_32 ?_
  refine tm_icmp_lt (tgt := 41) cx gs0 (by decide) dX1_behindHash_33 (by decide) (fun c33 => ?_) (fun c33 => ?_)
  · exact wc_behindHash_J41 cx vs0 _ _ gs0 (tm_has_sub hl [1, 0] rfl)
  · refine tm_iload_n cx dX1_behindHash_36 (tm_has_at hl 0 rfl) ?_
    refine tm_iload_n cx dX1_behindHash_37 (tm_has_at hl 2 rfl) ?_
    refine tm_icmp_le (tgt := 46) cx gs0 g2 dX1_behindHash_38 (by decide) (fun c38 => ?_) (fun c38 => ?_)
    · exact wc_behindHash_J41 cx vs0 _ _ gs0 (tm_has_sub hl [1, 0] rfl)
    · refine tm_iload_n cx dX1_behindHash_46 (tm_has_at hl 0 rfl) ?_
      refine tm_ineg cx dX1_behindHash_47 (fun q47 => ?_)
      exact tm_ireturn cx q47 dX1_behindHash_48
def fc_behindHash (a1 : Int) (a2 : Int) (σ : tm_S) : tm_R :=
  tm_bd (fc_isOf a1 6 σ) fun u3 σ3 =>
  if u3 = 0 then
    tm_bd (fc_isCharacter a1 σ3) fun u12 σ12 =>
    if u12 = 0 then
      fc_behindHash_J30 a2 0 σ12
    else
      tm_gi ((a1 % 256) - 48) <|
      fc_behindHash_J30 a2 ((a1 % 256) - 48) σ12
  else
    tm_rt a1 σ3
theorem tm_fits_X1_behindHash (K : tm_K) (a1 : Int) (a2 : Int) : (lg_sl [tm_rv K 0, tm_iv a1, tm_iv a2]).length ≤ 3 := (tm_sl_r _ _ _ _ (tm_sl_i _ _ _ (tm_sl_i _ _ _ (tm_sl_n _))))
theorem cc_behindHash (K : tm_K) (l : Launch) (hst : l.stackTraces = false) (a1 : Int) (g1 : tm_in a1) (a2 : Int) (g2 : tm_in a2) : tm_ct K tm_xC l yX1_behindHash cX1_behindHash 4 (some .int) 1 [tm_rv K 0, tm_iv a1, tm_iv a2] (fc_behindHash a1 a2) 7 121 := by
  refine tm_ct_of hst (by decide +kernel) (Nat.le_trans (tm_fits_X1_behindHash K a1 a2) (Nat.le_of_ble_eq_true rfl)) ?_
  intro p e R s m args below meth c cx σ ls hl0
  have hl : tm_has 0 ls 4 [(0, tm_rv K 0), (1, tm_iv a1), (2, tm_iv a2)] := ⟨by
    have h9 := hl0
    simp only [tm_args_r, tm_args_i, tm_args_i, tm_args_n, Nat.zero_add, Nat.reduceAdd] at h9
    exact h9, by
    intro q hq
    simp only [List.mem_cons, List.not_mem_nil, or_false] at hq
    rcases hq with rfl | rfl | rfl
    · exact Or.inl (tm_rv_cat K 0)
    · exact Or.inl rfl
    · exact Or.inl rfl⟩
  clear hl0
  unfold fc_behindHash
  refine tm_iload_n cx dX1_behindHash_0 (tm_has_at hl 1 rfl) ?_
  refine tm_bipush cx dX1_behindHash_1 (by decide) ?_
  refine tm_callS (n := 2) cx (cc_isOf K l (tm_hst cx) a1 g1 6 (by decide)) (lw_S q811 q812 q95 q813) ⟨by decide +kernel, by decide +kernel, by decide +kernel⟩ rfl ⟨Nat.le_of_ble_eq_true rfl, Nat.le_of_ble_eq_true rfl⟩ rfl (Nat.le_of_ble_eq_true rfl) hl.1.1 dX1_behindHash_3 (fun u3 σ3 q3 => ?_)
  show tm_J p l e R s m args below meth c K tm_xC 1 _ _ (F0 m 6 ls [tm_iv u3])
  refine tm_if_eq (tgt := 11) cx q3 dX1_behindHash_6 (by decide) (fun c6 => ?_) (fun c6 => ?_)
  · refine tm_iload_n cx dX1_behindHash_11 (tm_has_at hl 1 rfl) ?_
    refine tm_callS (n := 1) cx (cc_isCharacter K l (tm_hst cx) a1 g1) (lw_S q708 q709 q95 q710) ⟨by decide +kernel, by decide +kernel, by decide +kernel⟩ rfl ⟨Nat.le_of_ble_eq_true rfl, Nat.le_of_ble_eq_true rfl⟩ rfl (Nat.le_of_ble_eq_true rfl) hl.1.1 dX1_behindHash_12 (fun u12 σ12 q12 => ?_)
    show tm_J p l e R s m args below meth c K tm_xC 1 _ _ (F0 m 15 ls [tm_iv u12])
    refine tm_if_eq (tgt := 29) cx q12 dX1_behindHash_15 (by decide) (fun c15 => ?_) (fun c15 => ?_)
    · refine tm_iconst cx dX1_behindHash_29 ?_
      exact wc_behindHash_J30 cx a2 0 _ _ g2 (by decide) (tm_has_sub hl [0, 2] rfl)
    · refine tm_iload_n cx dX1_behindHash_18 (tm_has_at hl 1 rfl) ?_
      refine tm_sipush cx dX1_behindHash_19 (by decide) ?_
      refine tm_iand255 cx g1 dX1_behindHash_22 (fun q22 => ?_)
      refine tm_bipush cx dX1_behindHash_23 (by decide) ?_
      refine tm_isub cx dX1_behindHash_25 (fun q25 => ?_)
      refine tm_goto (tgt := 30) cx dX1_behindHash_26 (by decide) ?_
      exact wc_behindHash_J30 cx a2 ((a1 % 256) - 48) _ _ g2 q25 (tm_has_sub hl [0, 2] rfl)
  · refine tm_iload_n cx dX1_behindHash_9 (tm_has_at hl 1 rfl) ?_
    exact tm_ireturn cx g1 dX1_behindHash_10
