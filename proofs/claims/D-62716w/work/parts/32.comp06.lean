set_option maxRecDepth 100000
def fc_X3_endsWith_B24 (r24 : Int → Int → Int → Int → Int → Int → tm_S → tm_R) (v0 : Int) (v1 : Int) (v2 : Int) (v4 : Int) (v5 : Int) (v6 : Int) (σ : tm_S) : tm_R :=
  if v6 < v4 then
    if v5 = 0 then
      tm_gz v5 (tm_rt v5 σ)
    else
      tm_gk (tm_k σ v0) 3 <|
      tm_gi ((tm_f σ 129 v0) - v4) <|
      tm_gi (((tm_f σ 129 v0) - v4) + v6) <|
      tm_gk (tm_k σ (tm_f σ 128 v0)) 21 <|
      tm_gx (((tm_f σ 129 v0) - v4) + v6) (tm_n σ (tm_f σ 128 v0)) <|
      tm_gi (v2 + v6) <|
      tm_gk (tm_k σ v1) 21 <|
      tm_gx (v2 + v6) (tm_n σ v1) <|
      if (tm_a σ (tm_f σ 128 v0) (((tm_f σ 129 v0) - v4) + v6)) = (tm_a σ v1 (v2 + v6)) then
        tm_gi (v6 + 1) <|
        r24 v0 v1 v2 v4 1 (v6 + 1) σ
      else
        tm_gi (v6 + 1) <|
        r24 v0 v1 v2 v4 0 (v6 + 1) σ
  else
    tm_gz v5 (tm_rt v5 σ)
theorem wc_X3_endsWith_B24 {p : Program} {l : Launch} {e : Env} {R : Room} {s : State} {m : MethodId} {args : Array Value} {below : List Frame} {meth : Method} {c : Code} {K : tm_K} {r24 : Int → Int → Int → Int → Int → Int → tm_S → tm_R} (cx : tm_C p l R s m args meth c K cX3_endsWith 7 RX3 "endsWith" (some .boolean) 0 0) (h24 : ∀ (v0 : Int) (v1 : Int) (v2 : Int) (v4 : Int) (v5 : Int) (v6 : Int) (τ : tm_S) (ls : Array Slot), tm_in v0 → tm_in v1 → tm_in v2 → tm_in v4 → tm_in v5 → tm_in v6 → tm_has 0 ls 7 [(0, tm_rv K v0), (1, tm_rv K v1), (2, tm_iv v2), (4, tm_iv v4), (5, tm_iv v5), (6, tm_iv v6)] → tm_J p l e R s m args below meth c K tm_xC 1 (r24 v0 v1 v2 v4 v5 v6 τ) τ (F0 m 24 ls [])) (v0 : Int) (v1 : Int) (v2 : Int) (v4 : Int) (v5 : Int) (v6 : Int) (σ : tm_S) (ls : Array Slot) (g0 : tm_in v0) (g1 : tm_in v1) (g2 : tm_in v2) (g4 : tm_in v4) (g5 : tm_in v5) (g6 : tm_in v6) (hl : tm_has 0 ls 7 [(0, tm_rv K v0), (1, tm_rv K v1), (2, tm_iv v2), (4, tm_iv v4), (5, tm_iv v5), (6, tm_iv v6)]) : tm_J p l e R s m args below meth c K tm_xC 1 (fc_X3_endsWith_B24 r24 v0 v1 v2 v4 v5 v6 σ) σ (F0 m 24 ls []) := by
  unfold fc_X3_endsWith_B24
  refine tm_iload cx dX3_endsWith_24 (tm_has_at hl 5 rfl) ?_
  refine tm_iload cx dX3_endsWith_26 (tm_has_at hl 3 rfl) ?_
  refine tm_icmp_ge (tgt := 73) cx g6 g4 dX3_endsWith_28 (by decide) (fun c28 => ?_) (fun c28 => ?_)
  · refine tm_iload cx dX3_endsWith_31 (tm_has_at hl 4 rfl) ?_
    refine tm_if_eq (tgt := 73) cx g5 dX3_endsWith_33 (by decide) (fun c33 => ?_) (fun c33 => ?_)
    · refine tm_iload cx dX3_endsWith_73 (tm_has_at hl 4 rfl) ?_
      exact tm_zreturnG cx dX3_endsWith_75
    · refine tm_aload_n cx dX3_endsWith_36 (tm_has_at hl 0 rfl) ?_
      refine tm_gk_ (fun k37 => ?_)
      refine tg_X3_7 cx (fun _ => k37) dX3_endsWith_37 (fun q37 => ?_)
      refine tm_aload_n cx dX3_endsWith_40 (tm_has_at hl 0 rfl) ?_
      refine tg_X3_13 cx (fun _ => k37) dX3_endsWith_41 (fun q41 => ?_)
      refine tm_iload cx dX3_endsWith_44 (tm_has_at hl 3 rfl) ?_
      refine tm_isub cx dX3_endsWith_46 (fun q46 => ?_)
      refine tm_iload cx dX3_endsWith_47 (tm_has_at hl 5 rfl) ?_
      refine tm_iadd cx dX3_endsWith_49 (fun q49 => ?_)
      refine tm_gk_ (fun k50 => ?_)
      refine tm_sald cx (fun _ => ⟨k50, rfl⟩) q49 dX3_endsWith_50 (fun i50 q50 => ?_)
      refine tm_aload_n cx dX3_endsWith_51 (tm_has_at hl 1 rfl) ?_
      refine tm_iload_n cx dX3_endsWith_52 (tm_has_at hl 2 rfl) ?_
      refine tm_iload cx dX3_endsWith_53 (tm_has_at hl 5 rfl) ?_
      refine tm_iadd cx dX3_endsWith_55 (fun q55 => ?_)
      refine tm_gk_ (fun k56 => ?_)
      refine tm_sald cx (fun _ => ⟨k56, rfl⟩) q55 dX3_endsWith_56 (fun i56 q56 => ?_)
      refine tm_icmp_ne (tgt := 64) cx q50 q56 dX3_endsWith_57 (by decide) (fun c57 => ?_) (fun c57 => ?_)
      · refine tm_iconst cx dX3_endsWith_60 ?_
        refine tm_goto (tgt := 65) cx dX3_endsWith_61 (by decide) ?_
        refine tm_istore (lv' := [(5, tm_iv 1), (0, tm_rv K v0), (1, tm_rv K v1), (2, tm_iv v2), (4, tm_iv v4), (6, tm_iv v6)]) cx dX3_endsWith_65 hl (by decide) (by decide) rfl (fun ls hl => ?_)
        refine tm_iinc (lv' := [(6, tm_iv (v6 + 1)), (5, tm_iv 1), (0, tm_rv K v0), (1, tm_rv K v1), (2, tm_iv v2), (4, tm_iv v4)]) cx dX3_endsWith_67 hl (j := 5) rfl (by decide) (by decide) rfl (fun q67 ls hl => ?_)
        refine tm_goto (tgt := 24) cx dX3_endsWith_70 (by decide) ?_
        exact h24 v0 v1 v2 v4 1 (v6 + 1) _ _ g0 g1 g2 g4 (by decide) q67 (tm_has_sub hl [2, 3, 4, 5, 1, 0] rfl)
      · refine tm_iconst cx dX3_endsWith_64 ?_
        refine tm_istore (lv' := [(5, tm_iv 0), (0, tm_rv K v0), (1, tm_rv K v1), (2, tm_iv v2), (4, tm_iv v4), (6, tm_iv v6)]) cx dX3_endsWith_65 hl (by decide) (by decide) rfl (fun ls hl => ?_)
        refine tm_iinc (lv' := [(6, tm_iv (v6 + 1)), (5, tm_iv 0), (0, tm_rv K v0), (1, tm_rv K v1), (2, tm_iv v2), (4, tm_iv v4)]) cx dX3_endsWith_67 hl (j := 5) rfl (by decide) (by decide) rfl (fun q67 ls hl => ?_)
        refine tm_goto (tgt := 24) cx dX3_endsWith_70 (by decide) ?_
        exact h24 v0 v1 v2 v4 0 (v6 + 1) _ _ g0 g1 g2 g4 (by decide) q67 (tm_has_sub hl [2, 3, 4, 5, 1, 0] rfl)
  · refine tm_iload cx dX3_endsWith_73 (tm_has_at hl 4 rfl) ?_
    exact tm_zreturnG cx dX3_endsWith_75
def fc_X3_endsWith_L24 : Nat → Int → Int → Int → Int → Int → Int → tm_S → tm_R
  | 0, _, _, _, _, _, _, _ => none
  | n + 1, v0, v1, v2, v4, v5, v6, σ => fc_X3_endsWith_B24 (fc_X3_endsWith_L24 n) v0 v1 v2 v4 v5 v6 σ
theorem wc_X3_endsWith_L24 {p : Program} {l : Launch} {e : Env} {R : Room} {s : State} {m : MethodId} {args : Array Value} {below : List Frame} {meth : Method} {c : Code} {K : tm_K} (cx : tm_C p l R s m args meth c K cX3_endsWith 7 RX3 "endsWith" (some .boolean) 0 0) : ∀ (n : Nat) (v0 : Int) (v1 : Int) (v2 : Int) (v4 : Int) (v5 : Int) (v6 : Int) (σ : tm_S) (ls : Array Slot), tm_in v0 → tm_in v1 → tm_in v2 → tm_in v4 → tm_in v5 → tm_in v6 → tm_has 0 ls 7 [(0, tm_rv K v0), (1, tm_rv K v1), (2, tm_iv v2), (4, tm_iv v4), (5, tm_iv v5), (6, tm_iv v6)] → tm_J p l e R s m args below meth c K tm_xC 1 (fc_X3_endsWith_L24 n v0 v1 v2 v4 v5 v6 σ) σ (F0 m 24 ls []) := by
  intro n
  induction n with
  | zero => intros; exact tm_none
  | succ n ih =>
    intro v0 v1 v2 v4 v5 v6 σ ls g0 g1 g2 g4 g5 g6 hl
    exact wc_X3_endsWith_B24 (r24 := fc_X3_endsWith_L24 n) cx ih v0 v1 v2 v4 v5 v6 σ ls g0 g1 g2 g4 g5 g6 hl
def fc_X3_endsWith (a0 : Int) (a1 : Int) (a2 : Int) (a3 : Int) (σ : tm_S) : tm_R :=
  tm_gi (a3 - a2) <|
  tm_lt (a3 - a2) fun x3 =>
  tm_gk (tm_k σ a0) 3 <|
  if (tm_f σ 129 a0) < x3 then
    fc_X3_endsWith_L24 tm_FU a0 a1 a2 x3 0 0 σ
  else
    fc_X3_endsWith_L24 tm_FU a0 a1 a2 x3 1 0 σ
theorem tm_fits_X3_endsWith (K : tm_K) (a0 : Int) (a1 : Int) (a2 : Int) (a3 : Int) : (lg_sl [tm_rv K a0, tm_rv K a1, tm_iv a2, tm_iv a3]).length ≤ 4 := (tm_sl_r _ _ _ _ (tm_sl_r _ _ _ _ (tm_sl_i _ _ _ (tm_sl_i _ _ _ (tm_sl_n _)))))
theorem cc_X3_endsWith (K : tm_K) (l : Launch) (hst : l.stackTraces = false) (a0 : Int) (g0 : tm_in a0) (a1 : Int) (g1 : tm_in a1) (a2 : Int) (g2 : tm_in a2) (a3 : Int) (g3 : tm_in a3) : tm_ct K tm_xC l yX3_endsWith cX3_endsWith 7 (some .boolean) 1 [tm_rv K a0, tm_rv K a1, tm_iv a2, tm_iv a3] (fc_X3_endsWith a0 a1 a2 a3) 0 0 := by
  refine tm_ct_of hst (by decide +kernel) (Nat.le_trans (tm_fits_X3_endsWith K a0 a1 a2 a3) (Nat.le_of_ble_eq_true rfl)) ?_
  intro p e R s m args below meth c cx σ ls hl0
  have hl : tm_has 0 ls 7 [(0, tm_rv K a0), (1, tm_rv K a1), (2, tm_iv a2), (3, tm_iv a3)] := ⟨by
    have h9 := hl0
    simp only [tm_args_r, tm_args_r, tm_args_i, tm_args_i, tm_args_n, Nat.zero_add, Nat.reduceAdd] at h9
    exact h9, by
    intro q hq
    simp only [List.mem_cons, List.not_mem_nil, or_false] at hq
    rcases hq with rfl | rfl | rfl | rfl
    · exact Or.inl (tm_rv_cat K a0)
    · exact Or.inl (tm_rv_cat K a1)
    · exact Or.inl rfl
    · exact Or.inl rfl⟩
  clear hl0
  unfold fc_X3_endsWith
  refine tm_iload_n cx dX3_endsWith_0 (tm_has_at hl 3 rfl) ?_
  refine tm_iload_n cx dX3_endsWith_1 (tm_has_at hl 2 rfl) ?_
  refine tm_isub cx dX3_endsWith_2 (fun q2 => ?_)
  refine tm_lt_ q2 (fun x3 q3 => ?_)
  refine tm_istore (lv' := [(4, tm_iv x3), (0, tm_rv K a0), (1, tm_rv K a1), (2, tm_iv a2), (3, tm_iv a3)]) cx dX3_endsWith_3 hl (by decide) (by decide) rfl (fun ls hl => ?_)
  refine tm_aload_n cx dX3_endsWith_5 (tm_has_at hl 1 rfl) ?_
  refine tm_gk_ (fun k6 => ?_)
  refine tg_X3_13 cx (fun _ => k6) dX3_endsWith_6 (fun q6 => ?_)
  refine tm_iload cx dX3_endsWith_9 (tm_has_at hl 0 rfl) ?_
  refine tm_icmp_lt (tgt := 18) cx q6 q3 dX3_endsWith_11 (by decide) (fun c11 => ?_) (fun c11 => ?_)
  · refine tm_iconst cx dX3_endsWith_18 ?_
    refine tm_istore (lv' := [(5, tm_iv 0), (4, tm_iv x3), (0, tm_rv K a0), (1, tm_rv K a1), (2, tm_iv a2), (3, tm_iv a3)]) cx dX3_endsWith_19 hl (by decide) (by decide) rfl (fun ls hl => ?_)
    refine tm_iconst cx dX3_endsWith_21 ?_
    refine tm_istore (lv' := [(6, tm_iv 0), (5, tm_iv 0), (4, tm_iv x3), (0, tm_rv K a0), (1, tm_rv K a1), (2, tm_iv a2), (3, tm_iv a3)]) cx dX3_endsWith_22 hl (by decide) (by decide) rfl (fun ls hl => ?_)
    exact wc_X3_endsWith_L24 cx tm_FU a0 a1 a2 x3 0 0 _ _ g0 g1 g2 q3 (by decide) (by decide) (tm_has_sub hl [3, 4, 5, 2, 1, 0] rfl)
  · refine tm_iconst cx dX3_endsWith_14 ?_
    refine tm_goto (tgt := 19) cx dX3_endsWith_15 (by decide) ?_
    refine tm_istore (lv' := [(5, tm_iv 1), (4, tm_iv x3), (0, tm_rv K a0), (1, tm_rv K a1), (2, tm_iv a2), (3, tm_iv a3)]) cx dX3_endsWith_19 hl (by decide) (by decide) rfl (fun ls hl => ?_)
    refine tm_iconst cx dX3_endsWith_21 ?_
    refine tm_istore (lv' := [(6, tm_iv 0), (5, tm_iv 1), (4, tm_iv x3), (0, tm_rv K a0), (1, tm_rv K a1), (2, tm_iv a2), (3, tm_iv a3)]) cx dX3_endsWith_22 hl (by decide) (by decide) rfl (fun ls hl => ?_)
    exact wc_X3_endsWith_L24 cx tm_FU a0 a1 a2 x3 1 0 _ _ g0 g1 g2 q3 (by decide) (by decide) (tm_has_sub hl [3, 4, 5, 2, 1, 0] rfl)
def fc_X3_isGroup_B4 (r4 : Int → Int → Int → tm_S → tm_R) (v0 : Int) (v1 : Int) (v2 : Int) (σ : tm_S) : tm_R :=
  tm_gk (tm_k σ v0) 3 <|
  if v2 < (tm_f σ 129 v0) then
    tm_gk (tm_k σ (tm_f σ 128 v0)) 21 <|
    tm_gx v2 (tm_n σ (tm_f σ 128 v0)) <|
    tm_bd (fc_levelOf (tm_a σ (tm_f σ 128 v0) v2) σ) fun u19 σ19 =>
    tm_gi (v1 + u19) <|
    tm_lt (v1 + u19) fun x23 =>
    if x23 = 0 then
      if 0 < v2 then
        tm_gk (tm_k σ19 v0) 3 <|
        tm_gi ((tm_f σ19 129 v0) - 1) <|
        if v2 = ((tm_f σ19 129 v0) - 1) then
          tm_rt 1 σ19
        else
          tm_rt 0 σ19
      else
        tm_rt 0 σ19
    else
      tm_gi (v2 + 1) <|
      r4 v0 x23 (v2 + 1) σ19
  else
    tm_rt 0 σ
theorem wc_X3_isGroup_B4 {p : Program} {l : Launch} {e : Env} {R : Room} {s : State} {m : MethodId} {args : Array Value} {below : List Frame} {meth : Method} {c : Code} {K : tm_K} {r4 : Int → Int → Int → tm_S → tm_R} (cx : tm_C p l R s m args meth c K cX3_isGroup 3 RX3 "isGroup" (some .boolean) 3 61) (h4 : ∀ (v0 : Int) (v1 : Int) (v2 : Int) (τ : tm_S) (ls : Array Slot), tm_in v0 → tm_in v1 → tm_in v2 → tm_has 0 ls 3 [(0, tm_rv K v0), (1, tm_iv v1), (2, tm_iv v2)] → tm_J p l e R s m args below meth c K tm_xC 1 (r4 v0 v1 v2 τ) τ (F0 m 4 ls [])) (v0 : Int) (v1 : Int) (v2 : Int) (σ : tm_S) (ls : Array Slot) (g0 : tm_in v0) (g1 : tm_in v1) (g2 : tm_in v2) (hl : tm_has 0 ls 3 [(0, tm_rv K v0), (1, tm_iv v1), (2, tm_iv v2)]) : tm_J p l e R s m args below meth c K tm_xC 1 (fc_X3_isGroup_B4 r4 v0 v1 v2 σ) σ (F0 m 4 ls []) := by
  unfold fc_X3_isGroup_B4
  refine tm_iload_n cx dX3_isGroup_4 (tm_has_at hl 2 rfl) ?_
  refine tm_aload_n cx dX3_isGroup_5 (tm_has_at hl 0 rfl) ?_
  refine tm_gk_ (fun k6 => ?_)
  refine tg_X3_13 cx (fun _ => k6) dX3_isGroup_6 (fun q6 => ?_)
  refine tm_icmp_ge (tgt := 54) cx g2 q6 dX3_isGroup_9 (by decide) (fun c9 => ?_) (fun c9 => ?_)
  · refine tm_iload_n cx dX3_isGroup_12 (tm_has_at hl 1 rfl) ?_
    refine tm_aload_n cx dX3_isGroup_13 (tm_has_at hl 0 rfl) ?_
    refine tg_X3_7 cx (fun _ => k6) dX3_isGroup_14 (fun q14 => ?_)
    refine tm_iload_n cx dX3_isGroup_17 (tm_has_at hl 2 rfl) ?_
    refine tm_gk_ (fun k18 => ?_)
    refine tm_sald cx (fun _ => ⟨k18, rfl⟩) g2 dX3_isGroup_18 (fun i18 q18 => ?_)
    refine tm_callSN (n := 1) (host := "TokenMouth") cx (cc_levelOf K l (tm_hst cx) (tm_a σ (tm_f σ 128 v0) v2) q18) q810 q95 q809 (List.mem_of_getElem? (i := 10) rfl) ⟨by decide +kernel, by decide +kernel, by decide +kernel⟩ rfl ⟨Nat.le_of_ble_eq_true rfl, Nat.le_of_ble_eq_true rfl⟩ rfl (Nat.le_of_ble_eq_true rfl) hl.1.1 dX3_isGroup_19 (fun u19 σ19 q19 => ?_)
    show tm_J p l e R s m args below meth c K tm_xC 1 _ _ (F0 m 22 ls [tm_iv u19, tm_iv v1])
    refine tm_iadd cx dX3_isGroup_22 (fun q22 => ?_)
    refine tm_lt_ q22 (fun x23 q23 => ?_)
    refine tm_istore_n (lv' := [(1, tm_iv x23), (0, tm_rv K v0), (2, tm_iv v2)]) cx dX3_isGroup_23 hl (by decide) (by decide) rfl (fun ls hl => ?_)
    refine tm_iload_n cx dX3_isGroup_24 (tm_has_at hl 0 rfl) ?_
    refine tm_if_ne (tgt := 48) cx q23 dX3_isGroup_25 (by decide) (fun c25 => ?_) (fun c25 => ?_)
    · refine tm_iload_n cx dX3_isGroup_28 (tm_has_at hl 2 rfl) ?_
      refine tm_if_le (tgt := 46) cx g2 dX3_isGroup_29 (by decide) (fun c29 => ?_) (fun c29 => ?_)
      · refine tm_iload_n cx dX3_isGroup_32 (tm_has_at hl 2 rfl) ?_
        refine tm_aload_n cx dX3_isGroup_33 (tm_has_at hl 1 rfl) ?_
        refine tm_gk_ (fun k34 => ?_)
        refine tg_X3_13 cx (fun _ => k34) dX3_isGroup_34 (fun q34 => ?_)
        refine tm_iconst cx dX3_isGroup_37 ?_
        refine tm_isub cx dX3_isGroup_38 (fun q38 => ?_)
        refine tm_icmp_ne (tgt := 46) cx g2 q38 dX3_isGroup_39 (by decide) (fun c39 => ?_) (fun c39 => ?_)
        · refine tm_iconst cx dX3_isGroup_42 ?_
          refine tm_goto (tgt := 47) cx dX3_isGroup_43 (by decide) ?_
          exact tm_zreturn cx (by decide) dX3_isGroup_47
        · refine tm_iconst cx dX3_isGroup_46 ?_
          exact tm_zreturn cx (by decide) dX3_isGroup_47
      · refine tm_iconst cx dX3_isGroup_46 ?_
        exact tm_zreturn cx (by decide) dX3_isGroup_47
    · refine tm_iinc (lv' := [(2, tm_iv (v2 + 1)), (1, tm_iv x23), (0, tm_rv K v0)]) cx dX3_isGroup_48 hl (j := 2) rfl (by decide) (by decide) rfl (fun q48 ls hl => ?_)
      refine tm_goto (tgt := 4) cx dX3_isGroup_51 (by decide) ?_
      exact h4 v0 x23 (v2 + 1) _ _ g0 q23 q48 (tm_has_sub hl [2, 1, 0] rfl)
  · refine tm_iconst cx dX3_isGroup_54 ?_
    exact tm_zreturn cx (by decide) dX3_isGroup_55
def fc_X3_isGroup_L4 : Nat → Int → Int → Int → tm_S → tm_R
  | 0, _, _, _, _ => none
  | n + 1, v0, v1, v2, σ => fc_X3_isGroup_B4 (fc_X3_isGroup_L4 n) v0 v1 v2 σ
theorem wc_X3_isGroup_L4 {p : Program} {l : Launch} {e : Env} {R : Room} {s : State} {m : MethodId} {args : Array Value} {below : List Frame} {meth : Method} {c : Code} {K : tm_K} (cx : tm_C p l R s m args meth c K cX3_isGroup 3 RX3 "isGroup" (some .boolean) 3 61) : ∀ (n : Nat) (v0 : Int) (v1 : Int) (v2 : Int) (σ : tm_S) (ls : Array Slot), tm_in v0 → tm_in v1 → tm_in v2 → tm_has 0 ls 3 [(0, tm_rv K v0), (1, tm_iv v1), (2, tm_iv v2)] → tm_J p l e R s m args below meth c K tm_xC 1 (fc_X3_isGroup_L4 n v0 v1 v2 σ) σ (F0 m 4 ls []) := by
  intro n
  induction n with
  | zero => intros; exact tm_none
  | succ n ih =>
    intro v0 v1 v2 σ ls g0 g1 g2 hl
    exact wc_X3_isGroup_B4 (r4 := fc_X3_isGroup_L4 n) cx ih v0 v1 v2 σ ls g0 g1 g2 hl
def fc_X3_isGroup (a0 : Int) (σ : tm_S) : tm_R :=
  fc_X3_isGroup_L4 tm_FU a0 0 0 σ
theorem tm_fits_X3_isGroup (K : tm_K) (a0 : Int) : (lg_sl [tm_rv K a0]).length ≤ 1 := (tm_sl_r _ _ _ _ (tm_sl_n _))
theorem cc_X3_isGroup (K : tm_K) (l : Launch) (hst : l.stackTraces = false) (a0 : Int) (g0 : tm_in a0) : tm_ct K tm_xC l yX3_isGroup cX3_isGroup 3 (some .boolean) 1 [tm_rv K a0] (fc_X3_isGroup a0) 3 61 := by
  refine tm_ct_of hst (by decide +kernel) (Nat.le_trans (tm_fits_X3_isGroup K a0) (Nat.le_of_ble_eq_true rfl)) ?_
  intro p e R s m args below meth c cx σ ls hl0
  have hl : tm_has 0 ls 3 [(0, tm_rv K a0)] := ⟨by
    have h9 := hl0
    simp only [tm_args_r, tm_args_n, Nat.zero_add, Nat.reduceAdd] at h9
    exact h9, by
    intro q hq
    simp only [List.mem_cons, List.not_mem_nil, or_false] at hq
    rcases hq with rfl
    · exact Or.inl (tm_rv_cat K a0)⟩
  clear hl0
  unfold fc_X3_isGroup
  refine tm_iconst cx dX3_isGroup_0 ?_
  refine tm_istore_n (lv' := [(1, tm_iv 0), (0, tm_rv K a0)]) cx dX3_isGroup_1 hl (by decide) (by decide) rfl (fun ls hl => ?_)
  refine tm_iconst cx dX3_isGroup_2 ?_
  refine tm_istore_n (lv' := [(2, tm_iv 0), (1, tm_iv 0), (0, tm_rv K a0)]) cx dX3_isGroup_3 hl (by decide) (by decide) rfl (fun ls hl => ?_)
  exact wc_X3_isGroup_L4 cx tm_FU a0 0 0 _ _ g0 (by decide) (by decide) (tm_has_sub hl [2, 1, 0] rfl)
def fc_X3_strip_B2 (r2 : Int → Int → tm_S → tm_R) (v0 : Int) (v1 : Int) (σ : tm_S) : tm_R :=
  tm_gk (tm_k σ v0) 3 <|
  if v1 < (tm_f σ 129 v0) then
    tm_gi (v1 - 2) <|
    tm_gi (v1 - 1) <|
    tm_gk (tm_k σ (tm_f σ 128 v0)) 21 <|
    tm_gx (v1 - 1) (tm_n σ (tm_f σ 128 v0)) <|
    tm_gx (v1 - 2) (tm_n σ (tm_f σ 128 v0)) <|
    tm_gs (tm_a σ (tm_f σ 128 v0) (v1 - 1)) <|
    tm_gi (v1 + 1) <|
    r2 v0 (v1 + 1) (tm_wa σ (tm_f σ 128 v0) (v1 - 2) (tm_a σ (tm_f σ 128 v0) (v1 - 1)))
  else
    tm_gi ((tm_f σ 129 v0) - 2) <|
    tm_rt 0 (tm_wf σ 129 v0 ((tm_f σ 129 v0) - 2))
theorem wc_X3_strip_B2 {p : Program} {l : Launch} {e : Env} {R : Room} {s : State} {m : MethodId} {args : Array Value} {below : List Frame} {meth : Method} {c : Code} {K : tm_K} {r2 : Int → Int → tm_S → tm_R} (cx : tm_C p l R s m args meth c K cX3_strip 2 RX3 "strip" none 0 0) (h2 : ∀ (v0 : Int) (v1 : Int) (τ : tm_S) (ls : Array Slot), tm_in v0 → tm_in v1 → tm_has 0 ls 2 [(0, tm_rv K v0), (1, tm_iv v1)] → tm_J p l e R s m args below meth c K tm_xC 0 (r2 v0 v1 τ) τ (F0 m 2 ls [])) (v0 : Int) (v1 : Int) (σ : tm_S) (ls : Array Slot) (g0 : tm_in v0) (g1 : tm_in v1) (hl : tm_has 0 ls 2 [(0, tm_rv K v0), (1, tm_iv v1)]) : tm_J p l e R s m args below meth c K tm_xC 0 (fc_X3_strip_B2 r2 v0 v1 σ) σ (F0 m 2 ls []) := by
  unfold fc_X3_strip_B2
  refine tm_iload_n cx dX3_strip_2 (tm_has_at hl 1 rfl) ?_
  refine tm_aload_n cx dX3_strip_3 (tm_has_at hl 0 rfl) ?_
  refine tm_gk_ (fun k4 => ?_)
  refine tg_X3_13 cx (fun _ => k4) dX3_strip_4 (fun q4 => ?_)
  refine tm_icmp_ge (tgt := 32) cx g1 q4 dX3_strip_7 (by decide) (fun c7 => ?_) (fun c7 => ?_)
  · refine tm_aload_n cx dX3_strip_10 (tm_has_at hl 0 rfl) ?_
    refine tg_X3_7 cx (fun _ => k4) dX3_strip_11 (fun q11 => ?_)
    refine tm_iload_n cx dX3_strip_14 (tm_has_at hl 1 rfl) ?_
    refine tm_iconst cx dX3_strip_15 ?_
    refine tm_isub cx dX3_strip_16 (fun q16 => ?_)
    refine tm_aload_n cx dX3_strip_17 (tm_has_at hl 0 rfl) ?_
    refine tg_X3_7 cx (fun _ => k4) dX3_strip_18 (fun q18 => ?_)
    refine tm_iload_n cx dX3_strip_21 (tm_has_at hl 1 rfl) ?_
    refine tm_iconst cx dX3_strip_22 ?_
    refine tm_isub cx dX3_strip_23 (fun q23 => ?_)
    refine tm_gk_ (fun k24 => ?_)
    refine tm_sald cx (fun _ => ⟨k24, rfl⟩) q23 dX3_strip_24 (fun i24 q24 => ?_)
    refine tm_sast cx tm_famC (fun _ => ⟨k24, rfl⟩) q16 q24 dX3_strip_25 ?_
    refine tm_iinc (lv' := [(1, tm_iv (v1 + 1)), (0, tm_rv K v0)]) cx dX3_strip_26 hl (j := 1) rfl (by decide) (by decide) rfl (fun q26 ls hl => ?_)
    refine tm_goto (tgt := 2) cx dX3_strip_29 (by decide) ?_
    exact h2 v0 (v1 + 1) _ _ g0 q26 (tm_has_sub hl [1, 0] rfl)
  · refine tm_aload_n cx dX3_strip_32 (tm_has_at hl 0 rfl) ?_
    refine tm_dup_r cx dX3_strip_33 ?_
    refine tg_X3_13 cx (fun _ => k4) dX3_strip_34 (fun q34 => ?_)
    refine tm_iconst cx dX3_strip_37 ?_
    refine tm_isub cx dX3_strip_38 (fun q38 => ?_)
    refine tp_X3_13 cx (fun _ => k4) q38 dX3_strip_39 ?_
    exact tm_vreturn cx dX3_strip_42
def fc_X3_strip_L2 : Nat → Int → Int → tm_S → tm_R
  | 0, _, _, _ => none
  | n + 1, v0, v1, σ => fc_X3_strip_B2 (fc_X3_strip_L2 n) v0 v1 σ
theorem wc_X3_strip_L2 {p : Program} {l : Launch} {e : Env} {R : Room} {s : State} {m : MethodId} {args : Array Value} {below : List Frame} {meth : Method} {c : Code} {K : tm_K} (cx : tm_C p l R s m args meth c K cX3_strip 2 RX3 "strip" none 0 0) : ∀ (n : Nat) (v0 : Int) (v1 : Int) (σ : tm_S) (ls : Array Slot), tm_in v0 → tm_in v1 → tm_has 0 ls 2 [(0, tm_rv K v0), (1, tm_iv v1)] → tm_J p l e R s m args below meth c K tm_xC 0 (fc_X3_strip_L2 n v0 v1 σ) σ (F0 m 2 ls []) := by
  intro n
  induction n with
  | zero => intros; exact tm_none
  | succ n ih =>
    intro v0 v1 σ ls g0 g1 hl
    exact wc_X3_strip_B2 (r2 := fc_X3_strip_L2 n) cx ih v0 v1 σ ls g0 g1 hl
def fc_X3_strip (a0 : Int) (σ : tm_S) : tm_R :=
  fc_X3_strip_L2 tm_FU a0 2 σ
theorem tm_fits_X3_strip (K : tm_K) (a0 : Int) : (lg_sl [tm_rv K a0]).length ≤ 1 := (tm_sl_r _ _ _ _ (tm_sl_n _))
theorem cc_X3_strip (K : tm_K) (l : Launch) (hst : l.stackTraces = false) (a0 : Int) (g0 : tm_in a0) : tm_ct K tm_xC l yX3_strip cX3_strip 2 none 0 [tm_rv K a0] (fc_X3_strip a0) 0 0 := by
  refine tm_ct_of hst (by decide +kernel) (Nat.le_trans (tm_fits_X3_strip K a0) (Nat.le_of_ble_eq_true rfl)) ?_
  intro p e R s m args below meth c cx σ ls hl0
  have hl : tm_has 0 ls 2 [(0, tm_rv K a0)] := ⟨by
    have h9 := hl0
    simp only [tm_args_r, tm_args_n, Nat.zero_add, Nat.reduceAdd] at h9
    exact h9, by
    intro q hq
    simp only [List.mem_cons, List.not_mem_nil, or_false] at hq
    rcases hq with rfl
    · exact Or.inl (tm_rv_cat K a0)⟩
  clear hl0
  unfold fc_X3_strip
  refine tm_iconst cx dX3_strip_0 ?_
  refine tm_istore_n (lv' := [(1, tm_iv 2), (0, tm_rv K a0)]) cx dX3_strip_1 hl (by decide) (by decide) rfl (fun ls hl => ?_)
  exact wc_X3_strip_L2 cx tm_FU a0 2 _ _ g0 (by decide) (tm_has_sub hl [1, 0] rfl)
def fc_delimited_J64 (r11 : Int → Int → Int → Int → Int → Int → tm_S → tm_R) (v1 : Int) (v2 : Int) (v3 : Int) (v4 : Int) (v5 : Int) (v6 : Int) (v7 : Int) (σ : tm_S) : tm_R :=
  tm_gk (tm_k σ v1) 3 <|
  tm_bd (fc_X3_add v1 v7 40 σ) fun u69 σ69 =>
  tm_gi (v6 + 1) <|
  r11 v1 v2 v3 v4 v5 (v6 + 1) σ69
theorem wc_delimited_J64 {p : Program} {l : Launch} {e : Env} {R : Room} {s : State} {m : MethodId} {args : Array Value} {below : List Frame} {meth : Method} {c : Code} {K : tm_K} {r11 : Int → Int → Int → Int → Int → Int → tm_S → tm_R} (cx : tm_C p l R s m args meth c K cX1_delimited 8 RX1 "delimited" none 14 347) (h11 : ∀ (v1 : Int) (v2 : Int) (v3 : Int) (v4 : Int) (v5 : Int) (v6 : Int) (τ : tm_S) (ls : Array Slot), tm_in v1 → tm_in v2 → tm_in v3 → tm_in v4 → tm_in v5 → tm_in v6 → tm_has 0 ls 8 [(0, tm_rv K 0), (1, tm_rv K v1), (2, tm_rv K v2), (3, tm_iv v3), (4, tm_iv v4), (5, tm_iv v5), (6, tm_iv v6)] → tm_J p l e R s m args below meth c K tm_xC 0 (r11 v1 v2 v3 v4 v5 v6 τ) τ (F0 m 11 ls [])) (v1 : Int) (v2 : Int) (v3 : Int) (v4 : Int) (v5 : Int) (v6 : Int) (v7 : Int) (σ : tm_S) (ls : Array Slot) (g1 : tm_in v1) (g2 : tm_in v2) (g3 : tm_in v3) (g4 : tm_in v4) (g5 : tm_in v5) (g6 : tm_in v6) (g7 : tm_in v7) (hl : tm_has 0 ls 8 [(0, tm_rv K 0), (1, tm_rv K v1), (2, tm_rv K v2), (3, tm_iv v3), (4, tm_iv v4), (5, tm_iv v5), (6, tm_iv v6), (7, tm_iv v7)]) : tm_J p l e R s m args below meth c K tm_xC 0 (fc_delimited_J64 r11 v1 v2 v3 v4 v5 v6 v7 σ) σ (F0 m 64 ls []) := by
  unfold fc_delimited_J64
  refine tm_aload_n cx dX1_delimited_64 (tm_has_at hl 1 rfl) ?_
  refine tm_iload cx dX1_delimited_65 (tm_has_at hl 7 rfl) ?_
  refine tm_bipush cx dX1_delimited_67 (by decide) ?_
  refine tm_gk_ (fun k69 => ?_)
  refine tm_callV (n := 2) cx (cc_X3_add K l (tm_hst cx) v1 g1 v7 g7 40 (by decide)) (lw_V q814 q815 q816 q101 q817) ⟨rfl, by decide +kernel, by decide +kernel, by decide +kernel⟩ rfl tm_cd_X3 (fun _ => k69) ⟨Nat.le_of_ble_eq_true rfl, Nat.le_of_ble_eq_true rfl⟩ rfl (Nat.le_of_ble_eq_true rfl) hl.1.1 dX1_delimited_69 (fun u69 σ69 q69 => ?_)
  show tm_J p l e R s m args below meth c K tm_xC 0 _ _ (F0 m 72 ls [tm_iv u69])
  refine tm_pop_i cx dX1_delimited_72 ?_
  refine tm_iinc (lv' := [(6, tm_iv (v6 + 1)), (0, tm_rv K 0), (1, tm_rv K v1), (2, tm_rv K v2), (3, tm_iv v3), (4, tm_iv v4), (5, tm_iv v5), (7, tm_iv v7)]) cx dX1_delimited_73 hl (j := 6) rfl (by decide) (by decide) rfl (fun q73 ls hl => ?_)
  refine tm_goto (tgt := 11) cx dX1_delimited_76 (by decide) ?_
  exact h11 v1 v2 v3 v4 v5 (v6 + 1) _ _ g1 g2 g3 g4 g5 q73 (tm_has_sub hl [1, 2, 3, 4, 5, 6, 0] rfl)
def fc_delimited_J32 (r11 : Int → Int → Int → Int → Int → Int → tm_S → tm_R) (v1 : Int) (v2 : Int) (v3 : Int) (v4 : Int) (v5 : Int) (v6 : Int) (σ : tm_S) : tm_R :=
  tm_bd (fc_argued v6 v2 v3 v4 σ) fun u39 σ39 =>
  tm_bd (fc_levelOf u39 σ39) fun u48 σ48 =>
  tm_gi (v5 + u48) <|
  tm_lt (v5 + u48) fun x52 =>
  if x52 < 0 then
    tm_bd (fc_fail 1 σ48) fun _ _ => none
  else
    fc_delimited_J64 r11 v1 v2 v3 v4 x52 v6 u39 σ48
theorem wc_delimited_J32 {p : Program} {l : Launch} {e : Env} {R : Room} {s : State} {m : MethodId} {args : Array Value} {below : List Frame} {meth : Method} {c : Code} {K : tm_K} {r11 : Int → Int → Int → Int → Int → Int → tm_S → tm_R} (cx : tm_C p l R s m args meth c K cX1_delimited 8 RX1 "delimited" none 14 347) (h11 : ∀ (v1 : Int) (v2 : Int) (v3 : Int) (v4 : Int) (v5 : Int) (v6 : Int) (τ : tm_S) (ls : Array Slot), tm_in v1 → tm_in v2 → tm_in v3 → tm_in v4 → tm_in v5 → tm_in v6 → tm_has 0 ls 8 [(0, tm_rv K 0), (1, tm_rv K v1), (2, tm_rv K v2), (3, tm_iv v3), (4, tm_iv v4), (5, tm_iv v5), (6, tm_iv v6)] → tm_J p l e R s m args below meth c K tm_xC 0 (r11 v1 v2 v3 v4 v5 v6 τ) τ (F0 m 11 ls [])) (v1 : Int) (v2 : Int) (v3 : Int) (v4 : Int) (v5 : Int) (v6 : Int) (σ : tm_S) (ls : Array Slot) (g1 : tm_in v1) (g2 : tm_in v2) (g3 : tm_in v3) (g4 : tm_in v4) (g5 : tm_in v5) (g6 : tm_in v6) (hl : tm_has 0 ls 8 [(0, tm_rv K 0), (1, tm_rv K v1), (2, tm_rv K v2), (3, tm_iv v3), (4, tm_iv v4), (5, tm_iv v5), (6, tm_iv v6)]) : tm_J p l e R s m args below meth c K tm_xC 0 (fc_delimited_J32 r11 v1 v2 v3 v4 v5 v6 σ) σ (F0 m 32 ls []) := by
  unfold fc_delimited_J32
  refine tm_aload_n cx dX1_delimited_32 (tm_has_at hl 0 rfl) ?_
  refine tm_iload cx dX1_delimited_33 (tm_has_at hl 6 rfl) ?_
  refine tm_aload_n cx dX1_delimited_35 (tm_has_at hl 2 rfl) ?_
  refine tm_iload_n cx dX1_delimited_36 (tm_has_at hl 3 rfl) ?_
  refine tm_iload cx dX1_delimited_37 (tm_has_at hl 4 rfl) ?_
  refine tm_callV (n := 4) cx (cc_argued K l (tm_hst cx) v6 g6 v2 g2 v3 g3 v4 g4) (lw_V q803 q805 qs35 q95 q806) ⟨rfl, by decide +kernel, by decide +kernel, by decide +kernel⟩ rfl tm_cd_X1 (fun h => (tm_hC_0 h).1) ⟨Nat.le_of_ble_eq_true rfl, Nat.le_of_ble_eq_true rfl⟩ rfl (Nat.le_of_ble_eq_true rfl) hl.1.1 dX1_delimited_39 (fun u39 σ39 q39 => ?_)
  show tm_J p l e R s m args below meth c K tm_xC 0 _ _ (F0 m 42 ls [tm_iv u39])
  refine tm_istore (lv' := [(7, tm_iv u39), (0, tm_rv K 0), (1, tm_rv K v1), (2, tm_rv K v2), (3, tm_iv v3), (4, tm_iv v4), (5, tm_iv v5), (6, tm_iv v6)]) cx dX1_delimited_42 hl (by decide) (by decide) rfl (fun ls hl => ?_)
  refine tm_iload cx dX1_delimited_44 (tm_has_at hl 6 rfl) ?_
  refine tm_iload cx dX1_delimited_46 (tm_has_at hl 0 rfl) ?_
  refine tm_callS (n := 1) cx (cc_levelOf K l (tm_hst cx) u39 q39) (lw_S q808 q809 q95 q810) ⟨by decide +kernel, by decide +kernel, by decide +kernel⟩ rfl ⟨Nat.le_of_ble_eq_true rfl, Nat.le_of_ble_eq_true rfl⟩ rfl (Nat.le_of_ble_eq_true rfl) hl.1.1 dX1_delimited_48 (fun u48 σ48 q48 => ?_)
  show tm_J p l e R s m args below meth c K tm_xC 0 _ _ (F0 m 51 ls [tm_iv u48, tm_iv v5])
  refine tm_iadd cx dX1_delimited_51 (fun q51 => ?_)
  refine tm_lt_ q51 (fun x52 q52 => ?_)
  refine tm_istore (lv' := [(5, tm_iv x52), (7, tm_iv u39), (0, tm_rv K 0), (1, tm_rv K v1), (2, tm_rv K v2), (3, tm_iv v3), (4, tm_iv v4), (6, tm_iv v6)]) cx dX1_delimited_52 hl (by decide) (by decide) rfl (fun ls hl => ?_)
  refine tm_iload cx dX1_delimited_54 (tm_has_at hl 0 rfl) ?_
  refine tm_if_ge (tgt := 64) cx q52 dX1_delimited_56 (by decide) (fun c56 => ?_) (fun c56 => ?_)
  · refine tm_aload_n cx dX1_delimited_59 (tm_has_at hl 2 rfl) ?_
    refine tm_iconst cx dX1_delimited_60 ?_
    refine tm_callV (n := 1) cx (cc_fail K l (tm_hst cx) 1 (by decide)) (lw_V q580 q582 qs10 q95 q583) ⟨rfl, by decide +kernel, by decide +kernel, by decide +kernel⟩ rfl tm_cd_X1 (fun h => (tm_hC_0 h).1) ⟨Nat.le_of_ble_eq_true rfl, Nat.le_of_ble_eq_true rfl⟩ rfl (Nat.le_of_ble_eq_true rfl) hl.1.1 dX1_delimited_61 (fun _ _ _ => ?_)
    exact tm_none
  · exact wc_delimited_J64 cx h11 v1 v2 v3 v4 x52 v6 u39 _ _ g1 g2 g3 g4 q52 g6 q39 (tm_has_sub hl [2, 3, 4, 5, 6, 0, 7, 1] rfl)
def fc_delimited_B11 (r11 : Int → Int → Int → Int → Int → Int → tm_S → tm_R) (v1 : Int) (v2 : Int) (v3 : Int) (v4 : Int) (v5 : Int) (v6 : Int) (σ : tm_S) : tm_R :=
  if v6 = 0 then
    fc_delimited_J32 r11 v1 v2 v3 v4 v5 v6 σ
  else
    if 0 < v5 then
      fc_delimited_J32 r11 v1 v2 v3 v4 v5 v6 σ
    else
      tm_gk (tm_k σ v1) 3 <|
      tm_bd (fc_X3_endsWith v1 v2 v3 v4 σ) fun u26 σ26 =>
      if u26 = 0 then
        fc_delimited_J32 r11 v1 v2 v3 v4 v5 v6 σ26
      else
        tm_gk (tm_k σ26 v1) 3 <|
        tm_gi (v4 - v3) <|
        tm_gi ((tm_f σ26 129 v1) - (v4 - v3)) <|
        tm_gk (tm_k (tm_wf σ26 129 v1 ((tm_f σ26 129 v1) - (v4 - v3))) v1) 3 <|
        tm_bd (fc_X3_isGroup v1 (tm_wf σ26 129 v1 ((tm_f σ26 129 v1) - (v4 - v3)))) fun u93 σ93 =>
        if u93 = 0 then
          tm_rt 0 σ93
        else
          tm_gk (tm_k σ93 v1) 3 <|
          tm_bd (fc_X3_strip v1 σ93) fun u100 σ100 =>
          tm_rt 0 σ100
theorem wc_delimited_B11 {p : Program} {l : Launch} {e : Env} {R : Room} {s : State} {m : MethodId} {args : Array Value} {below : List Frame} {meth : Method} {c : Code} {K : tm_K} {r11 : Int → Int → Int → Int → Int → Int → tm_S → tm_R} (cx : tm_C p l R s m args meth c K cX1_delimited 8 RX1 "delimited" none 14 347) (h11 : ∀ (v1 : Int) (v2 : Int) (v3 : Int) (v4 : Int) (v5 : Int) (v6 : Int) (τ : tm_S) (ls : Array Slot), tm_in v1 → tm_in v2 → tm_in v3 → tm_in v4 → tm_in v5 → tm_in v6 → tm_has 0 ls 8 [(0, tm_rv K 0), (1, tm_rv K v1), (2, tm_rv K v2), (3, tm_iv v3), (4, tm_iv v4), (5, tm_iv v5), (6, tm_iv v6)] → tm_J p l e R s m args below meth c K tm_xC 0 (r11 v1 v2 v3 v4 v5 v6 τ) τ (F0 m 11 ls [])) (v1 : Int) (v2 : Int) (v3 : Int) (v4 : Int) (v5 : Int) (v6 : Int) (σ : tm_S) (ls : Array Slot) (g1 : tm_in v1) (g2 : tm_in v2) (g3 : tm_in v3) (g4 : tm_in v4) (g5 : tm_in v5) (g6 : tm_in v6) (hl : tm_has 0 ls 8 [(0, tm_rv K 0), (1, tm_rv K v1), (2, tm_rv K v2), (3, tm_iv v3), (4, tm_iv v4), (5, tm_iv v5), (6, tm_iv v6)]) : tm_J p l e R s m args below meth c K tm_xC 0 (fc_delimited_B11 r11 v1 v2 v3 v4 v5 v6 σ) σ (F0 m 11 ls []) := by
  unfold fc_delimited_B11
  refine tm_iload cx dX1_delimited_11 (tm_has_at hl 6 rfl) ?_
  refine tm_if_eq (tgt := 32) cx g6 dX1_delimited_13 (by decide) (fun c13 => ?_) (fun c13 => ?_)
  · exact wc_delimited_J32 cx h11 v1 v2 v3 v4 v5 v6 _ _ g1 g2 g3 g4 g5 g6 (tm_has_sub hl [0, 1, 2, 3, 4, 5, 6] rfl)
  · refine tm_iload cx dX1_delimited_16 (tm_has_at hl 5 rfl) ?_
    refine tm_if_gt (tgt := 32) cx g5 dX1_delimited_18 (by decide) (fun c18 => ?_) (fun c18 => ?_)
    · exact wc_delimited_J32 cx h11 v1 v2 v3 v4 v5 v6 _ _ g1 g2 g3 g4 g5 g6 (tm_has_sub hl [0, 1, 2, 3, 4, 5, 6] rfl)
    · refine tm_aload_n cx dX1_delimited_21 (tm_has_at hl 1 rfl) ?_
      refine tm_aload_n cx dX1_delimited_22 (tm_has_at hl 2 rfl) ?_
      refine tm_iload_n cx dX1_delimited_23 (tm_has_at hl 3 rfl) ?_
      refine tm_iload cx dX1_delimited_24 (tm_has_at hl 4 rfl) ?_
      refine tm_gk_ (fun k26 => ?_)
      refine tm_callV (n := 3) cx (cc_X3_endsWith K l (tm_hst cx) v1 g1 v2 g2 v3 g3 v4 g4) (lw_V q823 q824 q825 q101 q826) ⟨rfl, by decide +kernel, by decide +kernel, by decide +kernel⟩ rfl tm_cd_X3 (fun _ => k26) ⟨Nat.le_of_ble_eq_true rfl, Nat.le_of_ble_eq_true rfl⟩ rfl (Nat.le_of_ble_eq_true rfl) hl.1.1 dX1_delimited_26 (fun u26 σ26 q26 => ?_)
      show tm_J p l e R s m args below meth c K tm_xC 0 _ _ (F0 m 29 ls [tm_iv u26])
      refine tm_if_ne (tgt := 79) cx q26 dX1_delimited_29 (by decide) (fun c29 => ?_) (fun c29 => ?_)
      · exact wc_delimited_J32 cx h11 v1 v2 v3 v4 v5 v6 _ _ g1 g2 g3 g4 g5 g6 (tm_has_sub hl [0, 1, 2, 3, 4, 5, 6] rfl)
      · refine tm_aload_n cx dX1_delimited_79 (tm_has_at hl 1 rfl) ?_
        refine tm_dup_r cx dX1_delimited_80 ?_
        refine tm_gk_ (fun k81 => ?_)
        refine tg_X1_265 cx (fun _ => k81) dX1_delimited_81 (fun q81 => ?_)
        refine tm_iload cx dX1_delimited_84 (tm_has_at hl 4 rfl) ?_
        refine tm_iload_n cx dX1_delimited_86 (tm_has_at hl 3 rfl) ?_
        refine tm_isub cx dX1_delimited_87 (fun q87 => ?_)
        refine tm_isub cx dX1_delimited_88 (fun q88 => ?_)
        refine tp_X1_265 cx (fun _ => k81) q88 dX1_delimited_89 ?_
        refine tm_aload_n cx dX1_delimited_92 (tm_has_at hl 1 rfl) ?_
        refine tm_gk_ (fun k93 => ?_)
        refine tm_callV (n := 0) cx (cc_X3_isGroup K l (tm_hst cx) v1 g1) (lw_V q827 q828 q829 q101 q830) ⟨rfl, by decide +kernel, by decide +kernel, by decide +kernel⟩ rfl tm_cd_X3 (fun _ => k93) ⟨Nat.le_of_ble_eq_true rfl, Nat.le_of_ble_eq_true rfl⟩ rfl (Nat.le_of_ble_eq_true rfl) hl.1.1 dX1_delimited_93 (fun u93 σ93 q93 => ?_)
        show tm_J p l e R s m args below meth c K tm_xC 0 _ _ (F0 m 96 ls [tm_iv u93])
        refine tm_if_eq (tgt := 103) cx q93 dX1_delimited_96 (by decide) (fun c96 => ?_) (fun c96 => ?_)
        · exact tm_vreturn cx dX1_delimited_103
        · refine tm_aload_n cx dX1_delimited_99 (tm_has_at hl 1 rfl) ?_
          refine tm_gk_ (fun k100 => ?_)
          refine tm_callV (n := 0) cx (cc_X3_strip K l (tm_hst cx) v1 g1) (lw_V q832 q833 q834 q101 q835) ⟨rfl, by decide +kernel, by decide +kernel, by decide +kernel⟩ rfl tm_cd_X3 (fun _ => k100) ⟨Nat.le_of_ble_eq_true rfl, Nat.le_of_ble_eq_true rfl⟩ rfl (Nat.le_of_ble_eq_true rfl) hl.1.1 dX1_delimited_100 (fun u100 σ100 q100 => ?_)
          show tm_J p l e R s m args below meth c K tm_xC 0 _ _ (F0 m 103 ls [])
          exact tm_vreturn cx dX1_delimited_103
def fc_delimited_L11 : Nat → Int → Int → Int → Int → Int → Int → tm_S → tm_R
  | 0, _, _, _, _, _, _, _ => none
  | n + 1, v1, v2, v3, v4, v5, v6, σ => fc_delimited_B11 (fc_delimited_L11 n) v1 v2 v3 v4 v5 v6 σ
theorem wc_delimited_L11 {p : Program} {l : Launch} {e : Env} {R : Room} {s : State} {m : MethodId} {args : Array Value} {below : List Frame} {meth : Method} {c : Code} {K : tm_K} (cx : tm_C p l R s m args meth c K cX1_delimited 8 RX1 "delimited" none 14 347) : ∀ (n : Nat) (v1 : Int) (v2 : Int) (v3 : Int) (v4 : Int) (v5 : Int) (v6 : Int) (σ : tm_S) (ls : Array Slot), tm_in v1 → tm_in v2 → tm_in v3 → tm_in v4 → tm_in v5 → tm_in v6 → tm_has 0 ls 8 [(0, tm_rv K 0), (1, tm_rv K v1), (2, tm_rv K v2), (3, tm_iv v3), (4, tm_iv v4), (5, tm_iv v5), (6, tm_iv v6)] → tm_J p l e R s m args below meth c K tm_xC 0 (fc_delimited_L11 n v1 v2 v3 v4 v5 v6 σ) σ (F0 m 11 ls []) := by
  intro n
  induction n with
  | zero => intros; exact tm_none
  | succ n ih =>
    intro v1 v2 v3 v4 v5 v6 σ ls g1 g2 g3 g4 g5 g6 hl
    exact wc_delimited_B11 (r11 := fc_delimited_L11 n) cx ih v1 v2 v3 v4 v5 v6 σ ls g1 g2 g3 g4 g5 g6 hl
def fc_delimited (a1 : Int) (a2 : Int) (a3 : Int) (a4 : Int) (σ : tm_S) : tm_R :=
  tm_gk (tm_k σ a1) 3 <|
  fc_delimited_L11 tm_FU a1 a2 a3 a4 0 0 (tm_wf σ 129 a1 0)
theorem tm_fits_X1_delimited (K : tm_K) (a1 : Int) (a2 : Int) (a3 : Int) (a4 : Int) : (lg_sl [tm_rv K 0, tm_rv K a1, tm_rv K a2, tm_iv a3, tm_iv a4]).length ≤ 5 := (tm_sl_r _ _ _ _ (tm_sl_r _ _ _ _ (tm_sl_r _ _ _ _ (tm_sl_i _ _ _ (tm_sl_i _ _ _ (tm_sl_n _))))))
theorem cc_delimited (K : tm_K) (l : Launch) (hst : l.stackTraces = false) (a1 : Int) (g1 : tm_in a1) (a2 : Int) (g2 : tm_in a2) (a3 : Int) (g3 : tm_in a3) (a4 : Int) (g4 : tm_in a4) : tm_ct K tm_xC l yX1_delimited cX1_delimited 8 none 0 [tm_rv K 0, tm_rv K a1, tm_rv K a2, tm_iv a3, tm_iv a4] (fc_delimited a1 a2 a3 a4) 14 347 := by
  refine tm_ct_of hst (by decide +kernel) (Nat.le_trans (tm_fits_X1_delimited K a1 a2 a3 a4) (Nat.le_of_ble_eq_true rfl)) ?_
  intro p e R s m args below meth c cx σ ls hl0
  have hl : tm_has 0 ls 8 [(0, tm_rv K 0), (1, tm_rv K a1), (2, tm_rv K a2), (3, tm_iv a3), (4, tm_iv a4)] := ⟨by
    have h9 := hl0
    simp only [tm_args_r, tm_args_r, tm_args_r, tm_args_i, tm_args_i, tm_args_n, Nat.zero_add, Nat.reduceAdd] at h9
    exact h9, by
    intro q hq
    simp only [List.mem_cons, List.not_mem_nil, or_false] at hq
    rcases hq with rfl | rfl | rfl | rfl | rfl
    · exact Or.inl (tm_rv_cat K 0)
    · exact Or.inl (tm_rv_cat K a1)
    · exact Or.inl (tm_rv_cat K a2)
    · exact Or.inl rfl
    · exact Or.inl rfl⟩
  clear hl0
  unfold fc_delimited
  refine tm_aload_n cx dX1_delimited_0 (tm_has_at hl 1 rfl) ?_
  refine tm_iconst cx dX1_delimited_1 ?_
  refine tm_gk_ (fun k2 => ?_)
  refine tp_X1_265 cx (fun _ => k2) (by decide) dX1_delimited_2 ?_
  refine tm_iconst cx dX1_delimited_5 ?_
  refine tm_istore (lv' := [(5, tm_iv 0), (0, tm_rv K 0), (1, tm_rv K a1), (2, tm_rv K a2), (3, tm_iv a3), (4, tm_iv a4)]) cx dX1_delimited_6 hl (by decide) (by decide) rfl (fun ls hl => ?_)
  refine tm_iconst cx dX1_delimited_8 ?_
  refine tm_istore (lv' := [(6, tm_iv 0), (5, tm_iv 0), (0, tm_rv K 0), (1, tm_rv K a1), (2, tm_rv K a2), (3, tm_iv a3), (4, tm_iv a4)]) cx dX1_delimited_9 hl (by decide) (by decide) rfl (fun ls hl => ?_)
  exact wc_delimited_L11 cx tm_FU a1 a2 a3 a4 0 0 _ _ g1 g2 g3 g4 (by decide) (by decide) (tm_has_sub hl [2, 3, 4, 5, 6, 1, 0] rfl)
def fc_there (a1 : Int) (σ : tm_S) : tm_R :=
  if a1 = 0 then
    tm_gn σ 6 (tm_th 2 σ)
  else
    tm_rt 0 σ
theorem tm_fits_X1_there (K : tm_K) (a1 : Int) : (lg_sl [tm_iv a1]).length ≤ 1 := (tm_sl_i _ _ _ (tm_sl_n _))
theorem cc_there (K : tm_K) (l : Launch) (hst : l.stackTraces = false) (a1 : Int) (g1 : tm_in a1) : tm_ct K tm_xC l yX1_there cX1_there 1 none 0 [tm_iv a1] (fc_there a1) 6 100 := by
  refine tm_ct_of hst (by decide +kernel) (Nat.le_trans (tm_fits_X1_there K a1) (Nat.le_of_ble_eq_true rfl)) ?_
  intro p e R s m args below meth c cx σ ls hl0
  have hl : tm_has 0 ls 1 [(0, tm_iv a1)] := ⟨by
    have h9 := hl0
    simp only [tm_args_i, tm_args_n, Nat.zero_add, Nat.reduceAdd] at h9
    exact h9, by
    intro q hq
    simp only [List.mem_cons, List.not_mem_nil, or_false] at hq
    rcases hq with rfl
    · exact Or.inl rfl⟩
  clear hl0
  unfold fc_there
  refine tm_iload_n cx dX1_there_0 (tm_has_at hl 0 rfl) ?_
  refine tm_if_ne (tgt := 12) cx g1 dX1_there_1 (by decide) (fun c1 => ?_) (fun c1 => ?_)
  · exact tm_throw cx (e9 := 2) (names := tm_nx) (by decide +kernel) (by decide +kernel) q974 q121 (tm_at2 cx) tm_ag2 ⟨by decide, by decide⟩ (Nat.le_of_ble_eq_true rfl) hl.1.1 dX1_there_4 dX1_there_7 dX1_there_8 dX1_there_11
  · exact tm_vreturn cx dX1_there_12
def fc_fault_J14 (v1 : Int) (vs0 : Int) (σ : tm_S) : tm_R :=
  tm_bd (fc_there vs0 σ) fun u14 σ14 =>
  if v1 = 0 then
    tm_rt (tm_f σ14 16 0) σ14
  else
    tm_rt (tm_f σ14 2 0) σ14
theorem wc_fault_J14 {p : Program} {l : Launch} {e : Env} {R : Room} {s : State} {m : MethodId} {args : Array Value} {below : List Frame} {meth : Method} {c : Code} {K : tm_K} (cx : tm_C p l R s m args meth c K cX1_fault 2 RX1 "fault" (some .int) 7 120) (v1 : Int) (vs0 : Int) (σ : tm_S) (ls : Array Slot) (g1 : tm_in v1) (gs0 : tm_in vs0) (hl : tm_has 0 ls 2 [(0, tm_rv K 0), (1, tm_iv v1)]) : tm_J p l e R s m args below meth c K tm_xC 1 (fc_fault_J14 v1 vs0 σ) σ (F0 m 14 ls [tm_iv vs0]) := by
  unfold fc_fault_J14
  refine tm_callS (n := 1) cx (cc_there K l (tm_hst cx) vs0 gs0) (lw_S q971 q972 q95 q973) ⟨by decide +kernel, by decide +kernel, by decide +kernel⟩ rfl ⟨Nat.le_of_ble_eq_true rfl, Nat.le_of_ble_eq_true rfl⟩ rfl (Nat.le_of_ble_eq_true rfl) hl.1.1 dX1_fault_14 (fun u14 σ14 q14 => ?_)
  show tm_J p l e R s m args below meth c K tm_xC 1 _ _ (F0 m 17 ls [])
  refine tm_iload_n cx dX1_fault_17 (tm_has_at hl 1 rfl) ?_
  refine tm_if_ne (tgt := 28) cx g1 dX1_fault_18 (by decide) (fun c18 => ?_) (fun c18 => ?_)
  · refine tm_aload_n cx dX1_fault_21 (tm_has_at hl 0 rfl) ?_
    refine tg_X1_133 cx dX1_fault_22 (fun q22 => ?_)
    refine tm_goto (tgt := 32) cx dX1_fault_25 (by decide) ?_
    exact tm_ireturn cx q22 dX1_fault_32
  · refine tm_aload_n cx dX1_fault_28 (tm_has_at hl 0 rfl) ?_
    refine tg_X1_92 cx dX1_fault_29 (fun q29 => ?_)
    exact tm_ireturn cx q29 dX1_fault_32
def fc_fault (a1 : Int) (σ : tm_S) : tm_R :=
  if a1 = 0 then
    fc_fault_J14 a1 1 σ
  else
    if a1 = 1 then
      fc_fault_J14 a1 1 σ
    else
      fc_fault_J14 a1 0 σ
theorem tm_fits_X1_fault (K : tm_K) (a1 : Int) : (lg_sl [tm_rv K 0, tm_iv a1]).length ≤ 2 := (tm_sl_r _ _ _ _ (tm_sl_i _ _ _ (tm_sl_n _)))
theorem cc_fault (K : tm_K) (l : Launch) (hst : l.stackTraces = false) (a1 : Int) (g1 : tm_in a1) : tm_ct K tm_xC l yX1_fault cX1_fault 2 (some .int) 1 [tm_rv K 0, tm_iv a1] (fc_fault a1) 7 120 := by
  refine tm_ct_of hst (by decide +kernel) (Nat.le_trans (tm_fits_X1_fault K a1) (Nat.le_of_ble_eq_true rfl)) ?_
  intro p e R s m args below meth c cx σ ls hl0
  have hl : tm_has 0 ls 2 [(0, tm_rv K 0), (1, tm_iv a1)] := ⟨by
    have h9 := hl0
    simp only [tm_args_r, tm_args_i, tm_args_n, Nat.zero_add, Nat.reduceAdd] at h9
    exact h9, by
    intro q hq
    simp only [List.mem_cons, List.not_mem_nil, or_false] at hq
    rcases hq with rfl | rfl
    · exact Or.inl (tm_rv_cat K 0)
    · exact Or.inl rfl⟩
  clear hl0
  unfold fc_fault
  refine tm_iload_n cx dX1_fault_0 (tm_has_at hl 1 rfl) ?_
  refine tm_if_eq (tgt := 9) cx g1 dX1_fault_1 (by decide) (fun c1 => ?_) (fun c1 => ?_)
  · refine tm_iconst cx dX1_fault_9 ?_
    refine tm_goto (tgt := 14) cx dX1_fault_10 (by decide) ?_
    exact wc_fault_J14 cx a1 1 _ _ g1 (by decide) (tm_has_sub hl [0, 1] rfl)
  · refine tm_iload_n cx dX1_fault_4 (tm_has_at hl 1 rfl) ?_
    refine tm_iconst cx dX1_fault_5 ?_
    refine tm_icmp_ne (tgt := 13) cx g1 (by decide) dX1_fault_6 (by decide) (fun c6 => ?_) (fun c6 => ?_)
    · refine tm_iconst cx dX1_fault_9 ?_
      refine tm_goto (tgt := 14) cx dX1_fault_10 (by decide) ?_
      exact wc_fault_J14 cx a1 1 _ _ g1 (by decide) (tm_has_sub hl [0, 1] rfl)
    · refine tm_iconst cx dX1_fault_13 ?_
      exact wc_fault_J14 cx a1 0 _ _ g1 (by decide) (tm_has_sub hl [0, 1] rfl)
def fc_out_J17 (v1 : Int) (vs0 : Int) (σ : tm_S) : tm_R :=
  tm_bd (fc_there vs0 σ) fun u17 σ17 =>
  tm_gx v1 200 <|
  tm_rt (tm_a σ17 111 v1) σ17
theorem wc_out_J17 {p : Program} {l : Launch} {e : Env} {R : Room} {s : State} {m : MethodId} {args : Array Value} {below : List Frame} {meth : Method} {c : Code} {K : tm_K} (cx : tm_C p l R s m args meth c K cX1_out 2 RX1 "out" (some .int) 7 120) (v1 : Int) (vs0 : Int) (σ : tm_S) (ls : Array Slot) (g1 : tm_in v1) (gs0 : tm_in vs0) (hl : tm_has 0 ls 2 [(0, tm_rv K 0), (1, tm_iv v1)]) : tm_J p l e R s m args below meth c K tm_xC 1 (fc_out_J17 v1 vs0 σ) σ (F0 m 17 ls [tm_iv vs0]) := by
  unfold fc_out_J17
  refine tm_callS (n := 1) cx (cc_there K l (tm_hst cx) vs0 gs0) (lw_S q971 q972 q95 q973) ⟨by decide +kernel, by decide +kernel, by decide +kernel⟩ rfl ⟨Nat.le_of_ble_eq_true rfl, Nat.le_of_ble_eq_true rfl⟩ rfl (Nat.le_of_ble_eq_true rfl) hl.1.1 dX1_out_17 (fun u17 σ17 q17 => ?_)
  show tm_J p l e R s m args below meth c K tm_xC 1 _ _ (F0 m 20 ls [])
  refine tm_aload_n cx dX1_out_20 (tm_has_at hl 0 rfl) ?_
  refine tg_X1_45 cx dX1_out_21 ?_
  refine tm_iload_n cx dX1_out_24 (tm_has_at hl 1 rfl) ?_
  refine tm_sald cx tm_hC_111 g1 dX1_out_25 (fun i25 q25 => ?_)
  exact tm_ireturn cx q25 dX1_out_26
def fc_out (a1 : Int) (σ : tm_S) : tm_R :=
  if a1 < 0 then
    fc_out_J17 a1 0 σ
  else
    if a1 < (tm_f σ 12 0) then
      fc_out_J17 a1 1 σ
    else
      fc_out_J17 a1 0 σ
theorem tm_fits_X1_out (K : tm_K) (a1 : Int) : (lg_sl [tm_rv K 0, tm_iv a1]).length ≤ 2 := (tm_sl_r _ _ _ _ (tm_sl_i _ _ _ (tm_sl_n _)))
theorem cc_out (K : tm_K) (l : Launch) (hst : l.stackTraces = false) (a1 : Int) (g1 : tm_in a1) : tm_ct K tm_xC l yX1_out cX1_out 2 (some .int) 1 [tm_rv K 0, tm_iv a1] (fc_out a1) 7 120 := by
  refine tm_ct_of hst (by decide +kernel) (Nat.le_trans (tm_fits_X1_out K a1) (Nat.le_of_ble_eq_true rfl)) ?_
  intro p e R s m args below meth c cx σ ls hl0
  have hl : tm_has 0 ls 2 [(0, tm_rv K 0), (1, tm_iv a1)] := ⟨by
    have h9 := hl0
    simp only [tm_args_r, tm_args_i, tm_args_n, Nat.zero_add, Nat.reduceAdd] at h9
    exact h9, by
    intro q hq
    simp only [List.mem_cons, List.not_mem_nil, or_false] at hq
    rcases hq with rfl | rfl
    · exact Or.inl (tm_rv_cat K 0)
    · exact Or.inl rfl⟩
  clear hl0
  unfold fc_out
  refine tm_iload_n cx dX1_out_0 (tm_has_at hl 1 rfl) ?_
  refine tm_if_lt (tgt := 16) cx g1 dX1_out_1 (by decide) (fun c1 => ?_) (fun c1 => ?_)
  · refine tm_iconst cx dX1_out_16 ?_
    exact wc_out_J17 cx a1 0 _ _ g1 (by decide) (tm_has_sub hl [0, 1] rfl)
  · refine tm_iload_n cx dX1_out_4 (tm_has_at hl 1 rfl) ?_
    refine tm_aload_n cx dX1_out_5 (tm_has_at hl 0 rfl) ?_
    refine tg_X1_121 cx dX1_out_6 (fun q6 => ?_)
    refine tm_icmp_ge (tgt := 16) cx g1 q6 dX1_out_9 (by decide) (fun c9 => ?_) (fun c9 => ?_)
    · refine tm_iconst cx dX1_out_12 ?_
      refine tm_goto (tgt := 17) cx dX1_out_13 (by decide) ?_
      exact wc_out_J17 cx a1 1 _ _ g1 (by decide) (tm_has_sub hl [0, 1] rfl)
    · refine tm_iconst cx dX1_out_16 ?_
      exact wc_out_J17 cx a1 0 _ _ g1 (by decide) (tm_has_sub hl [0, 1] rfl)
def fc_count_J14 (v1 : Int) (vs0 : Int) (σ : tm_S) : tm_R :=
  tm_bd (fc_there vs0 σ) fun u14 σ14 =>
  if v1 = 0 then
    tm_rt (tm_f σ14 12 0) σ14
  else
    if v1 = 1 then
      tm_rt (tm_f σ14 13 0) σ14
    else
      if v1 = 2 then
        tm_rt (tm_f σ14 14 0) σ14
      else
        if v1 = 3 then
          tm_rt (tm_f σ14 20 0) σ14
        else
          tm_rt (tm_f σ14 15 0) σ14
theorem wc_count_J14 {p : Program} {l : Launch} {e : Env} {R : Room} {s : State} {m : MethodId} {args : Array Value} {below : List Frame} {meth : Method} {c : Code} {K : tm_K} (cx : tm_C p l R s m args meth c K cX1_count 2 RX1 "count" (some .int) 7 120) (v1 : Int) (vs0 : Int) (σ : tm_S) (ls : Array Slot) (g1 : tm_in v1) (gs0 : tm_in vs0) (hl : tm_has 0 ls 2 [(0, tm_rv K 0), (1, tm_iv v1)]) : tm_J p l e R s m args below meth c K tm_xC 1 (fc_count_J14 v1 vs0 σ) σ (F0 m 14 ls [tm_iv vs0]) := by
  unfold fc_count_J14
  refine tm_callS (n := 1) cx (cc_there K l (tm_hst cx) vs0 gs0) (lw_S q971 q972 q95 q973) ⟨by decide +kernel, by decide +kernel, by decide +kernel⟩ rfl ⟨Nat.le_of_ble_eq_true rfl, Nat.le_of_ble_eq_true rfl⟩ rfl (Nat.le_of_ble_eq_true rfl) hl.1.1 dX1_count_14 (fun u14 σ14 q14 => ?_)
  show tm_J p l e R s m args below meth c K tm_xC 1 _ _ (F0 m 17 ls [])
  refine tm_iload_n cx dX1_count_17 (tm_has_at hl 1 rfl) ?_
  refine tm_fork (fun c18 => ?_) (fun c18_0 => ?_)
  · refine tm_swIn (tgt := 48) cx g1 dX1_count_18 (by omega) (by rw [c18]; rfl) (by decide) ?_
    refine tm_aload_n cx dX1_count_48 (tm_has_at hl 0 rfl) ?_
    refine tg_X1_121 cx dX1_count_49 (fun q49 => ?_)
    exact tm_ireturn cx q49 dX1_count_52
  · refine tm_fork (fun c18 => ?_) (fun c18_1 => ?_)
    · refine tm_swIn (tgt := 53) cx g1 dX1_count_18 (by omega) (by rw [c18]; rfl) (by decide) ?_
      refine tm_aload_n cx dX1_count_53 (tm_has_at hl 0 rfl) ?_
      refine tg_X1_124 cx dX1_count_54 (fun q54 => ?_)
      exact tm_ireturn cx q54 dX1_count_57
    · refine tm_fork (fun c18 => ?_) (fun c18_2 => ?_)
      · refine tm_swIn (tgt := 58) cx g1 dX1_count_18 (by omega) (by rw [c18]; rfl) (by decide) ?_
        refine tm_aload_n cx dX1_count_58 (tm_has_at hl 0 rfl) ?_
        refine tg_X1_127 cx dX1_count_59 (fun q59 => ?_)
        exact tm_ireturn cx q59 dX1_count_62
      · refine tm_fork (fun c18 => ?_) (fun c18_3 => ?_)
        · refine tm_swIn (tgt := 63) cx g1 dX1_count_18 (by omega) (by rw [c18]; rfl) (by decide) ?_
          refine tm_aload_n cx dX1_count_63 (tm_has_at hl 0 rfl) ?_
          refine tg_X1_136 cx dX1_count_64 (fun q64 => ?_)
          exact tm_ireturn cx q64 dX1_count_67
        · refine tm_swOut (tgt := 68) cx g1 dX1_count_18 (by
              have h9 : v1 < 0 ∨ 3 < v1 := by omega
              rcases h9 with h | h
              · exact Or.inl h
              · exact Or.inr (Or.inl h)) (by decide) ?_
          refine tm_aload_n cx dX1_count_68 (tm_has_at hl 0 rfl) ?_
          refine tg_X1_130 cx dX1_count_69 (fun q69 => ?_)
          exact tm_ireturn cx q69 dX1_count_72
def fc_count (a1 : Int) (σ : tm_S) : tm_R :=
  if a1 < 0 then
    fc_count_J14 a1 0 σ
  else
    if a1 < 5 then
      fc_count_J14 a1 1 σ
    else
      fc_count_J14 a1 0 σ
theorem tm_fits_X1_count (K : tm_K) (a1 : Int) : (lg_sl [tm_rv K 0, tm_iv a1]).length ≤ 2 := (tm_sl_r _ _ _ _ (tm_sl_i _ _ _ (tm_sl_n _)))
theorem cc_count (K : tm_K) (l : Launch) (hst : l.stackTraces = false) (a1 : Int) (g1 : tm_in a1) : tm_ct K tm_xC l yX1_count cX1_count 2 (some .int) 1 [tm_rv K 0, tm_iv a1] (fc_count a1) 7 120 := by
  refine tm_ct_of hst (by decide +kernel) (Nat.le_trans (tm_fits_X1_count K a1) (Nat.le_of_ble_eq_true rfl)) ?_
  intro p e R s m args below meth c cx σ ls hl0
  have hl : tm_has 0 ls 2 [(0, tm_rv K 0), (1, tm_iv a1)] := ⟨by
    have h9 := hl0
    simp only [tm_args_r, tm_args_i, tm_args_n, Nat.zero_add, Nat.reduceAdd] at h9
    exact h9, by
    intro q hq
    simp only [List.mem_cons, List.not_mem_nil, or_false] at hq
    rcases hq with rfl | rfl
    · exact Or.inl (tm_rv_cat K 0)
    · exact Or.inl rfl⟩
  clear hl0
  unfold fc_count
  refine tm_iload_n cx dX1_count_0 (tm_has_at hl 1 rfl) ?_
  refine tm_if_lt (tgt := 13) cx g1 dX1_count_1 (by decide) (fun c1 => ?_) (fun c1 => ?_)
  · refine tm_iconst cx dX1_count_13 ?_
    exact wc_count_J14 cx a1 0 _ _ g1 (by decide) (tm_has_sub hl [0, 1] rfl)
  · refine tm_iload_n cx dX1_count_4 (tm_has_at hl 1 rfl) ?_
    refine tm_iconst cx dX1_count_5 ?_
    refine tm_icmp_ge (tgt := 13) cx g1 (by decide) dX1_count_6 (by decide) (fun c6 => ?_) (fun c6 => ?_)
    · refine tm_iconst cx dX1_count_9 ?_
      refine tm_goto (tgt := 14) cx dX1_count_10 (by decide) ?_
      exact wc_count_J14 cx a1 1 _ _ g1 (by decide) (tm_has_sub hl [0, 1] rfl)
    · refine tm_iconst cx dX1_count_13 ?_
      exact wc_count_J14 cx a1 0 _ _ g1 (by decide) (tm_has_sub hl [0, 1] rfl)
def fc_category (a1 : Int) (σ : tm_S) : tm_R :=
  tm_bd (fc_isSign a1 σ) fun u1 σ1 =>
  tm_bd (fc_there u1 σ1) fun u4 σ4 =>
  tm_gx a1 128 <|
  tm_rt (tm_a σ4 104 a1) σ4
theorem tm_fits_X1_category (K : tm_K) (a1 : Int) : (lg_sl [tm_rv K 0, tm_iv a1]).length ≤ 2 := (tm_sl_r _ _ _ _ (tm_sl_i _ _ _ (tm_sl_n _)))
theorem cc_category (K : tm_K) (l : Launch) (hst : l.stackTraces = false) (a1 : Int) (g1 : tm_in a1) : tm_ct K tm_xC l yX1_category cX1_category 2 (some .int) 1 [tm_rv K 0, tm_iv a1] (fc_category a1) 7 120 := by
  refine tm_ct_of hst (by decide +kernel) (Nat.le_trans (tm_fits_X1_category K a1) (Nat.le_of_ble_eq_true rfl)) ?_
  intro p e R s m args below meth c cx σ ls hl0
  have hl : tm_has 0 ls 2 [(0, tm_rv K 0), (1, tm_iv a1)] := ⟨by
    have h9 := hl0
    simp only [tm_args_r, tm_args_i, tm_args_n, Nat.zero_add, Nat.reduceAdd] at h9
    exact h9, by
    intro q hq
    simp only [List.mem_cons, List.not_mem_nil, or_false] at hq
    rcases hq with rfl | rfl
    · exact Or.inl (tm_rv_cat K 0)
    · exact Or.inl rfl⟩
  clear hl0
  unfold fc_category
  refine tm_iload_n cx dX1_category_0 (tm_has_at hl 1 rfl) ?_
  refine tm_callS (n := 1) cx (cc_isSign K l (tm_hst cx) a1 g1) (lw_S q463 q464 q95 q465) ⟨by decide +kernel, by decide +kernel, by decide +kernel⟩ rfl ⟨Nat.le_of_ble_eq_true rfl, Nat.le_of_ble_eq_true rfl⟩ rfl (Nat.le_of_ble_eq_true rfl) hl.1.1 dX1_category_1 (fun u1 σ1 q1 => ?_)
  show tm_J p l e R s m args below meth c K tm_xC 1 _ _ (F0 m 4 ls [tm_iv u1])
  refine tm_callS (n := 1) cx (cc_there K l (tm_hst cx) u1 q1) (lw_S q971 q972 q95 q973) ⟨by decide +kernel, by decide +kernel, by decide +kernel⟩ rfl ⟨Nat.le_of_ble_eq_true rfl, Nat.le_of_ble_eq_true rfl⟩ rfl (Nat.le_of_ble_eq_true rfl) hl.1.1 dX1_category_4 (fun u4 σ4 q4 => ?_)
  show tm_J p l e R s m args below meth c K tm_xC 1 _ _ (F0 m 7 ls [])
  refine tm_aload_n cx dX1_category_7 (tm_has_at hl 0 rfl) ?_
  refine tg_X1_13 cx dX1_category_8 ?_
  refine tm_iload_n cx dX1_category_11 (tm_has_at hl 1 rfl) ?_
  refine tm_bald cx tm_hC_104 g1 dX1_category_12 (fun i12 q12 => ?_)
  exact tm_ireturn cx q12 dX1_category_13
def fc_asked_J85 (σ : tm_S) : tm_R :=
  tm_gn σ 6 (tm_th 3 σ)
theorem wc_asked_J85 {p : Program} {l : Launch} {e : Env} {R : Room} {s : State} {m : MethodId} {args : Array Value} {below : List Frame} {meth : Method} {c : Code} {K : tm_K} (cx : tm_C p l R s m args meth c K cX1_asked 8 RX1 "asked" (some (.object "TokenMouth$Meaning")) 6 100) (σ : tm_S) (ls : Array Slot) (hl : tm_has 1 ls 8 []) : tm_J p l e R s m args below meth c K tm_xC 2 (fc_asked_J85 σ) σ (F0 m 85 ls []) := by
  unfold fc_asked_J85
  exact tm_throw cx (e9 := 3) (names := tm_nx) (by decide +kernel) (by decide +kernel) q1022 q123 (tm_at3 cx) tm_ag3 ⟨by decide, by decide⟩ (Nat.le_of_ble_eq_true rfl) hl.1.1 dX1_asked_85 dX1_asked_88 dX1_asked_89 dX1_asked_92
def fc_asked_J93 (v3 : Int) (v5 : Int) (σ : tm_S) : tm_R :=
  tm_bd (fc_find 107 v5 v3 σ) fun u99 σ99 =>
  if u99 < 0 then
    tm_rt (-1) σ99
  else
    tm_gk (tm_k σ99 u99) 4 <|
    tm_rt (tm_f σ99 195 u99) σ99
theorem wc_asked_J93 {p : Program} {l : Launch} {e : Env} {R : Room} {s : State} {m : MethodId} {args : Array Value} {below : List Frame} {meth : Method} {c : Code} {K : tm_K} (cx : tm_C p l R s m args meth c K cX1_asked 8 RX1 "asked" (some (.object "TokenMouth$Meaning")) 6 100) (v3 : Int) (v5 : Int) (σ : tm_S) (ls : Array Slot) (g3 : tm_in v3) (g5 : tm_in v5) (hl : tm_has 1 ls 8 [(0, tm_rv K 0), (3, tm_iv v3), (4, tm_rv K 107), (5, tm_iv v5)]) : tm_J p l e R s m args below meth c K tm_xC 2 (fc_asked_J93 v3 v5 σ) σ (F0 m 93 ls []) := by
  unfold fc_asked_J93
  refine tm_aload_n cx dX1_asked_93 (tm_has_at hl 0 rfl) ?_
  refine tm_aload cx dX1_asked_94 (tm_has_at hl 2 rfl) ?_
  refine tm_iload cx dX1_asked_96 (tm_has_at hl 3 rfl) ?_
  refine tm_iload_n cx dX1_asked_98 (tm_has_at hl 1 rfl) ?_
  refine tm_callV (n := 3) cx (cc_find K l (tm_hst cx) 107 (by decide) v5 g5 v3 g3) (lw_V q588 q590 qs12 q95 q591) ⟨rfl, by decide +kernel, by decide +kernel, by decide +kernel⟩ rfl tm_cd_X1 (fun h => (tm_hC_0 h).1) ⟨Nat.le_of_ble_eq_true rfl, Nat.le_of_ble_eq_true rfl⟩ rfl (Nat.le_of_ble_eq_true rfl) hl.1.1 dX1_asked_99 (fun u99 σ99 q99 => ?_)
  show tm_J p l e R s m args below meth c K tm_xC 2 _ _ (F0 m 102 ls [tm_rv K u99])
  refine tm_astore (lv' := [(6, tm_rv K u99), (0, tm_rv K 0), (3, tm_iv v3), (4, tm_rv K 107), (5, tm_iv v5)]) cx dX1_asked_102 hl (by decide) (by decide) rfl (fun ls hl => ?_)
  refine tm_aload cx dX1_asked_104 (tm_has_at hl 0 rfl) ?_
  refine tm_ifnonnull (tgt := 113) cx dX1_asked_106 (by decide) (fun c106 => ?_) (fun c106 => ?_)
  · refine tm_null cx dX1_asked_109 ?_
    refine tm_goto (tgt := 118) cx dX1_asked_110 (by decide) ?_
    exact tm_areturn cx ⟨_, rfl, Or.inl ⟨_, rfl⟩⟩ (by decide) dX1_asked_118
  · refine tm_aload cx dX1_asked_113 (tm_has_at hl 0 rfl) ?_
    refine tm_gk_ (fun k115 => ?_)
    refine tg_X1_114 cx (fun _ => k115) dX1_asked_115 (fun q115 => ?_)
    exact tm_areturn cx ⟨_, rfl, Or.inl ⟨_, rfl⟩⟩ q115 dX1_asked_118
def fc_asked_B13 (r13 : Int → Int → Int → Int → tm_S → tm_R) (v1 : Int) (v3 : Int) (v5 : Int) (v6 : Int) (σ : tm_S) : tm_R :=
  if v6 < 0 then
    if v5 = 0 then
      fc_asked_J85 σ
    else
      if v3 = 0 then
        fc_asked_J93 v3 v5 σ
      else
        if 1 < v5 then
          fc_asked_J85 σ
        else
          fc_asked_J93 v3 v5 σ
  else
    tm_gx v6 57 <|
    tm_lt (tm_by v1 v6 256) fun x27 =>
    if x27 = 0 then
      tm_gi (v6 + (-8)) <|
      r13 v1 v3 v5 (v6 + (-8)) σ
    else
      tm_bd (fc_isSign x27 σ) fun u39 σ39 =>
      if u39 = 0 then
        tm_gn σ39 6 (tm_th 3 σ39)
      else
        tm_gb x27 <|
        tm_gx v5 11 <|
        tm_gb x27 <|
        tm_gi (v5 + 1) <|
        tm_gi (v6 + (-8)) <|
        r13 v1 v3 (v5 + 1) (v6 + (-8)) (tm_wa σ39 107 v5 x27)
theorem wc_asked_B13 {p : Program} {l : Launch} {e : Env} {R : Room} {s : State} {m : MethodId} {args : Array Value} {below : List Frame} {meth : Method} {c : Code} {K : tm_K} {r13 : Int → Int → Int → Int → tm_S → tm_R} (cx : tm_C p l R s m args meth c K cX1_asked 8 RX1 "asked" (some (.object "TokenMouth$Meaning")) 6 100) (h13 : ∀ (v1 : Int) (v3 : Int) (v5 : Int) (v6 : Int) (τ : tm_S) (ls : Array Slot), tm_inl v1 → tm_in v3 → tm_in v5 → tm_in v6 → tm_has 1 ls 8 [(0, tm_rv K 0), (1, tm_lv v1), (3, tm_iv v3), (4, tm_rv K 107), (5, tm_iv v5), (6, tm_iv v6)] → tm_J p l e R s m args below meth c K tm_xC 2 (r13 v1 v3 v5 v6 τ) τ (F0 m 13 ls [])) (v1 : Int) (v3 : Int) (v5 : Int) (v6 : Int) (σ : tm_S) (ls : Array Slot) (g1 : tm_inl v1) (g3 : tm_in v3) (g5 : tm_in v5) (g6 : tm_in v6) (hl : tm_has 1 ls 8 [(0, tm_rv K 0), (1, tm_lv v1), (3, tm_iv v3), (4, tm_rv K 107), (5, tm_iv v5), (6, tm_iv v6)]) : tm_J p l e R s m args below meth c K tm_xC 2 (fc_asked_B13 r13 v1 v3 v5 v6 σ) σ (F0 m 13 ls []) := by
  unfold fc_asked_B13
  refine tm_iload cx dX1_asked_13 (tm_has_at hl 5 rfl) ?_
  refine tm_if_lt (tgt := 70) cx g6 dX1_asked_15 (by decide) (fun c15 => ?_) (fun c15 => ?_)
  · refine tm_iload cx dX1_asked_70 (tm_has_at hl 4 rfl) ?_
    refine tm_if_eq (tgt := 85) cx g5 dX1_asked_72 (by decide) (fun c72 => ?_) (fun c72 => ?_)
    · exact wc_asked_J85 cx _ _ (tm_has_sub hl [] rfl)
    · refine tm_iload_n cx dX1_asked_75 (tm_has_at hl 2 rfl) ?_
      refine tm_if_eq (tgt := 93) cx g3 dX1_asked_76 (by decide) (fun c76 => ?_) (fun c76 => ?_)
      · exact wc_asked_J93 cx v3 v5 _ _ g3 g5 (tm_has_sub hl [0, 2, 3, 4] rfl)
      · refine tm_iload cx dX1_asked_79 (tm_has_at hl 4 rfl) ?_
        refine tm_iconst cx dX1_asked_81 ?_
        refine tm_icmp_le (tgt := 93) cx g5 (by decide) dX1_asked_82 (by decide) (fun c82 => ?_) (fun c82 => ?_)
        · exact wc_asked_J85 cx _ _ (tm_has_sub hl [] rfl)
        · exact wc_asked_J93 cx v3 v5 _ _ g3 g5 (tm_has_sub hl [0, 2, 3, 4] rfl)
  · refine tm_lload_n cx dX1_asked_18 (tm_has_at hl 1 rfl) ?_
    refine tm_iload cx dX1_asked_19 (tm_has_at hl 5 rfl) ?_
    refine tm_byu cx g1 g6 dX1_asked_21 dX1_asked_22 dX1_asked_23 dX1_asked_26 (fun q21 => ?_)
    refine tm_lt_ q21 (fun x27 q27 => ?_)
    refine tm_istore (lv' := [(7, tm_iv x27), (0, tm_rv K 0), (1, tm_lv v1), (3, tm_iv v3), (4, tm_rv K 107), (5, tm_iv v5), (6, tm_iv v6)]) cx dX1_asked_27 hl (by decide) (by decide) rfl (fun ls hl => ?_)
    refine tm_iload cx dX1_asked_29 (tm_has_at hl 0 rfl) ?_
    refine tm_if_ne (tgt := 37) cx q27 dX1_asked_31 (by decide) (fun c31 => ?_) (fun c31 => ?_)
    · refine tm_goto (tgt := 64) cx dX1_asked_34 (by decide) ?_
      refine tm_iinc (lv' := [(6, tm_iv (v6 + (-8))), (7, tm_iv x27), (0, tm_rv K 0), (1, tm_lv v1), (3, tm_iv v3), (4, tm_rv K 107), (5, tm_iv v5)]) cx dX1_asked_64 hl (j := 6) rfl (by decide) (by decide) rfl (fun q64 ls hl => ?_)
      refine tm_goto (tgt := 13) cx dX1_asked_67 (by decide) ?_
      exact h13 v1 v3 v5 (v6 + (-8)) _ _ g1 g3 g5 q64 (tm_has_sub hl [2, 3, 4, 5, 6, 0] rfl)
    · refine tm_iload cx dX1_asked_37 (tm_has_at hl 0 rfl) ?_
      refine tm_callS (n := 1) cx (cc_isSign K l (tm_hst cx) x27 q27) (lw_S q463 q464 q95 q465) ⟨by decide +kernel, by decide +kernel, by decide +kernel⟩ rfl ⟨Nat.le_of_ble_eq_true rfl, Nat.le_of_ble_eq_true rfl⟩ rfl (Nat.le_of_ble_eq_true rfl) hl.1.1 dX1_asked_39 (fun u39 σ39 q39 => ?_)
      show tm_J p l e R s m args below meth c K tm_xC 2 _ _ (F0 m 42 ls [tm_iv u39])
      refine tm_if_ne (tgt := 53) cx q39 dX1_asked_42 (by decide) (fun c42 => ?_) (fun c42 => ?_)
      · exact tm_throw cx (e9 := 3) (names := tm_nx) (by decide +kernel) (by decide +kernel) q1022 q123 (tm_at3 cx) tm_ag3 ⟨by decide, by decide⟩ (Nat.le_of_ble_eq_true rfl) hl.1.1 dX1_asked_45 dX1_asked_48 dX1_asked_49 dX1_asked_52
      · refine tm_aload cx dX1_asked_53 (tm_has_at hl 4 rfl) ?_
        refine tm_iload cx dX1_asked_55 (tm_has_at hl 5 rfl) ?_
        refine tm_iload cx dX1_asked_57 (tm_has_at hl 0 rfl) ?_
        refine tm_i2b cx dX1_asked_59 ?_
        refine tm_bast cx tm_famC tm_hC_107 g5 q27 dX1_asked_60 ?_
        refine tm_iinc (lv' := [(5, tm_iv (v5 + 1)), (7, tm_iv x27), (0, tm_rv K 0), (1, tm_lv v1), (3, tm_iv v3), (4, tm_rv K 107), (6, tm_iv v6)]) cx dX1_asked_61 hl (j := 5) rfl (by decide) (by decide) rfl (fun q61 ls hl => ?_)
        refine tm_iinc (lv' := [(6, tm_iv (v6 + (-8))), (5, tm_iv (v5 + 1)), (7, tm_iv x27), (0, tm_rv K 0), (1, tm_lv v1), (3, tm_iv v3), (4, tm_rv K 107)]) cx dX1_asked_64 hl (j := 6) rfl (by decide) (by decide) rfl (fun q64 ls hl => ?_)
        refine tm_goto (tgt := 13) cx dX1_asked_67 (by decide) ?_
        exact h13 v1 v3 (v5 + 1) (v6 + (-8)) _ _ g1 g3 q61 q64 (tm_has_sub hl [3, 4, 5, 6, 1, 0] rfl)
def fc_asked_L13 : Nat → Int → Int → Int → Int → tm_S → tm_R
  | 0, _, _, _, _, _ => none
  | n + 1, v1, v3, v5, v6, σ => fc_asked_B13 (fc_asked_L13 n) v1 v3 v5 v6 σ
theorem wc_asked_L13 {p : Program} {l : Launch} {e : Env} {R : Room} {s : State} {m : MethodId} {args : Array Value} {below : List Frame} {meth : Method} {c : Code} {K : tm_K} (cx : tm_C p l R s m args meth c K cX1_asked 8 RX1 "asked" (some (.object "TokenMouth$Meaning")) 6 100) : ∀ (n : Nat) (v1 : Int) (v3 : Int) (v5 : Int) (v6 : Int) (σ : tm_S) (ls : Array Slot), tm_inl v1 → tm_in v3 → tm_in v5 → tm_in v6 → tm_has 1 ls 8 [(0, tm_rv K 0), (1, tm_lv v1), (3, tm_iv v3), (4, tm_rv K 107), (5, tm_iv v5), (6, tm_iv v6)] → tm_J p l e R s m args below meth c K tm_xC 2 (fc_asked_L13 n v1 v3 v5 v6 σ) σ (F0 m 13 ls []) := by
  intro n
  induction n with
  | zero => intros; exact tm_none
  | succ n ih =>
    intro v1 v3 v5 v6 σ ls g1 g3 g5 g6 hl
    exact wc_asked_B13 (r13 := fc_asked_L13 n) cx ih v1 v3 v5 v6 σ ls g1 g3 g5 g6 hl
def fc_asked (a1 : Int) (a2 : Int) (σ : tm_S) : tm_R :=
  fc_asked_L13 tm_FU a1 a2 0 56 σ
theorem tm_fits_X1_asked (K : tm_K) (a1 : Int) (a2 : Int) : (lg_sl [tm_rv K 0, tm_lv a1, tm_iv a2]).length ≤ 4 := (tm_sl_r _ _ _ _ (tm_sl_l _ _ _ (tm_sl_i _ _ _ (tm_sl_n _))))
theorem cc_asked (K : tm_K) (l : Launch) (hst : l.stackTraces = false) (a1 : Int) (g1 : tm_inl a1) (a2 : Int) (g2 : tm_in a2) : tm_ct K tm_xC l yX1_asked cX1_asked 8 (some (.object "TokenMouth$Meaning")) 2 [tm_rv K 0, tm_lv a1, tm_iv a2] (fc_asked a1 a2) 6 100 := by
  refine tm_ct_of hst (by decide +kernel) (Nat.le_trans (tm_fits_X1_asked K a1 a2) (Nat.le_of_ble_eq_true rfl)) ?_
  intro p e R s m args below meth c cx σ ls hl0
  have hl : tm_has 1 ls 8 [(0, tm_rv K 0), (1, tm_lv a1), (3, tm_iv a2)] := ⟨by
    have h9 := hl0
    simp only [tm_args_r, tm_args_l, tm_args_i, tm_args_n, Nat.zero_add, Nat.reduceAdd] at h9
    exact h9, by
    intro q hq
    simp only [List.mem_cons, List.not_mem_nil, or_false] at hq
    rcases hq with rfl | rfl | rfl
    · exact Or.inl (tm_rv_cat K 0)
    · exact Or.inr (Or.inl ⟨by decide, rfl⟩)
    · exact Or.inl rfl⟩
  clear hl0
  unfold fc_asked
  refine tm_aload_n cx dX1_asked_0 (tm_has_at hl 0 rfl) ?_
  refine tg_X1_33 cx dX1_asked_1 ?_
  refine tm_astore (lv' := [(4, tm_rv K 107), (0, tm_rv K 0), (1, tm_lv a1), (3, tm_iv a2)]) cx dX1_asked_4 hl (by decide) (by decide) rfl (fun ls hl => ?_)
  refine tm_iconst cx dX1_asked_6 ?_
  refine tm_istore (lv' := [(5, tm_iv 0), (4, tm_rv K 107), (0, tm_rv K 0), (1, tm_lv a1), (3, tm_iv a2)]) cx dX1_asked_7 hl (by decide) (by decide) rfl (fun ls hl => ?_)
  refine tm_bipush cx dX1_asked_9 (by decide) ?_
  refine tm_istore (lv' := [(6, tm_iv 56), (5, tm_iv 0), (4, tm_rv K 107), (0, tm_rv K 0), (1, tm_lv a1), (3, tm_iv a2)]) cx dX1_asked_11 hl (by decide) (by decide) rfl (fun ls hl => ?_)
  exact wc_asked_L13 cx tm_FU a1 a2 0 56 _ _ g1 g2 (by decide) (by decide) (tm_has_sub hl [3, 4, 5, 2, 1, 0] rfl)
def fc_X2_kind (a0 : Int) (σ : tm_S) : tm_R :=
  tm_rt 1 σ
theorem tm_fits_X2_kind (K : tm_K) (a0 : Int) : (lg_sl [tm_rv K a0]).length ≤ 1 := (tm_sl_r _ _ _ _ (tm_sl_n _))
theorem cc_X2_kind (K : tm_K) (l : Launch) (hst : l.stackTraces = false) (a0 : Int) (g0 : tm_in a0) : tm_ct K tm_xC l yX2_kind cX2_kind 1 (some .int) 1 [tm_rv K a0] (fc_X2_kind a0) 0 0 := by
  refine tm_ct_of hst (by decide +kernel) (Nat.le_trans (tm_fits_X2_kind K a0) (Nat.le_of_ble_eq_true rfl)) ?_
  intro p e R s m args below meth c cx σ ls hl0
  have hl : tm_has 0 ls 1 [(0, tm_rv K a0)] := ⟨by
    have h9 := hl0
    simp only [tm_args_r, tm_args_n, Nat.zero_add, Nat.reduceAdd] at h9
    exact h9, by
    intro q hq
    simp only [List.mem_cons, List.not_mem_nil, or_false] at hq
    rcases hq with rfl
    · exact Or.inl (tm_rv_cat K a0)⟩
  clear hl0
  unfold fc_X2_kind
  refine tm_iconst cx dX2_kind_0 ?_
  exact tm_ireturn cx (by decide) dX2_kind_1
def fc_X8_kind (a0 : Int) (σ : tm_S) : tm_R :=
  tm_rt 2 σ
theorem tm_fits_X8_kind (K : tm_K) (a0 : Int) : (lg_sl [tm_rv K a0]).length ≤ 1 := (tm_sl_r _ _ _ _ (tm_sl_n _))
theorem cc_X8_kind (K : tm_K) (l : Launch) (hst : l.stackTraces = false) (a0 : Int) (g0 : tm_in a0) : tm_ct K tm_xC l yX8_kind cX8_kind 1 (some .int) 1 [tm_rv K a0] (fc_X8_kind a0) 0 0 := by
  refine tm_ct_of hst (by decide +kernel) (Nat.le_trans (tm_fits_X8_kind K a0) (Nat.le_of_ble_eq_true rfl)) ?_
  intro p e R s m args below meth c cx σ ls hl0
  have hl : tm_has 0 ls 1 [(0, tm_rv K a0)] := ⟨by
    have h9 := hl0
    simp only [tm_args_r, tm_args_n, Nat.zero_add, Nat.reduceAdd] at h9
    exact h9, by
    intro q hq
    simp only [List.mem_cons, List.not_mem_nil, or_false] at hq
    rcases hq with rfl
    · exact Or.inl (tm_rv_cat K a0)⟩
  clear hl0
  unfold fc_X8_kind
  refine tm_iconst cx dX8_kind_0 ?_
  exact tm_ireturn cx (by decide) dX8_kind_1
