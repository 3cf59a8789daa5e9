set_option maxRecDepth 100000
def fc_J6_checkIndex_J9 (v0 : Int) (v1 : Int) (v2 : Int) (σ : tm_S) : tm_R :=
  none
theorem wc_J6_checkIndex_J9 {p : Program} {l : Launch} {e : Env} {R : Room} {s : State} {m : MethodId} {args : Array Value} {below : List Frame} {meth : Method} {c : Code} {K : tm_K} (cx : tm_C p l R s m args meth c K cJ6_checkIndex 3 RJ6 "checkIndex" (some .int) 0 0) (v0 : Int) (v1 : Int) (v2 : Int) (σ : tm_S) (ls : Array Slot) (g0 : tm_in v0) (g1 : tm_in v1) (g2 : tm_in v2) (hl : tm_has 0 ls 3 [(0, tm_iv v0), (1, tm_iv v1), (2, tm_rv K v2)]) : tm_J p l e R s m args below meth c K tm_xC 1 (fc_J6_checkIndex_J9 v0 v1 v2 σ) σ (F0 m 9 ls []) := by
  unfold fc_J6_checkIndex_J9
  exact tm_none
def fc_J6_checkIndex (a1 : Int) (a2 : Int) (a3 : Int) (σ : tm_S) : tm_R :=
  if a1 < 0 then
    fc_J6_checkIndex_J9 a1 a2 a3 σ
  else
    if a1 < a2 then
      tm_rt a1 σ
    else
      fc_J6_checkIndex_J9 a1 a2 a3 σ
theorem tm_fits_J6_checkIndex (K : tm_K) (a1 : Int) (a2 : Int) (a3 : Int) : (lg_sl [tm_iv a1, tm_iv a2, tm_rv K a3]).length ≤ 3 := (tm_sl_i _ _ _ (tm_sl_i _ _ _ (tm_sl_r _ _ _ _ (tm_sl_n _))))
theorem cc_J6_checkIndex (K : tm_K) (l : Launch) (hst : l.stackTraces = false) (a1 : Int) (g1 : tm_in a1) (a2 : Int) (g2 : tm_in a2) (a3 : Int) (g3 : tm_in a3) : tm_ct K tm_xC l yJ6_checkIndex cJ6_checkIndex 3 (some .int) 1 [tm_iv a1, tm_iv a2, tm_rv K a3] (fc_J6_checkIndex a1 a2 a3) 0 0 := by
  refine tm_ct_of hst (by decide +kernel) (Nat.le_trans (tm_fits_J6_checkIndex K a1 a2 a3) (Nat.le_of_ble_eq_true rfl)) ?_
  intro p e R s m args below meth c cx σ ls hl0
  have hl : tm_has 0 ls 3 [(0, tm_iv a1), (1, tm_iv a2), (2, tm_rv K a3)] := ⟨by
    have h9 := hl0
    simp only [tm_args_i, tm_args_i, tm_args_r, tm_args_n, Nat.zero_add, Nat.reduceAdd] at h9
    exact h9, by
    intro q hq
    simp only [List.mem_cons, List.not_mem_nil, or_false] at hq
    rcases hq with rfl | rfl | rfl
    · exact Or.inl rfl
    · exact Or.inl rfl
    · exact Or.inl (tm_rv_cat K a3)⟩
  clear hl0
  unfold fc_J6_checkIndex
  refine tm_iload_n cx dJ6_checkIndex_0 (tm_has_at hl 0 rfl) ?_
  refine tm_if_lt (tgt := 9) cx g1 dJ6_checkIndex_1 (by decide) (fun c1 => ?_) (fun c1 => ?_)
  · exact wc_J6_checkIndex_J9 cx a1 a2 a3 _ _ g1 g2 g3 (tm_has_sub hl [0, 1, 2] rfl)
  · refine tm_iload_n cx dJ6_checkIndex_4 (tm_has_at hl 0 rfl) ?_
    refine tm_iload_n cx dJ6_checkIndex_5 (tm_has_at hl 1 rfl) ?_
    refine tm_icmp_lt (tgt := 16) cx g1 g2 dJ6_checkIndex_6 (by decide) (fun c6 => ?_) (fun c6 => ?_)
    · refine tm_iload_n cx dJ6_checkIndex_16 (tm_has_at hl 0 rfl) ?_
      exact tm_ireturn cx g1 dJ6_checkIndex_17
    · exact wc_J6_checkIndex_J9 cx a1 a2 a3 _ _ g1 g2 g3 (tm_has_sub hl [0, 1, 2] rfl)
def fc_J11_checkIndex (a1 : Int) (a2 : Int) (σ : tm_S) : tm_R :=
  tm_bd (fc_J6_checkIndex a1 a2 (-1) σ) fun u3 σ3 =>
  tm_rt u3 σ3
theorem tm_fits_J11_checkIndex (K : tm_K) (a1 : Int) (a2 : Int) : (lg_sl [tm_iv a1, tm_iv a2]).length ≤ 2 := (tm_sl_i _ _ _ (tm_sl_i _ _ _ (tm_sl_n _)))
theorem cc_J11_checkIndex (K : tm_K) (l : Launch) (hst : l.stackTraces = false) (a1 : Int) (g1 : tm_in a1) (a2 : Int) (g2 : tm_in a2) : tm_ct K tm_xC l yJ11_checkIndex cJ11_checkIndex 2 (some .int) 1 [tm_iv a1, tm_iv a2] (fc_J11_checkIndex a1 a2) 1 22 := by
  refine tm_ct_of hst (by decide +kernel) (Nat.le_trans (tm_fits_J11_checkIndex K a1 a2) (Nat.le_of_ble_eq_true rfl)) ?_
  intro p e R s m args below meth c cx σ ls hl0
  have hl : tm_has 0 ls 2 [(0, tm_iv a1), (1, tm_iv a2)] := ⟨by
    have h9 := hl0
    simp only [tm_args_i, tm_args_i, tm_args_n, Nat.zero_add, Nat.reduceAdd] at h9
    exact h9, by
    intro q hq
    simp only [List.mem_cons, List.not_mem_nil, or_false] at hq
    rcases hq with rfl | rfl
    · exact Or.inl rfl
    · exact Or.inl rfl⟩
  clear hl0
  unfold fc_J11_checkIndex
  refine tm_iload_n cx dJ11_checkIndex_0 (tm_has_at hl 0 rfl) ?_
  refine tm_iload_n cx dJ11_checkIndex_1 (tm_has_at hl 1 rfl) ?_
  refine tm_null cx dJ11_checkIndex_2 ?_
  refine tm_callS (n := 3) cx (cc_J6_checkIndex K l (tm_hst cx) a1 g1 a2 g2 (-1) (by decide)) (lw_S q365 q245 q106 q246) ⟨by decide +kernel, by decide +kernel, by decide +kernel⟩ rfl ⟨Nat.le_of_ble_eq_true rfl, Nat.le_of_ble_eq_true rfl⟩ rfl (Nat.le_of_ble_eq_true rfl) hl.1.1 dJ11_checkIndex_3 (fun u3 σ3 q3 => ?_)
  show tm_J p l e R s m args below meth c K tm_xC 1 _ _ (F0 m 6 ls [tm_iv u3])
  exact tm_ireturn cx q3 dJ11_checkIndex_6
def fc_J8_newLength_J21 (v0 : Int) (v1 : Int) (σ : tm_S) : tm_R :=
  none
theorem wc_J8_newLength_J21 {p : Program} {l : Launch} {e : Env} {R : Room} {s : State} {m : MethodId} {args : Array Value} {below : List Frame} {meth : Method} {c : Code} {K : tm_K} (cx : tm_C p l R s m args meth c K cJ8_newLength 4 RJ8 "newLength" (some .int) 1 29) (v0 : Int) (v1 : Int) (σ : tm_S) (ls : Array Slot) (g0 : tm_in v0) (g1 : tm_in v1) (hl : tm_has 0 ls 4 [(0, tm_iv v0), (1, tm_iv v1)]) : tm_J p l e R s m args below meth c K tm_xC 1 (fc_J8_newLength_J21 v0 v1 σ) σ (F0 m 21 ls []) := by
  unfold fc_J8_newLength_J21
  exact tm_none
def fc_J8_newLength (a1 : Int) (a2 : Int) (a3 : Int) (σ : tm_S) : tm_R :=
  tm_gi (a1 + (tm_max a2 a3)) <|
  tm_lt (a1 + (tm_max a2 a3)) fun x7 =>
  if 0 < x7 then
    if 2147483639 < x7 then
      fc_J8_newLength_J21 a1 a2 σ
    else
      tm_rt x7 σ
  else
    fc_J8_newLength_J21 a1 a2 σ
theorem tm_fits_J8_newLength (K : tm_K) (a1 : Int) (a2 : Int) (a3 : Int) : (lg_sl [tm_iv a1, tm_iv a2, tm_iv a3]).length ≤ 3 := (tm_sl_i _ _ _ (tm_sl_i _ _ _ (tm_sl_i _ _ _ (tm_sl_n _))))
theorem cc_J8_newLength (K : tm_K) (l : Launch) (hst : l.stackTraces = false) (a1 : Int) (g1 : tm_in a1) (a2 : Int) (g2 : tm_in a2) (a3 : Int) (g3 : tm_in a3) : tm_ct K tm_xC l yJ8_newLength cJ8_newLength 4 (some .int) 1 [tm_iv a1, tm_iv a2, tm_iv a3] (fc_J8_newLength a1 a2 a3) 1 29 := by
  refine tm_ct_of hst (by decide +kernel) (Nat.le_trans (tm_fits_J8_newLength K a1 a2 a3) (Nat.le_of_ble_eq_true rfl)) ?_
  intro p e R s m args below meth c cx σ ls hl0
  have hl : tm_has 0 ls 4 [(0, tm_iv a1), (1, tm_iv a2), (2, tm_iv a3)] := ⟨by
    have h9 := hl0
    simp only [tm_args_i, tm_args_i, tm_args_i, tm_args_n, Nat.zero_add, Nat.reduceAdd] at h9
    exact h9, by
    intro q hq
    simp only [List.mem_cons, List.not_mem_nil, or_false] at hq
    rcases hq with rfl | rfl | rfl
    · exact Or.inl rfl
    · exact Or.inl rfl
    · exact Or.inl rfl⟩
  clear hl0
  unfold fc_J8_newLength
  refine tm_iload_n cx dJ8_newLength_0 (tm_has_at hl 0 rfl) ?_
  refine tm_iload_n cx dJ8_newLength_1 (tm_has_at hl 1 rfl) ?_
  refine tm_iload_n cx dJ8_newLength_2 (tm_has_at hl 2 rfl) ?_
  refine tm_mmax cx q305 q306 q109 q307 g2 g3 ⟨by decide, by decide⟩ (Nat.le_of_ble_eq_true rfl) hl.1.1 dJ8_newLength_3 (fun q3 => ?_)
  refine tm_iadd cx dJ8_newLength_6 (fun q6 => ?_)
  refine tm_lt_ q6 (fun x7 q7 => ?_)
  refine tm_istore_n (lv' := [(3, tm_iv x7), (0, tm_iv a1), (1, tm_iv a2), (2, tm_iv a3)]) cx dJ8_newLength_7 hl (by decide) (by decide) rfl (fun ls hl => ?_)
  refine tm_iconst cx dJ8_newLength_8 ?_
  refine tm_iload_n cx dJ8_newLength_9 (tm_has_at hl 0 rfl) ?_
  refine tm_icmp_ge (tgt := 21) cx (by decide) q7 dJ8_newLength_10 (by decide) (fun c10 => ?_) (fun c10 => ?_)
  · refine tm_iload_n cx dJ8_newLength_13 (tm_has_at hl 0 rfl) ?_
    refine tm_ldc (n := 2147483639) cx q308 dJ8_newLength_14 (by decide) ?_
    refine tm_icmp_gt (tgt := 21) cx q7 (by decide) dJ8_newLength_16 (by decide) (fun c16 => ?_) (fun c16 => ?_)
    · exact wc_J8_newLength_J21 cx a1 a2 _ _ g1 g2 (tm_has_sub hl [1, 2] rfl)
    · refine tm_iload_n cx dJ8_newLength_19 (tm_has_at hl 0 rfl) ?_
      exact tm_ireturn cx q7 dJ8_newLength_20
  · exact wc_J8_newLength_J21 cx a1 a2 _ _ g1 g2 (tm_has_sub hl [1, 2] rfl)
def fc_J3_grow_2_J20 (v0 : Int) (v1 : Int) (v2 : Int) (σ : tm_S) : tm_R :=
  tm_gi (v1 - v2) <|
  tm_bd (fc_J8_newLength v2 (v1 - v2) (v2 / 2) σ) fun u27 σ27 =>
  tm_gk (tm_k σ27 v0) 7 <|
  tm_bd (fc_J10_copyOf (tm_f σ27 385 v0) u27 σ27) fun u37 σ37 =>
  tm_gk (tm_k σ37 v0) 7 <|
  tm_rt u37 (tm_wf σ37 385 v0 u37)
theorem wc_J3_grow_2_J20 {p : Program} {l : Launch} {e : Env} {R : Room} {s : State} {m : MethodId} {args : Array Value} {below : List Frame} {meth : Method} {c : Code} {K : tm_K} (cx : tm_C p l R s m args meth c K cJ3_grow_2 4 RJ3 "grow" (some (.array (.object "java/lang/Object"))) 4 121) (v0 : Int) (v1 : Int) (v2 : Int) (σ : tm_S) (ls : Array Slot) (g0 : tm_in v0) (g1 : tm_in v1) (g2 : tm_in v2) (hl : tm_has 0 ls 4 [(0, tm_rv K v0), (1, tm_iv v1), (2, tm_iv v2)]) : tm_J p l e R s m args below meth c K tm_xC 2 (fc_J3_grow_2_J20 v0 v1 v2 σ) σ (F0 m 20 ls []) := by
  unfold fc_J3_grow_2_J20
  refine tm_iload_n cx dJ3_grow_2_20 (tm_has_at hl 2 rfl) ?_
  refine tm_iload_n cx dJ3_grow_2_21 (tm_has_at hl 1 rfl) ?_
  refine tm_iload_n cx dJ3_grow_2_22 (tm_has_at hl 2 rfl) ?_
  refine tm_isub cx dJ3_grow_2_23 (fun q23 => ?_)
  refine tm_iload_n cx dJ3_grow_2_24 (tm_has_at hl 2 rfl) ?_
  refine tm_iconst cx dJ3_grow_2_25 ?_
  refine tm_ishr1 cx g2 dJ3_grow_2_26 (fun q26 => ?_)
  refine tm_callS (n := 3) cx (cc_J8_newLength K l (tm_hst cx) v2 g2 (v1 - v2) q23 (v2 / 2) q26) (lw_S q302 q303 q108 q304) ⟨by decide +kernel, by decide +kernel, by decide +kernel⟩ rfl ⟨Nat.le_of_ble_eq_true rfl, Nat.le_of_ble_eq_true rfl⟩ rfl (Nat.le_of_ble_eq_true rfl) hl.1.1 dJ3_grow_2_27 (fun u27 σ27 q27 => ?_)
  show tm_J p l e R s m args below meth c K tm_xC 2 _ _ (F0 m 30 ls [tm_iv u27])
  refine tm_istore_n (lv' := [(3, tm_iv u27), (0, tm_rv K v0), (1, tm_iv v1), (2, tm_iv v2)]) cx dJ3_grow_2_30 hl (by decide) (by decide) rfl (fun ls hl => ?_)
  refine tm_aload_n cx dJ3_grow_2_31 (tm_has_at hl 1 rfl) ?_
  refine tm_aload_n cx dJ3_grow_2_32 (tm_has_at hl 1 rfl) ?_
  refine tm_gk_ (fun k33 => ?_)
  refine tg_J3_9 cx (fun _ => k33) dJ3_grow_2_33 (fun q33 => ?_)
  refine tm_iload_n cx dJ3_grow_2_36 (tm_has_at hl 0 rfl) ?_
  refine tm_callS (n := 2) cx (cc_J10_copyOf K l (tm_hst cx) (tm_f σ27 385 v0) q33 u27 q27) (lw_S q312 q313 q110 q314) ⟨by decide +kernel, by decide +kernel, by decide +kernel⟩ rfl ⟨Nat.le_of_ble_eq_true rfl, Nat.le_of_ble_eq_true rfl⟩ rfl (Nat.le_of_ble_eq_true rfl) hl.1.1 dJ3_grow_2_37 (fun u37 σ37 q37 => ?_)
  show tm_J p l e R s m args below meth c K tm_xC 2 _ _ (F0 m 40 ls [tm_rv K u37, tm_rv K v0])
  refine tm_dup_x1_rr cx dJ3_grow_2_40 ?_
  refine tm_gk_ (fun k41 => ?_)
  refine tp_J3_9 cx (fun _ => k41) q37 dJ3_grow_2_41 ?_
  exact tm_areturn cx ⟨_, rfl, Or.inr ⟨_, rfl⟩⟩ q37 dJ3_grow_2_44
def fc_J3_grow_2 (a0 : Int) (a1 : Int) (σ : tm_S) : tm_R :=
  tm_gk (tm_k σ a0) 7 <|
  if (tm_f σ 385 a0) = 420 then
    tm_gq σ (tm_f σ 385 a0) <|
    if (tm_f σ 385 a0) = 420 then
      tm_gx (tm_max 10 a1) 1000000 <|
      tm_gn σ (Int.toNat (tm_max 10 a1)) <|
      tm_lt (1000 + (tm_c σ : Int)) fun n52 =>
      tm_ls (tm_ne σ 25 (tm_max 10 a1) (Int.toNat (tm_max 10 a1))) fun τ1 =>
      tm_gk (tm_k τ1 a0) 7 <|
      tm_rt n52 (tm_wf τ1 385 a0 n52)
    else
      fc_J3_grow_2_J20 a0 a1 0 σ
  else
    tm_gk (tm_k σ (tm_f σ 385 a0)) 25 <|
    tm_lt (tm_n σ (tm_f σ 385 a0)) fun x5 =>
    if 0 < x5 then
      fc_J3_grow_2_J20 a0 a1 x5 σ
    else
      tm_gq σ (tm_f σ 385 a0) <|
      if (tm_f σ 385 a0) = 420 then
        tm_gx (tm_max 10 a1) 1000000 <|
        tm_gn σ (Int.toNat (tm_max 10 a1)) <|
        tm_lt (1000 + (tm_c σ : Int)) fun n52 =>
        tm_ls (tm_ne σ 25 (tm_max 10 a1) (Int.toNat (tm_max 10 a1))) fun τ4 =>
        tm_gk (tm_k τ4 a0) 7 <|
        tm_rt n52 (tm_wf τ4 385 a0 n52)
      else
        fc_J3_grow_2_J20 a0 a1 x5 σ
theorem tm_fits_J3_grow_2 (K : tm_K) (a0 : Int) (a1 : Int) : (lg_sl [tm_rv K a0, tm_iv a1]).length ≤ 2 := (tm_sl_r _ _ _ _ (tm_sl_i _ _ _ (tm_sl_n _)))
theorem cc_J3_grow_2 (K : tm_K) (l : Launch) (hst : l.stackTraces = false) (a0 : Int) (g0 : tm_in a0) (a1 : Int) (g1 : tm_in a1) : tm_ct K tm_xC l yJ3_grow_2 cJ3_grow_2 4 (some (.array (.object "java/lang/Object"))) 2 [tm_rv K a0, tm_iv a1] (fc_J3_grow_2 a0 a1) 4 121 := by
  refine tm_ct_of hst (by decide +kernel) (Nat.le_trans (tm_fits_J3_grow_2 K a0 a1) (Nat.le_of_ble_eq_true rfl)) ?_
  intro p e R s m args below meth c cx σ ls hl0
  have hl : tm_has 0 ls 4 [(0, tm_rv K a0), (1, tm_iv a1)] := ⟨by
    have h9 := hl0
    simp only [tm_args_r, tm_args_i, tm_args_n, Nat.zero_add, Nat.reduceAdd] at h9
    exact h9, by
    intro q hq
    simp only [List.mem_cons, List.not_mem_nil, or_false] at hq
    rcases hq with rfl | rfl
    · exact Or.inl (tm_rv_cat K a0)
    · exact Or.inl rfl⟩
  clear hl0
  unfold fc_J3_grow_2
  refine tm_aload_n cx dJ3_grow_2_0 (tm_has_at hl 0 rfl) ?_
  refine tm_gk_ (fun k1 => ?_)
  refine tg_J3_9 cx (fun _ => k1) dJ3_grow_2_1 (fun q1 => ?_)
  refine tm_fork (fun c4 => ?_) (fun c4 => ?_)
  · refine tm_alen0 cx c4 dJ3_grow_2_4 ?_
    refine tm_istore_n (lv' := [(2, tm_iv 0), (0, tm_rv K a0), (1, tm_iv a1)]) cx dJ3_grow_2_5 hl (by decide) (by decide) rfl (fun ls hl => ?_)
    refine tm_iload_n cx dJ3_grow_2_6 (tm_has_at hl 0 rfl) ?_
    refine tm_if_gt_f (tgt := 20) cx (by decide) (by decide) dJ3_grow_2_7 (by decide) ?_
    refine tm_aload_n cx dJ3_grow_2_10 (tm_has_at hl 1 rfl) ?_
    refine tg_J3_9 cx (fun _ => k1) dJ3_grow_2_11 (fun q11 => ?_)
    refine tm_gete cx q157 dJ3_grow_2_14 ?_
    refine tm_gq_ (fun r17x => ?_)
    refine tm_acmp_eq (tgt := 45) cx (fun _ => r17x) (fun h => Or.inr (by rw [(tm_hC_420 h).1]; decide)) dJ3_grow_2_17 (by decide) (fun c17 => ?_) (fun c17 => ?_)
    · refine tm_aload_n cx dJ3_grow_2_45 (tm_has_at hl 1 rfl) ?_
      refine tm_bipush cx dJ3_grow_2_46 (by decide) ?_
      refine tm_iload_n cx dJ3_grow_2_48 (tm_has_at hl 2 rfl) ?_
      refine tm_mmax cx q345 q306 q109 q307 (by decide) g1 ⟨by decide, by decide⟩ (Nat.le_of_ble_eq_true rfl) hl.1.1 dJ3_grow_2_49 (fun q49 => ?_)
      refine tm_anewO cx tm_famC q346 q49 dJ3_grow_2_52 (fun q52 => ?_)
      refine tm_ltr_ q52 (fun n52 p52 => ?_)
      refine tm_ls_ (fun τ1 => ?_)
      refine tm_dup_x1_rr cx dJ3_grow_2_55 ?_
      refine tm_gk_ (fun k56 => ?_)
      refine tp_J3_9 cx (fun _ => k56) p52 dJ3_grow_2_56 ?_
      exact tm_areturn cx ⟨_, rfl, Or.inr ⟨_, rfl⟩⟩ p52 dJ3_grow_2_59
    · exact wc_J3_grow_2_J20 cx a0 a1 0 _ _ g0 g1 (by decide) (tm_has_sub hl [1, 2, 0] rfl)
  · refine tm_gk_ (fun k4 => ?_)
    refine tm_alen cx (fun _ => ⟨k4, rfl⟩) (by decide) dJ3_grow_2_4 (fun q4 => ?_)
    refine tm_lt_ (tm_in0 q4) (fun x5 q5 => ?_)
    refine tm_istore_n (lv' := [(2, tm_iv x5), (0, tm_rv K a0), (1, tm_iv a1)]) cx dJ3_grow_2_5 hl (by decide) (by decide) rfl (fun ls hl => ?_)
    refine tm_iload_n cx dJ3_grow_2_6 (tm_has_at hl 0 rfl) ?_
    refine tm_if_gt (tgt := 20) cx q5 dJ3_grow_2_7 (by decide) (fun c7 => ?_) (fun c7 => ?_)
    · exact wc_J3_grow_2_J20 cx a0 a1 x5 _ _ g0 g1 q5 (tm_has_sub hl [1, 2, 0] rfl)
    · refine tm_aload_n cx dJ3_grow_2_10 (tm_has_at hl 1 rfl) ?_
      refine tg_J3_9 cx (fun _ => k1) dJ3_grow_2_11 (fun q11 => ?_)
      refine tm_gete cx q157 dJ3_grow_2_14 ?_
      refine tm_gq_ (fun r17x => ?_)
      refine tm_acmp_eq (tgt := 45) cx (fun _ => r17x) (fun h => Or.inr (by rw [(tm_hC_420 h).1]; decide)) dJ3_grow_2_17 (by decide) (fun c17 => ?_) (fun c17 => ?_)
      · refine tm_aload_n cx dJ3_grow_2_45 (tm_has_at hl 1 rfl) ?_
        refine tm_bipush cx dJ3_grow_2_46 (by decide) ?_
        refine tm_iload_n cx dJ3_grow_2_48 (tm_has_at hl 2 rfl) ?_
        refine tm_mmax cx q345 q306 q109 q307 (by decide) g1 ⟨by decide, by decide⟩ (Nat.le_of_ble_eq_true rfl) hl.1.1 dJ3_grow_2_49 (fun q49 => ?_)
        refine tm_anewO cx tm_famC q346 q49 dJ3_grow_2_52 (fun q52 => ?_)
        refine tm_ltr_ q52 (fun n52 p52 => ?_)
        refine tm_ls_ (fun τ4 => ?_)
        refine tm_dup_x1_rr cx dJ3_grow_2_55 ?_
        refine tm_gk_ (fun k56 => ?_)
        refine tp_J3_9 cx (fun _ => k56) p52 dJ3_grow_2_56 ?_
        exact tm_areturn cx ⟨_, rfl, Or.inr ⟨_, rfl⟩⟩ p52 dJ3_grow_2_59
      · exact wc_J3_grow_2_J20 cx a0 a1 x5 _ _ g0 g1 q5 (tm_has_sub hl [1, 2, 0] rfl)
def fc_J3_grow (a0 : Int) (σ : tm_S) : tm_R :=
  tm_gk (tm_k σ a0) 7 <|
  tm_gi ((tm_f σ 386 a0) + 1) <|
  tm_bd (fc_J3_grow_2 a0 ((tm_f σ 386 a0) + 1) σ) fun u7 σ7 =>
  tm_rt u7 σ7
theorem tm_fits_J3_grow (K : tm_K) (a0 : Int) : (lg_sl [tm_rv K a0]).length ≤ 1 := (tm_sl_r _ _ _ _ (tm_sl_n _))
theorem cc_J3_grow (K : tm_K) (l : Launch) (hst : l.stackTraces = false) (a0 : Int) (g0 : tm_in a0) : tm_ct K tm_xC l yJ3_grow cJ3_grow 1 (some (.array (.object "java/lang/Object"))) 2 [tm_rv K a0] (fc_J3_grow a0) 5 144 := by
  refine tm_ct_of hst (by decide +kernel) (Nat.le_trans (tm_fits_J3_grow K a0) (Nat.le_of_ble_eq_true rfl)) ?_
  intro p e R s m args below meth c cx σ ls hl0
  have hl : tm_has 0 ls 1 [(0, tm_rv K a0)] := ⟨by
    have h9 := hl0
    simp only [tm_args_r, tm_args_n, Nat.zero_add, Nat.reduceAdd] at h9
    exact h9, by
    intro q hq
    simp only [List.mem_cons, List.not_mem_nil, or_false] at hq
    rcases hq with rfl
    · exact Or.inl (tm_rv_cat K a0)⟩
  clear hl0
  unfold fc_J3_grow
  refine tm_aload_n cx dJ3_grow_0 (tm_has_at hl 0 rfl) ?_
  refine tm_aload_n cx dJ3_grow_1 (tm_has_at hl 0 rfl) ?_
  refine tm_gk_ (fun k2 => ?_)
  refine tg_J3_48 cx (fun _ => k2) dJ3_grow_2 (fun q2 => ?_)
  refine tm_iconst cx dJ3_grow_5 ?_
  refine tm_iadd cx dJ3_grow_6 (fun q6 => ?_)
  refine tm_callV (n := 1) cx (cc_J3_grow_2 K l (tm_hst cx) a0 g0 ((tm_f σ 386 a0) + 1) q6) (lw_V q298 q300 qs2 q100 q301) ⟨rfl, by decide +kernel, by decide +kernel, by decide +kernel⟩ rfl tm_cd_J3 (fun _ => k2) ⟨Nat.le_of_ble_eq_true rfl, Nat.le_of_ble_eq_true rfl⟩ rfl (Nat.le_of_ble_eq_true rfl) hl.1.1 dJ3_grow_7 (fun u7 σ7 q7 => ?_)
  show tm_J p l e R s m args below meth c K tm_xC 2 _ _ (F0 m 10 ls [tm_rv K u7])
  exact tm_areturn cx ⟨_, rfl, Or.inr ⟨_, rfl⟩⟩ q7 dJ3_grow_10
def fc_J3_add_2_J11 (v0 : Int) (v1 : Int) (v2 : Int) (v3 : Int) (σ : tm_S) : tm_R :=
  tm_gk (tm_k σ v2) 25 <|
  tm_gk (tm_k σ v1) 4 <|
  tm_gx v3 (tm_n σ v2) <|
  tm_gi (v3 + 1) <|
  tm_gk (tm_k (tm_wa σ v2 v3 v1) v0) 7 <|
  tm_rt 0 (tm_wf (tm_wa σ v2 v3 v1) 386 v0 (v3 + 1))
theorem wc_J3_add_2_J11 {p : Program} {l : Launch} {e : Env} {R : Room} {s : State} {m : MethodId} {args : Array Value} {below : List Frame} {meth : Method} {c : Code} {K : tm_K} (cx : tm_C p l R s m args meth c K cJ3_add_2 4 RJ3 "add" none 6 164) (v0 : Int) (v1 : Int) (v2 : Int) (v3 : Int) (σ : tm_S) (ls : Array Slot) (g0 : tm_in v0) (g1 : tm_in v1) (g2 : tm_in v2) (g3 : tm_in v3) (hl : tm_has 0 ls 4 [(0, tm_rv K v0), (1, tm_rv K v1), (2, tm_rv K v2), (3, tm_iv v3)]) : tm_J p l e R s m args below meth c K tm_xC 0 (fc_J3_add_2_J11 v0 v1 v2 v3 σ) σ (F0 m 11 ls []) := by
  unfold fc_J3_add_2_J11
  refine tm_aload_n cx dJ3_add_2_11 (tm_has_at hl 2 rfl) ?_
  refine tm_iload_n cx dJ3_add_2_12 (tm_has_at hl 3 rfl) ?_
  refine tm_aload_n cx dJ3_add_2_13 (tm_has_at hl 1 rfl) ?_
  refine tm_gk_ (fun k14 => ?_)
  refine tm_gk_ (fun w14 => ?_)
  refine tm_aast cx tm_famC (fun _ => ⟨k14, rfl⟩) w14 g3 g1 dJ3_add_2_14 ?_
  refine tm_aload_n cx dJ3_add_2_15 (tm_has_at hl 0 rfl) ?_
  refine tm_iload_n cx dJ3_add_2_16 (tm_has_at hl 3 rfl) ?_
  refine tm_iconst cx dJ3_add_2_17 ?_
  refine tm_iadd cx dJ3_add_2_18 (fun q18 => ?_)
  refine tm_gk_ (fun k19 => ?_)
  refine tp_J3_48 cx (fun _ => k19) q18 dJ3_add_2_19 ?_
  exact tm_vreturn cx dJ3_add_2_22
def fc_J3_add_2 (a0 : Int) (a1 : Int) (a2 : Int) (a3 : Int) (σ : tm_S) : tm_R :=
  if a2 = 420 then
    if a3 = 0 then
      tm_gk (tm_k σ a0) 7 <|
      tm_bd (fc_J3_grow a0 σ) fun u7 σ7 =>
      fc_J3_add_2_J11 a0 a1 u7 a3 σ7
    else
      fc_J3_add_2_J11 a0 a1 a2 a3 σ
  else
    tm_gk (tm_k σ a2) 25 <|
    if a3 = (tm_n σ a2) then
      tm_gk (tm_k σ a0) 7 <|
      tm_bd (fc_J3_grow a0 σ) fun u7 σ7 =>
      fc_J3_add_2_J11 a0 a1 u7 a3 σ7
    else
      fc_J3_add_2_J11 a0 a1 a2 a3 σ
theorem tm_fits_J3_add_2 (K : tm_K) (a0 : Int) (a1 : Int) (a2 : Int) (a3 : Int) : (lg_sl [tm_rv K a0, tm_rv K a1, tm_rv K a2, tm_iv a3]).length ≤ 4 := (tm_sl_r _ _ _ _ (tm_sl_r _ _ _ _ (tm_sl_r _ _ _ _ (tm_sl_i _ _ _ (tm_sl_n _)))))
theorem cc_J3_add_2 (K : tm_K) (l : Launch) (hst : l.stackTraces = false) (a0 : Int) (g0 : tm_in a0) (a1 : Int) (g1 : tm_in a1) (a2 : Int) (g2 : tm_in a2) (a3 : Int) (g3 : tm_in a3) : tm_ct K tm_xC l yJ3_add_2 cJ3_add_2 4 none 0 [tm_rv K a0, tm_rv K a1, tm_rv K a2, tm_iv a3] (fc_J3_add_2 a0 a1 a2 a3) 6 164 := by
  refine tm_ct_of hst (by decide +kernel) (Nat.le_trans (tm_fits_J3_add_2 K a0 a1 a2 a3) (Nat.le_of_ble_eq_true rfl)) ?_
  intro p e R s m args below meth c cx σ ls hl0
  have hl : tm_has 0 ls 4 [(0, tm_rv K a0), (1, tm_rv K a1), (2, tm_rv K a2), (3, tm_iv a3)] := ⟨by
    have h9 := hl0
    simp only [tm_args_r, tm_args_r, tm_args_r, tm_args_i, tm_args_n, Nat.zero_add, Nat.reduceAdd] at h9
    exact h9, by
    intro q hq
    simp only [List.mem_cons, List.not_mem_nil, or_false] at hq
    rcases hq with rfl | rfl | rfl | rfl
    · exact Or.inl (tm_rv_cat K a0)
    · exact Or.inl (tm_rv_cat K a1)
    · exact Or.inl (tm_rv_cat K a2)
    · exact Or.inl rfl⟩
  clear hl0
  unfold fc_J3_add_2
  refine tm_iload_n cx dJ3_add_2_0 (tm_has_at hl 3 rfl) ?_
  refine tm_aload_n cx dJ3_add_2_1 (tm_has_at hl 2 rfl) ?_
  refine tm_fork (fun c2 => ?_) (fun c2 => ?_)
  · refine tm_alen0 cx c2 dJ3_add_2_2 ?_
    refine tm_icmp_ne (tgt := 11) cx g3 (by decide) dJ3_add_2_3 (by decide) (fun c3 => ?_) (fun c3 => ?_)
    · refine tm_aload_n cx dJ3_add_2_6 (tm_has_at hl 0 rfl) ?_
      refine tm_gk_ (fun k7 => ?_)
      refine tm_callV (n := 0) cx (cc_J3_grow K l (tm_hst cx) a0 g0) (lw_V q294 q296 qs1 q100 q297) ⟨rfl, by decide +kernel, by decide +kernel, by decide +kernel⟩ rfl tm_cd_J3 (fun _ => k7) ⟨Nat.le_of_ble_eq_true rfl, Nat.le_of_ble_eq_true rfl⟩ rfl (Nat.le_of_ble_eq_true rfl) hl.1.1 dJ3_add_2_7 (fun u7 σ7 q7 => ?_)
      show tm_J p l e R s m args below meth c K tm_xC 0 _ _ (F0 m 10 ls [tm_rv K u7])
      refine tm_astore_n (lv' := [(2, tm_rv K u7), (0, tm_rv K a0), (1, tm_rv K a1), (3, tm_iv a3)]) cx dJ3_add_2_10 hl (by decide) (by decide) rfl (fun ls hl => ?_)
      exact wc_J3_add_2_J11 cx a0 a1 u7 a3 _ _ g0 g1 q7 g3 (tm_has_sub hl [1, 2, 0, 3] rfl)
    · exact wc_J3_add_2_J11 cx a0 a1 a2 a3 _ _ g0 g1 g2 g3 (tm_has_sub hl [0, 1, 2, 3] rfl)
  · refine tm_gk_ (fun k2 => ?_)
    refine tm_alen cx (fun _ => ⟨k2, rfl⟩) (by decide) dJ3_add_2_2 (fun q2 => ?_)
    refine tm_icmp_ne (tgt := 11) cx g3 (tm_in0 q2) dJ3_add_2_3 (by decide) (fun c3 => ?_) (fun c3 => ?_)
    · refine tm_aload_n cx dJ3_add_2_6 (tm_has_at hl 0 rfl) ?_
      refine tm_gk_ (fun k7 => ?_)
      refine tm_callV (n := 0) cx (cc_J3_grow K l (tm_hst cx) a0 g0) (lw_V q294 q296 qs1 q100 q297) ⟨rfl, by decide +kernel, by decide +kernel, by decide +kernel⟩ rfl tm_cd_J3 (fun _ => k7) ⟨Nat.le_of_ble_eq_true rfl, Nat.le_of_ble_eq_true rfl⟩ rfl (Nat.le_of_ble_eq_true rfl) hl.1.1 dJ3_add_2_7 (fun u7 σ7 q7 => ?_)
      show tm_J p l e R s m args below meth c K tm_xC 0 _ _ (F0 m 10 ls [tm_rv K u7])
      refine tm_astore_n (lv' := [(2, tm_rv K u7), (0, tm_rv K a0), (1, tm_rv K a1), (3, tm_iv a3)]) cx dJ3_add_2_10 hl (by decide) (by decide) rfl (fun ls hl => ?_)
      exact wc_J3_add_2_J11 cx a0 a1 u7 a3 _ _ g0 g1 q7 g3 (tm_has_sub hl [1, 2, 0, 3] rfl)
    · exact wc_J3_add_2_J11 cx a0 a1 a2 a3 _ _ g0 g1 g2 g3 (tm_has_sub hl [0, 1, 2, 3] rfl)
def fc_J3_add (a0 : Int) (a1 : Int) (σ : tm_S) : tm_R :=
  tm_gk (tm_k σ a0) 7 <|
  tm_gi ((tm_f σ 384 a0) + 1) <|
  tm_gk (tm_k (tm_wf σ 384 a0 ((tm_f σ 384 a0) + 1)) a0) 7 <|
  tm_bd (fc_J3_add_2 a0 a1 (tm_f (tm_wf σ 384 a0 ((tm_f σ 384 a0) + 1)) 385 a0) (tm_f (tm_wf σ 384 a0 ((tm_f σ 384 a0) + 1)) 386 a0) (tm_wf σ 384 a0 ((tm_f σ 384 a0) + 1))) fun u20 σ20 =>
  tm_rt 1 σ20
theorem tm_fits_J3_add (K : tm_K) (a0 : Int) (a1 : Int) : (lg_sl [tm_rv K a0, tm_rv K a1]).length ≤ 2 := (tm_sl_r _ _ _ _ (tm_sl_r _ _ _ _ (tm_sl_n _)))
theorem cc_J3_add (K : tm_K) (l : Launch) (hst : l.stackTraces = false) (a0 : Int) (g0 : tm_in a0) (a1 : Int) (g1 : tm_in a1) : tm_ct K tm_xC l yJ3_add cJ3_add 2 (some .boolean) 1 [tm_rv K a0, tm_rv K a1] (fc_J3_add a0 a1) 7 187 := by
  refine tm_ct_of hst (by decide +kernel) (Nat.le_trans (tm_fits_J3_add K a0 a1) (Nat.le_of_ble_eq_true rfl)) ?_
  intro p e R s m args below meth c cx σ ls hl0
  have hl : tm_has 0 ls 2 [(0, tm_rv K a0), (1, tm_rv K a1)] := ⟨by
    have h9 := hl0
    simp only [tm_args_r, tm_args_r, tm_args_n, Nat.zero_add, Nat.reduceAdd] at h9
    exact h9, by
    intro q hq
    simp only [List.mem_cons, List.not_mem_nil, or_false] at hq
    rcases hq with rfl | rfl
    · exact Or.inl (tm_rv_cat K a0)
    · exact Or.inl (tm_rv_cat K a1)⟩
  clear hl0
  unfold fc_J3_add
  refine tm_aload_n cx dJ3_add_0 (tm_has_at hl 0 rfl) ?_
  refine tm_dup_r cx dJ3_add_1 ?_
  refine tm_gk_ (fun k2 => ?_)
  refine tg_J3_63 cx (fun _ => k2) dJ3_add_2 (fun q2 => ?_)
  refine tm_iconst cx dJ3_add_5 ?_
  refine tm_iadd cx dJ3_add_6 (fun q6 => ?_)
  refine tp_J3_63 cx (fun _ => k2) q6 dJ3_add_7 ?_
  refine tm_aload_n cx dJ3_add_10 (tm_has_at hl 0 rfl) ?_
  refine tm_aload_n cx dJ3_add_11 (tm_has_at hl 1 rfl) ?_
  refine tm_aload_n cx dJ3_add_12 (tm_has_at hl 0 rfl) ?_
  refine tm_gk_ (fun k13 => ?_)
  refine tg_J3_9 cx (fun _ => k13) dJ3_add_13 (fun q13 => ?_)
  refine tm_aload_n cx dJ3_add_16 (tm_has_at hl 0 rfl) ?_
  refine tg_J3_48 cx (fun _ => k13) dJ3_add_17 (fun q17 => ?_)
  refine tm_callV (n := 3) cx (cc_J3_add_2 K l (tm_hst cx) a0 g0 a1 g1 (tm_f (tm_wf σ 384 a0 ((tm_f σ 384 a0) + 1)) 385 a0) q13 (tm_f (tm_wf σ 384 a0 ((tm_f σ 384 a0) + 1)) 386 a0) q17) (lw_V q290 q292 qs0 q100 q293) ⟨rfl, by decide +kernel, by decide +kernel, by decide +kernel⟩ rfl tm_cd_J3 (fun _ => k13) ⟨Nat.le_of_ble_eq_true rfl, Nat.le_of_ble_eq_true rfl⟩ rfl (Nat.le_of_ble_eq_true rfl) hl.1.1 dJ3_add_20 (fun u20 σ20 q20 => ?_)
  show tm_J p l e R s m args below meth c K tm_xC 1 _ _ (F0 m 23 ls [])
  refine tm_iconst cx dJ3_add_23 ?_
  exact tm_zreturn cx (by decide) dJ3_add_24
def fc_J3_size (a0 : Int) (σ : tm_S) : tm_R :=
  tm_gk (tm_k σ a0) 7 <|
  tm_rt (tm_f σ 386 a0) σ
theorem tm_fits_J3_size (K : tm_K) (a0 : Int) : (lg_sl [tm_rv K a0]).length ≤ 1 := (tm_sl_r _ _ _ _ (tm_sl_n _))
theorem cc_J3_size (K : tm_K) (l : Launch) (hst : l.stackTraces = false) (a0 : Int) (g0 : tm_in a0) : tm_ct K tm_xC l yJ3_size cJ3_size 1 (some .int) 1 [tm_rv K a0] (fc_J3_size a0) 0 0 := by
  refine tm_ct_of hst (by decide +kernel) (Nat.le_trans (tm_fits_J3_size K a0) (Nat.le_of_ble_eq_true rfl)) ?_
  intro p e R s m args below meth c cx σ ls hl0
  have hl : tm_has 0 ls 1 [(0, tm_rv K a0)] := ⟨by
    have h9 := hl0
    simp only [tm_args_r, tm_args_n, Nat.zero_add, Nat.reduceAdd] at h9
    exact h9, by
    intro q hq
    simp only [List.mem_cons, List.not_mem_nil, or_false] at hq
    rcases hq with rfl
    · exact Or.inl (tm_rv_cat K a0)⟩
  clear hl0
  unfold fc_J3_size
  refine tm_aload_n cx dJ3_size_0 (tm_has_at hl 0 rfl) ?_
  refine tm_gk_ (fun k1 => ?_)
  refine tg_J3_48 cx (fun _ => k1) dJ3_size_1 (fun q1 => ?_)
  exact tm_ireturn cx q1 dJ3_size_4
def fc_J3_fastRemove_J34 (v0 : Int) (v1 : Int) (v3 : Int) (σ : tm_S) : tm_R :=
  tm_gk (tm_k σ v0) 7 <|
  tm_gk (tm_k (tm_wf σ 386 v0 v3) v1) 25 <|
  tm_gx v3 (tm_n (tm_wf σ 386 v0 v3) v1) <|
  tm_rt 0 (tm_wa (tm_wf σ 386 v0 v3) v1 v3 (-1))
theorem wc_J3_fastRemove_J34 {p : Program} {l : Launch} {e : Env} {R : Room} {s : State} {m : MethodId} {args : Array Value} {below : List Frame} {meth : Method} {c : Code} {K : tm_K} (cx : tm_C p l R s m args meth c K cJ3_fastRemove 4 RJ3 "fastRemove" none 0 0) (v0 : Int) (v1 : Int) (v3 : Int) (σ : tm_S) (ls : Array Slot) (g0 : tm_in v0) (g1 : tm_in v1) (g3 : tm_in v3) (hl : tm_has 0 ls 4 [(0, tm_rv K v0), (1, tm_rv K v1), (3, tm_iv v3)]) : tm_J p l e R s m args below meth c K tm_xC 0 (fc_J3_fastRemove_J34 v0 v1 v3 σ) σ (F0 m 34 ls []) := by
  unfold fc_J3_fastRemove_J34
  refine tm_aload_n cx dJ3_fastRemove_34 (tm_has_at hl 1 rfl) ?_
  refine tm_aload_n cx dJ3_fastRemove_35 (tm_has_at hl 0 rfl) ?_
  refine tm_iload_n cx dJ3_fastRemove_36 (tm_has_at hl 2 rfl) ?_
  refine tm_dup_x1_ir cx dJ3_fastRemove_37 ?_
  refine tm_gk_ (fun k38 => ?_)
  refine tp_J3_48 cx (fun _ => k38) g3 dJ3_fastRemove_38 ?_
  refine tm_null cx dJ3_fastRemove_41 ?_
  refine tm_gk_ (fun k42 => ?_)
  refine tm_aastN cx tm_famC (fun _ => ⟨k42, rfl⟩) g3 dJ3_fastRemove_42 ?_
  exact tm_vreturn cx dJ3_fastRemove_43
def fc_J3_fastRemove (a0 : Int) (a1 : Int) (a2 : Int) (σ : tm_S) : tm_R :=
  tm_gk (tm_k σ a0) 7 <|
  tm_gi ((tm_f σ 384 a0) + 1) <|
  tm_gk (tm_k (tm_wf σ 384 a0 ((tm_f σ 384 a0) + 1)) a0) 7 <|
  tm_gi ((tm_f (tm_wf σ 384 a0 ((tm_f σ 384 a0) + 1)) 386 a0) - 1) <|
  tm_lt ((tm_f (tm_wf σ 384 a0 ((tm_f σ 384 a0) + 1)) 386 a0) - 1) fun x17 =>
  if a2 < ((tm_f (tm_wf σ 384 a0 ((tm_f σ 384 a0) + 1)) 386 a0) - 1) then
    none
  else
    fc_J3_fastRemove_J34 a0 a1 x17 (tm_wf σ 384 a0 ((tm_f σ 384 a0) + 1))
theorem tm_fits_J3_fastRemove (K : tm_K) (a0 : Int) (a1 : Int) (a2 : Int) : (lg_sl [tm_rv K a0, tm_rv K a1, tm_iv a2]).length ≤ 3 := (tm_sl_r _ _ _ _ (tm_sl_r _ _ _ _ (tm_sl_i _ _ _ (tm_sl_n _))))
theorem cc_J3_fastRemove (K : tm_K) (l : Launch) (hst : l.stackTraces = false) (a0 : Int) (g0 : tm_in a0) (a1 : Int) (g1 : tm_in a1) (a2 : Int) (g2 : tm_in a2) : tm_ct K tm_xC l yJ3_fastRemove cJ3_fastRemove 4 none 0 [tm_rv K a0, tm_rv K a1, tm_iv a2] (fc_J3_fastRemove a0 a1 a2) 0 0 := by
  refine tm_ct_of hst (by decide +kernel) (Nat.le_trans (tm_fits_J3_fastRemove K a0 a1 a2) (Nat.le_of_ble_eq_true rfl)) ?_
  intro p e R s m args below meth c cx σ ls hl0
  have hl : tm_has 0 ls 4 [(0, tm_rv K a0), (1, tm_rv K a1), (2, tm_iv a2)] := ⟨by
    have h9 := hl0
    simp only [tm_args_r, tm_args_r, tm_args_i, tm_args_n, Nat.zero_add, Nat.reduceAdd] at h9
    exact h9, by
    intro q hq
    simp only [List.mem_cons, List.not_mem_nil, or_false] at hq
    rcases hq with rfl | rfl | rfl
    · exact Or.inl (tm_rv_cat K a0)
    · exact Or.inl (tm_rv_cat K a1)
    · exact Or.inl rfl⟩
  clear hl0
  unfold fc_J3_fastRemove
  refine tm_aload_n cx dJ3_fastRemove_0 (tm_has_at hl 0 rfl) ?_
  refine tm_dup_r cx dJ3_fastRemove_1 ?_
  refine tm_gk_ (fun k2 => ?_)
  refine tg_J3_63 cx (fun _ => k2) dJ3_fastRemove_2 (fun q2 => ?_)
  refine tm_iconst cx dJ3_fastRemove_5 ?_
  refine tm_iadd cx dJ3_fastRemove_6 (fun q6 => ?_)
  refine tp_J3_63 cx (fun _ => k2) q6 dJ3_fastRemove_7 ?_
  refine tm_aload_n cx dJ3_fastRemove_10 (tm_has_at hl 0 rfl) ?_
  refine tm_gk_ (fun k11 => ?_)
  refine tg_J3_48 cx (fun _ => k11) dJ3_fastRemove_11 (fun q11 => ?_)
  refine tm_iconst cx dJ3_fastRemove_14 ?_
  refine tm_isub cx dJ3_fastRemove_15 (fun q15 => ?_)
  refine tm_dup_i cx dJ3_fastRemove_16 ?_
  refine tm_lt_ q15 (fun x17 q17 => ?_)
  refine tm_istore_n (lv' := [(3, tm_iv x17), (0, tm_rv K a0), (1, tm_rv K a1), (2, tm_iv a2)]) cx dJ3_fastRemove_17 hl (by decide) (by decide) rfl (fun ls hl => ?_)
  refine tm_iload_n cx dJ3_fastRemove_18 (tm_has_at hl 3 rfl) ?_
  refine tm_icmp_le (tgt := 34) cx q15 g2 dJ3_fastRemove_19 (by decide) (fun c19 => ?_) (fun c19 => ?_)
  · exact tm_none
  · exact wc_J3_fastRemove_J34 cx a0 a1 x17 _ _ g0 g1 q17 (tm_has_sub hl [1, 2, 0] rfl)
def fc_J3_remove (a0 : Int) (a1 : Int) (σ : tm_S) : tm_R :=
  tm_gk (tm_k σ a0) 7 <|
  tm_bd (fc_J11_checkIndex a1 (tm_f σ 386 a0) σ) fun u5 σ5 =>
  tm_gk (tm_k σ5 a0) 7 <|
  tm_lt (tm_f σ5 385 a0) fun x13 =>
  tm_gk (tm_k σ5 x13) 25 <|
  tm_gx a1 (tm_n σ5 x13) <|
  tm_lt (tm_a σ5 x13 a1) fun x17 =>
  tm_bd (fc_J3_fastRemove a0 x13 a1 σ5) fun u21 σ21 =>
  tm_rt x17 σ21
theorem tm_fits_J3_remove (K : tm_K) (a0 : Int) (a1 : Int) : (lg_sl [tm_rv K a0, tm_iv a1]).length ≤ 2 := (tm_sl_r _ _ _ _ (tm_sl_i _ _ _ (tm_sl_n _)))
theorem cc_J3_remove (K : tm_K) (l : Launch) (hst : l.stackTraces = false) (a0 : Int) (g0 : tm_in a0) (a1 : Int) (g1 : tm_in a1) : tm_ct K tm_xC l yJ3_remove cJ3_remove 4 (some (.object "java/lang/Object")) 2 [tm_rv K a0, tm_iv a1] (fc_J3_remove a0 a1) 2 43 := by
  refine tm_ct_of hst (by decide +kernel) (Nat.le_trans (tm_fits_J3_remove K a0 a1) (Nat.le_of_ble_eq_true rfl)) ?_
  intro p e R s m args below meth c cx σ ls hl0
  have hl : tm_has 0 ls 4 [(0, tm_rv K a0), (1, tm_iv a1)] := ⟨by
    have h9 := hl0
    simp only [tm_args_r, tm_args_i, tm_args_n, Nat.zero_add, Nat.reduceAdd] at h9
    exact h9, by
    intro q hq
    simp only [List.mem_cons, List.not_mem_nil, or_false] at hq
    rcases hq with rfl | rfl
    · exact Or.inl (tm_rv_cat K a0)
    · exact Or.inl rfl⟩
  clear hl0
  unfold fc_J3_remove
  refine tm_iload_n cx dJ3_remove_0 (tm_has_at hl 1 rfl) ?_
  refine tm_aload_n cx dJ3_remove_1 (tm_has_at hl 0 rfl) ?_
  refine tm_gk_ (fun k2 => ?_)
  refine tg_J3_48 cx (fun _ => k2) dJ3_remove_2 (fun q2 => ?_)
  refine tm_callS (n := 2) cx (cc_J11_checkIndex K l (tm_hst cx) a1 g1 (tm_f σ 386 a0) q2) (lw_S q362 q363 q112 q364) ⟨by decide +kernel, by decide +kernel, by decide +kernel⟩ rfl ⟨Nat.le_of_ble_eq_true rfl, Nat.le_of_ble_eq_true rfl⟩ rfl (Nat.le_of_ble_eq_true rfl) hl.1.1 dJ3_remove_5 (fun u5 σ5 q5 => ?_)
  show tm_J p l e R s m args below meth c K tm_xC 2 _ _ (F0 m 8 ls [tm_iv u5])
  refine tm_pop_i cx dJ3_remove_8 ?_
  refine tm_aload_n cx dJ3_remove_9 (tm_has_at hl 0 rfl) ?_
  refine tm_gk_ (fun k10 => ?_)
  refine tg_J3_9 cx (fun _ => k10) dJ3_remove_10 (fun q10 => ?_)
  refine tm_ltr_ q10 (fun x13 q13 => ?_)
  refine tm_astore_n (lv' := [(2, tm_rv K x13), (0, tm_rv K a0), (1, tm_iv a1)]) cx dJ3_remove_13 hl (by decide) (by decide) rfl (fun ls hl => ?_)
  refine tm_aload_n cx dJ3_remove_14 (tm_has_at hl 0 rfl) ?_
  refine tm_iload_n cx dJ3_remove_15 (tm_has_at hl 2 rfl) ?_
  refine tm_gk_ (fun k16 => ?_)
  refine tm_aald cx (by decide) (fun _ => ⟨k16, rfl⟩) g1 dJ3_remove_16 (fun i16 q16 _ => ?_)
  refine tm_ltr_ q16 (fun x17 q17 => ?_)
  refine tm_astore_n (lv' := [(3, tm_rv K x17), (2, tm_rv K x13), (0, tm_rv K a0), (1, tm_iv a1)]) cx dJ3_remove_17 hl (by decide) (by decide) rfl (fun ls hl => ?_)
  refine tm_aload_n cx dJ3_remove_18 (tm_has_at hl 2 rfl) ?_
  refine tm_aload_n cx dJ3_remove_19 (tm_has_at hl 1 rfl) ?_
  refine tm_iload_n cx dJ3_remove_20 (tm_has_at hl 3 rfl) ?_
  refine tm_callV (n := 2) cx (cc_J3_fastRemove K l (tm_hst cx) a0 g0 x13 q13 a1 g1) (lw_V q366 q368 qs4 q100 q369) ⟨rfl, by decide +kernel, by decide +kernel, by decide +kernel⟩ rfl tm_cd_J3 (fun _ => k10) ⟨Nat.le_of_ble_eq_true rfl, Nat.le_of_ble_eq_true rfl⟩ rfl (Nat.le_of_ble_eq_true rfl) hl.1.1 dJ3_remove_21 (fun u21 σ21 q21 => ?_)
  show tm_J p l e R s m args below meth c K tm_xC 2 _ _ (F0 m 24 ls [])
  refine tm_aload_n cx dJ3_remove_24 (tm_has_at hl 0 rfl) ?_
  exact tm_areturn cx ⟨_, rfl, Or.inl ⟨_, rfl⟩⟩ q17 dJ3_remove_25
def fc_J3_elementData (a0 : Int) (a1 : Int) (σ : tm_S) : tm_R :=
  tm_gk (tm_k σ a0) 7 <|
  tm_gk (tm_k σ (tm_f σ 385 a0)) 25 <|
  tm_gx a1 (tm_n σ (tm_f σ 385 a0)) <|
  tm_rt (tm_a σ (tm_f σ 385 a0) a1) σ
theorem tm_fits_J3_elementData (K : tm_K) (a0 : Int) (a1 : Int) : (lg_sl [tm_rv K a0, tm_iv a1]).length ≤ 2 := (tm_sl_r _ _ _ _ (tm_sl_i _ _ _ (tm_sl_n _)))
theorem cc_J3_elementData (K : tm_K) (l : Launch) (hst : l.stackTraces = false) (a0 : Int) (g0 : tm_in a0) (a1 : Int) (g1 : tm_in a1) : tm_ct K tm_xC l yJ3_elementData cJ3_elementData 2 (some (.object "java/lang/Object")) 2 [tm_rv K a0, tm_iv a1] (fc_J3_elementData a0 a1) 0 0 := by
  refine tm_ct_of hst (by decide +kernel) (Nat.le_trans (tm_fits_J3_elementData K a0 a1) (Nat.le_of_ble_eq_true rfl)) ?_
  intro p e R s m args below meth c cx σ ls hl0
  have hl : tm_has 0 ls 2 [(0, tm_rv K a0), (1, tm_iv a1)] := ⟨by
    have h9 := hl0
    simp only [tm_args_r, tm_args_i, tm_args_n, Nat.zero_add, Nat.reduceAdd] at h9
    exact h9, by
    intro q hq
    simp only [List.mem_cons, List.not_mem_nil, or_false] at hq
    rcases hq with rfl | rfl
    · exact Or.inl (tm_rv_cat K a0)
    · exact Or.inl rfl⟩
  clear hl0
  unfold fc_J3_elementData
  refine tm_aload_n cx dJ3_elementData_0 (tm_has_at hl 0 rfl) ?_
  refine tm_gk_ (fun k1 => ?_)
  refine tg_J3_9 cx (fun _ => k1) dJ3_elementData_1 (fun q1 => ?_)
  refine tm_iload_n cx dJ3_elementData_4 (tm_has_at hl 1 rfl) ?_
  refine tm_gk_ (fun k5 => ?_)
  refine tm_aald cx (by decide) (fun _ => ⟨k5, rfl⟩) g1 dJ3_elementData_5 (fun i5 q5 _ => ?_)
  exact tm_areturn cx ⟨_, rfl, Or.inl ⟨_, rfl⟩⟩ q5 dJ3_elementData_6
def fc_J3_get (a0 : Int) (a1 : Int) (σ : tm_S) : tm_R :=
  tm_gk (tm_k σ a0) 7 <|
  tm_bd (fc_J11_checkIndex a1 (tm_f σ 386 a0) σ) fun u5 σ5 =>
  tm_gk (tm_k σ5 a0) 7 <|
  tm_bd (fc_J3_elementData a0 a1 σ5) fun u11 σ11 =>
  tm_rt u11 σ11
theorem tm_fits_J3_get (K : tm_K) (a0 : Int) (a1 : Int) : (lg_sl [tm_rv K a0, tm_iv a1]).length ≤ 2 := (tm_sl_r _ _ _ _ (tm_sl_i _ _ _ (tm_sl_n _)))
theorem cc_J3_get (K : tm_K) (l : Launch) (hst : l.stackTraces = false) (a0 : Int) (g0 : tm_in a0) (a1 : Int) (g1 : tm_in a1) : tm_ct K tm_xC l yJ3_get cJ3_get 2 (some (.object "java/lang/Object")) 2 [tm_rv K a0, tm_iv a1] (fc_J3_get a0 a1) 2 43 := by
  refine tm_ct_of hst (by decide +kernel) (Nat.le_trans (tm_fits_J3_get K a0 a1) (Nat.le_of_ble_eq_true rfl)) ?_
  intro p e R s m args below meth c cx σ ls hl0
  have hl : tm_has 0 ls 2 [(0, tm_rv K a0), (1, tm_iv a1)] := ⟨by
    have h9 := hl0
    simp only [tm_args_r, tm_args_i, tm_args_n, Nat.zero_add, Nat.reduceAdd] at h9
    exact h9, by
    intro q hq
    simp only [List.mem_cons, List.not_mem_nil, or_false] at hq
    rcases hq with rfl | rfl
    · exact Or.inl (tm_rv_cat K a0)
    · exact Or.inl rfl⟩
  clear hl0
  unfold fc_J3_get
  refine tm_iload_n cx dJ3_get_0 (tm_has_at hl 1 rfl) ?_
  refine tm_aload_n cx dJ3_get_1 (tm_has_at hl 0 rfl) ?_
  refine tm_gk_ (fun k2 => ?_)
  refine tg_J3_48 cx (fun _ => k2) dJ3_get_2 (fun q2 => ?_)
  refine tm_callS (n := 2) cx (cc_J11_checkIndex K l (tm_hst cx) a1 g1 (tm_f σ 386 a0) q2) (lw_S q362 q363 q112 q364) ⟨by decide +kernel, by decide +kernel, by decide +kernel⟩ rfl ⟨Nat.le_of_ble_eq_true rfl, Nat.le_of_ble_eq_true rfl⟩ rfl (Nat.le_of_ble_eq_true rfl) hl.1.1 dJ3_get_5 (fun u5 σ5 q5 => ?_)
  show tm_J p l e R s m args below meth c K tm_xC 2 _ _ (F0 m 8 ls [tm_iv u5])
  refine tm_pop_i cx dJ3_get_8 ?_
  refine tm_aload_n cx dJ3_get_9 (tm_has_at hl 0 rfl) ?_
  refine tm_iload_n cx dJ3_get_10 (tm_has_at hl 1 rfl) ?_
  refine tm_gk_ (fun k11 => ?_)
  refine tm_callV (n := 1) cx (cc_J3_elementData K l (tm_hst cx) a0 g0 a1 g1) (lw_V q375 q376 q377 q100 q378) ⟨rfl, by decide +kernel, by decide +kernel, by decide +kernel⟩ rfl tm_cd_J3 (fun _ => k11) ⟨Nat.le_of_ble_eq_true rfl, Nat.le_of_ble_eq_true rfl⟩ rfl (Nat.le_of_ble_eq_true rfl) hl.1.1 dJ3_get_11 (fun u11 σ11 q11 => ?_)
  show tm_J p l e R s m args below meth c K tm_xC 2 _ _ (F0 m 14 ls [tm_rv K u11])
  exact tm_areturn cx ⟨_, rfl, Or.inl ⟨_, rfl⟩⟩ q11 dJ3_get_14
