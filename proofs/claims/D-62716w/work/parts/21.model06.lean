set_option maxRecDepth 100000
def fm_lookUp_J99 (v3 : Int) (σ : tm_S) : tm_R :=
  tm_bd (fm_known v3 σ) fun u101 σ101 =>
  if u101 < 0 then
    tm_rt 0 σ101
  else
    tm_gx u101 120 <|
    tm_rt (tm_a σ101 115 u101) σ101
theorem wm_lookUp_J99 {p : Program} {l : Launch} {e : Env} {R : Room} {s : State} {m : MethodId} {args : Array Value} {below : List Frame} {meth : Method} {c : Code} {K : tm_K} (cx : tm_C p l R s m args meth c K cX6_lookUp 7 RX6 "lookUp" (some .int) 1 24) (v3 : Int) (σ : tm_S) (ls : Array Slot) (g3 : tm_in v3) (hl : tm_has 1 ls 7 [(0, tm_rv K 0), (3, tm_iv v3)]) : tm_J p l e R s m args below meth c K tm_xM 1 (fm_lookUp_J99 v3 σ) σ (F0 m 99 ls []) := by
  unfold fm_lookUp_J99
  refine tm_aload_n cx dX6_lookUp_99 (tm_has_at hl 0 rfl) ?_
  refine tm_iload_n cx dX6_lookUp_100 (tm_has_at hl 1 rfl) ?_
  refine tm_callV (n := 1) cx (cm_known K l (tm_hst cx) v3 g3) (lw_V q1283 q1285 qs58 q113 q1286) ⟨rfl, by decide +kernel, by decide +kernel, by decide +kernel⟩ rfl tm_cd_X6 (fun h => (tm_hM_0 h).1) ⟨Nat.le_of_ble_eq_true rfl, Nat.le_of_ble_eq_true rfl⟩ rfl (Nat.le_of_ble_eq_true rfl) hl.1.1 dX6_lookUp_101 (fun u101 σ101 q101 => ?_)
  show tm_J p l e R s m args below meth c K tm_xM 1 _ _ (F0 m 104 ls [tm_iv u101])
  refine tm_istore (lv' := [(5, tm_iv u101), (0, tm_rv K 0), (3, tm_iv v3)]) cx dX6_lookUp_104 hl (by decide) (by decide) rfl (fun ls hl => ?_)
  refine tm_iload cx dX6_lookUp_106 (tm_has_at hl 0 rfl) ?_
  refine tm_if_ge (tgt := 115) cx q101 dX6_lookUp_108 (by decide) (fun c108 => ?_) (fun c108 => ?_)
  · refine tm_iconst cx dX6_lookUp_111 ?_
    refine tm_goto (tgt := 122) cx dX6_lookUp_112 (by decide) ?_
    exact tm_ireturn cx (by decide) dX6_lookUp_122
  · refine tm_aload_n cx dX6_lookUp_115 (tm_has_at hl 1 rfl) ?_
    refine tg_X6_29 cx dX6_lookUp_116 ?_
    refine tm_iload cx dX6_lookUp_119 (tm_has_at hl 0 rfl) ?_
    refine tm_iald cx tm_hM_115 q101 dX6_lookUp_121 (fun i121 q121 => ?_)
    exact tm_ireturn cx q121 dX6_lookUp_122
def fm_lookUp_J54 (r12 : Int → Int → Int → Int → tm_S → tm_R) (v1 : Int) (v3 : Int) (v5 : Int) (v6 : Int) (vs0 : Int) (σ : tm_S) : tm_R :=
  if 0 < v6 then
    tm_bd (fm_say v6 σ) fun u64 σ64 =>
    tm_gi (v5 + (-1)) <|
    r12 v1 v3 vs0 (v5 + (-1)) σ64
  else
    tm_gi (v5 + (-1)) <|
    r12 v1 v3 vs0 (v5 + (-1)) σ
theorem wm_lookUp_J54 {p : Program} {l : Launch} {e : Env} {R : Room} {s : State} {m : MethodId} {args : Array Value} {below : List Frame} {meth : Method} {c : Code} {K : tm_K} {r12 : Int → Int → Int → Int → tm_S → tm_R} (cx : tm_C p l R s m args meth c K cX6_lookUp 7 RX6 "lookUp" (some .int) 1 24) (h12 : ∀ (v1 : Int) (v3 : Int) (v4 : Int) (v5 : Int) (τ : tm_S) (ls : Array Slot), tm_inl v1 → tm_in v3 → tm_in v4 → tm_in v5 → tm_has 1 ls 7 [(0, tm_rv K 0), (1, tm_lv v1), (3, tm_iv v3), (4, tm_iv v4), (5, tm_iv v5)] → tm_J p l e R s m args below meth c K tm_xM 1 (r12 v1 v3 v4 v5 τ) τ (F0 m 12 ls [])) (v1 : Int) (v3 : Int) (v5 : Int) (v6 : Int) (vs0 : Int) (σ : tm_S) (ls : Array Slot) (g1 : tm_inl v1) (g3 : tm_in v3) (g5 : tm_in v5) (g6 : tm_in v6) (gs0 : tm_in vs0) (hl : tm_has 1 ls 7 [(0, tm_rv K 0), (1, tm_lv v1), (3, tm_iv v3), (5, tm_iv v5), (6, tm_iv v6)]) : tm_J p l e R s m args below meth c K tm_xM 1 (fm_lookUp_J54 r12 v1 v3 v5 v6 vs0 σ) σ (F0 m 54 ls [tm_iv vs0]) := by
  unfold fm_lookUp_J54
  refine tm_istore (lv' := [(4, tm_iv vs0), (0, tm_rv K 0), (1, tm_lv v1), (3, tm_iv v3), (5, tm_iv v5), (6, tm_iv v6)]) cx dX6_lookUp_54 hl (by decide) (by decide) rfl (fun ls hl => ?_)
  refine tm_iload cx dX6_lookUp_56 (tm_has_at hl 5 rfl) ?_
  refine tm_if_le (tgt := 67) cx g6 dX6_lookUp_58 (by decide) (fun c58 => ?_) (fun c58 => ?_)
  · refine tm_aload_n cx dX6_lookUp_61 (tm_has_at hl 1 rfl) ?_
    refine tm_iload cx dX6_lookUp_62 (tm_has_at hl 5 rfl) ?_
    refine tm_callV (n := 1) cx (cm_say K l (tm_hst cx) v6 g6) (lw_V q1275 q1277 qs56 q113 q1278) ⟨rfl, by decide +kernel, by decide +kernel, by decide +kernel⟩ rfl tm_cd_X6 (fun h => (tm_hM_0 h).1) ⟨Nat.le_of_ble_eq_true rfl, Nat.le_of_ble_eq_true rfl⟩ rfl (Nat.le_of_ble_eq_true rfl) hl.1.1 dX6_lookUp_64 (fun u64 σ64 q64 => ?_)
    show tm_J p l e R s m args below meth c K tm_xM 1 _ _ (F0 m 67 ls [])
    refine tm_iinc (lv' := [(5, tm_iv (v5 + (-1))), (4, tm_iv vs0), (0, tm_rv K 0), (1, tm_lv v1), (3, tm_iv v3), (6, tm_iv v6)]) cx dX6_lookUp_67 hl (j := 4) rfl (by decide) (by decide) rfl (fun q67 ls hl => ?_)
    refine tm_goto (tgt := 12) cx dX6_lookUp_70 (by decide) ?_
    exact h12 v1 v3 vs0 (v5 + (-1)) _ _ g1 g3 gs0 q67 (tm_has_sub hl [2, 3, 4, 1, 0] rfl)
  · refine tm_iinc (lv' := [(5, tm_iv (v5 + (-1))), (4, tm_iv vs0), (0, tm_rv K 0), (1, tm_lv v1), (3, tm_iv v3), (6, tm_iv v6)]) cx dX6_lookUp_67 hl (j := 4) rfl (by decide) (by decide) rfl (fun q67 ls hl => ?_)
    refine tm_goto (tgt := 12) cx dX6_lookUp_70 (by decide) ?_
    exact h12 v1 v3 vs0 (v5 + (-1)) _ _ g1 g3 gs0 q67 (tm_has_sub hl [2, 3, 4, 1, 0] rfl)
def fm_lookUp_B12 (r12 : Int → Int → Int → Int → tm_S → tm_R) (v1 : Int) (v3 : Int) (v4 : Int) (v5 : Int) (σ : tm_S) : tm_R :=
  if v5 < 0 then
    if v4 = 0 then
      tm_rt (-1) σ
    else
      if (tm_f σ 464 0) = 0 then
        tm_rt (-1) σ
      else
        if v3 = 0 then
          fm_lookUp_J99 v3 σ
        else
          if 1 < (tm_f σ 464 0) then
            tm_rt (-1) σ
          else
            fm_lookUp_J99 v3 σ
  else
    tm_gi (8 * v5) <|
    tm_gx (8 * v5) 64 <|
    tm_lt (tm_by v1 (8 * v5) 256) fun x29 =>
    if v4 = 0 then
      fm_lookUp_J54 r12 v1 v3 v5 x29 0 σ
    else
      if x29 = 0 then
        fm_lookUp_J54 r12 v1 v3 v5 x29 1 σ
      else
        tm_bd (fm_isCode x29 σ) fun u43 σ43 =>
        if u43 = 0 then
          fm_lookUp_J54 r12 v1 v3 v5 x29 0 σ43
        else
          fm_lookUp_J54 r12 v1 v3 v5 x29 1 σ43
theorem wm_lookUp_B12 {p : Program} {l : Launch} {e : Env} {R : Room} {s : State} {m : MethodId} {args : Array Value} {below : List Frame} {meth : Method} {c : Code} {K : tm_K} {r12 : Int → Int → Int → Int → tm_S → tm_R} (cx : tm_C p l R s m args meth c K cX6_lookUp 7 RX6 "lookUp" (some .int) 1 24) (h12 : ∀ (v1 : Int) (v3 : Int) (v4 : Int) (v5 : Int) (τ : tm_S) (ls : Array Slot), tm_inl v1 → tm_in v3 → tm_in v4 → tm_in v5 → tm_has 1 ls 7 [(0, tm_rv K 0), (1, tm_lv v1), (3, tm_iv v3), (4, tm_iv v4), (5, tm_iv v5)] → tm_J p l e R s m args below meth c K tm_xM 1 (r12 v1 v3 v4 v5 τ) τ (F0 m 12 ls [])) (v1 : Int) (v3 : Int) (v4 : Int) (v5 : Int) (σ : tm_S) (ls : Array Slot) (g1 : tm_inl v1) (g3 : tm_in v3) (g4 : tm_in v4) (g5 : tm_in v5) (hl : tm_has 1 ls 7 [(0, tm_rv K 0), (1, tm_lv v1), (3, tm_iv v3), (4, tm_iv v4), (5, tm_iv v5)]) : tm_J p l e R s m args below meth c K tm_xM 1 (fm_lookUp_B12 r12 v1 v3 v4 v5 σ) σ (F0 m 12 ls []) := by
  unfold fm_lookUp_B12
  refine tm_iload cx dX6_lookUp_12 (tm_has_at hl 4 rfl) ?_
  refine tm_if_lt (tgt := 73) cx g5 dX6_lookUp_14 (by decide) (fun c14 => ?_) (fun c14 => ?_)
  · refine tm_iload cx dX6_lookUp_73 (tm_has_at hl 3 rfl) ?_
    refine tm_if_eq (tgt := 97) cx g4 dX6_lookUp_75 (by decide) (fun c75 => ?_) (fun c75 => ?_)
    · refine tm_iconst cx dX6_lookUp_97 ?_
      exact tm_ireturn cx (by decide) dX6_lookUp_98
    · refine tm_aload_n cx dX6_lookUp_78 (tm_has_at hl 0 rfl) ?_
      refine tg_X6_198 cx dX6_lookUp_79 (fun q79 => ?_)
      refine tm_if_eq (tgt := 97) cx q79 dX6_lookUp_82 (by decide) (fun c82 => ?_) (fun c82 => ?_)
      · refine tm_iconst cx dX6_lookUp_97 ?_
        exact tm_ireturn cx (by decide) dX6_lookUp_98
      · refine tm_iload_n cx dX6_lookUp_85 (tm_has_at hl 2 rfl) ?_
        refine tm_if_eq (tgt := 99) cx g3 dX6_lookUp_86 (by decide) (fun c86 => ?_) (fun c86 => ?_)
        · exact wm_lookUp_J99 cx v3 _ _ g3 (tm_has_sub hl [0, 2] rfl)
        · refine tm_aload_n cx dX6_lookUp_89 (tm_has_at hl 0 rfl) ?_
          refine tg_X6_198 cx dX6_lookUp_90 (fun q90 => ?_)
          refine tm_iconst cx dX6_lookUp_93 ?_
          refine tm_icmp_le (tgt := 99) cx q90 (by decide) dX6_lookUp_94 (by decide) (fun c94 => ?_) (fun c94 => ?_)
          · refine tm_iconst cx dX6_lookUp_97 ?_
            exact tm_ireturn cx (by decide) dX6_lookUp_98
          · exact wm_lookUp_J99 cx v3 _ _ g3 (tm_has_sub hl [0, 2] rfl)
  · refine tm_lload_n cx dX6_lookUp_17 (tm_has_at hl 1 rfl) ?_
    refine tm_bipush cx dX6_lookUp_18 (by decide) ?_
    refine tm_iload cx dX6_lookUp_20 (tm_has_at hl 4 rfl) ?_
    refine tm_imul cx dX6_lookUp_22 (fun q22 => ?_)
    refine tm_by255 cx g1 q22 q1239 dX6_lookUp_23 dX6_lookUp_24 dX6_lookUp_27 dX6_lookUp_28 (fun q23 => ?_)
    refine tm_lt_ q23 (fun x29 q29 => ?_)
    refine tm_istore (lv' := [(6, tm_iv x29), (0, tm_rv K 0), (1, tm_lv v1), (3, tm_iv v3), (4, tm_iv v4), (5, tm_iv v5)]) cx dX6_lookUp_29 hl (by decide) (by decide) rfl (fun ls hl => ?_)
    refine tm_iload cx dX6_lookUp_31 (tm_has_at hl 4 rfl) ?_
    refine tm_if_eq (tgt := 53) cx g4 dX6_lookUp_33 (by decide) (fun c33 => ?_) (fun c33 => ?_)
    · refine tm_iconst cx dX6_lookUp_53 ?_
      exact wm_lookUp_J54 cx h12 v1 v3 v5 x29 0 _ _ g1 g3 g5 q29 (by decide) (tm_has_sub hl [1, 2, 3, 5, 0] rfl)
    · refine tm_iload cx dX6_lookUp_36 (tm_has_at hl 0 rfl) ?_
      refine tm_if_eq (tgt := 49) cx q29 dX6_lookUp_38 (by decide) (fun c38 => ?_) (fun c38 => ?_)
      · refine tm_iconst cx dX6_lookUp_49 ?_
        refine tm_goto (tgt := 54) cx dX6_lookUp_50 (by decide) ?_
        exact wm_lookUp_J54 cx h12 v1 v3 v5 x29 1 _ _ g1 g3 g5 q29 (by decide) (tm_has_sub hl [1, 2, 3, 5, 0] rfl)
      · refine tm_iload cx dX6_lookUp_41 (tm_has_at hl 0 rfl) ?_
        refine tm_callS (n := 1) cx (cm_isCode K l (tm_hst cx) x29 q29) (lw_S q1240 q1241 q113 q1242) ⟨by decide +kernel, by decide +kernel, by decide +kernel⟩ rfl ⟨Nat.le_of_ble_eq_true rfl, Nat.le_of_ble_eq_true rfl⟩ rfl (Nat.le_of_ble_eq_true rfl) hl.1.1 dX6_lookUp_43 (fun u43 σ43 q43 => ?_)
        show tm_J p l e R s m args below meth c K tm_xM 1 _ _ (F0 m 46 ls [tm_iv u43])
        refine tm_if_eq (tgt := 53) cx q43 dX6_lookUp_46 (by decide) (fun c46 => ?_) (fun c46 => ?_)
        · refine tm_iconst cx dX6_lookUp_53 ?_
          exact wm_lookUp_J54 cx h12 v1 v3 v5 x29 0 _ _ g1 g3 g5 q29 (by decide) (tm_has_sub hl [1, 2, 3, 5, 0] rfl)
        · refine tm_iconst cx dX6_lookUp_49 ?_
          refine tm_goto (tgt := 54) cx dX6_lookUp_50 (by decide) ?_
          exact wm_lookUp_J54 cx h12 v1 v3 v5 x29 1 _ _ g1 g3 g5 q29 (by decide) (tm_has_sub hl [1, 2, 3, 5, 0] rfl)
def fm_lookUp_L12 : Nat → Int → Int → Int → Int → tm_S → tm_R
  | 0, _, _, _, _, _ => none
  | n + 1, v1, v3, v4, v5, σ => fm_lookUp_B12 (fm_lookUp_L12 n) v1 v3 v4 v5 σ
theorem wm_lookUp_L12 {p : Program} {l : Launch} {e : Env} {R : Room} {s : State} {m : MethodId} {args : Array Value} {below : List Frame} {meth : Method} {c : Code} {K : tm_K} (cx : tm_C p l R s m args meth c K cX6_lookUp 7 RX6 "lookUp" (some .int) 1 24) : ∀ (n : Nat) (v1 : Int) (v3 : Int) (v4 : Int) (v5 : Int) (σ : tm_S) (ls : Array Slot), tm_inl v1 → tm_in v3 → tm_in v4 → tm_in v5 → tm_has 1 ls 7 [(0, tm_rv K 0), (1, tm_lv v1), (3, tm_iv v3), (4, tm_iv v4), (5, tm_iv v5)] → tm_J p l e R s m args below meth c K tm_xM 1 (fm_lookUp_L12 n v1 v3 v4 v5 σ) σ (F0 m 12 ls []) := by
  intro n
  induction n with
  | zero => intros; exact tm_none
  | succ n ih =>
    intro v1 v3 v4 v5 σ ls g1 g3 g4 g5 hl
    exact wm_lookUp_B12 (r12 := fm_lookUp_L12 n) cx ih v1 v3 v4 v5 σ ls g1 g3 g4 g5 hl
def fm_lookUp (a1 : Int) (a2 : Int) (σ : tm_S) : tm_R :=
  fm_lookUp_L12 tm_FU a1 a2 1 7 (tm_wf σ 464 0 0)
theorem tm_fits_X6_lookUp (K : tm_K) (a1 : Int) (a2 : Int) : (lg_sl [tm_rv K 0, tm_lv a1, tm_iv a2]).length ≤ 4 := (tm_sl_r _ _ _ _ (tm_sl_l _ _ _ (tm_sl_i _ _ _ (tm_sl_n _))))
theorem cm_lookUp (K : tm_K) (l : Launch) (hst : l.stackTraces = false) (a1 : Int) (g1 : tm_inl a1) (a2 : Int) (g2 : tm_in a2) : tm_ct K tm_xM l yX6_lookUp cX6_lookUp 7 (some .int) 1 [tm_rv K 0, tm_lv a1, tm_iv a2] (fm_lookUp a1 a2) 1 24 := by
  refine tm_ct_of hst (by decide +kernel) (Nat.le_trans (tm_fits_X6_lookUp K a1 a2) (Nat.le_of_ble_eq_true rfl)) ?_
  intro p e R s m args below meth c cx σ ls hl0
  have hl : tm_has 1 ls 7 [(0, tm_rv K 0), (1, tm_lv a1), (3, tm_iv a2)] := ⟨by
    have h9 := hl0
    simp only [tm_args_r, tm_args_l, tm_args_i, tm_args_n, Nat.zero_add, Nat.reduceAdd] at h9
    exact h9, by
    intro q hq
    simp only [List.mem_cons, List.not_mem_nil, or_false] at hq
    rcases hq with rfl | rfl | rfl
    · exact Or.inl (tm_rv_cat K 0)
    · exact Or.inr (Or.inl ⟨by decide, rfl⟩)
    · exact Or.inl rfl⟩
  clear hl0
  unfold fm_lookUp
  refine tm_aload_n cx dX6_lookUp_0 (tm_has_at hl 0 rfl) ?_
  refine tm_iconst cx dX6_lookUp_1 ?_
  refine tp_X6_198 cx (by decide) dX6_lookUp_2 ?_
  refine tm_iconst cx dX6_lookUp_5 ?_
  refine tm_istore (lv' := [(4, tm_iv 1), (0, tm_rv K 0), (1, tm_lv a1), (3, tm_iv a2)]) cx dX6_lookUp_6 hl (by decide) (by decide) rfl (fun ls hl => ?_)
  refine tm_bipush cx dX6_lookUp_8 (by decide) ?_
  refine tm_istore (lv' := [(5, tm_iv 7), (4, tm_iv 1), (0, tm_rv K 0), (1, tm_lv a1), (3, tm_iv a2)]) cx dX6_lookUp_10 hl (by decide) (by decide) rfl (fun ls hl => ?_)
  exact wm_lookUp_L12 cx tm_FU a1 a2 1 7 _ _ g1 g2 (by decide) (by decide) (tm_has_sub hl [2, 3, 4, 1, 0] rfl)
def fm_meaning (a1 : Int) (a2 : Int) (σ : tm_S) : tm_R :=
  tm_bd (fm_lookUp a1 a2 (tm_wf σ 448 0 0)) fun u8 σ8 =>
  if u8 < 0 then
    tm_bd (fm_fails σ8) fun u19 σ19 =>
    tm_rt u19 σ19
  else
    if u8 = 0 then
      tm_rt 0 σ8
    else
      if u8 < 1000 then
        tm_rt 1 σ8
      else
        if u8 < 6000 then
          tm_rt 2 σ8
        else
          tm_rt 3 σ8
theorem tm_fits_X6_meaning (K : tm_K) (a1 : Int) (a2 : Int) : (lg_sl [tm_rv K 0, tm_lv a1, tm_iv a2]).length ≤ 4 := (tm_sl_r _ _ _ _ (tm_sl_l _ _ _ (tm_sl_i _ _ _ (tm_sl_n _))))
theorem cm_meaning (K : tm_K) (l : Launch) (hst : l.stackTraces = false) (a1 : Int) (g1 : tm_inl a1) (a2 : Int) (g2 : tm_in a2) : tm_ct K tm_xM l yX6_meaning cX6_meaning 5 (some .int) 1 [tm_rv K 0, tm_lv a1, tm_iv a2] (fm_meaning a1 a2) 2 50 := by
  refine tm_ct_of hst (by decide +kernel) (Nat.le_trans (tm_fits_X6_meaning K a1 a2) (Nat.le_of_ble_eq_true rfl)) ?_
  intro p e R s m args below meth c cx σ ls hl0
  have hl : tm_has 1 ls 5 [(0, tm_rv K 0), (1, tm_lv a1), (3, tm_iv a2)] := ⟨by
    have h9 := hl0
    simp only [tm_args_r, tm_args_l, tm_args_i, tm_args_n, Nat.zero_add, Nat.reduceAdd] at h9
    exact h9, by
    intro q hq
    simp only [List.mem_cons, List.not_mem_nil, or_false] at hq
    rcases hq with rfl | rfl | rfl
    · exact Or.inl (tm_rv_cat K 0)
    · exact Or.inr (Or.inl ⟨by decide, rfl⟩)
    · exact Or.inl rfl⟩
  clear hl0
  unfold fm_meaning
  refine tm_aload_n cx dX6_meaning_0 (tm_has_at hl 0 rfl) ?_
  refine tm_iconst cx dX6_meaning_1 ?_
  refine tp_X6_186 cx (by decide) dX6_meaning_2 ?_
  refine tm_aload_n cx dX6_meaning_5 (tm_has_at hl 0 rfl) ?_
  refine tm_lload_n cx dX6_meaning_6 (tm_has_at hl 1 rfl) ?_
  refine tm_iload_n cx dX6_meaning_7 (tm_has_at hl 2 rfl) ?_
  refine tm_callV (n := 2) cx (cm_lookUp K l (tm_hst cx) a1 g1 a2 g2) (lw_V q1461 q1463 qs93 q113 q1464) ⟨rfl, by decide +kernel, by decide +kernel, by decide +kernel⟩ rfl tm_cd_X6 (fun h => (tm_hM_0 h).1) ⟨Nat.le_of_ble_eq_true rfl, Nat.le_of_ble_eq_true rfl⟩ rfl (Nat.le_of_ble_eq_true rfl) hl.1.1 dX6_meaning_8 (fun u8 σ8 q8 => ?_)
  show tm_J p l e R s m args below meth c K tm_xM 1 _ _ (F0 m 11 ls [tm_iv u8])
  refine tm_istore (lv' := [(4, tm_iv u8), (0, tm_rv K 0), (1, tm_lv a1), (3, tm_iv a2)]) cx dX6_meaning_11 hl (by decide) (by decide) rfl (fun ls hl => ?_)
  refine tm_iload cx dX6_meaning_13 (tm_has_at hl 0 rfl) ?_
  refine tm_if_ge (tgt := 25) cx q8 dX6_meaning_15 (by decide) (fun c15 => ?_) (fun c15 => ?_)
  · refine tm_aload_n cx dX6_meaning_18 (tm_has_at hl 1 rfl) ?_
    refine tm_callV (n := 0) cx (cm_fails K l (tm_hst cx)) (lw_V q1441 q1443 qs92 q113 q1444) ⟨rfl, by decide +kernel, by decide +kernel, by decide +kernel⟩ rfl tm_cd_X6 (fun h => (tm_hM_0 h).1) ⟨Nat.le_of_ble_eq_true rfl, Nat.le_of_ble_eq_true rfl⟩ rfl (Nat.le_of_ble_eq_true rfl) hl.1.1 dX6_meaning_19 (fun u19 σ19 q19 => ?_)
    show tm_J p l e R s m args below meth c K tm_xM 1 _ _ (F0 m 22 ls [tm_iv u19])
    refine tm_goto (tgt := 59) cx dX6_meaning_22 (by decide) ?_
    exact tm_ireturn cx q19 dX6_meaning_59
  · refine tm_iload cx dX6_meaning_25 (tm_has_at hl 0 rfl) ?_
    refine tm_if_ne (tgt := 34) cx q8 dX6_meaning_27 (by decide) (fun c27 => ?_) (fun c27 => ?_)
    · refine tm_iconst cx dX6_meaning_30 ?_
      refine tm_goto (tgt := 59) cx dX6_meaning_31 (by decide) ?_
      exact tm_ireturn cx (by decide) dX6_meaning_59
    · refine tm_iload cx dX6_meaning_34 (tm_has_at hl 0 rfl) ?_
      refine tm_sipush cx dX6_meaning_36 (by decide) ?_
      refine tm_icmp_ge (tgt := 46) cx q8 (by decide) dX6_meaning_39 (by decide) (fun c39 => ?_) (fun c39 => ?_)
      · refine tm_iconst cx dX6_meaning_42 ?_
        refine tm_goto (tgt := 59) cx dX6_meaning_43 (by decide) ?_
        exact tm_ireturn cx (by decide) dX6_meaning_59
      · refine tm_iload cx dX6_meaning_46 (tm_has_at hl 0 rfl) ?_
        refine tm_sipush cx dX6_meaning_48 (by decide) ?_
        refine tm_icmp_ge (tgt := 58) cx q8 (by decide) dX6_meaning_51 (by decide) (fun c51 => ?_) (fun c51 => ?_)
        · refine tm_iconst cx dX6_meaning_54 ?_
          refine tm_goto (tgt := 59) cx dX6_meaning_55 (by decide) ?_
          exact tm_ireturn cx (by decide) dX6_meaning_59
        · refine tm_iconst cx dX6_meaning_58 ?_
          exact tm_ireturn cx (by decide) dX6_meaning_59
def fm_detail_J116 (v4 : Int) (v6 : Int) (v7 : Int) (σ : tm_S) : tm_R :=
  if v6 = 0 then
    tm_rt 0 σ
  else
    if v4 = 1 then
      tm_gx v7 61 <|
      tm_rt (tm_a σ 124 v7) σ
    else
      tm_gx v7 61 <|
      tm_rt (tm_a σ 126 v7) σ
theorem wm_detail_J116 {p : Program} {l : Launch} {e : Env} {R : Room} {s : State} {m : MethodId} {args : Array Value} {below : List Frame} {meth : Method} {c : Code} {K : tm_K} (cx : tm_C p l R s m args meth c K cX6_detail 9 RX6 "detail" (some .int) 2 50) (v4 : Int) (v6 : Int) (v7 : Int) (σ : tm_S) (ls : Array Slot) (g4 : tm_in v4) (g6 : tm_in v6) (g7 : tm_in v7) (hl : tm_has 1 ls 9 [(0, tm_rv K 0), (4, tm_iv v4), (6, tm_iv v6), (7, tm_iv v7)]) : tm_J p l e R s m args below meth c K tm_xM 1 (fm_detail_J116 v4 v6 v7 σ) σ (F0 m 116 ls []) := by
  unfold fm_detail_J116
  refine tm_iload cx dX6_detail_116 (tm_has_at hl 2 rfl) ?_
  refine tm_if_ne (tgt := 125) cx g6 dX6_detail_118 (by decide) (fun c118 => ?_) (fun c118 => ?_)
  · refine tm_iconst cx dX6_detail_121 ?_
    refine tm_goto (tgt := 148) cx dX6_detail_122 (by decide) ?_
    exact tm_ireturn cx (by decide) dX6_detail_148
  · refine tm_iload cx dX6_detail_125 (tm_has_at hl 1 rfl) ?_
    refine tm_iconst cx dX6_detail_127 ?_
    refine tm_icmp_ne (tgt := 141) cx g4 (by decide) dX6_detail_128 (by decide) (fun c128 => ?_) (fun c128 => ?_)
    · refine tm_aload_n cx dX6_detail_131 (tm_has_at hl 0 rfl) ?_
      refine tg_X6_44 cx dX6_detail_132 ?_
      refine tm_iload cx dX6_detail_135 (tm_has_at hl 3 rfl) ?_
      refine tm_iald cx tm_hM_124 g7 dX6_detail_137 (fun i137 q137 => ?_)
      refine tm_goto (tgt := 148) cx dX6_detail_138 (by decide) ?_
      exact tm_ireturn cx q137 dX6_detail_148
    · refine tm_aload_n cx dX6_detail_141 (tm_has_at hl 0 rfl) ?_
      refine tg_X6_50 cx dX6_detail_142 ?_
      refine tm_iload cx dX6_detail_145 (tm_has_at hl 3 rfl) ?_
      refine tm_iald cx tm_hM_126 g7 dX6_detail_147 (fun i147 q147 => ?_)
      exact tm_ireturn cx q147 dX6_detail_148
def fm_detail_J53 (v4 : Int) (v5 : Int) (v6 : Int) (vs0 : Int) (σ : tm_S) : tm_R :=
  if v4 = 0 then
    if v5 = 0 then
      tm_rt (-1) σ
    else
      if v6 = 0 then
        if v5 < 1000 then
          tm_rt v5 σ
        else
          tm_gi (v5 - 1000) <|
          tm_rt (v5 - 1000) σ
      else
        tm_gx vs0 61 <|
        tm_rt (tm_a σ 128 vs0) σ
  else
    if v4 = 1 then
      fm_detail_J116 v4 v6 vs0 σ
    else
      if v4 = 2 then
        fm_detail_J116 v4 v6 vs0 σ
      else
        if v6 = 0 then
          tm_rt (-1) σ
        else
          if v4 < 3 then
            tm_rt (-1) σ
          else
            tm_gi (v4 - 3) <|
            tm_gx vs0 61 <|
            if (v4 - 3) < (tm_a σ 126 vs0) then
              tm_gi (41 * vs0) <|
              tm_gi ((41 * vs0) + v4) <|
              tm_gi (((41 * vs0) + v4) - 3) <|
              tm_gx (((41 * vs0) + v4) - 3) 2500 <|
              tm_lt (tm_a σ 127 (((41 * vs0) + v4) - 3)) fun x191 =>
              if x191 < 4096 then
                tm_rt x191 σ
              else
                if x191 < 16384 then
                  tm_rt 4096 σ
                else
                  tm_gi (4096 + x191) <|
                  tm_gi ((4096 + x191) - 16384) <|
                  tm_rt ((4096 + x191) - 16384) σ
            else
              tm_rt (-1) σ
theorem wm_detail_J53 {p : Program} {l : Launch} {e : Env} {R : Room} {s : State} {m : MethodId} {args : Array Value} {below : List Frame} {meth : Method} {c : Code} {K : tm_K} (cx : tm_C p l R s m args meth c K cX6_detail 9 RX6 "detail" (some .int) 2 50) (v4 : Int) (v5 : Int) (v6 : Int) (vs0 : Int) (σ : tm_S) (ls : Array Slot) (g4 : tm_in v4) (g5 : tm_in v5) (g6 : tm_in v6) (gs0 : tm_in vs0) (hl : tm_has 1 ls 9 [(0, tm_rv K 0), (4, tm_iv v4), (5, tm_iv v5), (6, tm_iv v6)]) : tm_J p l e R s m args below meth c K tm_xM 1 (fm_detail_J53 v4 v5 v6 vs0 σ) σ (F0 m 53 ls [tm_iv vs0]) := by
  unfold fm_detail_J53
  refine tm_istore (lv' := [(7, tm_iv vs0), (0, tm_rv K 0), (4, tm_iv v4), (5, tm_iv v5), (6, tm_iv v6)]) cx dX6_detail_53 hl (by decide) (by decide) rfl (fun ls hl => ?_)
  refine tm_iload cx dX6_detail_55 (tm_has_at hl 2 rfl) ?_
  refine tm_if_ne (tgt := 104) cx g4 dX6_detail_57 (by decide) (fun c57 => ?_) (fun c57 => ?_)
  · refine tm_iload cx dX6_detail_60 (tm_has_at hl 3 rfl) ?_
    refine tm_if_ne (tgt := 69) cx g5 dX6_detail_62 (by decide) (fun c62 => ?_) (fun c62 => ?_)
    · refine tm_iconst cx dX6_detail_65 ?_
      refine tm_goto (tgt := 103) cx dX6_detail_66 (by decide) ?_
      exact tm_ireturn cx (by decide) dX6_detail_103
    · refine tm_iload cx dX6_detail_69 (tm_has_at hl 4 rfl) ?_
      refine tm_if_eq (tgt := 84) cx g6 dX6_detail_71 (by decide) (fun c71 => ?_) (fun c71 => ?_)
      · refine tm_iload cx dX6_detail_84 (tm_has_at hl 3 rfl) ?_
        refine tm_sipush cx dX6_detail_86 (by decide) ?_
        refine tm_icmp_ge (tgt := 97) cx g5 (by decide) dX6_detail_89 (by decide) (fun c89 => ?_) (fun c89 => ?_)
        · refine tm_iload cx dX6_detail_92 (tm_has_at hl 3 rfl) ?_
          refine tm_goto (tgt := 103) cx dX6_detail_94 (by decide) ?_
          exact tm_ireturn cx g5 dX6_detail_103
        · refine tm_iload cx dX6_detail_97 (tm_has_at hl 3 rfl) ?_
          refine tm_sipush cx dX6_detail_99 (by decide) ?_
          refine tm_isub cx dX6_detail_102 (fun q102 => ?_)
          exact tm_ireturn cx q102 dX6_detail_103
      · refine tm_aload_n cx dX6_detail_74 (tm_has_at hl 1 rfl) ?_
        refine tg_X6_56 cx dX6_detail_75 ?_
        refine tm_iload cx dX6_detail_78 (tm_has_at hl 0 rfl) ?_
        refine tm_iald cx tm_hM_128 gs0 dX6_detail_80 (fun i80 q80 => ?_)
        refine tm_goto (tgt := 103) cx dX6_detail_81 (by decide) ?_
        exact tm_ireturn cx q80 dX6_detail_103
  · refine tm_iload cx dX6_detail_104 (tm_has_at hl 2 rfl) ?_
    refine tm_iconst cx dX6_detail_106 ?_
    refine tm_icmp_eq (tgt := 116) cx g4 (by decide) dX6_detail_107 (by decide) (fun c107 => ?_) (fun c107 => ?_)
    · exact wm_detail_J116 cx v4 v6 vs0 _ _ g4 g6 gs0 (tm_has_sub hl [1, 2, 4, 0] rfl)
    · refine tm_iload cx dX6_detail_110 (tm_has_at hl 2 rfl) ?_
      refine tm_iconst cx dX6_detail_112 ?_
      refine tm_icmp_ne (tgt := 149) cx g4 (by decide) dX6_detail_113 (by decide) (fun c113 => ?_) (fun c113 => ?_)
      · exact wm_detail_J116 cx v4 v6 vs0 _ _ g4 g6 gs0 (tm_has_sub hl [1, 2, 4, 0] rfl)
      · refine tm_iload cx dX6_detail_149 (tm_has_at hl 4 rfl) ?_
        refine tm_if_eq (tgt := 174) cx g6 dX6_detail_151 (by decide) (fun c151 => ?_) (fun c151 => ?_)
        · refine tm_iconst cx dX6_detail_174 ?_
          exact tm_ireturn cx (by decide) dX6_detail_175
        · refine tm_iload cx dX6_detail_154 (tm_has_at hl 2 rfl) ?_
          refine tm_iconst cx dX6_detail_156 ?_
          refine tm_icmp_lt (tgt := 174) cx g4 (by decide) dX6_detail_157 (by decide) (fun c157 => ?_) (fun c157 => ?_)
          · refine tm_iconst cx dX6_detail_174 ?_
            exact tm_ireturn cx (by decide) dX6_detail_175
          · refine tm_iload cx dX6_detail_160 (tm_has_at hl 2 rfl) ?_
            refine tm_iconst cx dX6_detail_162 ?_
            refine tm_isub cx dX6_detail_163 (fun q163 => ?_)
            refine tm_aload_n cx dX6_detail_164 (tm_has_at hl 1 rfl) ?_
            refine tg_X6_50 cx dX6_detail_165 ?_
            refine tm_iload cx dX6_detail_168 (tm_has_at hl 0 rfl) ?_
            refine tm_iald cx tm_hM_126 gs0 dX6_detail_170 (fun i170 q170 => ?_)
            refine tm_icmp_lt (tgt := 176) cx q163 q170 dX6_detail_171 (by decide) (fun c171 => ?_) (fun c171 => ?_)
            · refine tm_aload_n cx dX6_detail_176 (tm_has_at hl 1 rfl) ?_
              refine tg_X6_53 cx dX6_detail_177 ?_
              refine tm_bipush cx dX6_detail_180 (by decide) ?_
              refine tm_iload cx dX6_detail_182 (tm_has_at hl 0 rfl) ?_
              refine tm_imul cx dX6_detail_184 (fun q184 => ?_)
              refine tm_iload cx dX6_detail_185 (tm_has_at hl 2 rfl) ?_
              refine tm_iadd cx dX6_detail_187 (fun q187 => ?_)
              refine tm_iconst cx dX6_detail_188 ?_
              refine tm_isub cx dX6_detail_189 (fun q189 => ?_)
              refine tm_iald cx tm_hM_127 q189 dX6_detail_190 (fun i190 q190 => ?_)
              refine tm_lt_ q190 (fun x191 q191 => ?_)
              refine tm_istore (lv' := [(8, tm_iv x191), (7, tm_iv vs0), (0, tm_rv K 0), (4, tm_iv v4), (5, tm_iv v5), (6, tm_iv v6)]) cx dX6_detail_191 hl (by decide) (by decide) rfl (fun ls hl => ?_)
              refine tm_iload cx dX6_detail_193 (tm_has_at hl 0 rfl) ?_
              refine tm_sipush cx dX6_detail_195 (by decide) ?_
              refine tm_icmp_ge (tgt := 206) cx q191 (by decide) dX6_detail_198 (by decide) (fun c198 => ?_) (fun c198 => ?_)
              · refine tm_iload cx dX6_detail_201 (tm_has_at hl 0 rfl) ?_
                refine tm_goto (tgt := 230) cx dX6_detail_203 (by decide) ?_
                exact tm_ireturn cx q191 dX6_detail_230
              · refine tm_iload cx dX6_detail_206 (tm_has_at hl 0 rfl) ?_
                refine tm_sipush cx dX6_detail_208 (by decide) ?_
                refine tm_icmp_ge (tgt := 220) cx q191 (by decide) dX6_detail_211 (by decide) (fun c211 => ?_) (fun c211 => ?_)
                · refine tm_sipush cx dX6_detail_214 (by decide) ?_
                  refine tm_goto (tgt := 230) cx dX6_detail_217 (by decide) ?_
                  exact tm_ireturn cx (by decide) dX6_detail_230
                · refine tm_sipush cx dX6_detail_220 (by decide) ?_
                  refine tm_iload cx dX6_detail_223 (tm_has_at hl 0 rfl) ?_
                  refine tm_iadd cx dX6_detail_225 (fun q225 => ?_)
                  refine tm_sipush cx dX6_detail_226 (by decide) ?_
                  refine tm_isub cx dX6_detail_229 (fun q229 => ?_)
                  exact tm_ireturn cx q229 dX6_detail_230
            · refine tm_iconst cx dX6_detail_174 ?_
              exact tm_ireturn cx (by decide) dX6_detail_175
def fm_detail_J36 (v4 : Int) (v5 : Int) (vs0 : Int) (σ : tm_S) : tm_R :=
  if vs0 = 0 then
    fm_detail_J53 v4 v5 vs0 0 σ
  else
    tm_gi (v5 - 6000) <|
    fm_detail_J53 v4 v5 vs0 (v5 - 6000) σ
theorem wm_detail_J36 {p : Program} {l : Launch} {e : Env} {R : Room} {s : State} {m : MethodId} {args : Array Value} {below : List Frame} {meth : Method} {c : Code} {K : tm_K} (cx : tm_C p l R s m args meth c K cX6_detail 9 RX6 "detail" (some .int) 2 50) (v4 : Int) (v5 : Int) (vs0 : Int) (σ : tm_S) (ls : Array Slot) (g4 : tm_in v4) (g5 : tm_in v5) (gs0 : tm_in vs0) (hl : tm_has 1 ls 9 [(0, tm_rv K 0), (4, tm_iv v4), (5, tm_iv v5)]) : tm_J p l e R s m args below meth c K tm_xM 1 (fm_detail_J36 v4 v5 vs0 σ) σ (F0 m 36 ls [tm_iv vs0]) := by
  unfold fm_detail_J36
  refine tm_istore (lv' := [(6, tm_iv vs0), (0, tm_rv K 0), (4, tm_iv v4), (5, tm_iv v5)]) cx dX6_detail_36 hl (by decide) (by decide) rfl (fun ls hl => ?_)
  refine tm_iload cx dX6_detail_38 (tm_has_at hl 0 rfl) ?_
  refine tm_if_eq (tgt := 52) cx gs0 dX6_detail_40 (by decide) (fun c40 => ?_) (fun c40 => ?_)
  · refine tm_iconst cx dX6_detail_52 ?_
    exact wm_detail_J53 cx v4 v5 vs0 0 _ _ g4 g5 gs0 (by decide) (tm_has_sub hl [1, 2, 3, 0] rfl)
  · refine tm_iload cx dX6_detail_43 (tm_has_at hl 3 rfl) ?_
    refine tm_sipush cx dX6_detail_45 (by decide) ?_
    refine tm_isub cx dX6_detail_48 (fun q48 => ?_)
    refine tm_goto (tgt := 53) cx dX6_detail_49 (by decide) ?_
    exact wm_detail_J53 cx v4 v5 vs0 (v5 - 6000) _ _ g4 g5 gs0 q48 (tm_has_sub hl [1, 2, 3, 0] rfl)
def fm_detail (a1 : Int) (a2 : Int) (a3 : Int) (σ : tm_S) : tm_R :=
  tm_bd (fm_lookUp a1 a2 (tm_wf σ 448 0 0)) fun u8 σ8 =>
  if u8 < 0 then
    tm_bd (fm_fails σ8) fun u19 σ19 =>
    tm_rt u19 σ19
  else
    if u8 < 6000 then
      fm_detail_J36 a3 u8 0 σ8
    else
      fm_detail_J36 a3 u8 1 σ8
theorem tm_fits_X6_detail (K : tm_K) (a1 : Int) (a2 : Int) (a3 : Int) : (lg_sl [tm_rv K 0, tm_lv a1, tm_iv a2, tm_iv a3]).length ≤ 5 := (tm_sl_r _ _ _ _ (tm_sl_l _ _ _ (tm_sl_i _ _ _ (tm_sl_i _ _ _ (tm_sl_n _)))))
theorem cm_detail (K : tm_K) (l : Launch) (hst : l.stackTraces = false) (a1 : Int) (g1 : tm_inl a1) (a2 : Int) (g2 : tm_in a2) (a3 : Int) (g3 : tm_in a3) : tm_ct K tm_xM l yX6_detail cX6_detail 9 (some .int) 1 [tm_rv K 0, tm_lv a1, tm_iv a2, tm_iv a3] (fm_detail a1 a2 a3) 2 50 := by
  refine tm_ct_of hst (by decide +kernel) (Nat.le_trans (tm_fits_X6_detail K a1 a2 a3) (Nat.le_of_ble_eq_true rfl)) ?_
  intro p e R s m args below meth c cx σ ls hl0
  have hl : tm_has 1 ls 9 [(0, tm_rv K 0), (1, tm_lv a1), (3, tm_iv a2), (4, tm_iv a3)] := ⟨by
    have h9 := hl0
    simp only [tm_args_r, tm_args_l, tm_args_i, tm_args_i, tm_args_n, Nat.zero_add, Nat.reduceAdd] at h9
    exact h9, by
    intro q hq
    simp only [List.mem_cons, List.not_mem_nil, or_false] at hq
    rcases hq with rfl | rfl | rfl | rfl
    · exact Or.inl (tm_rv_cat K 0)
    · exact Or.inr (Or.inl ⟨by decide, rfl⟩)
    · exact Or.inl rfl
    · exact Or.inl rfl⟩
  clear hl0
  unfold fm_detail
  refine tm_aload_n cx dX6_detail_0 (tm_has_at hl 0 rfl) ?_
  refine tm_iconst cx dX6_detail_1 ?_
  refine tp_X6_186 cx (by decide) dX6_detail_2 ?_
  refine tm_aload_n cx dX6_detail_5 (tm_has_at hl 0 rfl) ?_
  refine tm_lload_n cx dX6_detail_6 (tm_has_at hl 1 rfl) ?_
  refine tm_iload_n cx dX6_detail_7 (tm_has_at hl 2 rfl) ?_
  refine tm_callV (n := 2) cx (cm_lookUp K l (tm_hst cx) a1 g1 a2 g2) (lw_V q1461 q1463 qs93 q113 q1464) ⟨rfl, by decide +kernel, by decide +kernel, by decide +kernel⟩ rfl tm_cd_X6 (fun h => (tm_hM_0 h).1) ⟨Nat.le_of_ble_eq_true rfl, Nat.le_of_ble_eq_true rfl⟩ rfl (Nat.le_of_ble_eq_true rfl) hl.1.1 dX6_detail_8 (fun u8 σ8 q8 => ?_)
  show tm_J p l e R s m args below meth c K tm_xM 1 _ _ (F0 m 11 ls [tm_iv u8])
  refine tm_istore (lv' := [(5, tm_iv u8), (0, tm_rv K 0), (1, tm_lv a1), (3, tm_iv a2), (4, tm_iv a3)]) cx dX6_detail_11 hl (by decide) (by decide) rfl (fun ls hl => ?_)
  refine tm_iload cx dX6_detail_13 (tm_has_at hl 0 rfl) ?_
  refine tm_if_ge (tgt := 23) cx q8 dX6_detail_15 (by decide) (fun c15 => ?_) (fun c15 => ?_)
  · refine tm_aload_n cx dX6_detail_18 (tm_has_at hl 1 rfl) ?_
    refine tm_callV (n := 0) cx (cm_fails K l (tm_hst cx)) (lw_V q1441 q1443 qs92 q113 q1444) ⟨rfl, by decide +kernel, by decide +kernel, by decide +kernel⟩ rfl tm_cd_X6 (fun h => (tm_hM_0 h).1) ⟨Nat.le_of_ble_eq_true rfl, Nat.le_of_ble_eq_true rfl⟩ rfl (Nat.le_of_ble_eq_true rfl) hl.1.1 dX6_detail_19 (fun u19 σ19 q19 => ?_)
    show tm_J p l e R s m args below meth c K tm_xM 1 _ _ (F0 m 22 ls [tm_iv u19])
    exact tm_ireturn cx q19 dX6_detail_22
  · refine tm_iload cx dX6_detail_23 (tm_has_at hl 0 rfl) ?_
    refine tm_sipush cx dX6_detail_25 (by decide) ?_
    refine tm_icmp_lt (tgt := 35) cx q8 (by decide) dX6_detail_28 (by decide) (fun c28 => ?_) (fun c28 => ?_)
    · refine tm_iconst cx dX6_detail_35 ?_
      exact wm_detail_J36 cx a3 u8 0 _ _ g3 q8 (by decide) (tm_has_sub hl [1, 4, 0] rfl)
    · refine tm_iconst cx dX6_detail_31 ?_
      refine tm_goto (tgt := 36) cx dX6_detail_32 (by decide) ?_
      exact wm_detail_J36 cx a3 u8 1 _ _ g3 q8 (by decide) (tm_has_sub hl [1, 4, 0] rfl)
