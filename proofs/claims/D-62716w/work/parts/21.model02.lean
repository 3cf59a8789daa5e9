set_option maxRecDepth 100000
def fm_isCharacter (a1 : Int) (a2 : Int) (σ : tm_S) : tm_R :=
  if a1 < 0 then
    tm_rt 0 σ
  else
    if a1 < 4096 then
      if (a1 / 256) = a2 then
        tm_rt 1 σ
      else
        tm_rt 0 σ
    else
      tm_rt 0 σ
theorem tm_fits_X6_isCharacter (K : tm_K) (a1 : Int) (a2 : Int) : (lg_sl [tm_iv a1, tm_iv a2]).length ≤ 2 := (tm_sl_i _ _ _ (tm_sl_i _ _ _ (tm_sl_n _)))
theorem cm_isCharacter (K : tm_K) (l : Launch) (hst : l.stackTraces = false) (a1 : Int) (g1 : tm_in a1) (a2 : Int) (g2 : tm_in a2) : tm_ct K tm_xM l yX6_isCharacter cX6_isCharacter 2 (some .boolean) 1 [tm_iv a1, tm_iv a2] (fm_isCharacter a1 a2) 0 0 := by
  refine tm_ct_of hst (by decide +kernel) (Nat.le_trans (tm_fits_X6_isCharacter K a1 a2) (Nat.le_of_ble_eq_true rfl)) ?_
  intro p e R s m args below meth c cx σ ls hl0
  have hl : tm_has 0 ls 2 [(0, tm_iv a1), (1, tm_iv a2)] := ⟨by
    have h9 := hl0
    simp only [tm_args_i, tm_args_i, tm_args_n, Nat.zero_add, Nat.reduceAdd] at h9
    exact h9, by
    intro q hq
    simp only [List.mem_cons, List.not_mem_nil, or_false] at hq
    rcases hq with rfl | rfl
    · exact Or.inl rfl
    · exact Or.inl rfl⟩
  clear hl0
  unfold fm_isCharacter
  refine tm_iload_n cx dX6_isCharacter_0 (tm_has_at hl 0 rfl) ?_
  refine tm_if_lt (tgt := 23) cx g1 dX6_isCharacter_1 (by decide) (fun c1 => ?_) (fun c1 => ?_)
  · refine tm_iconst cx dX6_isCharacter_23 ?_
    exact tm_zreturn cx (by decide) dX6_isCharacter_24
  · refine tm_iload_n cx dX6_isCharacter_4 (tm_has_at hl 0 rfl) ?_
    refine tm_sipush cx dX6_isCharacter_5 (by decide) ?_
    refine tm_icmp_ge (tgt := 23) cx g1 (by decide) dX6_isCharacter_8 (by decide) (fun c8 => ?_) (fun c8 => ?_)
    · refine tm_iload_n cx dX6_isCharacter_11 (tm_has_at hl 0 rfl) ?_
      refine tm_bipush cx dX6_isCharacter_12 (by decide) ?_
      refine tm_ishr8 cx g1 dX6_isCharacter_14 (fun q14 => ?_)
      refine tm_iload_n cx dX6_isCharacter_15 (tm_has_at hl 1 rfl) ?_
      refine tm_icmp_ne (tgt := 23) cx q14 g2 dX6_isCharacter_16 (by decide) (fun c16 => ?_) (fun c16 => ?_)
      · refine tm_iconst cx dX6_isCharacter_19 ?_
        refine tm_goto (tgt := 24) cx dX6_isCharacter_20 (by decide) ?_
        exact tm_zreturn cx (by decide) dX6_isCharacter_24
      · refine tm_iconst cx dX6_isCharacter_23 ?_
        exact tm_zreturn cx (by decide) dX6_isCharacter_24
    · refine tm_iconst cx dX6_isCharacter_23 ?_
      exact tm_zreturn cx (by decide) dX6_isCharacter_24
def fm_piece_J122 (v1 : Int) (σ : tm_S) : tm_R :=
  tm_bd (fm_plain v1 σ) fun u123 σ123 =>
  tm_rt u123 σ123
theorem wm_piece_J122 {p : Program} {l : Launch} {e : Env} {R : Room} {s : State} {m : MethodId} {args : Array Value} {below : List Frame} {meth : Method} {c : Code} {K : tm_K} (cx : tm_C p l R s m args meth c K cX6_piece 9 RX6 "piece" (some .int) 3 60) (v1 : Int) (σ : tm_S) (ls : Array Slot) (g1 : tm_in v1) (hl : tm_has 0 ls 9 [(1, tm_iv v1)]) : tm_J p l e R s m args below meth c K tm_xM 1 (fm_piece_J122 v1 σ) σ (F0 m 122 ls []) := by
  unfold fm_piece_J122
  refine tm_iload_n cx dX6_piece_122 (tm_has_at hl 0 rfl) ?_
  refine tm_callS (n := 1) cx (cm_plain K l (tm_hst cx) v1 g1) (lw_S q1317 q1318 q113 q1319) ⟨by decide +kernel, by decide +kernel, by decide +kernel⟩ rfl ⟨Nat.le_of_ble_eq_true rfl, Nat.le_of_ble_eq_true rfl⟩ rfl (Nat.le_of_ble_eq_true rfl) hl.1.1 dX6_piece_123 (fun u123 σ123 q123 => ?_)
  show tm_J p l e R s m args below meth c K tm_xM 1 _ _ (F0 m 126 ls [tm_iv u123])
  exact tm_ireturn cx q123 dX6_piece_126
def fm_piece_B44 (r44 : Int → Int → Int → Int → Int → Int → tm_S → tm_R) (v1 : Int) (v3 : Int) (v5 : Int) (v6 : Int) (v7 : Int) (v8 : Int) (σ : tm_S) : tm_R :=
  if v8 < v5 then
    if v7 = 0 then
      tm_gi (v8 + 1) <|
      r44 v1 v3 v5 v6 0 (v8 + 1) σ
    else
      tm_gi (13 * v3) <|
      tm_gi ((13 * v3) + v8) <|
      tm_gx ((13 * v3) + v8) 800 <|
      if (tm_a σ 125 ((13 * v3) + v8)) = 4096 then
        tm_gi (v8 + 1) <|
        r44 v1 v3 v5 v6 0 (v8 + 1) σ
      else
        tm_gi (v8 + 1) <|
        r44 v1 v3 v5 v6 1 (v8 + 1) σ
  else
    if v7 = 0 then
      tm_bd (fm_isCharacter v1 2 σ) fun u103 σ103 =>
      if u103 = 0 then
        fm_piece_J122 v1 σ103
      else
        if v6 = 0 then
          tm_bd (fm_stop 1 σ103) fun u116 σ116 =>
          tm_rt u116 σ116
        else
          fm_piece_J122 v1 σ103
    else
      tm_bd (fm_stop 7 σ) fun u95 σ95 =>
      tm_rt u95 σ95
theorem wm_piece_B44 {p : Program} {l : Launch} {e : Env} {R : Room} {s : State} {m : MethodId} {args : Array Value} {below : List Frame} {meth : Method} {c : Code} {K : tm_K} {r44 : Int → Int → Int → Int → Int → Int → tm_S → tm_R} (cx : tm_C p l R s m args meth c K cX6_piece 9 RX6 "piece" (some .int) 3 60) (h44 : ∀ (v1 : Int) (v3 : Int) (v5 : Int) (v6 : Int) (v7 : Int) (v8 : Int) (τ : tm_S) (ls : Array Slot), tm_in v1 → tm_in v3 → tm_in v5 → tm_in v6 → tm_in v7 → tm_in v8 → tm_has 0 ls 9 [(0, tm_rv K 0), (1, tm_iv v1), (3, tm_iv v3), (5, tm_iv v5), (6, tm_iv v6), (7, tm_iv v7), (8, tm_iv v8)] → tm_J p l e R s m args below meth c K tm_xM 1 (r44 v1 v3 v5 v6 v7 v8 τ) τ (F0 m 44 ls [])) (v1 : Int) (v3 : Int) (v5 : Int) (v6 : Int) (v7 : Int) (v8 : Int) (σ : tm_S) (ls : Array Slot) (g1 : tm_in v1) (g3 : tm_in v3) (g5 : tm_in v5) (g6 : tm_in v6) (g7 : tm_in v7) (g8 : tm_in v8) (hl : tm_has 0 ls 9 [(0, tm_rv K 0), (1, tm_iv v1), (3, tm_iv v3), (5, tm_iv v5), (6, tm_iv v6), (7, tm_iv v7), (8, tm_iv v8)]) : tm_J p l e R s m args below meth c K tm_xM 1 (fm_piece_B44 r44 v1 v3 v5 v6 v7 v8 σ) σ (F0 m 44 ls []) := by
  unfold fm_piece_B44
  refine tm_iload cx dX6_piece_44 (tm_has_at hl 6 rfl) ?_
  refine tm_iload cx dX6_piece_46 (tm_has_at hl 3 rfl) ?_
  refine tm_icmp_ge (tgt := 87) cx g8 g5 dX6_piece_48 (by decide) (fun c48 => ?_) (fun c48 => ?_)
  · refine tm_iload cx dX6_piece_51 (tm_has_at hl 5 rfl) ?_
    refine tm_if_eq (tgt := 78) cx g7 dX6_piece_53 (by decide) (fun c53 => ?_) (fun c53 => ?_)
    · refine tm_iconst cx dX6_piece_78 ?_
      refine tm_istore (lv' := [(7, tm_iv 0), (0, tm_rv K 0), (1, tm_iv v1), (3, tm_iv v3), (5, tm_iv v5), (6, tm_iv v6), (8, tm_iv v8)]) cx dX6_piece_79 hl (by decide) (by decide) rfl (fun ls hl => ?_)
      refine tm_iinc (lv' := [(8, tm_iv (v8 + 1)), (7, tm_iv 0), (0, tm_rv K 0), (1, tm_iv v1), (3, tm_iv v3), (5, tm_iv v5), (6, tm_iv v6)]) cx dX6_piece_81 hl (j := 6) rfl (by decide) (by decide) rfl (fun q81 ls hl => ?_)
      refine tm_goto (tgt := 44) cx dX6_piece_84 (by decide) ?_
      exact h44 v1 v3 v5 v6 0 (v8 + 1) _ _ g1 g3 g5 g6 (by decide) q81 (tm_has_sub hl [2, 3, 4, 5, 6, 1, 0] rfl)
    · refine tm_aload_n cx dX6_piece_56 (tm_has_at hl 0 rfl) ?_
      refine tg_X6_47 cx dX6_piece_57 ?_
      refine tm_bipush cx dX6_piece_60 (by decide) ?_
      refine tm_iload_n cx dX6_piece_62 (tm_has_at hl 2 rfl) ?_
      refine tm_imul cx dX6_piece_63 (fun q63 => ?_)
      refine tm_iload cx dX6_piece_64 (tm_has_at hl 6 rfl) ?_
      refine tm_iadd cx dX6_piece_66 (fun q66 => ?_)
      refine tm_iald cx tm_hM_125 q66 dX6_piece_67 (fun i67 q67 => ?_)
      refine tm_sipush cx dX6_piece_68 (by decide) ?_
      refine tm_icmp_eq (tgt := 78) cx q67 (by decide) dX6_piece_71 (by decide) (fun c71 => ?_) (fun c71 => ?_)
      · refine tm_iconst cx dX6_piece_78 ?_
        refine tm_istore (lv' := [(7, tm_iv 0), (0, tm_rv K 0), (1, tm_iv v1), (3, tm_iv v3), (5, tm_iv v5), (6, tm_iv v6), (8, tm_iv v8)]) cx dX6_piece_79 hl (by decide) (by decide) rfl (fun ls hl => ?_)
        refine tm_iinc (lv' := [(8, tm_iv (v8 + 1)), (7, tm_iv 0), (0, tm_rv K 0), (1, tm_iv v1), (3, tm_iv v3), (5, tm_iv v5), (6, tm_iv v6)]) cx dX6_piece_81 hl (j := 6) rfl (by decide) (by decide) rfl (fun q81 ls hl => ?_)
        refine tm_goto (tgt := 44) cx dX6_piece_84 (by decide) ?_
        exact h44 v1 v3 v5 v6 0 (v8 + 1) _ _ g1 g3 g5 g6 (by decide) q81 (tm_has_sub hl [2, 3, 4, 5, 6, 1, 0] rfl)
      · refine tm_iconst cx dX6_piece_74 ?_
        refine tm_goto (tgt := 79) cx dX6_piece_75 (by decide) ?_
        refine tm_istore (lv' := [(7, tm_iv 1), (0, tm_rv K 0), (1, tm_iv v1), (3, tm_iv v3), (5, tm_iv v5), (6, tm_iv v6), (8, tm_iv v8)]) cx dX6_piece_79 hl (by decide) (by decide) rfl (fun ls hl => ?_)
        refine tm_iinc (lv' := [(8, tm_iv (v8 + 1)), (7, tm_iv 1), (0, tm_rv K 0), (1, tm_iv v1), (3, tm_iv v3), (5, tm_iv v5), (6, tm_iv v6)]) cx dX6_piece_81 hl (j := 6) rfl (by decide) (by decide) rfl (fun q81 ls hl => ?_)
        refine tm_goto (tgt := 44) cx dX6_piece_84 (by decide) ?_
        exact h44 v1 v3 v5 v6 1 (v8 + 1) _ _ g1 g3 g5 g6 (by decide) q81 (tm_has_sub hl [2, 3, 4, 5, 6, 1, 0] rfl)
  · refine tm_iload cx dX6_piece_87 (tm_has_at hl 5 rfl) ?_
    refine tm_if_eq (tgt := 101) cx g7 dX6_piece_89 (by decide) (fun c89 => ?_) (fun c89 => ?_)
    · refine tm_iload_n cx dX6_piece_101 (tm_has_at hl 1 rfl) ?_
      refine tm_iconst cx dX6_piece_102 ?_
      refine tm_callS (n := 2) cx (cm_isCharacter K l (tm_hst cx) v1 g1 2 (by decide)) (lw_S q1328 q1329 q113 q1330) ⟨by decide +kernel, by decide +kernel, by decide +kernel⟩ rfl ⟨Nat.le_of_ble_eq_true rfl, Nat.le_of_ble_eq_true rfl⟩ rfl (Nat.le_of_ble_eq_true rfl) hl.1.1 dX6_piece_103 (fun u103 σ103 q103 => ?_)
      show tm_J p l e R s m args below meth c K tm_xM 1 _ _ (F0 m 106 ls [tm_iv u103])
      refine tm_if_eq (tgt := 122) cx q103 dX6_piece_106 (by decide) (fun c106 => ?_) (fun c106 => ?_)
      · exact wm_piece_J122 cx v1 _ _ g1 (tm_has_sub hl [1] rfl)
      · refine tm_iload cx dX6_piece_109 (tm_has_at hl 4 rfl) ?_
        refine tm_if_ne (tgt := 122) cx g6 dX6_piece_111 (by decide) (fun c111 => ?_) (fun c111 => ?_)
        · refine tm_aload_n cx dX6_piece_114 (tm_has_at hl 0 rfl) ?_
          refine tm_iconst cx dX6_piece_115 ?_
          refine tm_callV (n := 1) cx (cm_stop K l (tm_hst cx) 1 (by decide)) (lw_V q1271 q1273 qs55 q113 q1274) ⟨rfl, by decide +kernel, by decide +kernel, by decide +kernel⟩ rfl tm_cd_X6 (fun h => (tm_hM_0 h).1) ⟨Nat.le_of_ble_eq_true rfl, Nat.le_of_ble_eq_true rfl⟩ rfl (Nat.le_of_ble_eq_true rfl) hl.1.1 dX6_piece_116 (fun u116 σ116 q116 => ?_)
          show tm_J p l e R s m args below meth c K tm_xM 1 _ _ (F0 m 119 ls [tm_iv u116])
          refine tm_goto (tgt := 126) cx dX6_piece_119 (by decide) ?_
          exact tm_ireturn cx q116 dX6_piece_126
        · exact wm_piece_J122 cx v1 _ _ g1 (tm_has_sub hl [1] rfl)
    · refine tm_aload_n cx dX6_piece_92 (tm_has_at hl 0 rfl) ?_
      refine tm_bipush cx dX6_piece_93 (by decide) ?_
      refine tm_callV (n := 1) cx (cm_stop K l (tm_hst cx) 7 (by decide)) (lw_V q1271 q1273 qs55 q113 q1274) ⟨rfl, by decide +kernel, by decide +kernel, by decide +kernel⟩ rfl tm_cd_X6 (fun h => (tm_hM_0 h).1) ⟨Nat.le_of_ble_eq_true rfl, Nat.le_of_ble_eq_true rfl⟩ rfl (Nat.le_of_ble_eq_true rfl) hl.1.1 dX6_piece_95 (fun u95 σ95 q95 => ?_)
      show tm_J p l e R s m args below meth c K tm_xM 1 _ _ (F0 m 98 ls [tm_iv u95])
      refine tm_goto (tgt := 126) cx dX6_piece_98 (by decide) ?_
      exact tm_ireturn cx q95 dX6_piece_126
def fm_piece_L44 : Nat → Int → Int → Int → Int → Int → Int → tm_S → tm_R
  | 0, _, _, _, _, _, _, _ => none
  | n + 1, v1, v3, v5, v6, v7, v8, σ => fm_piece_B44 (fm_piece_L44 n) v1 v3 v5 v6 v7 v8 σ
theorem wm_piece_L44 {p : Program} {l : Launch} {e : Env} {R : Room} {s : State} {m : MethodId} {args : Array Value} {below : List Frame} {meth : Method} {c : Code} {K : tm_K} (cx : tm_C p l R s m args meth c K cX6_piece 9 RX6 "piece" (some .int) 3 60) : ∀ (n : Nat) (v1 : Int) (v3 : Int) (v5 : Int) (v6 : Int) (v7 : Int) (v8 : Int) (σ : tm_S) (ls : Array Slot), tm_in v1 → tm_in v3 → tm_in v5 → tm_in v6 → tm_in v7 → tm_in v8 → tm_has 0 ls 9 [(0, tm_rv K 0), (1, tm_iv v1), (3, tm_iv v3), (5, tm_iv v5), (6, tm_iv v6), (7, tm_iv v7), (8, tm_iv v8)] → tm_J p l e R s m args below meth c K tm_xM 1 (fm_piece_L44 n v1 v3 v5 v6 v7 v8 σ) σ (F0 m 44 ls []) := by
  intro n
  induction n with
  | zero => intros; exact tm_none
  | succ n ih =>
    intro v1 v3 v5 v6 v7 v8 σ ls g1 g3 g5 g6 g7 g8 hl
    exact wm_piece_B44 (r44 := fm_piece_L44 n) cx ih v1 v3 v5 v6 v7 v8 σ ls g1 g3 g5 g6 g7 g8 hl
def fm_piece (a1 : Int) (a2 : Int) (a3 : Int) (a4 : Int) (a5 : Int) (a6 : Int) (σ : tm_S) : tm_R :=
  if a1 = (-1) then
    tm_bd (fm_stop 3 σ) fun u7 σ7 =>
    tm_rt u7 σ7
  else
    if 40 < a2 then
      tm_bd (fm_stop 5 σ) fun u19 σ19 =>
      tm_rt u19 σ19
    else
      tm_bd (fm_plain a1 σ) fun u24 σ24 =>
      if u24 = 4096 then
        fm_piece_L44 tm_FU a1 a3 a5 a6 1 a4 σ24
      else
        fm_piece_L44 tm_FU a1 a3 a5 a6 0 a4 σ24
theorem tm_fits_X6_piece (K : tm_K) (a1 : Int) (a2 : Int) (a3 : Int) (a4 : Int) (a5 : Int) (a6 : Int) : (lg_sl [tm_rv K 0, tm_iv a1, tm_iv a2, tm_iv a3, tm_iv a4, tm_iv a5, tm_iv a6]).length ≤ 7 := (tm_sl_r _ _ _ _ (tm_sl_i _ _ _ (tm_sl_i _ _ _ (tm_sl_i _ _ _ (tm_sl_i _ _ _ (tm_sl_i _ _ _ (tm_sl_i _ _ _ (tm_sl_n _))))))))
theorem cm_piece (K : tm_K) (l : Launch) (hst : l.stackTraces = false) (a1 : Int) (g1 : tm_in a1) (a2 : Int) (g2 : tm_in a2) (a3 : Int) (g3 : tm_in a3) (a4 : Int) (g4 : tm_in a4) (a5 : Int) (g5 : tm_in a5) (a6 : Int) (g6 : tm_in a6) : tm_ct K tm_xM l yX6_piece cX6_piece 9 (some .int) 1 [tm_rv K 0, tm_iv a1, tm_iv a2, tm_iv a3, tm_iv a4, tm_iv a5, tm_iv a6] (fm_piece a1 a2 a3 a4 a5 a6) 3 60 := by
  refine tm_ct_of hst (by decide +kernel) (Nat.le_trans (tm_fits_X6_piece K a1 a2 a3 a4 a5 a6) (Nat.le_of_ble_eq_true rfl)) ?_
  intro p e R s m args below meth c cx σ ls hl0
  have hl : tm_has 0 ls 9 [(0, tm_rv K 0), (1, tm_iv a1), (2, tm_iv a2), (3, tm_iv a3), (4, tm_iv a4), (5, tm_iv a5), (6, tm_iv a6)] := ⟨by
    have h9 := hl0
    simp only [tm_args_r, tm_args_i, tm_args_i, tm_args_i, tm_args_i, tm_args_i, tm_args_i, tm_args_n, Nat.zero_add, Nat.reduceAdd] at h9
    exact h9, by
    intro q hq
    simp only [List.mem_cons, List.not_mem_nil, or_false] at hq
    rcases hq with rfl | rfl | rfl | rfl | rfl | rfl | rfl
    · exact Or.inl (tm_rv_cat K 0)
    · exact Or.inl rfl
    · exact Or.inl rfl
    · exact Or.inl rfl
    · exact Or.inl rfl
    · exact Or.inl rfl
    · exact Or.inl rfl⟩
  clear hl0
  unfold fm_piece
  refine tm_iload_n cx dX6_piece_0 (tm_has_at hl 1 rfl) ?_
  refine tm_iconst cx dX6_piece_1 ?_
  refine tm_icmp_ne (tgt := 11) cx g1 (by decide) dX6_piece_2 (by decide) (fun c2 => ?_) (fun c2 => ?_)
  · refine tm_aload_n cx dX6_piece_5 (tm_has_at hl 0 rfl) ?_
    refine tm_iconst cx dX6_piece_6 ?_
    refine tm_callV (n := 1) cx (cm_stop K l (tm_hst cx) 3 (by decide)) (lw_V q1271 q1273 qs55 q113 q1274) ⟨rfl, by decide +kernel, by decide +kernel, by decide +kernel⟩ rfl tm_cd_X6 (fun h => (tm_hM_0 h).1) ⟨Nat.le_of_ble_eq_true rfl, Nat.le_of_ble_eq_true rfl⟩ rfl (Nat.le_of_ble_eq_true rfl) hl.1.1 dX6_piece_7 (fun u7 σ7 q7 => ?_)
    show tm_J p l e R s m args below meth c K tm_xM 1 _ _ (F0 m 10 ls [tm_iv u7])
    exact tm_ireturn cx q7 dX6_piece_10
  · refine tm_iload_n cx dX6_piece_11 (tm_has_at hl 2 rfl) ?_
    refine tm_bipush cx dX6_piece_12 (by decide) ?_
    refine tm_icmp_le (tgt := 23) cx g2 (by decide) dX6_piece_14 (by decide) (fun c14 => ?_) (fun c14 => ?_)
    · refine tm_aload_n cx dX6_piece_17 (tm_has_at hl 0 rfl) ?_
      refine tm_iconst cx dX6_piece_18 ?_
      refine tm_callV (n := 1) cx (cm_stop K l (tm_hst cx) 5 (by decide)) (lw_V q1271 q1273 qs55 q113 q1274) ⟨rfl, by decide +kernel, by decide +kernel, by decide +kernel⟩ rfl tm_cd_X6 (fun h => (tm_hM_0 h).1) ⟨Nat.le_of_ble_eq_true rfl, Nat.le_of_ble_eq_true rfl⟩ rfl (Nat.le_of_ble_eq_true rfl) hl.1.1 dX6_piece_19 (fun u19 σ19 q19 => ?_)
      show tm_J p l e R s m args below meth c K tm_xM 1 _ _ (F0 m 22 ls [tm_iv u19])
      exact tm_ireturn cx q19 dX6_piece_22
    · refine tm_iload_n cx dX6_piece_23 (tm_has_at hl 1 rfl) ?_
      refine tm_callS (n := 1) cx (cm_plain K l (tm_hst cx) a1 g1) (lw_S q1317 q1318 q113 q1319) ⟨by decide +kernel, by decide +kernel, by decide +kernel⟩ rfl ⟨Nat.le_of_ble_eq_true rfl, Nat.le_of_ble_eq_true rfl⟩ rfl (Nat.le_of_ble_eq_true rfl) hl.1.1 dX6_piece_24 (fun u24 σ24 q24 => ?_)
      show tm_J p l e R s m args below meth c K tm_xM 1 _ _ (F0 m 27 ls [tm_iv u24])
      refine tm_sipush cx dX6_piece_27 (by decide) ?_
      refine tm_icmp_ne (tgt := 37) cx q24 (by decide) dX6_piece_30 (by decide) (fun c30 => ?_) (fun c30 => ?_)
      · refine tm_iconst cx dX6_piece_33 ?_
        refine tm_goto (tgt := 38) cx dX6_piece_34 (by decide) ?_
        refine tm_istore (lv' := [(7, tm_iv 1), (0, tm_rv K 0), (1, tm_iv a1), (2, tm_iv a2), (3, tm_iv a3), (4, tm_iv a4), (5, tm_iv a5), (6, tm_iv a6)]) cx dX6_piece_38 hl (by decide) (by decide) rfl (fun ls hl => ?_)
        refine tm_iload cx dX6_piece_40 (tm_has_at hl 5 rfl) ?_
        refine tm_istore (lv' := [(8, tm_iv a4), (7, tm_iv 1), (0, tm_rv K 0), (1, tm_iv a1), (2, tm_iv a2), (3, tm_iv a3), (4, tm_iv a4), (5, tm_iv a5), (6, tm_iv a6)]) cx dX6_piece_42 hl (by decide) (by decide) rfl (fun ls hl => ?_)
        exact wm_piece_L44 cx tm_FU a1 a3 a5 a6 1 a4 _ _ g1 g3 g5 g6 (by decide) g4 (tm_has_sub hl [2, 3, 5, 7, 8, 1, 0] rfl)
      · refine tm_iconst cx dX6_piece_37 ?_
        refine tm_istore (lv' := [(7, tm_iv 0), (0, tm_rv K 0), (1, tm_iv a1), (2, tm_iv a2), (3, tm_iv a3), (4, tm_iv a4), (5, tm_iv a5), (6, tm_iv a6)]) cx dX6_piece_38 hl (by decide) (by decide) rfl (fun ls hl => ?_)
        refine tm_iload cx dX6_piece_40 (tm_has_at hl 5 rfl) ?_
        refine tm_istore (lv' := [(8, tm_iv a4), (7, tm_iv 0), (0, tm_rv K 0), (1, tm_iv a1), (2, tm_iv a2), (3, tm_iv a3), (4, tm_iv a4), (5, tm_iv a5), (6, tm_iv a6)]) cx dX6_piece_42 hl (by decide) (by decide) rfl (fun ls hl => ?_)
        exact wm_piece_L44 cx tm_FU a1 a3 a5 a6 0 a4 _ _ g1 g3 g5 g6 (by decide) g4 (tm_has_sub hl [2, 3, 5, 7, 8, 1, 0] rfl)
def fm_add (a1 : Int) (a2 : Int) (σ : tm_S) : tm_R :=
  tm_gi (42 * a1) <|
  tm_gx a1 4 <|
  tm_gi ((42 * a1) + (tm_a σ 140 a1)) <|
  tm_gx ((42 * a1) + (tm_a σ 140 a1)) 168 <|
  tm_gx a1 4 <|
  tm_gi ((tm_a (tm_wa σ 139 ((42 * a1) + (tm_a σ 140 a1)) a2) 140 a1) + 1) <|
  tm_gx a1 4 <|
  tm_rt 0 (tm_wa (tm_wa σ 139 ((42 * a1) + (tm_a σ 140 a1)) a2) 140 a1 ((tm_a (tm_wa σ 139 ((42 * a1) + (tm_a σ 140 a1)) a2) 140 a1) + 1))
theorem tm_fits_X6_add (K : tm_K) (a1 : Int) (a2 : Int) : (lg_sl [tm_rv K 0, tm_iv a1, tm_iv a2]).length ≤ 3 := (tm_sl_r _ _ _ _ (tm_sl_i _ _ _ (tm_sl_i _ _ _ (tm_sl_n _))))
theorem cm_add (K : tm_K) (l : Launch) (hst : l.stackTraces = false) (a1 : Int) (g1 : tm_in a1) (a2 : Int) (g2 : tm_in a2) : tm_ct K tm_xM l yX6_add cX6_add 3 none 0 [tm_rv K 0, tm_iv a1, tm_iv a2] (fm_add a1 a2) 0 0 := by
  refine tm_ct_of hst (by decide +kernel) (Nat.le_trans (tm_fits_X6_add K a1 a2) (Nat.le_of_ble_eq_true rfl)) ?_
  intro p e R s m args below meth c cx σ ls hl0
  have hl : tm_has 0 ls 3 [(0, tm_rv K 0), (1, tm_iv a1), (2, tm_iv a2)] := ⟨by
    have h9 := hl0
    simp only [tm_args_r, tm_args_i, tm_args_i, tm_args_n, Nat.zero_add, Nat.reduceAdd] at h9
    exact h9, by
    intro q hq
    simp only [List.mem_cons, List.not_mem_nil, or_false] at hq
    rcases hq with rfl | rfl | rfl
    · exact Or.inl (tm_rv_cat K 0)
    · exact Or.inl rfl
    · exact Or.inl rfl⟩
  clear hl0
  unfold fm_add
  refine tm_aload_n cx dX6_add_0 (tm_has_at hl 0 rfl) ?_
  refine tg_X6_80 cx dX6_add_1 ?_
  refine tm_bipush cx dX6_add_4 (by decide) ?_
  refine tm_iload_n cx dX6_add_6 (tm_has_at hl 1 rfl) ?_
  refine tm_imul cx dX6_add_7 (fun q7 => ?_)
  refine tm_aload_n cx dX6_add_8 (tm_has_at hl 0 rfl) ?_
  refine tg_X6_83 cx dX6_add_9 ?_
  refine tm_iload_n cx dX6_add_12 (tm_has_at hl 1 rfl) ?_
  refine tm_iald cx tm_hM_140 g1 dX6_add_13 (fun i13 q13 => ?_)
  refine tm_iadd cx dX6_add_14 (fun q14 => ?_)
  refine tm_iload_n cx dX6_add_15 (tm_has_at hl 2 rfl) ?_
  refine tm_iast cx tm_famM tm_hM_139 q14 g2 dX6_add_16 ?_
  refine tm_aload_n cx dX6_add_17 (tm_has_at hl 0 rfl) ?_
  refine tg_X6_83 cx dX6_add_18 ?_
  refine tm_iload_n cx dX6_add_21 (tm_has_at hl 1 rfl) ?_
  refine tm_dup2_ir cx dX6_add_22 ?_
  refine tm_iald cx tm_hM_140 g1 dX6_add_23 (fun i23 q23 => ?_)
  refine tm_iconst cx dX6_add_24 ?_
  refine tm_iadd cx dX6_add_25 (fun q25 => ?_)
  refine tm_iast cx tm_famM tm_hM_140 g1 q25 dX6_add_26 ?_
  exact tm_vreturn cx dX6_add_27
def fm_plainArgument_J125 (r65 : Int → Int → Int → Int → tm_S → tm_R) (v1 : Int) (v2 : Int) (v4 : Int) (v6 : Int) (vs0 : Int) (vs1 : Int) (σ : tm_S) : tm_R :=
  tm_gi (vs0 + vs1) <|
  tm_lt (vs0 + vs1) fun x126 =>
  if 0 < x126 then
    tm_bd (fm_add v1 v4 σ) fun u137 σ137 =>
    tm_gi (v6 + 1) <|
    r65 v1 v2 x126 (v6 + 1) σ137
  else
    tm_gi (v6 + 1) <|
    r65 v1 v2 x126 (v6 + 1) σ
theorem wm_plainArgument_J125 {p : Program} {l : Launch} {e : Env} {R : Room} {s : State} {m : MethodId} {args : Array Value} {below : List Frame} {meth : Method} {c : Code} {K : tm_K} {r65 : Int → Int → Int → Int → tm_S → tm_R} (cx : tm_C p l R s m args meth c K cX6_plainArgument 7 RX6 "plainArgument" none 5 112) (h65 : ∀ (v1 : Int) (v2 : Int) (v5 : Int) (v6 : Int) (τ : tm_S) (ls : Array Slot), tm_in v1 → tm_in v2 → tm_in v5 → tm_in v6 → tm_has 0 ls 7 [(0, tm_rv K 0), (1, tm_iv v1), (2, tm_iv v2), (5, tm_iv v5), (6, tm_iv v6)] → tm_J p l e R s m args below meth c K tm_xM 0 (r65 v1 v2 v5 v6 τ) τ (F0 m 65 ls [])) (v1 : Int) (v2 : Int) (v4 : Int) (v6 : Int) (vs0 : Int) (vs1 : Int) (σ : tm_S) (ls : Array Slot) (g1 : tm_in v1) (g2 : tm_in v2) (g4 : tm_in v4) (g6 : tm_in v6) (gs0 : tm_in vs0) (gs1 : tm_in vs1) (hl : tm_has 0 ls 7 [(0, tm_rv K 0), (1, tm_iv v1), (2, tm_iv v2), (4, tm_iv v4), (6, tm_iv v6)]) : tm_J p l e R s m args below meth c K tm_xM 0 (fm_plainArgument_J125 r65 v1 v2 v4 v6 vs0 vs1 σ) σ (F0 m 125 ls [tm_iv vs1, tm_iv vs0]) := by
  unfold fm_plainArgument_J125
  refine tm_iadd cx dX6_plainArgument_125 (fun q125 => ?_)
  refine tm_lt_ q125 (fun x126 q126 => ?_)
  refine tm_istore (lv' := [(5, tm_iv x126), (0, tm_rv K 0), (1, tm_iv v1), (2, tm_iv v2), (4, tm_iv v4), (6, tm_iv v6)]) cx dX6_plainArgument_126 hl (by decide) (by decide) rfl (fun ls hl => ?_)
  refine tm_iload cx dX6_plainArgument_128 (tm_has_at hl 0 rfl) ?_
  refine tm_if_le (tgt := 140) cx q126 dX6_plainArgument_130 (by decide) (fun c130 => ?_) (fun c130 => ?_)
  · refine tm_aload_n cx dX6_plainArgument_133 (tm_has_at hl 1 rfl) ?_
    refine tm_iload_n cx dX6_plainArgument_134 (tm_has_at hl 2 rfl) ?_
    refine tm_iload cx dX6_plainArgument_135 (tm_has_at hl 4 rfl) ?_
    refine tm_callV (n := 2) cx (cm_add K l (tm_hst cx) v1 g1 v4 g4) (lw_V q1331 q1333 qs67 q113 q1334) ⟨rfl, by decide +kernel, by decide +kernel, by decide +kernel⟩ rfl tm_cd_X6 (fun h => (tm_hM_0 h).1) ⟨Nat.le_of_ble_eq_true rfl, Nat.le_of_ble_eq_true rfl⟩ rfl (Nat.le_of_ble_eq_true rfl) hl.1.1 dX6_plainArgument_137 (fun u137 σ137 q137 => ?_)
    show tm_J p l e R s m args below meth c K tm_xM 0 _ _ (F0 m 140 ls [])
    refine tm_iinc (lv' := [(6, tm_iv (v6 + 1)), (5, tm_iv x126), (0, tm_rv K 0), (1, tm_iv v1), (2, tm_iv v2), (4, tm_iv v4)]) cx dX6_plainArgument_140 hl (j := 5) rfl (by decide) (by decide) rfl (fun q140 ls hl => ?_)
    refine tm_goto (tgt := 65) cx dX6_plainArgument_143 (by decide) ?_
    exact h65 v1 v2 x126 (v6 + 1) _ _ g1 g2 q126 q140 (tm_has_sub hl [2, 3, 4, 1, 0] rfl)
  · refine tm_iinc (lv' := [(6, tm_iv (v6 + 1)), (5, tm_iv x126), (0, tm_rv K 0), (1, tm_iv v1), (2, tm_iv v2), (4, tm_iv v4)]) cx dX6_plainArgument_140 hl (j := 5) rfl (by decide) (by decide) rfl (fun q140 ls hl => ?_)
    refine tm_goto (tgt := 65) cx dX6_plainArgument_143 (by decide) ?_
    exact h65 v1 v2 x126 (v6 + 1) _ _ g1 g2 q126 q140 (tm_has_sub hl [2, 3, 4, 1, 0] rfl)
def fm_plainArgument_B65 (r65 : Int → Int → Int → Int → tm_S → tm_R) (v1 : Int) (v2 : Int) (v5 : Int) (v6 : Int) (σ : tm_S) : tm_R :=
  if 0 < v5 then
    tm_bd (fm_get σ) fun u71 σ71 =>
    tm_bd (fm_piece u71 v6 v2 0 0 v5 σ71) fun u84 σ84 =>
    if u84 = (-1) then
      tm_rt 0 σ84
    else
      tm_bd (fm_isCharacter u84 1 σ84) fun u101 σ101 =>
      if u101 = 0 then
        tm_bd (fm_isCharacter u84 2 σ101) fun u114 σ114 =>
        if u114 = 0 then
          fm_plainArgument_J125 r65 v1 v2 u84 v6 v5 0 σ114
        else
          fm_plainArgument_J125 r65 v1 v2 u84 v6 v5 (-1) σ114
      else
        fm_plainArgument_J125 r65 v1 v2 u84 v6 v5 1 σ101
  else
    tm_rt 0 σ
theorem wm_plainArgument_B65 {p : Program} {l : Launch} {e : Env} {R : Room} {s : State} {m : MethodId} {args : Array Value} {below : List Frame} {meth : Method} {c : Code} {K : tm_K} {r65 : Int → Int → Int → Int → tm_S → tm_R} (cx : tm_C p l R s m args meth c K cX6_plainArgument 7 RX6 "plainArgument" none 5 112) (h65 : ∀ (v1 : Int) (v2 : Int) (v5 : Int) (v6 : Int) (τ : tm_S) (ls : Array Slot), tm_in v1 → tm_in v2 → tm_in v5 → tm_in v6 → tm_has 0 ls 7 [(0, tm_rv K 0), (1, tm_iv v1), (2, tm_iv v2), (5, tm_iv v5), (6, tm_iv v6)] → tm_J p l e R s m args below meth c K tm_xM 0 (r65 v1 v2 v5 v6 τ) τ (F0 m 65 ls [])) (v1 : Int) (v2 : Int) (v5 : Int) (v6 : Int) (σ : tm_S) (ls : Array Slot) (g1 : tm_in v1) (g2 : tm_in v2) (g5 : tm_in v5) (g6 : tm_in v6) (hl : tm_has 0 ls 7 [(0, tm_rv K 0), (1, tm_iv v1), (2, tm_iv v2), (5, tm_iv v5), (6, tm_iv v6)]) : tm_J p l e R s m args below meth c K tm_xM 0 (fm_plainArgument_B65 r65 v1 v2 v5 v6 σ) σ (F0 m 65 ls []) := by
  unfold fm_plainArgument_B65
  refine tm_iload cx dX6_plainArgument_65 (tm_has_at hl 3 rfl) ?_
  refine tm_if_le (tgt := 146) cx g5 dX6_plainArgument_67 (by decide) (fun c67 => ?_) (fun c67 => ?_)
  · refine tm_aload_n cx dX6_plainArgument_70 (tm_has_at hl 0 rfl) ?_
    refine tm_callV (n := 0) cx (cm_get K l (tm_hst cx)) (lw_V q1259 q1261 qs52 q113 q1262) ⟨rfl, by decide +kernel, by decide +kernel, by decide +kernel⟩ rfl tm_cd_X6 (fun h => (tm_hM_0 h).1) ⟨Nat.le_of_ble_eq_true rfl, Nat.le_of_ble_eq_true rfl⟩ rfl (Nat.le_of_ble_eq_true rfl) hl.1.1 dX6_plainArgument_71 (fun u71 σ71 q71 => ?_)
    show tm_J p l e R s m args below meth c K tm_xM 0 _ _ (F0 m 74 ls [tm_iv u71])
    refine tm_istore_n (lv' := [(3, tm_iv u71), (0, tm_rv K 0), (1, tm_iv v1), (2, tm_iv v2), (5, tm_iv v5), (6, tm_iv v6)]) cx dX6_plainArgument_74 hl (by decide) (by decide) rfl (fun ls hl => ?_)
    refine tm_aload_n cx dX6_plainArgument_75 (tm_has_at hl 1 rfl) ?_
    refine tm_iload_n cx dX6_plainArgument_76 (tm_has_at hl 0 rfl) ?_
    refine tm_iload cx dX6_plainArgument_77 (tm_has_at hl 5 rfl) ?_
    refine tm_iload_n cx dX6_plainArgument_79 (tm_has_at hl 3 rfl) ?_
    refine tm_iconst cx dX6_plainArgument_80 ?_
    refine tm_iconst cx dX6_plainArgument_81 ?_
    refine tm_iload cx dX6_plainArgument_82 (tm_has_at hl 4 rfl) ?_
    refine tm_callV (n := 6) cx (cm_piece K l (tm_hst cx) u71 q71 v6 g6 v2 g2 0 (by decide) 0 (by decide) v5 g5) (lw_V q1324 q1326 qs66 q113 q1327) ⟨rfl, by decide +kernel, by decide +kernel, by decide +kernel⟩ rfl tm_cd_X6 (fun h => (tm_hM_0 h).1) ⟨Nat.le_of_ble_eq_true rfl, Nat.le_of_ble_eq_true rfl⟩ rfl (Nat.le_of_ble_eq_true rfl) hl.1.1 dX6_plainArgument_84 (fun u84 σ84 q84 => ?_)
    show tm_J p l e R s m args below meth c K tm_xM 0 _ _ (F0 m 87 ls [tm_iv u84])
    refine tm_istore (lv' := [(4, tm_iv u84), (3, tm_iv u71), (0, tm_rv K 0), (1, tm_iv v1), (2, tm_iv v2), (5, tm_iv v5), (6, tm_iv v6)]) cx dX6_plainArgument_87 hl (by decide) (by decide) rfl (fun ls hl => ?_)
    refine tm_iload cx dX6_plainArgument_89 (tm_has_at hl 0 rfl) ?_
    refine tm_iconst cx dX6_plainArgument_91 ?_
    refine tm_icmp_ne (tgt := 96) cx q84 (by decide) dX6_plainArgument_92 (by decide) (fun c92 => ?_) (fun c92 => ?_)
    · exact tm_vreturn cx dX6_plainArgument_95
    · refine tm_iload cx dX6_plainArgument_96 (tm_has_at hl 5 rfl) ?_
      refine tm_iload cx dX6_plainArgument_98 (tm_has_at hl 0 rfl) ?_
      refine tm_iconst cx dX6_plainArgument_100 ?_
      refine tm_callS (n := 2) cx (cm_isCharacter K l (tm_hst cx) u84 q84 1 (by decide)) (lw_S q1328 q1329 q113 q1330) ⟨by decide +kernel, by decide +kernel, by decide +kernel⟩ rfl ⟨Nat.le_of_ble_eq_true rfl, Nat.le_of_ble_eq_true rfl⟩ rfl (Nat.le_of_ble_eq_true rfl) hl.1.1 dX6_plainArgument_101 (fun u101 σ101 q101 => ?_)
      show tm_J p l e R s m args below meth c K tm_xM 0 _ _ (F0 m 104 ls [tm_iv u101, tm_iv v5])
      refine tm_if_eq (tgt := 111) cx q101 dX6_plainArgument_104 (by decide) (fun c104 => ?_) (fun c104 => ?_)
      · refine tm_iload cx dX6_plainArgument_111 (tm_has_at hl 0 rfl) ?_
        refine tm_iconst cx dX6_plainArgument_113 ?_
        refine tm_callS (n := 2) cx (cm_isCharacter K l (tm_hst cx) u84 q84 2 (by decide)) (lw_S q1328 q1329 q113 q1330) ⟨by decide +kernel, by decide +kernel, by decide +kernel⟩ rfl ⟨Nat.le_of_ble_eq_true rfl, Nat.le_of_ble_eq_true rfl⟩ rfl (Nat.le_of_ble_eq_true rfl) hl.1.1 dX6_plainArgument_114 (fun u114 σ114 q114 => ?_)
        show tm_J p l e R s m args below meth c K tm_xM 0 _ _ (F0 m 117 ls [tm_iv u114, tm_iv v5])
        refine tm_if_eq (tgt := 124) cx q114 dX6_plainArgument_117 (by decide) (fun c117 => ?_) (fun c117 => ?_)
        · refine tm_iconst cx dX6_plainArgument_124 ?_
          exact wm_plainArgument_J125 cx h65 v1 v2 u84 v6 v5 0 _ _ g1 g2 q84 g6 g5 (by decide) (tm_has_sub hl [2, 3, 4, 0, 6] rfl)
        · refine tm_iconst cx dX6_plainArgument_120 ?_
          refine tm_goto (tgt := 125) cx dX6_plainArgument_121 (by decide) ?_
          exact wm_plainArgument_J125 cx h65 v1 v2 u84 v6 v5 (-1) _ _ g1 g2 q84 g6 g5 (by decide) (tm_has_sub hl [2, 3, 4, 0, 6] rfl)
      · refine tm_iconst cx dX6_plainArgument_107 ?_
        refine tm_goto (tgt := 125) cx dX6_plainArgument_108 (by decide) ?_
        exact wm_plainArgument_J125 cx h65 v1 v2 u84 v6 v5 1 _ _ g1 g2 q84 g6 g5 (by decide) (tm_has_sub hl [2, 3, 4, 0, 6] rfl)
  · exact tm_vreturn cx dX6_plainArgument_146
def fm_plainArgument_L65 : Nat → Int → Int → Int → Int → tm_S → tm_R
  | 0, _, _, _, _, _ => none
  | n + 1, v1, v2, v5, v6, σ => fm_plainArgument_B65 (fm_plainArgument_L65 n) v1 v2 v5 v6 σ
theorem wm_plainArgument_L65 {p : Program} {l : Launch} {e : Env} {R : Room} {s : State} {m : MethodId} {args : Array Value} {below : List Frame} {meth : Method} {c : Code} {K : tm_K} (cx : tm_C p l R s m args meth c K cX6_plainArgument 7 RX6 "plainArgument" none 5 112) : ∀ (n : Nat) (v1 : Int) (v2 : Int) (v5 : Int) (v6 : Int) (σ : tm_S) (ls : Array Slot), tm_in v1 → tm_in v2 → tm_in v5 → tm_in v6 → tm_has 0 ls 7 [(0, tm_rv K 0), (1, tm_iv v1), (2, tm_iv v2), (5, tm_iv v5), (6, tm_iv v6)] → tm_J p l e R s m args below meth c K tm_xM 0 (fm_plainArgument_L65 n v1 v2 v5 v6 σ) σ (F0 m 65 ls []) := by
  intro n
  induction n with
  | zero => intros; exact tm_none
  | succ n ih =>
    intro v1 v2 v5 v6 σ ls g1 g2 g5 g6 hl
    exact wm_plainArgument_B65 (r65 := fm_plainArgument_L65 n) cx ih v1 v2 v5 v6 σ ls g1 g2 g5 g6 hl
def fm_plainArgument_B5 (r5 : Int → Int → Int → tm_S → tm_R) (v1 : Int) (v2 : Int) (v3 : Int) (σ : tm_S) : tm_R :=
  tm_bd (fm_plain v3 σ) fun u6 σ6 =>
  if u6 = 2592 then
    tm_bd (fm_get σ6) fun u16 σ16 =>
    r5 v1 v2 u16 σ16
  else
    tm_bd (fm_piece v3 1 v2 0 0 0 σ6) fun u30 σ30 =>
    if u30 = (-1) then
      tm_rt 0 σ30
    else
      tm_bd (fm_isCharacter u30 1 σ30) fun u45 σ45 =>
      if u45 = 0 then
        tm_bd (fm_add v1 u30 σ45) fun u55 σ55 =>
        tm_rt 0 σ55
      else
        fm_plainArgument_L65 tm_FU v1 v2 1 2 σ45
theorem wm_plainArgument_B5 {p : Program} {l : Launch} {e : Env} {R : Room} {s : State} {m : MethodId} {args : Array Value} {below : List Frame} {meth : Method} {c : Code} {K : tm_K} {r5 : Int → Int → Int → tm_S → tm_R} (cx : tm_C p l R s m args meth c K cX6_plainArgument 7 RX6 "plainArgument" none 5 112) (h5 : ∀ (v1 : Int) (v2 : Int) (v3 : Int) (τ : tm_S) (ls : Array Slot), tm_in v1 → tm_in v2 → tm_in v3 → tm_has 0 ls 7 [(0, tm_rv K 0), (1, tm_iv v1), (2, tm_iv v2), (3, tm_iv v3)] → tm_J p l e R s m args below meth c K tm_xM 0 (r5 v1 v2 v3 τ) τ (F0 m 5 ls [])) (v1 : Int) (v2 : Int) (v3 : Int) (σ : tm_S) (ls : Array Slot) (g1 : tm_in v1) (g2 : tm_in v2) (g3 : tm_in v3) (hl : tm_has 0 ls 7 [(0, tm_rv K 0), (1, tm_iv v1), (2, tm_iv v2), (3, tm_iv v3)]) : tm_J p l e R s m args below meth c K tm_xM 0 (fm_plainArgument_B5 r5 v1 v2 v3 σ) σ (F0 m 5 ls []) := by
  unfold fm_plainArgument_B5
  refine tm_iload_n cx dX6_plainArgument_5 (tm_has_at hl 3 rfl) ?_
  refine tm_callS (n := 1) cx (cm_plain K l (tm_hst cx) v3 g3) (lw_S q1317 q1318 q113 q1319) ⟨by decide +kernel, by decide +kernel, by decide +kernel⟩ rfl ⟨Nat.le_of_ble_eq_true rfl, Nat.le_of_ble_eq_true rfl⟩ rfl (Nat.le_of_ble_eq_true rfl) hl.1.1 dX6_plainArgument_6 (fun u6 σ6 q6 => ?_)
  show tm_J p l e R s m args below meth c K tm_xM 0 _ _ (F0 m 9 ls [tm_iv u6])
  refine tm_sipush cx dX6_plainArgument_9 (by decide) ?_
  refine tm_icmp_ne (tgt := 23) cx q6 (by decide) dX6_plainArgument_12 (by decide) (fun c12 => ?_) (fun c12 => ?_)
  · refine tm_aload_n cx dX6_plainArgument_15 (tm_has_at hl 0 rfl) ?_
    refine tm_callV (n := 0) cx (cm_get K l (tm_hst cx)) (lw_V q1259 q1261 qs52 q113 q1262) ⟨rfl, by decide +kernel, by decide +kernel, by decide +kernel⟩ rfl tm_cd_X6 (fun h => (tm_hM_0 h).1) ⟨Nat.le_of_ble_eq_true rfl, Nat.le_of_ble_eq_true rfl⟩ rfl (Nat.le_of_ble_eq_true rfl) hl.1.1 dX6_plainArgument_16 (fun u16 σ16 q16 => ?_)
    show tm_J p l e R s m args below meth c K tm_xM 0 _ _ (F0 m 19 ls [tm_iv u16])
    refine tm_istore_n (lv' := [(3, tm_iv u16), (0, tm_rv K 0), (1, tm_iv v1), (2, tm_iv v2)]) cx dX6_plainArgument_19 hl (by decide) (by decide) rfl (fun ls hl => ?_)
    refine tm_goto (tgt := 5) cx dX6_plainArgument_20 (by decide) ?_
    exact h5 v1 v2 u16 _ _ g1 g2 q16 (tm_has_sub hl [1, 2, 3, 0] rfl)
  · refine tm_aload_n cx dX6_plainArgument_23 (tm_has_at hl 0 rfl) ?_
    refine tm_iload_n cx dX6_plainArgument_24 (tm_has_at hl 3 rfl) ?_
    refine tm_iconst cx dX6_plainArgument_25 ?_
    refine tm_iload_n cx dX6_plainArgument_26 (tm_has_at hl 2 rfl) ?_
    refine tm_iconst cx dX6_plainArgument_27 ?_
    refine tm_iconst cx dX6_plainArgument_28 ?_
    refine tm_iconst cx dX6_plainArgument_29 ?_
    refine tm_callV (n := 6) cx (cm_piece K l (tm_hst cx) v3 g3 1 (by decide) v2 g2 0 (by decide) 0 (by decide) 0 (by decide)) (lw_V q1324 q1326 qs66 q113 q1327) ⟨rfl, by decide +kernel, by decide +kernel, by decide +kernel⟩ rfl tm_cd_X6 (fun h => (tm_hM_0 h).1) ⟨Nat.le_of_ble_eq_true rfl, Nat.le_of_ble_eq_true rfl⟩ rfl (Nat.le_of_ble_eq_true rfl) hl.1.1 dX6_plainArgument_30 (fun u30 σ30 q30 => ?_)
    show tm_J p l e R s m args below meth c K tm_xM 0 _ _ (F0 m 33 ls [tm_iv u30])
    refine tm_istore (lv' := [(4, tm_iv u30), (0, tm_rv K 0), (1, tm_iv v1), (2, tm_iv v2), (3, tm_iv v3)]) cx dX6_plainArgument_33 hl (by decide) (by decide) rfl (fun ls hl => ?_)
    refine tm_iload cx dX6_plainArgument_35 (tm_has_at hl 0 rfl) ?_
    refine tm_iconst cx dX6_plainArgument_37 ?_
    refine tm_icmp_ne (tgt := 42) cx q30 (by decide) dX6_plainArgument_38 (by decide) (fun c38 => ?_) (fun c38 => ?_)
    · exact tm_vreturn cx dX6_plainArgument_41
    · refine tm_iload cx dX6_plainArgument_42 (tm_has_at hl 0 rfl) ?_
      refine tm_iconst cx dX6_plainArgument_44 ?_
      refine tm_callS (n := 2) cx (cm_isCharacter K l (tm_hst cx) u30 q30 1 (by decide)) (lw_S q1328 q1329 q113 q1330) ⟨by decide +kernel, by decide +kernel, by decide +kernel⟩ rfl ⟨Nat.le_of_ble_eq_true rfl, Nat.le_of_ble_eq_true rfl⟩ rfl (Nat.le_of_ble_eq_true rfl) hl.1.1 dX6_plainArgument_45 (fun u45 σ45 q45 => ?_)
      show tm_J p l e R s m args below meth c K tm_xM 0 _ _ (F0 m 48 ls [tm_iv u45])
      refine tm_if_ne (tgt := 59) cx q45 dX6_plainArgument_48 (by decide) (fun c48 => ?_) (fun c48 => ?_)
      · refine tm_aload_n cx dX6_plainArgument_51 (tm_has_at hl 1 rfl) ?_
        refine tm_iload_n cx dX6_plainArgument_52 (tm_has_at hl 2 rfl) ?_
        refine tm_iload cx dX6_plainArgument_53 (tm_has_at hl 0 rfl) ?_
        refine tm_callV (n := 2) cx (cm_add K l (tm_hst cx) v1 g1 u30 q30) (lw_V q1331 q1333 qs67 q113 q1334) ⟨rfl, by decide +kernel, by decide +kernel, by decide +kernel⟩ rfl tm_cd_X6 (fun h => (tm_hM_0 h).1) ⟨Nat.le_of_ble_eq_true rfl, Nat.le_of_ble_eq_true rfl⟩ rfl (Nat.le_of_ble_eq_true rfl) hl.1.1 dX6_plainArgument_55 (fun u55 σ55 q55 => ?_)
        show tm_J p l e R s m args below meth c K tm_xM 0 _ _ (F0 m 58 ls [])
        exact tm_vreturn cx dX6_plainArgument_58
      · refine tm_iconst cx dX6_plainArgument_59 ?_
        refine tm_istore (lv' := [(5, tm_iv 1), (4, tm_iv u30), (0, tm_rv K 0), (1, tm_iv v1), (2, tm_iv v2), (3, tm_iv v3)]) cx dX6_plainArgument_60 hl (by decide) (by decide) rfl (fun ls hl => ?_)
        refine tm_iconst cx dX6_plainArgument_62 ?_
        refine tm_istore (lv' := [(6, tm_iv 2), (5, tm_iv 1), (4, tm_iv u30), (0, tm_rv K 0), (1, tm_iv v1), (2, tm_iv v2), (3, tm_iv v3)]) cx dX6_plainArgument_63 hl (by decide) (by decide) rfl (fun ls hl => ?_)
        exact wm_plainArgument_L65 cx tm_FU v1 v2 1 2 _ _ g1 g2 (by decide) (by decide) (tm_has_sub hl [3, 4, 5, 1, 0] rfl)
def fm_plainArgument_L5 : Nat → Int → Int → Int → tm_S → tm_R
  | 0, _, _, _, _ => none
  | n + 1, v1, v2, v3, σ => fm_plainArgument_B5 (fm_plainArgument_L5 n) v1 v2 v3 σ
theorem wm_plainArgument_L5 {p : Program} {l : Launch} {e : Env} {R : Room} {s : State} {m : MethodId} {args : Array Value} {below : List Frame} {meth : Method} {c : Code} {K : tm_K} (cx : tm_C p l R s m args meth c K cX6_plainArgument 7 RX6 "plainArgument" none 5 112) : ∀ (n : Nat) (v1 : Int) (v2 : Int) (v3 : Int) (σ : tm_S) (ls : Array Slot), tm_in v1 → tm_in v2 → tm_in v3 → tm_has 0 ls 7 [(0, tm_rv K 0), (1, tm_iv v1), (2, tm_iv v2), (3, tm_iv v3)] → tm_J p l e R s m args below meth c K tm_xM 0 (fm_plainArgument_L5 n v1 v2 v3 σ) σ (F0 m 5 ls []) := by
  intro n
  induction n with
  | zero => intros; exact tm_none
  | succ n ih =>
    intro v1 v2 v3 σ ls g1 g2 g3 hl
    exact wm_plainArgument_B5 (r5 := fm_plainArgument_L5 n) cx ih v1 v2 v3 σ ls g1 g2 g3 hl
def fm_plainArgument (a1 : Int) (a2 : Int) (σ : tm_S) : tm_R :=
  tm_bd (fm_get σ) fun u1 σ1 =>
  fm_plainArgument_L5 tm_FU a1 a2 u1 σ1
theorem tm_fits_X6_plainArgument (K : tm_K) (a1 : Int) (a2 : Int) : (lg_sl [tm_rv K 0, tm_iv a1, tm_iv a2]).length ≤ 3 := (tm_sl_r _ _ _ _ (tm_sl_i _ _ _ (tm_sl_i _ _ _ (tm_sl_n _))))
theorem cm_plainArgument (K : tm_K) (l : Launch) (hst : l.stackTraces = false) (a1 : Int) (g1 : tm_in a1) (a2 : Int) (g2 : tm_in a2) : tm_ct K tm_xM l yX6_plainArgument cX6_plainArgument 7 none 0 [tm_rv K 0, tm_iv a1, tm_iv a2] (fm_plainArgument a1 a2) 5 112 := by
  refine tm_ct_of hst (by decide +kernel) (Nat.le_trans (tm_fits_X6_plainArgument K a1 a2) (Nat.le_of_ble_eq_true rfl)) ?_
  intro p e R s m args below meth c cx σ ls hl0
  have hl : tm_has 0 ls 7 [(0, tm_rv K 0), (1, tm_iv a1), (2, tm_iv a2)] := ⟨by
    have h9 := hl0
    simp only [tm_args_r, tm_args_i, tm_args_i, tm_args_n, Nat.zero_add, Nat.reduceAdd] at h9
    exact h9, by
    intro q hq
    simp only [List.mem_cons, List.not_mem_nil, or_false] at hq
    rcases hq with rfl | rfl | rfl
    · exact Or.inl (tm_rv_cat K 0)
    · exact Or.inl rfl
    · exact Or.inl rfl⟩
  clear hl0
  unfold fm_plainArgument
  refine tm_aload_n cx dX6_plainArgument_0 (tm_has_at hl 0 rfl) ?_
  refine tm_callV (n := 0) cx (cm_get K l (tm_hst cx)) (lw_V q1259 q1261 qs52 q113 q1262) ⟨rfl, by decide +kernel, by decide +kernel, by decide +kernel⟩ rfl tm_cd_X6 (fun h => (tm_hM_0 h).1) ⟨Nat.le_of_ble_eq_true rfl, Nat.le_of_ble_eq_true rfl⟩ rfl (Nat.le_of_ble_eq_true rfl) hl.1.1 dX6_plainArgument_1 (fun u1 σ1 q1 => ?_)
  show tm_J p l e R s m args below meth c K tm_xM 0 _ _ (F0 m 4 ls [tm_iv u1])
  refine tm_istore_n (lv' := [(3, tm_iv u1), (0, tm_rv K 0), (1, tm_iv a1), (2, tm_iv a2)]) cx dX6_plainArgument_4 hl (by decide) (by decide) rfl (fun ls hl => ?_)
  exact wm_plainArgument_L5 cx tm_FU a1 a2 u1 _ _ g1 g2 q1 (tm_has_sub hl [1, 2, 3, 0] rfl)
def fm_isBehind_B27 (r27 : Int → Int → Int → Int → Int → Int → tm_S → tm_R) (v1 : Int) (v2 : Int) (v3 : Int) (v5 : Int) (v6 : Int) (v7 : Int) (σ : tm_S) : tm_R :=
  if v7 < v5 then
    if v6 = 0 then
      tm_gz v6 (tm_rt v6 σ)
    else
      tm_gi (42 * v1) <|
      tm_gx v1 4 <|
      tm_gi ((42 * v1) + (tm_a σ 140 v1)) <|
      tm_gi (((42 * v1) + (tm_a σ 140 v1)) - v5) <|
      tm_gi ((((42 * v1) + (tm_a σ 140 v1)) - v5) + v7) <|
      tm_gx ((((42 * v1) + (tm_a σ 140 v1)) - v5) + v7) 168 <|
      tm_gi (13 * v2) <|
      tm_gi ((13 * v2) + v3) <|
      tm_gi (((13 * v2) + v3) + v7) <|
      tm_gx (((13 * v2) + v3) + v7) 800 <|
      if (tm_a σ 139 ((((42 * v1) + (tm_a σ 140 v1)) - v5) + v7)) = (tm_a σ 125 (((13 * v2) + v3) + v7)) then
        tm_gi (v7 + 1) <|
        r27 v1 v2 v3 v5 1 (v7 + 1) σ
      else
        tm_gi (v7 + 1) <|
        r27 v1 v2 v3 v5 0 (v7 + 1) σ
  else
    tm_gz v6 (tm_rt v6 σ)
theorem wm_isBehind_B27 {p : Program} {l : Launch} {e : Env} {R : Room} {s : State} {m : MethodId} {args : Array Value} {below : List Frame} {meth : Method} {c : Code} {K : tm_K} {r27 : Int → Int → Int → Int → Int → Int → tm_S → tm_R} (cx : tm_C p l R s m args meth c K cX6_isBehind 8 RX6 "isBehind" (some .boolean) 0 0) (h27 : ∀ (v1 : Int) (v2 : Int) (v3 : Int) (v5 : Int) (v6 : Int) (v7 : Int) (τ : tm_S) (ls : Array Slot), tm_in v1 → tm_in v2 → tm_in v3 → tm_in v5 → tm_in v6 → tm_in v7 → tm_has 0 ls 8 [(0, tm_rv K 0), (1, tm_iv v1), (2, tm_iv v2), (3, tm_iv v3), (5, tm_iv v5), (6, tm_iv v6), (7, tm_iv v7)] → tm_J p l e R s m args below meth c K tm_xM 1 (r27 v1 v2 v3 v5 v6 v7 τ) τ (F0 m 27 ls [])) (v1 : Int) (v2 : Int) (v3 : Int) (v5 : Int) (v6 : Int) (v7 : Int) (σ : tm_S) (ls : Array Slot) (g1 : tm_in v1) (g2 : tm_in v2) (g3 : tm_in v3) (g5 : tm_in v5) (g6 : tm_in v6) (g7 : tm_in v7) (hl : tm_has 0 ls 8 [(0, tm_rv K 0), (1, tm_iv v1), (2, tm_iv v2), (3, tm_iv v3), (5, tm_iv v5), (6, tm_iv v6), (7, tm_iv v7)]) : tm_J p l e R s m args below meth c K tm_xM 1 (fm_isBehind_B27 r27 v1 v2 v3 v5 v6 v7 σ) σ (F0 m 27 ls []) := by
  unfold fm_isBehind_B27
  refine tm_iload cx dX6_isBehind_27 (tm_has_at hl 6 rfl) ?_
  refine tm_iload cx dX6_isBehind_29 (tm_has_at hl 4 rfl) ?_
  refine tm_icmp_ge (tgt := 91) cx g7 g5 dX6_isBehind_31 (by decide) (fun c31 => ?_) (fun c31 => ?_)
  · refine tm_iload cx dX6_isBehind_34 (tm_has_at hl 5 rfl) ?_
    refine tm_if_eq (tgt := 91) cx g6 dX6_isBehind_36 (by decide) (fun c36 => ?_) (fun c36 => ?_)
    · refine tm_iload cx dX6_isBehind_91 (tm_has_at hl 5 rfl) ?_
      exact tm_zreturnG cx dX6_isBehind_93
    · refine tm_aload_n cx dX6_isBehind_39 (tm_has_at hl 0 rfl) ?_
      refine tg_X6_80 cx dX6_isBehind_40 ?_
      refine tm_bipush cx dX6_isBehind_43 (by decide) ?_
      refine tm_iload_n cx dX6_isBehind_45 (tm_has_at hl 1 rfl) ?_
      refine tm_imul cx dX6_isBehind_46 (fun q46 => ?_)
      refine tm_aload_n cx dX6_isBehind_47 (tm_has_at hl 0 rfl) ?_
      refine tg_X6_83 cx dX6_isBehind_48 ?_
      refine tm_iload_n cx dX6_isBehind_51 (tm_has_at hl 1 rfl) ?_
      refine tm_iald cx tm_hM_140 g1 dX6_isBehind_52 (fun i52 q52 => ?_)
      refine tm_iadd cx dX6_isBehind_53 (fun q53 => ?_)
      refine tm_iload cx dX6_isBehind_54 (tm_has_at hl 4 rfl) ?_
      refine tm_isub cx dX6_isBehind_56 (fun q56 => ?_)
      refine tm_iload cx dX6_isBehind_57 (tm_has_at hl 6 rfl) ?_
      refine tm_iadd cx dX6_isBehind_59 (fun q59 => ?_)
      refine tm_iald cx tm_hM_139 q59 dX6_isBehind_60 (fun i60 q60 => ?_)
      refine tm_aload_n cx dX6_isBehind_61 (tm_has_at hl 0 rfl) ?_
      refine tg_X6_47 cx dX6_isBehind_62 ?_
      refine tm_bipush cx dX6_isBehind_65 (by decide) ?_
      refine tm_iload_n cx dX6_isBehind_67 (tm_has_at hl 2 rfl) ?_
      refine tm_imul cx dX6_isBehind_68 (fun q68 => ?_)
      refine tm_iload_n cx dX6_isBehind_69 (tm_has_at hl 3 rfl) ?_
      refine tm_iadd cx dX6_isBehind_70 (fun q70 => ?_)
      refine tm_iload cx dX6_isBehind_71 (tm_has_at hl 6 rfl) ?_
      refine tm_iadd cx dX6_isBehind_73 (fun q73 => ?_)
      refine tm_iald cx tm_hM_125 q73 dX6_isBehind_74 (fun i74 q74 => ?_)
      refine tm_icmp_ne (tgt := 82) cx q60 q74 dX6_isBehind_75 (by decide) (fun c75 => ?_) (fun c75 => ?_)
      · refine tm_iconst cx dX6_isBehind_78 ?_
        refine tm_goto (tgt := 83) cx dX6_isBehind_79 (by decide) ?_
        refine tm_istore (lv' := [(6, tm_iv 1), (0, tm_rv K 0), (1, tm_iv v1), (2, tm_iv v2), (3, tm_iv v3), (5, tm_iv v5), (7, tm_iv v7)]) cx dX6_isBehind_83 hl (by decide) (by decide) rfl (fun ls hl => ?_)
        refine tm_iinc (lv' := [(7, tm_iv (v7 + 1)), (6, tm_iv 1), (0, tm_rv K 0), (1, tm_iv v1), (2, tm_iv v2), (3, tm_iv v3), (5, tm_iv v5)]) cx dX6_isBehind_85 hl (j := 6) rfl (by decide) (by decide) rfl (fun q85 ls hl => ?_)
        refine tm_goto (tgt := 27) cx dX6_isBehind_88 (by decide) ?_
        exact h27 v1 v2 v3 v5 1 (v7 + 1) _ _ g1 g2 g3 g5 (by decide) q85 (tm_has_sub hl [2, 3, 4, 5, 6, 1, 0] rfl)
      · refine tm_iconst cx dX6_isBehind_82 ?_
        refine tm_istore (lv' := [(6, tm_iv 0), (0, tm_rv K 0), (1, tm_iv v1), (2, tm_iv v2), (3, tm_iv v3), (5, tm_iv v5), (7, tm_iv v7)]) cx dX6_isBehind_83 hl (by decide) (by decide) rfl (fun ls hl => ?_)
        refine tm_iinc (lv' := [(7, tm_iv (v7 + 1)), (6, tm_iv 0), (0, tm_rv K 0), (1, tm_iv v1), (2, tm_iv v2), (3, tm_iv v3), (5, tm_iv v5)]) cx dX6_isBehind_85 hl (j := 6) rfl (by decide) (by decide) rfl (fun q85 ls hl => ?_)
        refine tm_goto (tgt := 27) cx dX6_isBehind_88 (by decide) ?_
        exact h27 v1 v2 v3 v5 0 (v7 + 1) _ _ g1 g2 g3 g5 (by decide) q85 (tm_has_sub hl [2, 3, 4, 5, 6, 1, 0] rfl)
  · refine tm_iload cx dX6_isBehind_91 (tm_has_at hl 5 rfl) ?_
    exact tm_zreturnG cx dX6_isBehind_93
def fm_isBehind_L27 : Nat → Int → Int → Int → Int → Int → Int → tm_S → tm_R
  | 0, _, _, _, _, _, _, _ => none
  | n + 1, v1, v2, v3, v5, v6, v7, σ => fm_isBehind_B27 (fm_isBehind_L27 n) v1 v2 v3 v5 v6 v7 σ
theorem wm_isBehind_L27 {p : Program} {l : Launch} {e : Env} {R : Room} {s : State} {m : MethodId} {args : Array Value} {below : List Frame} {meth : Method} {c : Code} {K : tm_K} (cx : tm_C p l R s m args meth c K cX6_isBehind 8 RX6 "isBehind" (some .boolean) 0 0) : ∀ (n : Nat) (v1 : Int) (v2 : Int) (v3 : Int) (v5 : Int) (v6 : Int) (v7 : Int) (σ : tm_S) (ls : Array Slot), tm_in v1 → tm_in v2 → tm_in v3 → tm_in v5 → tm_in v6 → tm_in v7 → tm_has 0 ls 8 [(0, tm_rv K 0), (1, tm_iv v1), (2, tm_iv v2), (3, tm_iv v3), (5, tm_iv v5), (6, tm_iv v6), (7, tm_iv v7)] → tm_J p l e R s m args below meth c K tm_xM 1 (fm_isBehind_L27 n v1 v2 v3 v5 v6 v7 σ) σ (F0 m 27 ls []) := by
  intro n
  induction n with
  | zero => intros; exact tm_none
  | succ n ih =>
    intro v1 v2 v3 v5 v6 v7 σ ls g1 g2 g3 g5 g6 g7 hl
    exact wm_isBehind_B27 (r27 := fm_isBehind_L27 n) cx ih v1 v2 v3 v5 v6 v7 σ ls g1 g2 g3 g5 g6 g7 hl
def fm_isBehind (a1 : Int) (a2 : Int) (a3 : Int) (a4 : Int) (σ : tm_S) : tm_R :=
  tm_gi (a4 - a3) <|
  tm_lt (a4 - a3) fun x4 =>
  tm_gx a1 4 <|
  if (tm_a σ 140 a1) < x4 then
    fm_isBehind_L27 tm_FU a1 a2 a3 x4 0 0 σ
  else
    fm_isBehind_L27 tm_FU a1 a2 a3 x4 1 0 σ
theorem tm_fits_X6_isBehind (K : tm_K) (a1 : Int) (a2 : Int) (a3 : Int) (a4 : Int) : (lg_sl [tm_rv K 0, tm_iv a1, tm_iv a2, tm_iv a3, tm_iv a4]).length ≤ 5 := (tm_sl_r _ _ _ _ (tm_sl_i _ _ _ (tm_sl_i _ _ _ (tm_sl_i _ _ _ (tm_sl_i _ _ _ (tm_sl_n _))))))
theorem cm_isBehind (K : tm_K) (l : Launch) (hst : l.stackTraces = false) (a1 : Int) (g1 : tm_in a1) (a2 : Int) (g2 : tm_in a2) (a3 : Int) (g3 : tm_in a3) (a4 : Int) (g4 : tm_in a4) : tm_ct K tm_xM l yX6_isBehind cX6_isBehind 8 (some .boolean) 1 [tm_rv K 0, tm_iv a1, tm_iv a2, tm_iv a3, tm_iv a4] (fm_isBehind a1 a2 a3 a4) 0 0 := by
  refine tm_ct_of hst (by decide +kernel) (Nat.le_trans (tm_fits_X6_isBehind K a1 a2 a3 a4) (Nat.le_of_ble_eq_true rfl)) ?_
  intro p e R s m args below meth c cx σ ls hl0
  have hl : tm_has 0 ls 8 [(0, tm_rv K 0), (1, tm_iv a1), (2, tm_iv a2), (3, tm_iv a3), (4, tm_iv a4)] := ⟨by
    have h9 := hl0
    simp only [tm_args_r, tm_args_i, tm_args_i, tm_args_i, tm_args_i, tm_args_n, Nat.zero_add, Nat.reduceAdd] at h9
    exact h9, by
    intro q hq
    simp only [List.mem_cons, List.not_mem_nil, or_false] at hq
    rcases hq with rfl | rfl | rfl | rfl | rfl
    · exact Or.inl (tm_rv_cat K 0)
    · exact Or.inl rfl
    · exact Or.inl rfl
    · exact Or.inl rfl
    · exact Or.inl rfl⟩
  clear hl0
  unfold fm_isBehind
  refine tm_iload cx dX6_isBehind_0 (tm_has_at hl 4 rfl) ?_
  refine tm_iload_n cx dX6_isBehind_2 (tm_has_at hl 3 rfl) ?_
  refine tm_isub cx dX6_isBehind_3 (fun q3 => ?_)
  refine tm_lt_ q3 (fun x4 q4 => ?_)
  refine tm_istore (lv' := [(5, tm_iv x4), (0, tm_rv K 0), (1, tm_iv a1), (2, tm_iv a2), (3, tm_iv a3), (4, tm_iv a4)]) cx dX6_isBehind_4 hl (by decide) (by decide) rfl (fun ls hl => ?_)
  refine tm_aload_n cx dX6_isBehind_6 (tm_has_at hl 1 rfl) ?_
  refine tg_X6_83 cx dX6_isBehind_7 ?_
  refine tm_iload_n cx dX6_isBehind_10 (tm_has_at hl 2 rfl) ?_
  refine tm_iald cx tm_hM_140 g1 dX6_isBehind_11 (fun i11 q11 => ?_)
  refine tm_iload cx dX6_isBehind_12 (tm_has_at hl 0 rfl) ?_
  refine tm_icmp_lt (tgt := 21) cx q11 q4 dX6_isBehind_14 (by decide) (fun c14 => ?_) (fun c14 => ?_)
  · refine tm_iconst cx dX6_isBehind_21 ?_
    refine tm_istore (lv' := [(6, tm_iv 0), (5, tm_iv x4), (0, tm_rv K 0), (1, tm_iv a1), (2, tm_iv a2), (3, tm_iv a3), (4, tm_iv a4)]) cx dX6_isBehind_22 hl (by decide) (by decide) rfl (fun ls hl => ?_)
    refine tm_iconst cx dX6_isBehind_24 ?_
    refine tm_istore (lv' := [(7, tm_iv 0), (6, tm_iv 0), (5, tm_iv x4), (0, tm_rv K 0), (1, tm_iv a1), (2, tm_iv a2), (3, tm_iv a3), (4, tm_iv a4)]) cx dX6_isBehind_25 hl (by decide) (by decide) rfl (fun ls hl => ?_)
    exact wm_isBehind_L27 cx tm_FU a1 a2 a3 x4 0 0 _ _ g1 g2 g3 q4 (by decide) (by decide) (tm_has_sub hl [3, 4, 5, 6, 2, 1, 0] rfl)
  · refine tm_iconst cx dX6_isBehind_17 ?_
    refine tm_goto (tgt := 22) cx dX6_isBehind_18 (by decide) ?_
    refine tm_istore (lv' := [(6, tm_iv 1), (5, tm_iv x4), (0, tm_rv K 0), (1, tm_iv a1), (2, tm_iv a2), (3, tm_iv a3), (4, tm_iv a4)]) cx dX6_isBehind_22 hl (by decide) (by decide) rfl (fun ls hl => ?_)
    refine tm_iconst cx dX6_isBehind_24 ?_
    refine tm_istore (lv' := [(7, tm_iv 0), (6, tm_iv 1), (5, tm_iv x4), (0, tm_rv K 0), (1, tm_iv a1), (2, tm_iv a2), (3, tm_iv a3), (4, tm_iv a4)]) cx dX6_isBehind_25 hl (by decide) (by decide) rfl (fun ls hl => ?_)
    exact wm_isBehind_L27 cx tm_FU a1 a2 a3 x4 1 0 _ _ g1 g2 g3 q4 (by decide) (by decide) (tm_has_sub hl [3, 4, 5, 6, 2, 1, 0] rfl)
def fm_longArgument_J79 (r9 : Int → Int → Int → Int → Int → Int → Int → tm_S → tm_R) (v1 : Int) (v2 : Int) (v3 : Int) (v4 : Int) (v7 : Int) (vs0 : Int) (vs1 : Int) (σ : tm_S) : tm_R :=
  tm_gi (vs0 + vs1) <|
  tm_lt (vs0 + vs1) fun x80 =>
  if x80 = 0 then
    tm_bd (fm_isBehind v1 v2 v3 v4 σ) fun u93 σ93 =>
    if u93 = 0 then
      tm_gi (v7 + 1) <|
      r9 v1 v2 v3 v4 x80 0 (v7 + 1) σ93
    else
      tm_gi (v7 + 1) <|
      r9 v1 v2 v3 v4 x80 1 (v7 + 1) σ93
  else
    tm_gi (v7 + 1) <|
    r9 v1 v2 v3 v4 x80 0 (v7 + 1) σ
theorem wm_longArgument_J79 {p : Program} {l : Launch} {e : Env} {R : Room} {s : State} {m : MethodId} {args : Array Value} {below : List Frame} {meth : Method} {c : Code} {K : tm_K} {r9 : Int → Int → Int → Int → Int → Int → Int → tm_S → tm_R} (cx : tm_C p l R s m args meth c K cX6_longArgument 11 RX6 "longArgument" none 5 112) (h9 : ∀ (v1 : Int) (v2 : Int) (v3 : Int) (v4 : Int) (v5 : Int) (v6 : Int) (v7 : Int) (τ : tm_S) (ls : Array Slot), tm_in v1 → tm_in v2 → tm_in v3 → tm_in v4 → tm_in v5 → tm_in v6 → tm_in v7 → tm_has 0 ls 11 [(0, tm_rv K 0), (1, tm_iv v1), (2, tm_iv v2), (3, tm_iv v3), (4, tm_iv v4), (5, tm_iv v5), (6, tm_iv v6), (7, tm_iv v7)] → tm_J p l e R s m args below meth c K tm_xM 0 (r9 v1 v2 v3 v4 v5 v6 v7 τ) τ (F0 m 9 ls [])) (v1 : Int) (v2 : Int) (v3 : Int) (v4 : Int) (v7 : Int) (vs0 : Int) (vs1 : Int) (σ : tm_S) (ls : Array Slot) (g1 : tm_in v1) (g2 : tm_in v2) (g3 : tm_in v3) (g4 : tm_in v4) (g7 : tm_in v7) (gs0 : tm_in vs0) (gs1 : tm_in vs1) (hl : tm_has 0 ls 11 [(0, tm_rv K 0), (1, tm_iv v1), (2, tm_iv v2), (3, tm_iv v3), (4, tm_iv v4), (7, tm_iv v7)]) : tm_J p l e R s m args below meth c K tm_xM 0 (fm_longArgument_J79 r9 v1 v2 v3 v4 v7 vs0 vs1 σ) σ (F0 m 79 ls [tm_iv vs1, tm_iv vs0]) := by
  unfold fm_longArgument_J79
  refine tm_iadd cx dX6_longArgument_79 (fun q79 => ?_)
  refine tm_lt_ q79 (fun x80 q80 => ?_)
  refine tm_istore (lv' := [(5, tm_iv x80), (0, tm_rv K 0), (1, tm_iv v1), (2, tm_iv v2), (3, tm_iv v3), (4, tm_iv v4), (7, tm_iv v7)]) cx dX6_longArgument_80 hl (by decide) (by decide) rfl (fun ls hl => ?_)
  refine tm_iload cx dX6_longArgument_82 (tm_has_at hl 0 rfl) ?_
  refine tm_if_ne (tgt := 103) cx q80 dX6_longArgument_84 (by decide) (fun c84 => ?_) (fun c84 => ?_)
  · refine tm_aload_n cx dX6_longArgument_87 (tm_has_at hl 1 rfl) ?_
    refine tm_iload_n cx dX6_longArgument_88 (tm_has_at hl 2 rfl) ?_
    refine tm_iload_n cx dX6_longArgument_89 (tm_has_at hl 3 rfl) ?_
    refine tm_iload_n cx dX6_longArgument_90 (tm_has_at hl 4 rfl) ?_
    refine tm_iload cx dX6_longArgument_91 (tm_has_at hl 5 rfl) ?_
    refine tm_callV (n := 4) cx (cm_isBehind K l (tm_hst cx) v1 g1 v2 g2 v3 g3 v4 g4) (lw_V q1339 q1341 qs69 q113 q1342) ⟨rfl, by decide +kernel, by decide +kernel, by decide +kernel⟩ rfl tm_cd_X6 (fun h => (tm_hM_0 h).1) ⟨Nat.le_of_ble_eq_true rfl, Nat.le_of_ble_eq_true rfl⟩ rfl (Nat.le_of_ble_eq_true rfl) hl.1.1 dX6_longArgument_93 (fun u93 σ93 q93 => ?_)
    show tm_J p l e R s m args below meth c K tm_xM 0 _ _ (F0 m 96 ls [tm_iv u93])
    refine tm_if_eq (tgt := 103) cx q93 dX6_longArgument_96 (by decide) (fun c96 => ?_) (fun c96 => ?_)
    · refine tm_iconst cx dX6_longArgument_103 ?_
      refine tm_istore (lv' := [(6, tm_iv 0), (5, tm_iv x80), (0, tm_rv K 0), (1, tm_iv v1), (2, tm_iv v2), (3, tm_iv v3), (4, tm_iv v4), (7, tm_iv v7)]) cx dX6_longArgument_104 hl (by decide) (by decide) rfl (fun ls hl => ?_)
      refine tm_iinc (lv' := [(7, tm_iv (v7 + 1)), (6, tm_iv 0), (5, tm_iv x80), (0, tm_rv K 0), (1, tm_iv v1), (2, tm_iv v2), (3, tm_iv v3), (4, tm_iv v4)]) cx dX6_longArgument_106 hl (j := 7) rfl (by decide) (by decide) rfl (fun q106 ls hl => ?_)
      refine tm_goto (tgt := 9) cx dX6_longArgument_109 (by decide) ?_
      exact h9 v1 v2 v3 v4 x80 0 (v7 + 1) _ _ g1 g2 g3 g4 q80 (by decide) q106 (tm_has_sub hl [3, 4, 5, 6, 7, 2, 1, 0] rfl)
    · refine tm_iconst cx dX6_longArgument_99 ?_
      refine tm_goto (tgt := 104) cx dX6_longArgument_100 (by decide) ?_
      refine tm_istore (lv' := [(6, tm_iv 1), (5, tm_iv x80), (0, tm_rv K 0), (1, tm_iv v1), (2, tm_iv v2), (3, tm_iv v3), (4, tm_iv v4), (7, tm_iv v7)]) cx dX6_longArgument_104 hl (by decide) (by decide) rfl (fun ls hl => ?_)
      refine tm_iinc (lv' := [(7, tm_iv (v7 + 1)), (6, tm_iv 1), (5, tm_iv x80), (0, tm_rv K 0), (1, tm_iv v1), (2, tm_iv v2), (3, tm_iv v3), (4, tm_iv v4)]) cx dX6_longArgument_106 hl (j := 7) rfl (by decide) (by decide) rfl (fun q106 ls hl => ?_)
      refine tm_goto (tgt := 9) cx dX6_longArgument_109 (by decide) ?_
      exact h9 v1 v2 v3 v4 x80 1 (v7 + 1) _ _ g1 g2 g3 g4 q80 (by decide) q106 (tm_has_sub hl [3, 4, 5, 6, 7, 2, 1, 0] rfl)
  · refine tm_iconst cx dX6_longArgument_103 ?_
    refine tm_istore (lv' := [(6, tm_iv 0), (5, tm_iv x80), (0, tm_rv K 0), (1, tm_iv v1), (2, tm_iv v2), (3, tm_iv v3), (4, tm_iv v4), (7, tm_iv v7)]) cx dX6_longArgument_104 hl (by decide) (by decide) rfl (fun ls hl => ?_)
    refine tm_iinc (lv' := [(7, tm_iv (v7 + 1)), (6, tm_iv 0), (5, tm_iv x80), (0, tm_rv K 0), (1, tm_iv v1), (2, tm_iv v2), (3, tm_iv v3), (4, tm_iv v4)]) cx dX6_longArgument_106 hl (j := 7) rfl (by decide) (by decide) rfl (fun q106 ls hl => ?_)
    refine tm_goto (tgt := 9) cx dX6_longArgument_109 (by decide) ?_
    exact h9 v1 v2 v3 v4 x80 0 (v7 + 1) _ _ g1 g2 g3 g4 q80 (by decide) q106 (tm_has_sub hl [3, 4, 5, 6, 7, 2, 1, 0] rfl)
def fm_longArgument_B226 (r226 : Int → Int → Int → tm_S → tm_R) (v1 : Int) (v7 : Int) (v10 : Int) (σ : tm_S) : tm_R :=
  tm_gi (v7 - 1) <|
  if v10 < (v7 - 1) then
    tm_gi (42 * v1) <|
    tm_gi ((42 * v1) + v10) <|
    tm_gi (((42 * v1) + v10) - 1) <|
    tm_gi (42 * v1) <|
    tm_gi ((42 * v1) + v10) <|
    tm_gx ((42 * v1) + v10) 168 <|
    tm_gx (((42 * v1) + v10) - 1) 168 <|
    tm_gi (v10 + 1) <|
    r226 v1 v7 (v10 + 1) (tm_wa σ 139 (((42 * v1) + v10) - 1) (tm_a σ 139 ((42 * v1) + v10)))
  else
    tm_gi (v7 - 2) <|
    tm_gx v1 4 <|
    tm_rt 0 (tm_wa σ 140 v1 (v7 - 2))
theorem wm_longArgument_B226 {p : Program} {l : Launch} {e : Env} {R : Room} {s : State} {m : MethodId} {args : Array Value} {below : List Frame} {meth : Method} {c : Code} {K : tm_K} {r226 : Int → Int → Int → tm_S → tm_R} (cx : tm_C p l R s m args meth c K cX6_longArgument 11 RX6 "longArgument" none 5 112) (h226 : ∀ (v1 : Int) (v7 : Int) (v10 : Int) (τ : tm_S) (ls : Array Slot), tm_in v1 → tm_in v7 → tm_in v10 → tm_has 0 ls 11 [(0, tm_rv K 0), (1, tm_iv v1), (7, tm_iv v7), (10, tm_iv v10)] → tm_J p l e R s m args below meth c K tm_xM 0 (r226 v1 v7 v10 τ) τ (F0 m 226 ls [])) (v1 : Int) (v7 : Int) (v10 : Int) (σ : tm_S) (ls : Array Slot) (g1 : tm_in v1) (g7 : tm_in v7) (g10 : tm_in v10) (hl : tm_has 0 ls 11 [(0, tm_rv K 0), (1, tm_iv v1), (7, tm_iv v7), (10, tm_iv v10)]) : tm_J p l e R s m args below meth c K tm_xM 0 (fm_longArgument_B226 r226 v1 v7 v10 σ) σ (F0 m 226 ls []) := by
  unfold fm_longArgument_B226
  refine tm_iload cx dX6_longArgument_226 (tm_has_at hl 3 rfl) ?_
  refine tm_iload cx dX6_longArgument_228 (tm_has_at hl 2 rfl) ?_
  refine tm_iconst cx dX6_longArgument_230 ?_
  refine tm_isub cx dX6_longArgument_231 (fun q231 => ?_)
  refine tm_icmp_ge (tgt := 267) cx g10 q231 dX6_longArgument_232 (by decide) (fun c232 => ?_) (fun c232 => ?_)
  · refine tm_aload_n cx dX6_longArgument_235 (tm_has_at hl 0 rfl) ?_
    refine tg_X6_80 cx dX6_longArgument_236 ?_
    refine tm_bipush cx dX6_longArgument_239 (by decide) ?_
    refine tm_iload_n cx dX6_longArgument_241 (tm_has_at hl 1 rfl) ?_
    refine tm_imul cx dX6_longArgument_242 (fun q242 => ?_)
    refine tm_iload cx dX6_longArgument_243 (tm_has_at hl 3 rfl) ?_
    refine tm_iadd cx dX6_longArgument_245 (fun q245 => ?_)
    refine tm_iconst cx dX6_longArgument_246 ?_
    refine tm_isub cx dX6_longArgument_247 (fun q247 => ?_)
    refine tm_aload_n cx dX6_longArgument_248 (tm_has_at hl 0 rfl) ?_
    refine tg_X6_80 cx dX6_longArgument_249 ?_
    refine tm_bipush cx dX6_longArgument_252 (by decide) ?_
    refine tm_iload_n cx dX6_longArgument_254 (tm_has_at hl 1 rfl) ?_
    refine tm_imul cx dX6_longArgument_255 (fun q255 => ?_)
    refine tm_iload cx dX6_longArgument_256 (tm_has_at hl 3 rfl) ?_
    refine tm_iadd cx dX6_longArgument_258 (fun q258 => ?_)
    refine tm_iald cx tm_hM_139 q258 dX6_longArgument_259 (fun i259 q259 => ?_)
    refine tm_iast cx tm_famM tm_hM_139 q247 q259 dX6_longArgument_260 ?_
    refine tm_iinc (lv' := [(10, tm_iv (v10 + 1)), (0, tm_rv K 0), (1, tm_iv v1), (7, tm_iv v7)]) cx dX6_longArgument_261 hl (j := 3) rfl (by decide) (by decide) rfl (fun q261 ls hl => ?_)
    refine tm_goto (tgt := 226) cx dX6_longArgument_264 (by decide) ?_
    exact h226 v1 v7 (v10 + 1) _ _ g1 g7 q261 (tm_has_sub hl [1, 2, 3, 0] rfl)
  · refine tm_aload_n cx dX6_longArgument_267 (tm_has_at hl 0 rfl) ?_
    refine tg_X6_83 cx dX6_longArgument_268 ?_
    refine tm_iload_n cx dX6_longArgument_271 (tm_has_at hl 1 rfl) ?_
    refine tm_iload cx dX6_longArgument_272 (tm_has_at hl 2 rfl) ?_
    refine tm_iconst cx dX6_longArgument_274 ?_
    refine tm_isub cx dX6_longArgument_275 (fun q275 => ?_)
    refine tm_iast cx tm_famM tm_hM_140 g1 q275 dX6_longArgument_276 ?_
    exact tm_vreturn cx dX6_longArgument_277
def fm_longArgument_L226 : Nat → Int → Int → Int → tm_S → tm_R
  | 0, _, _, _, _ => none
  | n + 1, v1, v7, v10, σ => fm_longArgument_B226 (fm_longArgument_L226 n) v1 v7 v10 σ
theorem wm_longArgument_L226 {p : Program} {l : Launch} {e : Env} {R : Room} {s : State} {m : MethodId} {args : Array Value} {below : List Frame} {meth : Method} {c : Code} {K : tm_K} (cx : tm_C p l R s m args meth c K cX6_longArgument 11 RX6 "longArgument" none 5 112) : ∀ (n : Nat) (v1 : Int) (v7 : Int) (v10 : Int) (σ : tm_S) (ls : Array Slot), tm_in v1 → tm_in v7 → tm_in v10 → tm_has 0 ls 11 [(0, tm_rv K 0), (1, tm_iv v1), (7, tm_iv v7), (10, tm_iv v10)] → tm_J p l e R s m args below meth c K tm_xM 0 (fm_longArgument_L226 n v1 v7 v10 σ) σ (F0 m 226 ls []) := by
  intro n
  induction n with
  | zero => intros; exact tm_none
  | succ n ih =>
    intro v1 v7 v10 σ ls g1 g7 g10 hl
    exact wm_longArgument_B226 (r226 := fm_longArgument_L226 n) cx ih v1 v7 v10 σ ls g1 g7 g10 hl
def fm_longArgument_J205 (r162 : Int → Int → Int → Int → tm_S → tm_R) (v1 : Int) (v7 : Int) (v8 : Int) (vs0 : Int) (vs1 : Int) (σ : tm_S) : tm_R :=
  tm_gi (vs0 + vs1) <|
  tm_lt (vs0 + vs1) fun x206 =>
  tm_gi (v8 + 1) <|
  if 0 < x206 then
    r162 v1 v7 (v8 + 1) x206 σ
  else
    if (v8 + 1) = v7 then
      fm_longArgument_L226 tm_FU v1 v7 1 σ
    else
      tm_rt 0 σ
theorem wm_longArgument_J205 {p : Program} {l : Launch} {e : Env} {R : Room} {s : State} {m : MethodId} {args : Array Value} {below : List Frame} {meth : Method} {c : Code} {K : tm_K} {r162 : Int → Int → Int → Int → tm_S → tm_R} (cx : tm_C p l R s m args meth c K cX6_longArgument 11 RX6 "longArgument" none 5 112) (h162 : ∀ (v1 : Int) (v7 : Int) (v8 : Int) (v9 : Int) (τ : tm_S) (ls : Array Slot), tm_in v1 → tm_in v7 → tm_in v8 → tm_in v9 → tm_has 0 ls 11 [(0, tm_rv K 0), (1, tm_iv v1), (7, tm_iv v7), (8, tm_iv v8), (9, tm_iv v9)] → tm_J p l e R s m args below meth c K tm_xM 0 (r162 v1 v7 v8 v9 τ) τ (F0 m 162 ls [])) (v1 : Int) (v7 : Int) (v8 : Int) (vs0 : Int) (vs1 : Int) (σ : tm_S) (ls : Array Slot) (g1 : tm_in v1) (g7 : tm_in v7) (g8 : tm_in v8) (gs0 : tm_in vs0) (gs1 : tm_in vs1) (hl : tm_has 0 ls 11 [(0, tm_rv K 0), (1, tm_iv v1), (7, tm_iv v7), (8, tm_iv v8)]) : tm_J p l e R s m args below meth c K tm_xM 0 (fm_longArgument_J205 r162 v1 v7 v8 vs0 vs1 σ) σ (F0 m 205 ls [tm_iv vs1, tm_iv vs0]) := by
  unfold fm_longArgument_J205
  refine tm_iadd cx dX6_longArgument_205 (fun q205 => ?_)
  refine tm_lt_ q205 (fun x206 q206 => ?_)
  refine tm_istore (lv' := [(9, tm_iv x206), (0, tm_rv K 0), (1, tm_iv v1), (7, tm_iv v7), (8, tm_iv v8)]) cx dX6_longArgument_206 hl (by decide) (by decide) rfl (fun ls hl => ?_)
  refine tm_iinc (lv' := [(8, tm_iv (v8 + 1)), (9, tm_iv x206), (0, tm_rv K 0), (1, tm_iv v1), (7, tm_iv v7)]) cx dX6_longArgument_208 hl (j := 4) rfl (by decide) (by decide) rfl (fun q208 ls hl => ?_)
  refine tm_iload cx dX6_longArgument_211 (tm_has_at hl 1 rfl) ?_
  refine tm_if_gt (tgt := 162) cx q206 dX6_longArgument_213 (by decide) (fun c213 => ?_) (fun c213 => ?_)
  · exact h162 v1 v7 (v8 + 1) x206 _ _ g1 g7 q208 q206 (tm_has_sub hl [2, 3, 4, 0, 1] rfl)
  · refine tm_iload cx dX6_longArgument_216 (tm_has_at hl 0 rfl) ?_
    refine tm_iload cx dX6_longArgument_218 (tm_has_at hl 4 rfl) ?_
    refine tm_icmp_ne (tgt := 277) cx q208 g7 dX6_longArgument_220 (by decide) (fun c220 => ?_) (fun c220 => ?_)
    · refine tm_iconst cx dX6_longArgument_223 ?_
      refine tm_istore (lv' := [(10, tm_iv 1), (8, tm_iv (v8 + 1)), (9, tm_iv x206), (0, tm_rv K 0), (1, tm_iv v1), (7, tm_iv v7)]) cx dX6_longArgument_224 hl (by decide) (by decide) rfl (fun ls hl => ?_)
      exact wm_longArgument_L226 cx tm_FU v1 v7 1 _ _ g1 g7 (by decide) (tm_has_sub hl [3, 4, 5, 0] rfl)
    · exact tm_vreturn cx dX6_longArgument_277
def fm_longArgument_B162 (r162 : Int → Int → Int → Int → tm_S → tm_R) (v1 : Int) (v7 : Int) (v8 : Int) (v9 : Int) (σ : tm_S) : tm_R :=
  tm_gi (42 * v1) <|
  tm_gi ((42 * v1) + v8) <|
  tm_gx ((42 * v1) + v8) 168 <|
  tm_lt (tm_a σ 139 ((42 * v1) + v8)) fun x174 =>
  tm_bd (fm_isCharacter x174 1 σ) fun u181 σ181 =>
  if u181 = 0 then
    tm_bd (fm_isCharacter x174 2 σ181) fun u194 σ194 =>
    if u194 = 0 then
      fm_longArgument_J205 r162 v1 v7 v8 v9 0 σ194
    else
      fm_longArgument_J205 r162 v1 v7 v8 v9 (-1) σ194
  else
    fm_longArgument_J205 r162 v1 v7 v8 v9 1 σ181
theorem wm_longArgument_B162 {p : Program} {l : Launch} {e : Env} {R : Room} {s : State} {m : MethodId} {args : Array Value} {below : List Frame} {meth : Method} {c : Code} {K : tm_K} {r162 : Int → Int → Int → Int → tm_S → tm_R} (cx : tm_C p l R s m args meth c K cX6_longArgument 11 RX6 "longArgument" none 5 112) (h162 : ∀ (v1 : Int) (v7 : Int) (v8 : Int) (v9 : Int) (τ : tm_S) (ls : Array Slot), tm_in v1 → tm_in v7 → tm_in v8 → tm_in v9 → tm_has 0 ls 11 [(0, tm_rv K 0), (1, tm_iv v1), (7, tm_iv v7), (8, tm_iv v8), (9, tm_iv v9)] → tm_J p l e R s m args below meth c K tm_xM 0 (r162 v1 v7 v8 v9 τ) τ (F0 m 162 ls [])) (v1 : Int) (v7 : Int) (v8 : Int) (v9 : Int) (σ : tm_S) (ls : Array Slot) (g1 : tm_in v1) (g7 : tm_in v7) (g8 : tm_in v8) (g9 : tm_in v9) (hl : tm_has 0 ls 11 [(0, tm_rv K 0), (1, tm_iv v1), (7, tm_iv v7), (8, tm_iv v8), (9, tm_iv v9)]) : tm_J p l e R s m args below meth c K tm_xM 0 (fm_longArgument_B162 r162 v1 v7 v8 v9 σ) σ (F0 m 162 ls []) := by
  unfold fm_longArgument_B162
  refine tm_aload_n cx dX6_longArgument_162 (tm_has_at hl 0 rfl) ?_
  refine tg_X6_80 cx dX6_longArgument_163 ?_
  refine tm_bipush cx dX6_longArgument_166 (by decide) ?_
  refine tm_iload_n cx dX6_longArgument_168 (tm_has_at hl 1 rfl) ?_
  refine tm_imul cx dX6_longArgument_169 (fun q169 => ?_)
  refine tm_iload cx dX6_longArgument_170 (tm_has_at hl 3 rfl) ?_
  refine tm_iadd cx dX6_longArgument_172 (fun q172 => ?_)
  refine tm_iald cx tm_hM_139 q172 dX6_longArgument_173 (fun i173 q173 => ?_)
  refine tm_lt_ q173 (fun x174 q174 => ?_)
  refine tm_istore (lv' := [(10, tm_iv x174), (0, tm_rv K 0), (1, tm_iv v1), (7, tm_iv v7), (8, tm_iv v8), (9, tm_iv v9)]) cx dX6_longArgument_174 hl (by decide) (by decide) rfl (fun ls hl => ?_)
  refine tm_iload cx dX6_longArgument_176 (tm_has_at hl 5 rfl) ?_
  refine tm_iload cx dX6_longArgument_178 (tm_has_at hl 0 rfl) ?_
  refine tm_iconst cx dX6_longArgument_180 ?_
  refine tm_callS (n := 2) cx (cm_isCharacter K l (tm_hst cx) x174 q174 1 (by decide)) (lw_S q1328 q1329 q113 q1330) ⟨by decide +kernel, by decide +kernel, by decide +kernel⟩ rfl ⟨Nat.le_of_ble_eq_true rfl, Nat.le_of_ble_eq_true rfl⟩ rfl (Nat.le_of_ble_eq_true rfl) hl.1.1 dX6_longArgument_181 (fun u181 σ181 q181 => ?_)
  show tm_J p l e R s m args below meth c K tm_xM 0 _ _ (F0 m 184 ls [tm_iv u181, tm_iv v9])
  refine tm_if_eq (tgt := 191) cx q181 dX6_longArgument_184 (by decide) (fun c184 => ?_) (fun c184 => ?_)
  · refine tm_iload cx dX6_longArgument_191 (tm_has_at hl 0 rfl) ?_
    refine tm_iconst cx dX6_longArgument_193 ?_
    refine tm_callS (n := 2) cx (cm_isCharacter K l (tm_hst cx) x174 q174 2 (by decide)) (lw_S q1328 q1329 q113 q1330) ⟨by decide +kernel, by decide +kernel, by decide +kernel⟩ rfl ⟨Nat.le_of_ble_eq_true rfl, Nat.le_of_ble_eq_true rfl⟩ rfl (Nat.le_of_ble_eq_true rfl) hl.1.1 dX6_longArgument_194 (fun u194 σ194 q194 => ?_)
    show tm_J p l e R s m args below meth c K tm_xM 0 _ _ (F0 m 197 ls [tm_iv u194, tm_iv v9])
    refine tm_if_eq (tgt := 204) cx q194 dX6_longArgument_197 (by decide) (fun c197 => ?_) (fun c197 => ?_)
    · refine tm_iconst cx dX6_longArgument_204 ?_
      exact wm_longArgument_J205 cx h162 v1 v7 v8 v9 0 _ _ g1 g7 g8 g9 (by decide) (tm_has_sub hl [1, 2, 3, 4] rfl)
    · refine tm_iconst cx dX6_longArgument_200 ?_
      refine tm_goto (tgt := 205) cx dX6_longArgument_201 (by decide) ?_
      exact wm_longArgument_J205 cx h162 v1 v7 v8 v9 (-1) _ _ g1 g7 g8 g9 (by decide) (tm_has_sub hl [1, 2, 3, 4] rfl)
  · refine tm_iconst cx dX6_longArgument_187 ?_
    refine tm_goto (tgt := 205) cx dX6_longArgument_188 (by decide) ?_
    exact wm_longArgument_J205 cx h162 v1 v7 v8 v9 1 _ _ g1 g7 g8 g9 (by decide) (tm_has_sub hl [1, 2, 3, 4] rfl)
def fm_longArgument_L162 : Nat → Int → Int → Int → Int → tm_S → tm_R
  | 0, _, _, _, _, _ => none
  | n + 1, v1, v7, v8, v9, σ => fm_longArgument_B162 (fm_longArgument_L162 n) v1 v7 v8 v9 σ
theorem wm_longArgument_L162 {p : Program} {l : Launch} {e : Env} {R : Room} {s : State} {m : MethodId} {args : Array Value} {below : List Frame} {meth : Method} {c : Code} {K : tm_K} (cx : tm_C p l R s m args meth c K cX6_longArgument 11 RX6 "longArgument" none 5 112) : ∀ (n : Nat) (v1 : Int) (v7 : Int) (v8 : Int) (v9 : Int) (σ : tm_S) (ls : Array Slot), tm_in v1 → tm_in v7 → tm_in v8 → tm_in v9 → tm_has 0 ls 11 [(0, tm_rv K 0), (1, tm_iv v1), (7, tm_iv v7), (8, tm_iv v8), (9, tm_iv v9)] → tm_J p l e R s m args below meth c K tm_xM 0 (fm_longArgument_L162 n v1 v7 v8 v9 σ) σ (F0 m 162 ls []) := by
  intro n
  induction n with
  | zero => intros; exact tm_none
  | succ n ih =>
    intro v1 v7 v8 v9 σ ls g1 g7 g8 g9 hl
    exact wm_longArgument_B162 (r162 := fm_longArgument_L162 n) cx ih v1 v7 v8 v9 σ ls g1 g7 g8 g9 hl
def fm_longArgument_B9 (r9 : Int → Int → Int → Int → Int → Int → Int → tm_S → tm_R) (v1 : Int) (v2 : Int) (v3 : Int) (v4 : Int) (v5 : Int) (v6 : Int) (v7 : Int) (σ : tm_S) : tm_R :=
  if v6 = 0 then
    tm_bd (fm_get σ) fun u15 σ15 =>
    tm_bd (fm_piece u15 v7 v2 v3 v4 v5 σ15) fun u31 σ31 =>
    if u31 = (-1) then
      tm_rt 0 σ31
    else
      tm_bd (fm_add v1 u31 σ31) fun u47 σ47 =>
      tm_bd (fm_isCharacter u31 1 σ47) fun u55 σ55 =>
      if u55 = 0 then
        tm_bd (fm_isCharacter u31 2 σ55) fun u68 σ68 =>
        if u68 = 0 then
          fm_longArgument_J79 r9 v1 v2 v3 v4 v7 v5 0 σ68
        else
          fm_longArgument_J79 r9 v1 v2 v3 v4 v7 v5 (-1) σ68
      else
        fm_longArgument_J79 r9 v1 v2 v3 v4 v7 v5 1 σ55
  else
    tm_gx v1 4 <|
    tm_gi (v4 - v3) <|
    tm_gi ((tm_a σ 140 v1) - (v4 - v3)) <|
    tm_gx v1 4 <|
    tm_gx v1 4 <|
    tm_lt (tm_a (tm_wa σ 140 v1 ((tm_a σ 140 v1) - (v4 - v3))) 140 v1) fun x131 =>
    if x131 < 2 then
      tm_rt 0 (tm_wa σ 140 v1 ((tm_a σ 140 v1) - (v4 - v3)))
    else
      tm_gi (42 * v1) <|
      tm_gx (42 * v1) 168 <|
      tm_bd (fm_isCharacter (tm_a (tm_wa σ 140 v1 ((tm_a σ 140 v1) - (v4 - v3))) 139 (42 * v1)) 1 (tm_wa σ 140 v1 ((tm_a σ 140 v1) - (v4 - v3)))) fun u149 σ149 =>
      if u149 = 0 then
        tm_rt 0 σ149
      else
        fm_longArgument_L162 tm_FU v1 x131 0 0 σ149
theorem wm_longArgument_B9 {p : Program} {l : Launch} {e : Env} {R : Room} {s : State} {m : MethodId} {args : Array Value} {below : List Frame} {meth : Method} {c : Code} {K : tm_K} {r9 : Int → Int → Int → Int → Int → Int → Int → tm_S → tm_R} (cx : tm_C p l R s m args meth c K cX6_longArgument 11 RX6 "longArgument" none 5 112) (h9 : ∀ (v1 : Int) (v2 : Int) (v3 : Int) (v4 : Int) (v5 : Int) (v6 : Int) (v7 : Int) (τ : tm_S) (ls : Array Slot), tm_in v1 → tm_in v2 → tm_in v3 → tm_in v4 → tm_in v5 → tm_in v6 → tm_in v7 → tm_has 0 ls 11 [(0, tm_rv K 0), (1, tm_iv v1), (2, tm_iv v2), (3, tm_iv v3), (4, tm_iv v4), (5, tm_iv v5), (6, tm_iv v6), (7, tm_iv v7)] → tm_J p l e R s m args below meth c K tm_xM 0 (r9 v1 v2 v3 v4 v5 v6 v7 τ) τ (F0 m 9 ls [])) (v1 : Int) (v2 : Int) (v3 : Int) (v4 : Int) (v5 : Int) (v6 : Int) (v7 : Int) (σ : tm_S) (ls : Array Slot) (g1 : tm_in v1) (g2 : tm_in v2) (g3 : tm_in v3) (g4 : tm_in v4) (g5 : tm_in v5) (g6 : tm_in v6) (g7 : tm_in v7) (hl : tm_has 0 ls 11 [(0, tm_rv K 0), (1, tm_iv v1), (2, tm_iv v2), (3, tm_iv v3), (4, tm_iv v4), (5, tm_iv v5), (6, tm_iv v6), (7, tm_iv v7)]) : tm_J p l e R s m args below meth c K tm_xM 0 (fm_longArgument_B9 r9 v1 v2 v3 v4 v5 v6 v7 σ) σ (F0 m 9 ls []) := by
  unfold fm_longArgument_B9
  refine tm_iload cx dX6_longArgument_9 (tm_has_at hl 6 rfl) ?_
  refine tm_if_ne (tgt := 112) cx g6 dX6_longArgument_11 (by decide) (fun c11 => ?_) (fun c11 => ?_)
  · refine tm_aload_n cx dX6_longArgument_14 (tm_has_at hl 0 rfl) ?_
    refine tm_callV (n := 0) cx (cm_get K l (tm_hst cx)) (lw_V q1259 q1261 qs52 q113 q1262) ⟨rfl, by decide +kernel, by decide +kernel, by decide +kernel⟩ rfl tm_cd_X6 (fun h => (tm_hM_0 h).1) ⟨Nat.le_of_ble_eq_true rfl, Nat.le_of_ble_eq_true rfl⟩ rfl (Nat.le_of_ble_eq_true rfl) hl.1.1 dX6_longArgument_15 (fun u15 σ15 q15 => ?_)
    show tm_J p l e R s m args below meth c K tm_xM 0 _ _ (F0 m 18 ls [tm_iv u15])
    refine tm_istore (lv' := [(8, tm_iv u15), (0, tm_rv K 0), (1, tm_iv v1), (2, tm_iv v2), (3, tm_iv v3), (4, tm_iv v4), (5, tm_iv v5), (6, tm_iv v6), (7, tm_iv v7)]) cx dX6_longArgument_18 hl (by decide) (by decide) rfl (fun ls hl => ?_)
    refine tm_aload_n cx dX6_longArgument_20 (tm_has_at hl 1 rfl) ?_
    refine tm_iload cx dX6_longArgument_21 (tm_has_at hl 0 rfl) ?_
    refine tm_iload cx dX6_longArgument_23 (tm_has_at hl 8 rfl) ?_
    refine tm_iload_n cx dX6_longArgument_25 (tm_has_at hl 3 rfl) ?_
    refine tm_iload_n cx dX6_longArgument_26 (tm_has_at hl 4 rfl) ?_
    refine tm_iload cx dX6_longArgument_27 (tm_has_at hl 5 rfl) ?_
    refine tm_iload cx dX6_longArgument_29 (tm_has_at hl 6 rfl) ?_
    refine tm_callV (n := 6) cx (cm_piece K l (tm_hst cx) u15 q15 v7 g7 v2 g2 v3 g3 v4 g4 v5 g5) (lw_V q1324 q1326 qs66 q113 q1327) ⟨rfl, by decide +kernel, by decide +kernel, by decide +kernel⟩ rfl tm_cd_X6 (fun h => (tm_hM_0 h).1) ⟨Nat.le_of_ble_eq_true rfl, Nat.le_of_ble_eq_true rfl⟩ rfl (Nat.le_of_ble_eq_true rfl) hl.1.1 dX6_longArgument_31 (fun u31 σ31 q31 => ?_)
    show tm_J p l e R s m args below meth c K tm_xM 0 _ _ (F0 m 34 ls [tm_iv u31])
    refine tm_istore (lv' := [(9, tm_iv u31), (8, tm_iv u15), (0, tm_rv K 0), (1, tm_iv v1), (2, tm_iv v2), (3, tm_iv v3), (4, tm_iv v4), (5, tm_iv v5), (6, tm_iv v6), (7, tm_iv v7)]) cx dX6_longArgument_34 hl (by decide) (by decide) rfl (fun ls hl => ?_)
    refine tm_iload cx dX6_longArgument_36 (tm_has_at hl 0 rfl) ?_
    refine tm_iconst cx dX6_longArgument_38 ?_
    refine tm_icmp_ne (tgt := 43) cx q31 (by decide) dX6_longArgument_39 (by decide) (fun c39 => ?_) (fun c39 => ?_)
    · exact tm_vreturn cx dX6_longArgument_42
    · refine tm_aload_n cx dX6_longArgument_43 (tm_has_at hl 2 rfl) ?_
      refine tm_iload_n cx dX6_longArgument_44 (tm_has_at hl 3 rfl) ?_
      refine tm_iload cx dX6_longArgument_45 (tm_has_at hl 0 rfl) ?_
      refine tm_callV (n := 2) cx (cm_add K l (tm_hst cx) v1 g1 u31 q31) (lw_V q1331 q1333 qs67 q113 q1334) ⟨rfl, by decide +kernel, by decide +kernel, by decide +kernel⟩ rfl tm_cd_X6 (fun h => (tm_hM_0 h).1) ⟨Nat.le_of_ble_eq_true rfl, Nat.le_of_ble_eq_true rfl⟩ rfl (Nat.le_of_ble_eq_true rfl) hl.1.1 dX6_longArgument_47 (fun u47 σ47 q47 => ?_)
      show tm_J p l e R s m args below meth c K tm_xM 0 _ _ (F0 m 50 ls [])
      refine tm_iload cx dX6_longArgument_50 (tm_has_at hl 7 rfl) ?_
      refine tm_iload cx dX6_longArgument_52 (tm_has_at hl 0 rfl) ?_
      refine tm_iconst cx dX6_longArgument_54 ?_
      refine tm_callS (n := 2) cx (cm_isCharacter K l (tm_hst cx) u31 q31 1 (by decide)) (lw_S q1328 q1329 q113 q1330) ⟨by decide +kernel, by decide +kernel, by decide +kernel⟩ rfl ⟨Nat.le_of_ble_eq_true rfl, Nat.le_of_ble_eq_true rfl⟩ rfl (Nat.le_of_ble_eq_true rfl) hl.1.1 dX6_longArgument_55 (fun u55 σ55 q55 => ?_)
      show tm_J p l e R s m args below meth c K tm_xM 0 _ _ (F0 m 58 ls [tm_iv u55, tm_iv v5])
      refine tm_if_eq (tgt := 65) cx q55 dX6_longArgument_58 (by decide) (fun c58 => ?_) (fun c58 => ?_)
      · refine tm_iload cx dX6_longArgument_65 (tm_has_at hl 0 rfl) ?_
        refine tm_iconst cx dX6_longArgument_67 ?_
        refine tm_callS (n := 2) cx (cm_isCharacter K l (tm_hst cx) u31 q31 2 (by decide)) (lw_S q1328 q1329 q113 q1330) ⟨by decide +kernel, by decide +kernel, by decide +kernel⟩ rfl ⟨Nat.le_of_ble_eq_true rfl, Nat.le_of_ble_eq_true rfl⟩ rfl (Nat.le_of_ble_eq_true rfl) hl.1.1 dX6_longArgument_68 (fun u68 σ68 q68 => ?_)
        show tm_J p l e R s m args below meth c K tm_xM 0 _ _ (F0 m 71 ls [tm_iv u68, tm_iv v5])
        refine tm_if_eq (tgt := 78) cx q68 dX6_longArgument_71 (by decide) (fun c71 => ?_) (fun c71 => ?_)
        · refine tm_iconst cx dX6_longArgument_78 ?_
          exact wm_longArgument_J79 cx h9 v1 v2 v3 v4 v7 v5 0 _ _ g1 g2 g3 g4 g7 g5 (by decide) (tm_has_sub hl [2, 3, 4, 5, 6, 9] rfl)
        · refine tm_iconst cx dX6_longArgument_74 ?_
          refine tm_goto (tgt := 79) cx dX6_longArgument_75 (by decide) ?_
          exact wm_longArgument_J79 cx h9 v1 v2 v3 v4 v7 v5 (-1) _ _ g1 g2 g3 g4 g7 g5 (by decide) (tm_has_sub hl [2, 3, 4, 5, 6, 9] rfl)
      · refine tm_iconst cx dX6_longArgument_61 ?_
        refine tm_goto (tgt := 79) cx dX6_longArgument_62 (by decide) ?_
        exact wm_longArgument_J79 cx h9 v1 v2 v3 v4 v7 v5 1 _ _ g1 g2 g3 g4 g7 g5 (by decide) (tm_has_sub hl [2, 3, 4, 5, 6, 9] rfl)
  · refine tm_aload_n cx dX6_longArgument_112 (tm_has_at hl 0 rfl) ?_
    refine tg_X6_83 cx dX6_longArgument_113 ?_
    refine tm_iload_n cx dX6_longArgument_116 (tm_has_at hl 1 rfl) ?_
    refine tm_dup2_ir cx dX6_longArgument_117 ?_
    refine tm_iald cx tm_hM_140 g1 dX6_longArgument_118 (fun i118 q118 => ?_)
    refine tm_iload cx dX6_longArgument_119 (tm_has_at hl 4 rfl) ?_
    refine tm_iload_n cx dX6_longArgument_121 (tm_has_at hl 3 rfl) ?_
    refine tm_isub cx dX6_longArgument_122 (fun q122 => ?_)
    refine tm_isub cx dX6_longArgument_123 (fun q123 => ?_)
    refine tm_iast cx tm_famM tm_hM_140 g1 q123 dX6_longArgument_124 ?_
    refine tm_aload_n cx dX6_longArgument_125 (tm_has_at hl 0 rfl) ?_
    refine tg_X6_83 cx dX6_longArgument_126 ?_
    refine tm_iload_n cx dX6_longArgument_129 (tm_has_at hl 1 rfl) ?_
    refine tm_iald cx tm_hM_140 g1 dX6_longArgument_130 (fun i130 q130 => ?_)
    refine tm_lt_ q130 (fun x131 q131 => ?_)
    refine tm_istore (lv' := [(7, tm_iv x131), (0, tm_rv K 0), (1, tm_iv v1), (2, tm_iv v2), (3, tm_iv v3), (4, tm_iv v4), (5, tm_iv v5), (6, tm_iv v6)]) cx dX6_longArgument_131 hl (by decide) (by decide) rfl (fun ls hl => ?_)
    refine tm_iload cx dX6_longArgument_133 (tm_has_at hl 0 rfl) ?_
    refine tm_iconst cx dX6_longArgument_135 ?_
    refine tm_icmp_lt (tgt := 155) cx q131 (by decide) dX6_longArgument_136 (by decide) (fun c136 => ?_) (fun c136 => ?_)
    · exact tm_vreturn cx dX6_longArgument_155
    · refine tm_aload_n cx dX6_longArgument_139 (tm_has_at hl 1 rfl) ?_
      refine tg_X6_80 cx dX6_longArgument_140 ?_
      refine tm_bipush cx dX6_longArgument_143 (by decide) ?_
      refine tm_iload_n cx dX6_longArgument_145 (tm_has_at hl 2 rfl) ?_
      refine tm_imul cx dX6_longArgument_146 (fun q146 => ?_)
      refine tm_iald cx tm_hM_139 q146 dX6_longArgument_147 (fun i147 q147 => ?_)
      refine tm_iconst cx dX6_longArgument_148 ?_
      refine tm_callS (n := 2) cx (cm_isCharacter K l (tm_hst cx) (tm_a (tm_wa σ 140 v1 ((tm_a σ 140 v1) - (v4 - v3))) 139 (42 * v1)) q147 1 (by decide)) (lw_S q1328 q1329 q113 q1330) ⟨by decide +kernel, by decide +kernel, by decide +kernel⟩ rfl ⟨Nat.le_of_ble_eq_true rfl, Nat.le_of_ble_eq_true rfl⟩ rfl (Nat.le_of_ble_eq_true rfl) hl.1.1 dX6_longArgument_149 (fun u149 σ149 q149 => ?_)
      show tm_J p l e R s m args below meth c K tm_xM 0 _ _ (F0 m 152 ls [tm_iv u149])
      refine tm_if_ne (tgt := 156) cx q149 dX6_longArgument_152 (by decide) (fun c152 => ?_) (fun c152 => ?_)
      · exact tm_vreturn cx dX6_longArgument_155
      · refine tm_iconst cx dX6_longArgument_156 ?_
        refine tm_istore (lv' := [(8, tm_iv 0), (7, tm_iv x131), (0, tm_rv K 0), (1, tm_iv v1), (2, tm_iv v2), (3, tm_iv v3), (4, tm_iv v4), (5, tm_iv v5), (6, tm_iv v6)]) cx dX6_longArgument_157 hl (by decide) (by decide) rfl (fun ls hl => ?_)
        refine tm_iconst cx dX6_longArgument_159 ?_
        refine tm_istore (lv' := [(9, tm_iv 0), (8, tm_iv 0), (7, tm_iv x131), (0, tm_rv K 0), (1, tm_iv v1), (2, tm_iv v2), (3, tm_iv v3), (4, tm_iv v4), (5, tm_iv v5), (6, tm_iv v6)]) cx dX6_longArgument_160 hl (by decide) (by decide) rfl (fun ls hl => ?_)
        exact wm_longArgument_L162 cx tm_FU v1 x131 0 0 _ _ g1 q131 (by decide) (by decide) (tm_has_sub hl [3, 4, 2, 1, 0] rfl)
def fm_longArgument_L9 : Nat → Int → Int → Int → Int → Int → Int → Int → tm_S → tm_R
  | 0, _, _, _, _, _, _, _, _ => none
  | n + 1, v1, v2, v3, v4, v5, v6, v7, σ => fm_longArgument_B9 (fm_longArgument_L9 n) v1 v2 v3 v4 v5 v6 v7 σ
theorem wm_longArgument_L9 {p : Program} {l : Launch} {e : Env} {R : Room} {s : State} {m : MethodId} {args : Array Value} {below : List Frame} {meth : Method} {c : Code} {K : tm_K} (cx : tm_C p l R s m args meth c K cX6_longArgument 11 RX6 "longArgument" none 5 112) : ∀ (n : Nat) (v1 : Int) (v2 : Int) (v3 : Int) (v4 : Int) (v5 : Int) (v6 : Int) (v7 : Int) (σ : tm_S) (ls : Array Slot), tm_in v1 → tm_in v2 → tm_in v3 → tm_in v4 → tm_in v5 → tm_in v6 → tm_in v7 → tm_has 0 ls 11 [(0, tm_rv K 0), (1, tm_iv v1), (2, tm_iv v2), (3, tm_iv v3), (4, tm_iv v4), (5, tm_iv v5), (6, tm_iv v6), (7, tm_iv v7)] → tm_J p l e R s m args below meth c K tm_xM 0 (fm_longArgument_L9 n v1 v2 v3 v4 v5 v6 v7 σ) σ (F0 m 9 ls []) := by
  intro n
  induction n with
  | zero => intros; exact tm_none
  | succ n ih =>
    intro v1 v2 v3 v4 v5 v6 v7 σ ls g1 g2 g3 g4 g5 g6 g7 hl
    exact wm_longArgument_B9 (r9 := fm_longArgument_L9 n) cx ih v1 v2 v3 v4 v5 v6 v7 σ ls g1 g2 g3 g4 g5 g6 g7 hl
def fm_longArgument (a1 : Int) (a2 : Int) (a3 : Int) (a4 : Int) (σ : tm_S) : tm_R :=
  fm_longArgument_L9 tm_FU a1 a2 a3 a4 0 0 1 σ
theorem tm_fits_X6_longArgument (K : tm_K) (a1 : Int) (a2 : Int) (a3 : Int) (a4 : Int) : (lg_sl [tm_rv K 0, tm_iv a1, tm_iv a2, tm_iv a3, tm_iv a4]).length ≤ 5 := (tm_sl_r _ _ _ _ (tm_sl_i _ _ _ (tm_sl_i _ _ _ (tm_sl_i _ _ _ (tm_sl_i _ _ _ (tm_sl_n _))))))
theorem cm_longArgument (K : tm_K) (l : Launch) (hst : l.stackTraces = false) (a1 : Int) (g1 : tm_in a1) (a2 : Int) (g2 : tm_in a2) (a3 : Int) (g3 : tm_in a3) (a4 : Int) (g4 : tm_in a4) : tm_ct K tm_xM l yX6_longArgument cX6_longArgument 11 none 0 [tm_rv K 0, tm_iv a1, tm_iv a2, tm_iv a3, tm_iv a4] (fm_longArgument a1 a2 a3 a4) 5 112 := by
  refine tm_ct_of hst (by decide +kernel) (Nat.le_trans (tm_fits_X6_longArgument K a1 a2 a3 a4) (Nat.le_of_ble_eq_true rfl)) ?_
  intro p e R s m args below meth c cx σ ls hl0
  have hl : tm_has 0 ls 11 [(0, tm_rv K 0), (1, tm_iv a1), (2, tm_iv a2), (3, tm_iv a3), (4, tm_iv a4)] := ⟨by
    have h9 := hl0
    simp only [tm_args_r, tm_args_i, tm_args_i, tm_args_i, tm_args_i, tm_args_n, Nat.zero_add, Nat.reduceAdd] at h9
    exact h9, by
    intro q hq
    simp only [List.mem_cons, List.not_mem_nil, or_false] at hq
    rcases hq with rfl | rfl | rfl | rfl | rfl
    · exact Or.inl (tm_rv_cat K 0)
    · exact Or.inl rfl
    · exact Or.inl rfl
    · exact Or.inl rfl
    · exact Or.inl rfl⟩
  clear hl0
  unfold fm_longArgument
  refine tm_iconst cx dX6_longArgument_0 ?_
  refine tm_istore (lv' := [(5, tm_iv 0), (0, tm_rv K 0), (1, tm_iv a1), (2, tm_iv a2), (3, tm_iv a3), (4, tm_iv a4)]) cx dX6_longArgument_1 hl (by decide) (by decide) rfl (fun ls hl => ?_)
  refine tm_iconst cx dX6_longArgument_3 ?_
  refine tm_istore (lv' := [(6, tm_iv 0), (5, tm_iv 0), (0, tm_rv K 0), (1, tm_iv a1), (2, tm_iv a2), (3, tm_iv a3), (4, tm_iv a4)]) cx dX6_longArgument_4 hl (by decide) (by decide) rfl (fun ls hl => ?_)
  refine tm_iconst cx dX6_longArgument_6 ?_
  refine tm_istore (lv' := [(7, tm_iv 1), (6, tm_iv 0), (5, tm_iv 0), (0, tm_rv K 0), (1, tm_iv a1), (2, tm_iv a2), (3, tm_iv a3), (4, tm_iv a4)]) cx dX6_longArgument_7 hl (by decide) (by decide) rfl (fun ls hl => ?_)
  exact wm_longArgument_L9 cx tm_FU a1 a2 a3 a4 0 0 1 _ _ g1 g2 g3 g4 (by decide) (by decide) (by decide) (tm_has_sub hl [3, 4, 5, 6, 7, 2, 1, 0] rfl)
def fm_putBack (a1 : Int) (σ : tm_S) : tm_R :=
  if (tm_f σ 457 0) = 300 then
    tm_bd (fm_stop 5 σ) fun u12 σ12 =>
    tm_rt 0 σ12
  else
    tm_gx (tm_f σ 457 0) 302 <|
    tm_gi ((tm_f (tm_wa σ 110 (tm_f σ 457 0) a1) 457 0) + 1) <|
    tm_rt 0 (tm_wf (tm_wa σ 110 (tm_f σ 457 0) a1) 457 0 ((tm_f (tm_wa σ 110 (tm_f σ 457 0) a1) 457 0) + 1))
theorem tm_fits_X6_putBack (K : tm_K) (a1 : Int) : (lg_sl [tm_rv K 0, tm_iv a1]).length ≤ 2 := (tm_sl_r _ _ _ _ (tm_sl_i _ _ _ (tm_sl_n _)))
theorem cm_putBack (K : tm_K) (l : Launch) (hst : l.stackTraces = false) (a1 : Int) (g1 : tm_in a1) : tm_ct K tm_xM l yX6_putBack cX6_putBack 3 none 0 [tm_rv K 0, tm_iv a1] (fm_putBack a1) 1 21 := by
  refine tm_ct_of hst (by decide +kernel) (Nat.le_trans (tm_fits_X6_putBack K a1) (Nat.le_of_ble_eq_true rfl)) ?_
  intro p e R s m args below meth c cx σ ls hl0
  have hl : tm_has 0 ls 3 [(0, tm_rv K 0), (1, tm_iv a1)] := ⟨by
    have h9 := hl0
    simp only [tm_args_r, tm_args_i, tm_args_n, Nat.zero_add, Nat.reduceAdd] at h9
    exact h9, by
    intro q hq
    simp only [List.mem_cons, List.not_mem_nil, or_false] at hq
    rcases hq with rfl | rfl
    · exact Or.inl (tm_rv_cat K 0)
    · exact Or.inl rfl⟩
  clear hl0
  unfold fm_putBack
  refine tm_aload_n cx dX6_putBack_0 (tm_has_at hl 0 rfl) ?_
  refine tg_X6_165 cx dX6_putBack_1 (fun q1 => ?_)
  refine tm_sipush cx dX6_putBack_4 (by decide) ?_
  refine tm_icmp_ne (tgt := 17) cx q1 (by decide) dX6_putBack_7 (by decide) (fun c7 => ?_) (fun c7 => ?_)
  · refine tm_aload_n cx dX6_putBack_10 (tm_has_at hl 0 rfl) ?_
    refine tm_iconst cx dX6_putBack_11 ?_
    refine tm_callV (n := 1) cx (cm_stop K l (tm_hst cx) 5 (by decide)) (lw_V q1271 q1273 qs55 q113 q1274) ⟨rfl, by decide +kernel, by decide +kernel, by decide +kernel⟩ rfl tm_cd_X6 (fun h => (tm_hM_0 h).1) ⟨Nat.le_of_ble_eq_true rfl, Nat.le_of_ble_eq_true rfl⟩ rfl (Nat.le_of_ble_eq_true rfl) hl.1.1 dX6_putBack_12 (fun u12 σ12 q12 => ?_)
    show tm_J p l e R s m args below meth c K tm_xM 0 _ _ (F0 m 15 ls [tm_iv u12])
    refine tm_istore_n (lv' := [(2, tm_iv u12), (0, tm_rv K 0), (1, tm_iv a1)]) cx dX6_putBack_15 hl (by decide) (by decide) rfl (fun ls hl => ?_)
    exact tm_vreturn cx dX6_putBack_16
  · refine tm_aload_n cx dX6_putBack_17 (tm_has_at hl 0 rfl) ?_
    refine tg_X6_16 cx dX6_putBack_18 ?_
    refine tm_aload_n cx dX6_putBack_21 (tm_has_at hl 0 rfl) ?_
    refine tg_X6_165 cx dX6_putBack_22 (fun q22 => ?_)
    refine tm_iload_n cx dX6_putBack_25 (tm_has_at hl 1 rfl) ?_
    refine tm_iast cx tm_famM tm_hM_110 q22 g1 dX6_putBack_26 ?_
    refine tm_aload_n cx dX6_putBack_27 (tm_has_at hl 0 rfl) ?_
    refine tm_dup_r cx dX6_putBack_28 ?_
    refine tg_X6_165 cx dX6_putBack_29 (fun q29 => ?_)
    refine tm_iconst cx dX6_putBack_32 ?_
    refine tm_iadd cx dX6_putBack_33 (fun q33 => ?_)
    refine tp_X6_165 cx q33 dX6_putBack_34 ?_
    exact tm_vreturn cx dX6_putBack_37
def fm_call_J132 (r75 : Int → Int → Int → tm_S → tm_R) (v1 : Int) (v2 : Int) (v3 : Int) (v4 : Int) (σ : tm_S) : tm_R :=
  tm_gx v3 4 <|
  tm_gi (v2 + 1) <|
  if v4 = (v2 + 1) then
    tm_bd (fm_plainArgument v3 v1 (tm_wa σ 140 v3 0)) fun u150 σ150 =>
    tm_gi (v3 + 1) <|
    r75 v1 v4 (v3 + 1) σ150
  else
    tm_gi (v2 + 1) <|
    tm_bd (fm_longArgument v3 v1 (v2 + 1) v4 (tm_wa σ 140 v3 0)) fun u164 σ164 =>
    tm_gi (v3 + 1) <|
    r75 v1 v4 (v3 + 1) σ164
theorem wm_call_J132 {p : Program} {l : Launch} {e : Env} {R : Room} {s : State} {m : MethodId} {args : Array Value} {below : List Frame} {meth : Method} {c : Code} {K : tm_K} {r75 : Int → Int → Int → tm_S → tm_R} (cx : tm_C p l R s m args meth c K cX6_call 7 RX6 "call" none 6 142) (h75 : ∀ (v1 : Int) (v2 : Int) (v3 : Int) (τ : tm_S) (ls : Array Slot), tm_in v1 → tm_in v2 → tm_in v3 → tm_has 0 ls 7 [(0, tm_rv K 0), (1, tm_iv v1), (2, tm_iv v2), (3, tm_iv v3)] → tm_J p l e R s m args below meth c K tm_xM 0 (r75 v1 v2 v3 τ) τ (F0 m 75 ls [])) (v1 : Int) (v2 : Int) (v3 : Int) (v4 : Int) (σ : tm_S) (ls : Array Slot) (g1 : tm_in v1) (g2 : tm_in v2) (g3 : tm_in v3) (g4 : tm_in v4) (hl : tm_has 0 ls 7 [(0, tm_rv K 0), (1, tm_iv v1), (2, tm_iv v2), (3, tm_iv v3), (4, tm_iv v4)]) : tm_J p l e R s m args below meth c K tm_xM 0 (fm_call_J132 r75 v1 v2 v3 v4 σ) σ (F0 m 132 ls []) := by
  unfold fm_call_J132
  refine tm_aload_n cx dX6_call_132 (tm_has_at hl 0 rfl) ?_
  refine tg_X6_83 cx dX6_call_133 ?_
  refine tm_iload_n cx dX6_call_136 (tm_has_at hl 3 rfl) ?_
  refine tm_iconst cx dX6_call_137 ?_
  refine tm_iast cx tm_famM tm_hM_140 g3 (by decide) dX6_call_138 ?_
  refine tm_iload cx dX6_call_139 (tm_has_at hl 4 rfl) ?_
  refine tm_iload_n cx dX6_call_141 (tm_has_at hl 2 rfl) ?_
  refine tm_iconst cx dX6_call_142 ?_
  refine tm_iadd cx dX6_call_143 (fun q143 => ?_)
  refine tm_icmp_ne (tgt := 156) cx g4 q143 dX6_call_144 (by decide) (fun c144 => ?_) (fun c144 => ?_)
  · refine tm_aload_n cx dX6_call_147 (tm_has_at hl 0 rfl) ?_
    refine tm_iload_n cx dX6_call_148 (tm_has_at hl 3 rfl) ?_
    refine tm_iload_n cx dX6_call_149 (tm_has_at hl 1 rfl) ?_
    refine tm_callV (n := 2) cx (cm_plainArgument K l (tm_hst cx) v3 g3 v1 g1) (lw_V q1320 q1322 qs65 q113 q1323) ⟨rfl, by decide +kernel, by decide +kernel, by decide +kernel⟩ rfl tm_cd_X6 (fun h => (tm_hM_0 h).1) ⟨Nat.le_of_ble_eq_true rfl, Nat.le_of_ble_eq_true rfl⟩ rfl (Nat.le_of_ble_eq_true rfl) hl.1.1 dX6_call_150 (fun u150 σ150 q150 => ?_)
    show tm_J p l e R s m args below meth c K tm_xM 0 _ _ (F0 m 153 ls [])
    refine tm_goto (tgt := 167) cx dX6_call_153 (by decide) ?_
    refine tm_iload cx dX6_call_167 (tm_has_at hl 4 rfl) ?_
    refine tm_istore_n (lv' := [(2, tm_iv v4), (0, tm_rv K 0), (1, tm_iv v1), (3, tm_iv v3), (4, tm_iv v4)]) cx dX6_call_169 hl (by decide) (by decide) rfl (fun ls hl => ?_)
    refine tm_iinc (lv' := [(3, tm_iv (v3 + 1)), (2, tm_iv v4), (0, tm_rv K 0), (1, tm_iv v1), (4, tm_iv v4)]) cx dX6_call_170 hl (j := 3) rfl (by decide) (by decide) rfl (fun q170 ls hl => ?_)
    refine tm_goto (tgt := 75) cx dX6_call_173 (by decide) ?_
    exact h75 v1 v4 (v3 + 1) _ _ g1 g4 q170 (tm_has_sub hl [2, 3, 1, 0] rfl)
  · refine tm_aload_n cx dX6_call_156 (tm_has_at hl 0 rfl) ?_
    refine tm_iload_n cx dX6_call_157 (tm_has_at hl 3 rfl) ?_
    refine tm_iload_n cx dX6_call_158 (tm_has_at hl 1 rfl) ?_
    refine tm_iload_n cx dX6_call_159 (tm_has_at hl 2 rfl) ?_
    refine tm_iconst cx dX6_call_160 ?_
    refine tm_iadd cx dX6_call_161 (fun q161 => ?_)
    refine tm_iload cx dX6_call_162 (tm_has_at hl 4 rfl) ?_
    refine tm_callV (n := 4) cx (cm_longArgument K l (tm_hst cx) v3 g3 v1 g1 (v2 + 1) q161 v4 g4) (lw_V q1335 q1337 qs68 q113 q1338) ⟨rfl, by decide +kernel, by decide +kernel, by decide +kernel⟩ rfl tm_cd_X6 (fun h => (tm_hM_0 h).1) ⟨Nat.le_of_ble_eq_true rfl, Nat.le_of_ble_eq_true rfl⟩ rfl (Nat.le_of_ble_eq_true rfl) hl.1.1 dX6_call_164 (fun u164 σ164 q164 => ?_)
    show tm_J p l e R s m args below meth c K tm_xM 0 _ _ (F0 m 167 ls [])
    refine tm_iload cx dX6_call_167 (tm_has_at hl 4 rfl) ?_
    refine tm_istore_n (lv' := [(2, tm_iv v4), (0, tm_rv K 0), (1, tm_iv v1), (3, tm_iv v3), (4, tm_iv v4)]) cx dX6_call_169 hl (by decide) (by decide) rfl (fun ls hl => ?_)
    refine tm_iinc (lv' := [(3, tm_iv (v3 + 1)), (2, tm_iv v4), (0, tm_rv K 0), (1, tm_iv v1), (4, tm_iv v4)]) cx dX6_call_170 hl (j := 3) rfl (by decide) (by decide) rfl (fun q170 ls hl => ?_)
    refine tm_goto (tgt := 75) cx dX6_call_173 (by decide) ?_
    exact h75 v1 v4 (v3 + 1) _ _ g1 g4 q170 (tm_has_sub hl [2, 3, 1, 0] rfl)
def fm_call_B97 (r75 : Int → Int → Int → tm_S → tm_R) (r97 : Int → Int → Int → Int → tm_S → tm_R) (v1 : Int) (v2 : Int) (v3 : Int) (v4 : Int) (σ : tm_S) : tm_R :=
  tm_gx v1 61 <|
  if v4 < (tm_a σ 124 v1) then
    tm_gi (13 * v1) <|
    tm_gi ((13 * v1) + v4) <|
    tm_gx ((13 * v1) + v4) 800 <|
    if (tm_a σ 125 ((13 * v1) + v4)) < 16384 then
      tm_gi (v4 + 1) <|
      r97 v1 v2 v3 (v4 + 1) σ
    else
      fm_call_J132 r75 v1 v2 v3 v4 σ
  else
    fm_call_J132 r75 v1 v2 v3 v4 σ
theorem wm_call_B97 {p : Program} {l : Launch} {e : Env} {R : Room} {s : State} {m : MethodId} {args : Array Value} {below : List Frame} {meth : Method} {c : Code} {K : tm_K} {r75 : Int → Int → Int → tm_S → tm_R} {r97 : Int → Int → Int → Int → tm_S → tm_R} (cx : tm_C p l R s m args meth c K cX6_call 7 RX6 "call" none 6 142) (h75 : ∀ (v1 : Int) (v2 : Int) (v3 : Int) (τ : tm_S) (ls : Array Slot), tm_in v1 → tm_in v2 → tm_in v3 → tm_has 0 ls 7 [(0, tm_rv K 0), (1, tm_iv v1), (2, tm_iv v2), (3, tm_iv v3)] → tm_J p l e R s m args below meth c K tm_xM 0 (r75 v1 v2 v3 τ) τ (F0 m 75 ls [])) (h97 : ∀ (v1 : Int) (v2 : Int) (v3 : Int) (v4 : Int) (τ : tm_S) (ls : Array Slot), tm_in v1 → tm_in v2 → tm_in v3 → tm_in v4 → tm_has 0 ls 7 [(0, tm_rv K 0), (1, tm_iv v1), (2, tm_iv v2), (3, tm_iv v3), (4, tm_iv v4)] → tm_J p l e R s m args below meth c K tm_xM 0 (r97 v1 v2 v3 v4 τ) τ (F0 m 97 ls [])) (v1 : Int) (v2 : Int) (v3 : Int) (v4 : Int) (σ : tm_S) (ls : Array Slot) (g1 : tm_in v1) (g2 : tm_in v2) (g3 : tm_in v3) (g4 : tm_in v4) (hl : tm_has 0 ls 7 [(0, tm_rv K 0), (1, tm_iv v1), (2, tm_iv v2), (3, tm_iv v3), (4, tm_iv v4)]) : tm_J p l e R s m args below meth c K tm_xM 0 (fm_call_B97 r75 r97 v1 v2 v3 v4 σ) σ (F0 m 97 ls []) := by
  unfold fm_call_B97
  refine tm_iload cx dX6_call_97 (tm_has_at hl 4 rfl) ?_
  refine tm_aload_n cx dX6_call_99 (tm_has_at hl 0 rfl) ?_
  refine tg_X6_44 cx dX6_call_100 ?_
  refine tm_iload_n cx dX6_call_103 (tm_has_at hl 1 rfl) ?_
  refine tm_iald cx tm_hM_124 g1 dX6_call_104 (fun i104 q104 => ?_)
  refine tm_icmp_ge (tgt := 132) cx g4 q104 dX6_call_105 (by decide) (fun c105 => ?_) (fun c105 => ?_)
  · refine tm_aload_n cx dX6_call_108 (tm_has_at hl 0 rfl) ?_
    refine tg_X6_47 cx dX6_call_109 ?_
    refine tm_bipush cx dX6_call_112 (by decide) ?_
    refine tm_iload_n cx dX6_call_114 (tm_has_at hl 1 rfl) ?_
    refine tm_imul cx dX6_call_115 (fun q115 => ?_)
    refine tm_iload cx dX6_call_116 (tm_has_at hl 4 rfl) ?_
    refine tm_iadd cx dX6_call_118 (fun q118 => ?_)
    refine tm_iald cx tm_hM_125 q118 dX6_call_119 (fun i119 q119 => ?_)
    refine tm_sipush cx dX6_call_120 (by decide) ?_
    refine tm_icmp_ge (tgt := 132) cx q119 (by decide) dX6_call_123 (by decide) (fun c123 => ?_) (fun c123 => ?_)
    · refine tm_iinc (lv' := [(4, tm_iv (v4 + 1)), (0, tm_rv K 0), (1, tm_iv v1), (2, tm_iv v2), (3, tm_iv v3)]) cx dX6_call_126 hl (j := 4) rfl (by decide) (by decide) rfl (fun q126 ls hl => ?_)
      refine tm_goto (tgt := 97) cx dX6_call_129 (by decide) ?_
      exact h97 v1 v2 v3 (v4 + 1) _ _ g1 g2 g3 q126 (tm_has_sub hl [1, 2, 3, 4, 0] rfl)
    · exact wm_call_J132 cx h75 v1 v2 v3 v4 _ _ g1 g2 g3 g4 (tm_has_sub hl [0, 1, 2, 3, 4] rfl)
  · exact wm_call_J132 cx h75 v1 v2 v3 v4 _ _ g1 g2 g3 g4 (tm_has_sub hl [0, 1, 2, 3, 4] rfl)
def fm_call_L97 (r75 : Int → Int → Int → tm_S → tm_R) : Nat → Int → Int → Int → Int → tm_S → tm_R
  | 0, _, _, _, _, _ => none
  | n + 1, v1, v2, v3, v4, σ => fm_call_B97 r75 (fm_call_L97 r75 n) v1 v2 v3 v4 σ
theorem wm_call_L97 {p : Program} {l : Launch} {e : Env} {R : Room} {s : State} {m : MethodId} {args : Array Value} {below : List Frame} {meth : Method} {c : Code} {K : tm_K} {r75 : Int → Int → Int → tm_S → tm_R} (cx : tm_C p l R s m args meth c K cX6_call 7 RX6 "call" none 6 142) (h75 : ∀ (v1 : Int) (v2 : Int) (v3 : Int) (τ : tm_S) (ls : Array Slot), tm_in v1 → tm_in v2 → tm_in v3 → tm_has 0 ls 7 [(0, tm_rv K 0), (1, tm_iv v1), (2, tm_iv v2), (3, tm_iv v3)] → tm_J p l e R s m args below meth c K tm_xM 0 (r75 v1 v2 v3 τ) τ (F0 m 75 ls [])) : ∀ (n : Nat) (v1 : Int) (v2 : Int) (v3 : Int) (v4 : Int) (σ : tm_S) (ls : Array Slot), tm_in v1 → tm_in v2 → tm_in v3 → tm_in v4 → tm_has 0 ls 7 [(0, tm_rv K 0), (1, tm_iv v1), (2, tm_iv v2), (3, tm_iv v3), (4, tm_iv v4)] → tm_J p l e R s m args below meth c K tm_xM 0 (fm_call_L97 r75 n v1 v2 v3 v4 σ) σ (F0 m 97 ls []) := by
  intro n
  induction n with
  | zero => intros; exact tm_none
  | succ n ih =>
    intro v1 v2 v3 v4 σ ls g1 g2 g3 g4 hl
    exact wm_call_B97 (r97 := fm_call_L97 r75 n) cx h75 ih v1 v2 v3 v4 σ ls g1 g2 g3 g4 hl
def fm_call_B247 (r185 : Int → Int → tm_S → tm_R) (r247 : Int → Int → Int → Int → tm_S → tm_R) (v1 : Int) (v3 : Int) (v5 : Int) (v6 : Int) (σ : tm_S) : tm_R :=
  if v6 < 0 then
    tm_gi (v3 + (-1)) <|
    r185 v1 (v3 + (-1)) σ
  else
    if (tm_f σ 453 0) = 0 then
      tm_gi (42 * v5) <|
      tm_gi ((42 * v5) + v6) <|
      tm_gx ((42 * v5) + v6) 168 <|
      tm_bd (fm_putBack (tm_a σ 139 ((42 * v5) + v6)) σ) fun u273 σ273 =>
      tm_gi (v6 + (-1)) <|
      r247 v1 v3 v5 (v6 + (-1)) σ273
    else
      tm_gi (v3 + (-1)) <|
      r185 v1 (v3 + (-1)) σ
theorem wm_call_B247 {p : Program} {l : Launch} {e : Env} {R : Room} {s : State} {m : MethodId} {args : Array Value} {below : List Frame} {meth : Method} {c : Code} {K : tm_K} {r185 : Int → Int → tm_S → tm_R} {r247 : Int → Int → Int → Int → tm_S → tm_R} (cx : tm_C p l R s m args meth c K cX6_call 7 RX6 "call" none 6 142) (h185 : ∀ (v1 : Int) (v3 : Int) (τ : tm_S) (ls : Array Slot), tm_in v1 → tm_in v3 → tm_has 0 ls 7 [(0, tm_rv K 0), (1, tm_iv v1), (3, tm_iv v3)] → tm_J p l e R s m args below meth c K tm_xM 0 (r185 v1 v3 τ) τ (F0 m 185 ls [])) (h247 : ∀ (v1 : Int) (v3 : Int) (v5 : Int) (v6 : Int) (τ : tm_S) (ls : Array Slot), tm_in v1 → tm_in v3 → tm_in v5 → tm_in v6 → tm_has 0 ls 7 [(0, tm_rv K 0), (1, tm_iv v1), (3, tm_iv v3), (5, tm_iv v5), (6, tm_iv v6)] → tm_J p l e R s m args below meth c K tm_xM 0 (r247 v1 v3 v5 v6 τ) τ (F0 m 247 ls [])) (v1 : Int) (v3 : Int) (v5 : Int) (v6 : Int) (σ : tm_S) (ls : Array Slot) (g1 : tm_in v1) (g3 : tm_in v3) (g5 : tm_in v5) (g6 : tm_in v6) (hl : tm_has 0 ls 7 [(0, tm_rv K 0), (1, tm_iv v1), (3, tm_iv v3), (5, tm_iv v5), (6, tm_iv v6)]) : tm_J p l e R s m args below meth c K tm_xM 0 (fm_call_B247 r185 r247 v1 v3 v5 v6 σ) σ (F0 m 247 ls []) := by
  unfold fm_call_B247
  refine tm_iload cx dX6_call_247 (tm_has_at hl 4 rfl) ?_
  refine tm_if_lt (tgt := 282) cx g6 dX6_call_249 (by decide) (fun c249 => ?_) (fun c249 => ?_)
  · refine tm_iinc (lv' := [(3, tm_iv (v3 + (-1))), (0, tm_rv K 0), (1, tm_iv v1), (5, tm_iv v5), (6, tm_iv v6)]) cx dX6_call_282 hl (j := 2) rfl (by decide) (by decide) rfl (fun q282 ls hl => ?_)
    refine tm_goto (tgt := 185) cx dX6_call_285 (by decide) ?_
    exact h185 v1 (v3 + (-1)) _ _ g1 q282 (tm_has_sub hl [1, 2, 0] rfl)
  · refine tm_aload_n cx dX6_call_252 (tm_has_at hl 0 rfl) ?_
    refine tg_X6_159 cx dX6_call_253 (fun q253 => ?_)
    refine tm_if_ne (tgt := 282) cx q253 dX6_call_256 (by decide) (fun c256 => ?_) (fun c256 => ?_)
    · refine tm_aload_n cx dX6_call_259 (tm_has_at hl 0 rfl) ?_
      refine tm_aload_n cx dX6_call_260 (tm_has_at hl 0 rfl) ?_
      refine tg_X6_80 cx dX6_call_261 ?_
      refine tm_bipush cx dX6_call_264 (by decide) ?_
      refine tm_iload cx dX6_call_266 (tm_has_at hl 3 rfl) ?_
      refine tm_imul cx dX6_call_268 (fun q268 => ?_)
      refine tm_iload cx dX6_call_269 (tm_has_at hl 4 rfl) ?_
      refine tm_iadd cx dX6_call_271 (fun q271 => ?_)
      refine tm_iald cx tm_hM_139 q271 dX6_call_272 (fun i272 q272 => ?_)
      refine tm_callV (n := 1) cx (cm_putBack K l (tm_hst cx) (tm_a σ 139 ((42 * v5) + v6)) q272) (lw_V q1343 q1345 qs70 q113 q1346) ⟨rfl, by decide +kernel, by decide +kernel, by decide +kernel⟩ rfl tm_cd_X6 (fun h => (tm_hM_0 h).1) ⟨Nat.le_of_ble_eq_true rfl, Nat.le_of_ble_eq_true rfl⟩ rfl (Nat.le_of_ble_eq_true rfl) hl.1.1 dX6_call_273 (fun u273 σ273 q273 => ?_)
      show tm_J p l e R s m args below meth c K tm_xM 0 _ _ (F0 m 276 ls [])
      refine tm_iinc (lv' := [(6, tm_iv (v6 + (-1))), (0, tm_rv K 0), (1, tm_iv v1), (3, tm_iv v3), (5, tm_iv v5)]) cx dX6_call_276 hl (j := 4) rfl (by decide) (by decide) rfl (fun q276 ls hl => ?_)
      refine tm_goto (tgt := 247) cx dX6_call_279 (by decide) ?_
      exact h247 v1 v3 v5 (v6 + (-1)) _ _ g1 g3 g5 q276 (tm_has_sub hl [1, 2, 3, 4, 0] rfl)
    · refine tm_iinc (lv' := [(3, tm_iv (v3 + (-1))), (0, tm_rv K 0), (1, tm_iv v1), (5, tm_iv v5), (6, tm_iv v6)]) cx dX6_call_282 hl (j := 2) rfl (by decide) (by decide) rfl (fun q282 ls hl => ?_)
      refine tm_goto (tgt := 185) cx dX6_call_285 (by decide) ?_
      exact h185 v1 (v3 + (-1)) _ _ g1 q282 (tm_has_sub hl [1, 2, 0] rfl)
def fm_call_L247 (r185 : Int → Int → tm_S → tm_R) : Nat → Int → Int → Int → Int → tm_S → tm_R
  | 0, _, _, _, _, _ => none
  | n + 1, v1, v3, v5, v6, σ => fm_call_B247 r185 (fm_call_L247 r185 n) v1 v3 v5 v6 σ
theorem wm_call_L247 {p : Program} {l : Launch} {e : Env} {R : Room} {s : State} {m : MethodId} {args : Array Value} {below : List Frame} {meth : Method} {c : Code} {K : tm_K} {r185 : Int → Int → tm_S → tm_R} (cx : tm_C p l R s m args meth c K cX6_call 7 RX6 "call" none 6 142) (h185 : ∀ (v1 : Int) (v3 : Int) (τ : tm_S) (ls : Array Slot), tm_in v1 → tm_in v3 → tm_has 0 ls 7 [(0, tm_rv K 0), (1, tm_iv v1), (3, tm_iv v3)] → tm_J p l e R s m args below meth c K tm_xM 0 (r185 v1 v3 τ) τ (F0 m 185 ls [])) : ∀ (n : Nat) (v1 : Int) (v3 : Int) (v5 : Int) (v6 : Int) (σ : tm_S) (ls : Array Slot), tm_in v1 → tm_in v3 → tm_in v5 → tm_in v6 → tm_has 0 ls 7 [(0, tm_rv K 0), (1, tm_iv v1), (3, tm_iv v3), (5, tm_iv v5), (6, tm_iv v6)] → tm_J p l e R s m args below meth c K tm_xM 0 (fm_call_L247 r185 n v1 v3 v5 v6 σ) σ (F0 m 247 ls []) := by
  intro n
  induction n with
  | zero => intros; exact tm_none
  | succ n ih =>
    intro v1 v3 v5 v6 σ ls g1 g3 g5 g6 hl
    exact wm_call_B247 (r247 := fm_call_L247 r185 n) cx h185 ih v1 v3 v5 v6 σ ls g1 g3 g5 g6 hl
def fm_call_B185 (r185 : Int → Int → tm_S → tm_R) (v1 : Int) (v3 : Int) (σ : tm_S) : tm_R :=
  if v3 < 0 then
    tm_rt 0 σ
  else
    if (tm_f σ 453 0) = 0 then
      tm_gi (41 * v1) <|
      tm_gi ((41 * v1) + v3) <|
      tm_gx ((41 * v1) + v3) 2500 <|
      tm_lt (tm_a σ 127 ((41 * v1) + v3)) fun x207 =>
      if x207 < 16384 then
        tm_bd (fm_putBack x207 σ) fun u220 σ220 =>
        tm_gi (v3 + (-1)) <|
        r185 v1 (v3 + (-1)) σ220
      else
        tm_gi (x207 - 16384) <|
        tm_gi ((x207 - 16384) - 1) <|
        tm_lt ((x207 - 16384) - 1) fun x234 =>
        tm_gx x234 4 <|
        tm_gi ((tm_a σ 140 x234) - 1) <|
        tm_lt ((tm_a σ 140 x234) - 1) fun x245 =>
        fm_call_L247 r185 tm_FU v1 v3 x234 x245 σ
    else
      tm_rt 0 σ
theorem wm_call_B185 {p : Program} {l : Launch} {e : Env} {R : Room} {s : State} {m : MethodId} {args : Array Value} {below : List Frame} {meth : Method} {c : Code} {K : tm_K} {r185 : Int → Int → tm_S → tm_R} (cx : tm_C p l R s m args meth c K cX6_call 7 RX6 "call" none 6 142) (h185 : ∀ (v1 : Int) (v3 : Int) (τ : tm_S) (ls : Array Slot), tm_in v1 → tm_in v3 → tm_has 0 ls 7 [(0, tm_rv K 0), (1, tm_iv v1), (3, tm_iv v3)] → tm_J p l e R s m args below meth c K tm_xM 0 (r185 v1 v3 τ) τ (F0 m 185 ls [])) (v1 : Int) (v3 : Int) (σ : tm_S) (ls : Array Slot) (g1 : tm_in v1) (g3 : tm_in v3) (hl : tm_has 0 ls 7 [(0, tm_rv K 0), (1, tm_iv v1), (3, tm_iv v3)]) : tm_J p l e R s m args below meth c K tm_xM 0 (fm_call_B185 r185 v1 v3 σ) σ (F0 m 185 ls []) := by
  unfold fm_call_B185
  refine tm_iload_n cx dX6_call_185 (tm_has_at hl 2 rfl) ?_
  refine tm_if_lt (tgt := 288) cx g3 dX6_call_186 (by decide) (fun c186 => ?_) (fun c186 => ?_)
  · exact tm_vreturn cx dX6_call_288
  · refine tm_aload_n cx dX6_call_189 (tm_has_at hl 0 rfl) ?_
    refine tg_X6_159 cx dX6_call_190 (fun q190 => ?_)
    refine tm_if_ne (tgt := 288) cx q190 dX6_call_193 (by decide) (fun c193 => ?_) (fun c193 => ?_)
    · refine tm_aload_n cx dX6_call_196 (tm_has_at hl 0 rfl) ?_
      refine tg_X6_53 cx dX6_call_197 ?_
      refine tm_bipush cx dX6_call_200 (by decide) ?_
      refine tm_iload_n cx dX6_call_202 (tm_has_at hl 1 rfl) ?_
      refine tm_imul cx dX6_call_203 (fun q203 => ?_)
      refine tm_iload_n cx dX6_call_204 (tm_has_at hl 2 rfl) ?_
      refine tm_iadd cx dX6_call_205 (fun q205 => ?_)
      refine tm_iald cx tm_hM_127 q205 dX6_call_206 (fun i206 q206 => ?_)
      refine tm_lt_ q206 (fun x207 q207 => ?_)
      refine tm_istore (lv' := [(4, tm_iv x207), (0, tm_rv K 0), (1, tm_iv v1), (3, tm_iv v3)]) cx dX6_call_207 hl (by decide) (by decide) rfl (fun ls hl => ?_)
      refine tm_iload cx dX6_call_209 (tm_has_at hl 0 rfl) ?_
      refine tm_sipush cx dX6_call_211 (by decide) ?_
      refine tm_icmp_ge (tgt := 226) cx q207 (by decide) dX6_call_214 (by decide) (fun c214 => ?_) (fun c214 => ?_)
      · refine tm_aload_n cx dX6_call_217 (tm_has_at hl 1 rfl) ?_
        refine tm_iload cx dX6_call_218 (tm_has_at hl 0 rfl) ?_
        refine tm_callV (n := 1) cx (cm_putBack K l (tm_hst cx) x207 q207) (lw_V q1343 q1345 qs70 q113 q1346) ⟨rfl, by decide +kernel, by decide +kernel, by decide +kernel⟩ rfl tm_cd_X6 (fun h => (tm_hM_0 h).1) ⟨Nat.le_of_ble_eq_true rfl, Nat.le_of_ble_eq_true rfl⟩ rfl (Nat.le_of_ble_eq_true rfl) hl.1.1 dX6_call_220 (fun u220 σ220 q220 => ?_)
        show tm_J p l e R s m args below meth c K tm_xM 0 _ _ (F0 m 223 ls [])
        refine tm_goto (tgt := 282) cx dX6_call_223 (by decide) ?_
        refine tm_iinc (lv' := [(3, tm_iv (v3 + (-1))), (4, tm_iv x207), (0, tm_rv K 0), (1, tm_iv v1)]) cx dX6_call_282 hl (j := 3) rfl (by decide) (by decide) rfl (fun q282 ls hl => ?_)
        refine tm_goto (tgt := 185) cx dX6_call_285 (by decide) ?_
        exact h185 v1 (v3 + (-1)) _ _ g1 q282 (tm_has_sub hl [2, 3, 0] rfl)
      · refine tm_iload cx dX6_call_226 (tm_has_at hl 0 rfl) ?_
        refine tm_sipush cx dX6_call_228 (by decide) ?_
        refine tm_isub cx dX6_call_231 (fun q231 => ?_)
        refine tm_iconst cx dX6_call_232 ?_
        refine tm_isub cx dX6_call_233 (fun q233 => ?_)
        refine tm_lt_ q233 (fun x234 q234 => ?_)
        refine tm_istore (lv' := [(5, tm_iv x234), (4, tm_iv x207), (0, tm_rv K 0), (1, tm_iv v1), (3, tm_iv v3)]) cx dX6_call_234 hl (by decide) (by decide) rfl (fun ls hl => ?_)
        refine tm_aload_n cx dX6_call_236 (tm_has_at hl 2 rfl) ?_
        refine tg_X6_83 cx dX6_call_237 ?_
        refine tm_iload cx dX6_call_240 (tm_has_at hl 0 rfl) ?_
        refine tm_iald cx tm_hM_140 q234 dX6_call_242 (fun i242 q242 => ?_)
        refine tm_iconst cx dX6_call_243 ?_
        refine tm_isub cx dX6_call_244 (fun q244 => ?_)
        refine tm_lt_ q244 (fun x245 q245 => ?_)
        refine tm_istore (lv' := [(6, tm_iv x245), (5, tm_iv x234), (4, tm_iv x207), (0, tm_rv K 0), (1, tm_iv v1), (3, tm_iv v3)]) cx dX6_call_245 hl (by decide) (by decide) rfl (fun ls hl => ?_)
        exact wm_call_L247 cx h185 tm_FU v1 v3 x234 x245 _ _ g1 g3 q234 q245 (tm_has_sub hl [3, 4, 5, 1, 0] rfl)
    · exact tm_vreturn cx dX6_call_288
def fm_call_L185 : Nat → Int → Int → tm_S → tm_R
  | 0, _, _, _ => none
  | n + 1, v1, v3, σ => fm_call_B185 (fm_call_L185 n) v1 v3 σ
theorem wm_call_L185 {p : Program} {l : Launch} {e : Env} {R : Room} {s : State} {m : MethodId} {args : Array Value} {below : List Frame} {meth : Method} {c : Code} {K : tm_K} (cx : tm_C p l R s m args meth c K cX6_call 7 RX6 "call" none 6 142) : ∀ (n : Nat) (v1 : Int) (v3 : Int) (σ : tm_S) (ls : Array Slot), tm_in v1 → tm_in v3 → tm_has 0 ls 7 [(0, tm_rv K 0), (1, tm_iv v1), (3, tm_iv v3)] → tm_J p l e R s m args below meth c K tm_xM 0 (fm_call_L185 n v1 v3 σ) σ (F0 m 185 ls []) := by
  intro n
  induction n with
  | zero => intros; exact tm_none
  | succ n ih =>
    intro v1 v3 σ ls g1 g3 hl
    exact wm_call_B185 (r185 := fm_call_L185 n) cx ih v1 v3 σ ls g1 g3 hl
def fm_call_J176 (v1 : Int) (σ : tm_S) : tm_R :=
  tm_gx v1 61 <|
  tm_gi ((tm_a σ 126 v1) - 1) <|
  tm_lt ((tm_a σ 126 v1) - 1) fun x184 =>
  fm_call_L185 tm_FU v1 x184 σ
theorem wm_call_J176 {p : Program} {l : Launch} {e : Env} {R : Room} {s : State} {m : MethodId} {args : Array Value} {below : List Frame} {meth : Method} {c : Code} {K : tm_K} (cx : tm_C p l R s m args meth c K cX6_call 7 RX6 "call" none 6 142) (v1 : Int) (σ : tm_S) (ls : Array Slot) (g1 : tm_in v1) (hl : tm_has 0 ls 7 [(0, tm_rv K 0), (1, tm_iv v1)]) : tm_J p l e R s m args below meth c K tm_xM 0 (fm_call_J176 v1 σ) σ (F0 m 176 ls []) := by
  unfold fm_call_J176
  refine tm_aload_n cx dX6_call_176 (tm_has_at hl 0 rfl) ?_
  refine tg_X6_50 cx dX6_call_177 ?_
  refine tm_iload_n cx dX6_call_180 (tm_has_at hl 1 rfl) ?_
  refine tm_iald cx tm_hM_126 g1 dX6_call_181 (fun i181 q181 => ?_)
  refine tm_iconst cx dX6_call_182 ?_
  refine tm_isub cx dX6_call_183 (fun q183 => ?_)
  refine tm_lt_ q183 (fun x184 q184 => ?_)
  refine tm_istore_n (lv' := [(3, tm_iv x184), (0, tm_rv K 0), (1, tm_iv v1)]) cx dX6_call_184 hl (by decide) (by decide) rfl (fun ls hl => ?_)
  exact wm_call_L185 cx tm_FU v1 x184 _ _ g1 q184 (tm_has_sub hl [1, 2, 0] rfl)
def fm_call_B75 (r75 : Int → Int → Int → tm_S → tm_R) (v1 : Int) (v2 : Int) (v3 : Int) (σ : tm_S) : tm_R :=
  tm_gx v1 61 <|
  if v3 < (tm_a σ 128 v1) then
    if (tm_f σ 453 0) = 0 then
      tm_gi (v2 + 1) <|
      tm_lt (v2 + 1) fun x95 =>
      fm_call_L97 r75 tm_FU v1 v2 v3 x95 σ
    else
      fm_call_J176 v1 σ
  else
    fm_call_J176 v1 σ
theorem wm_call_B75 {p : Program} {l : Launch} {e : Env} {R : Room} {s : State} {m : MethodId} {args : Array Value} {below : List Frame} {meth : Method} {c : Code} {K : tm_K} {r75 : Int → Int → Int → tm_S → tm_R} (cx : tm_C p l R s m args meth c K cX6_call 7 RX6 "call" none 6 142) (h75 : ∀ (v1 : Int) (v2 : Int) (v3 : Int) (τ : tm_S) (ls : Array Slot), tm_in v1 → tm_in v2 → tm_in v3 → tm_has 0 ls 7 [(0, tm_rv K 0), (1, tm_iv v1), (2, tm_iv v2), (3, tm_iv v3)] → tm_J p l e R s m args below meth c K tm_xM 0 (r75 v1 v2 v3 τ) τ (F0 m 75 ls [])) (v1 : Int) (v2 : Int) (v3 : Int) (σ : tm_S) (ls : Array Slot) (g1 : tm_in v1) (g2 : tm_in v2) (g3 : tm_in v3) (hl : tm_has 0 ls 7 [(0, tm_rv K 0), (1, tm_iv v1), (2, tm_iv v2), (3, tm_iv v3)]) : tm_J p l e R s m args below meth c K tm_xM 0 (fm_call_B75 r75 v1 v2 v3 σ) σ (F0 m 75 ls []) := by
  unfold fm_call_B75
  refine tm_iload_n cx dX6_call_75 (tm_has_at hl 3 rfl) ?_
  refine tm_aload_n cx dX6_call_76 (tm_has_at hl 0 rfl) ?_
  refine tg_X6_56 cx dX6_call_77 ?_
  refine tm_iload_n cx dX6_call_80 (tm_has_at hl 1 rfl) ?_
  refine tm_iald cx tm_hM_128 g1 dX6_call_81 (fun i81 q81 => ?_)
  refine tm_icmp_ge (tgt := 176) cx g3 q81 dX6_call_82 (by decide) (fun c82 => ?_) (fun c82 => ?_)
  · refine tm_aload_n cx dX6_call_85 (tm_has_at hl 0 rfl) ?_
    refine tg_X6_159 cx dX6_call_86 (fun q86 => ?_)
    refine tm_if_ne (tgt := 176) cx q86 dX6_call_89 (by decide) (fun c89 => ?_) (fun c89 => ?_)
    · refine tm_iload_n cx dX6_call_92 (tm_has_at hl 2 rfl) ?_
      refine tm_iconst cx dX6_call_93 ?_
      refine tm_iadd cx dX6_call_94 (fun q94 => ?_)
      refine tm_lt_ q94 (fun x95 q95 => ?_)
      refine tm_istore (lv' := [(4, tm_iv x95), (0, tm_rv K 0), (1, tm_iv v1), (2, tm_iv v2), (3, tm_iv v3)]) cx dX6_call_95 hl (by decide) (by decide) rfl (fun ls hl => ?_)
      exact wm_call_L97 cx h75 tm_FU v1 v2 v3 x95 _ _ g1 g2 g3 q95 (tm_has_sub hl [1, 2, 3, 4, 0] rfl)
    · exact wm_call_J176 cx v1 _ _ g1 (tm_has_sub hl [0, 1] rfl)
  · exact wm_call_J176 cx v1 _ _ g1 (tm_has_sub hl [0, 1] rfl)
def fm_call_L75 : Nat → Int → Int → Int → tm_S → tm_R
  | 0, _, _, _, _ => none
  | n + 1, v1, v2, v3, σ => fm_call_B75 (fm_call_L75 n) v1 v2 v3 σ
theorem wm_call_L75 {p : Program} {l : Launch} {e : Env} {R : Room} {s : State} {m : MethodId} {args : Array Value} {below : List Frame} {meth : Method} {c : Code} {K : tm_K} (cx : tm_C p l R s m args meth c K cX6_call 7 RX6 "call" none 6 142) : ∀ (n : Nat) (v1 : Int) (v2 : Int) (v3 : Int) (σ : tm_S) (ls : Array Slot), tm_in v1 → tm_in v2 → tm_in v3 → tm_has 0 ls 7 [(0, tm_rv K 0), (1, tm_iv v1), (2, tm_iv v2), (3, tm_iv v3)] → tm_J p l e R s m args below meth c K tm_xM 0 (fm_call_L75 n v1 v2 v3 σ) σ (F0 m 75 ls []) := by
  intro n
  induction n with
  | zero => intros; exact tm_none
  | succ n ih =>
    intro v1 v2 v3 σ ls g1 g2 g3 hl
    exact wm_call_B75 (r75 := fm_call_L75 n) cx ih v1 v2 v3 σ ls g1 g2 g3 hl
def fm_call_B2 (r2 : Int → Int → tm_S → tm_R) (v1 : Int) (v2 : Int) (σ : tm_S) : tm_R :=
  tm_gx v1 61 <|
  if v2 < (tm_a σ 124 v1) then
    tm_gi (13 * v1) <|
    tm_gi ((13 * v1) + v2) <|
    tm_gx ((13 * v1) + v2) 800 <|
    if (tm_a σ 125 ((13 * v1) + v2)) < 16384 then
      tm_bd (fm_need σ) fun u30 σ30 =>
      if u30 = (-1) then
        tm_rt 0 σ30
      else
        tm_bd (fm_plain u30 σ30) fun u41 σ41 =>
        tm_gi (13 * v1) <|
        tm_gi ((13 * v1) + v2) <|
        tm_gx ((13 * v1) + v2) 800 <|
        if u41 = (tm_a σ41 125 ((13 * v1) + v2)) then
          tm_gi (v2 + 1) <|
          r2 v1 (v2 + 1) σ41
        else
          tm_bd (fm_stop 6 σ41) fun u61 σ61 =>
          tm_rt 0 σ61
    else
      fm_call_L75 tm_FU v1 v2 0 σ
  else
    fm_call_L75 tm_FU v1 v2 0 σ
theorem wm_call_B2 {p : Program} {l : Launch} {e : Env} {R : Room} {s : State} {m : MethodId} {args : Array Value} {below : List Frame} {meth : Method} {c : Code} {K : tm_K} {r2 : Int → Int → tm_S → tm_R} (cx : tm_C p l R s m args meth c K cX6_call 7 RX6 "call" none 6 142) (h2 : ∀ (v1 : Int) (v2 : Int) (τ : tm_S) (ls : Array Slot), tm_in v1 → tm_in v2 → tm_has 0 ls 7 [(0, tm_rv K 0), (1, tm_iv v1), (2, tm_iv v2)] → tm_J p l e R s m args below meth c K tm_xM 0 (r2 v1 v2 τ) τ (F0 m 2 ls [])) (v1 : Int) (v2 : Int) (σ : tm_S) (ls : Array Slot) (g1 : tm_in v1) (g2 : tm_in v2) (hl : tm_has 0 ls 7 [(0, tm_rv K 0), (1, tm_iv v1), (2, tm_iv v2)]) : tm_J p l e R s m args below meth c K tm_xM 0 (fm_call_B2 r2 v1 v2 σ) σ (F0 m 2 ls []) := by
  unfold fm_call_B2
  refine tm_iload_n cx dX6_call_2 (tm_has_at hl 2 rfl) ?_
  refine tm_aload_n cx dX6_call_3 (tm_has_at hl 0 rfl) ?_
  refine tg_X6_44 cx dX6_call_4 ?_
  refine tm_iload_n cx dX6_call_7 (tm_has_at hl 1 rfl) ?_
  refine tm_iald cx tm_hM_124 g1 dX6_call_8 (fun i8 q8 => ?_)
  refine tm_icmp_ge (tgt := 73) cx g2 q8 dX6_call_9 (by decide) (fun c9 => ?_) (fun c9 => ?_)
  · refine tm_aload_n cx dX6_call_12 (tm_has_at hl 0 rfl) ?_
    refine tg_X6_47 cx dX6_call_13 ?_
    refine tm_bipush cx dX6_call_16 (by decide) ?_
    refine tm_iload_n cx dX6_call_18 (tm_has_at hl 1 rfl) ?_
    refine tm_imul cx dX6_call_19 (fun q19 => ?_)
    refine tm_iload_n cx dX6_call_20 (tm_has_at hl 2 rfl) ?_
    refine tm_iadd cx dX6_call_21 (fun q21 => ?_)
    refine tm_iald cx tm_hM_125 q21 dX6_call_22 (fun i22 q22 => ?_)
    refine tm_sipush cx dX6_call_23 (by decide) ?_
    refine tm_icmp_ge (tgt := 73) cx q22 (by decide) dX6_call_26 (by decide) (fun c26 => ?_) (fun c26 => ?_)
    · refine tm_aload_n cx dX6_call_29 (tm_has_at hl 0 rfl) ?_
      refine tm_callV (n := 0) cx (cm_need K l (tm_hst cx)) (lw_V q1313 q1315 qs64 q113 q1316) ⟨rfl, by decide +kernel, by decide +kernel, by decide +kernel⟩ rfl tm_cd_X6 (fun h => (tm_hM_0 h).1) ⟨Nat.le_of_ble_eq_true rfl, Nat.le_of_ble_eq_true rfl⟩ rfl (Nat.le_of_ble_eq_true rfl) hl.1.1 dX6_call_30 (fun u30 σ30 q30 => ?_)
      show tm_J p l e R s m args below meth c K tm_xM 0 _ _ (F0 m 33 ls [tm_iv u30])
      refine tm_istore_n (lv' := [(3, tm_iv u30), (0, tm_rv K 0), (1, tm_iv v1), (2, tm_iv v2)]) cx dX6_call_33 hl (by decide) (by decide) rfl (fun ls hl => ?_)
      refine tm_iload_n cx dX6_call_34 (tm_has_at hl 0 rfl) ?_
      refine tm_iconst cx dX6_call_35 ?_
      refine tm_icmp_ne (tgt := 40) cx q30 (by decide) dX6_call_36 (by decide) (fun c36 => ?_) (fun c36 => ?_)
      · exact tm_vreturn cx dX6_call_39
      · refine tm_iload_n cx dX6_call_40 (tm_has_at hl 0 rfl) ?_
        refine tm_callS (n := 1) cx (cm_plain K l (tm_hst cx) u30 q30) (lw_S q1317 q1318 q113 q1319) ⟨by decide +kernel, by decide +kernel, by decide +kernel⟩ rfl ⟨Nat.le_of_ble_eq_true rfl, Nat.le_of_ble_eq_true rfl⟩ rfl (Nat.le_of_ble_eq_true rfl) hl.1.1 dX6_call_41 (fun u41 σ41 q41 => ?_)
        show tm_J p l e R s m args below meth c K tm_xM 0 _ _ (F0 m 44 ls [tm_iv u41])
        refine tm_aload_n cx dX6_call_44 (tm_has_at hl 1 rfl) ?_
        refine tg_X6_47 cx dX6_call_45 ?_
        refine tm_bipush cx dX6_call_48 (by decide) ?_
        refine tm_iload_n cx dX6_call_50 (tm_has_at hl 2 rfl) ?_
        refine tm_imul cx dX6_call_51 (fun q51 => ?_)
        refine tm_iload_n cx dX6_call_52 (tm_has_at hl 3 rfl) ?_
        refine tm_iadd cx dX6_call_53 (fun q53 => ?_)
        refine tm_iald cx tm_hM_125 q53 dX6_call_54 (fun i54 q54 => ?_)
        refine tm_icmp_eq (tgt := 67) cx q41 q54 dX6_call_55 (by decide) (fun c55 => ?_) (fun c55 => ?_)
        · refine tm_iinc (lv' := [(2, tm_iv (v2 + 1)), (3, tm_iv u30), (0, tm_rv K 0), (1, tm_iv v1)]) cx dX6_call_67 hl (j := 3) rfl (by decide) (by decide) rfl (fun q67 ls hl => ?_)
          refine tm_goto (tgt := 2) cx dX6_call_70 (by decide) ?_
          exact h2 v1 (v2 + 1) _ _ g1 q67 (tm_has_sub hl [2, 3, 0] rfl)
        · refine tm_aload_n cx dX6_call_58 (tm_has_at hl 1 rfl) ?_
          refine tm_bipush cx dX6_call_59 (by decide) ?_
          refine tm_callV (n := 1) cx (cm_stop K l (tm_hst cx) 6 (by decide)) (lw_V q1271 q1273 qs55 q113 q1274) ⟨rfl, by decide +kernel, by decide +kernel, by decide +kernel⟩ rfl tm_cd_X6 (fun h => (tm_hM_0 h).1) ⟨Nat.le_of_ble_eq_true rfl, Nat.le_of_ble_eq_true rfl⟩ rfl (Nat.le_of_ble_eq_true rfl) hl.1.1 dX6_call_61 (fun u61 σ61 q61 => ?_)
          show tm_J p l e R s m args below meth c K tm_xM 0 _ _ (F0 m 64 ls [tm_iv u61])
          refine tm_istore (lv' := [(4, tm_iv u61), (3, tm_iv u30), (0, tm_rv K 0), (1, tm_iv v1), (2, tm_iv v2)]) cx dX6_call_64 hl (by decide) (by decide) rfl (fun ls hl => ?_)
          exact tm_vreturn cx dX6_call_66
    · refine tm_iconst cx dX6_call_73 ?_
      refine tm_istore_n (lv' := [(3, tm_iv 0), (0, tm_rv K 0), (1, tm_iv v1), (2, tm_iv v2)]) cx dX6_call_74 hl (by decide) (by decide) rfl (fun ls hl => ?_)
      exact wm_call_L75 cx tm_FU v1 v2 0 _ _ g1 g2 (by decide) (tm_has_sub hl [1, 2, 3, 0] rfl)
  · refine tm_iconst cx dX6_call_73 ?_
    refine tm_istore_n (lv' := [(3, tm_iv 0), (0, tm_rv K 0), (1, tm_iv v1), (2, tm_iv v2)]) cx dX6_call_74 hl (by decide) (by decide) rfl (fun ls hl => ?_)
    exact wm_call_L75 cx tm_FU v1 v2 0 _ _ g1 g2 (by decide) (tm_has_sub hl [1, 2, 3, 0] rfl)
def fm_call_L2 : Nat → Int → Int → tm_S → tm_R
  | 0, _, _, _ => none
  | n + 1, v1, v2, σ => fm_call_B2 (fm_call_L2 n) v1 v2 σ
theorem wm_call_L2 {p : Program} {l : Launch} {e : Env} {R : Room} {s : State} {m : MethodId} {args : Array Value} {below : List Frame} {meth : Method} {c : Code} {K : tm_K} (cx : tm_C p l R s m args meth c K cX6_call 7 RX6 "call" none 6 142) : ∀ (n : Nat) (v1 : Int) (v2 : Int) (σ : tm_S) (ls : Array Slot), tm_in v1 → tm_in v2 → tm_has 0 ls 7 [(0, tm_rv K 0), (1, tm_iv v1), (2, tm_iv v2)] → tm_J p l e R s m args below meth c K tm_xM 0 (fm_call_L2 n v1 v2 σ) σ (F0 m 2 ls []) := by
  intro n
  induction n with
  | zero => intros; exact tm_none
  | succ n ih =>
    intro v1 v2 σ ls g1 g2 hl
    exact wm_call_B2 (r2 := fm_call_L2 n) cx ih v1 v2 σ ls g1 g2 hl
def fm_call (a1 : Int) (σ : tm_S) : tm_R :=
  fm_call_L2 tm_FU a1 0 σ
theorem tm_fits_X6_call (K : tm_K) (a1 : Int) : (lg_sl [tm_rv K 0, tm_iv a1]).length ≤ 2 := (tm_sl_r _ _ _ _ (tm_sl_i _ _ _ (tm_sl_n _)))
theorem cm_call (K : tm_K) (l : Launch) (hst : l.stackTraces = false) (a1 : Int) (g1 : tm_in a1) : tm_ct K tm_xM l yX6_call cX6_call 7 none 0 [tm_rv K 0, tm_iv a1] (fm_call a1) 6 142 := by
  refine tm_ct_of hst (by decide +kernel) (Nat.le_trans (tm_fits_X6_call K a1) (Nat.le_of_ble_eq_true rfl)) ?_
  intro p e R s m args below meth c cx σ ls hl0
  have hl : tm_has 0 ls 7 [(0, tm_rv K 0), (1, tm_iv a1)] := ⟨by
    have h9 := hl0
    simp only [tm_args_r, tm_args_i, tm_args_n, Nat.zero_add, Nat.reduceAdd] at h9
    exact h9, by
    intro q hq
    simp only [List.mem_cons, List.not_mem_nil, or_false] at hq
    rcases hq with rfl | rfl
    · exact Or.inl (tm_rv_cat K 0)
    · exact Or.inl rfl⟩
  clear hl0
  unfold fm_call
  refine tm_iconst cx dX6_call_0 ?_
  refine tm_istore_n (lv' := [(2, tm_iv 0), (0, tm_rv K 0), (1, tm_iv a1)]) cx dX6_call_1 hl (by decide) (by decide) rfl (fun ls hl => ?_)
  exact wm_call_L2 cx tm_FU a1 0 _ _ g1 (by decide) (tm_has_sub hl [1, 2, 0] rfl)
def fm_push (a1 : Int) (a2 : Int) (a3 : Int) (σ : tm_S) : tm_R :=
  tm_gx (tm_f σ 479 0) 30 <|
  tm_gx (tm_f (tm_wa σ 132 (tm_f σ 479 0) a1) 479 0) 30 <|
  tm_gx (tm_f (tm_wa (tm_wa σ 132 (tm_f σ 479 0) a1) 133 (tm_f (tm_wa σ 132 (tm_f σ 479 0) a1) 479 0) a2) 479 0) 30 <|
  tm_ls (tm_wa (tm_wa (tm_wa σ 132 (tm_f σ 479 0) a1) 133 (tm_f (tm_wa σ 132 (tm_f σ 479 0) a1) 479 0) a2) 134 (tm_f (tm_wa (tm_wa σ 132 (tm_f σ 479 0) a1) 133 (tm_f (tm_wa σ 132 (tm_f σ 479 0) a1) 479 0) a2) 479 0) 0) fun τ1 =>
  tm_gx (tm_f τ1 479 0) 30 <|
  tm_gi ((tm_f (tm_wa τ1 135 (tm_f τ1 479 0) a3) 479 0) + 1) <|
  tm_rt 0 (tm_wf (tm_wa τ1 135 (tm_f τ1 479 0) a3) 479 0 ((tm_f (tm_wa τ1 135 (tm_f τ1 479 0) a3) 479 0) + 1))
theorem tm_fits_X6_push (K : tm_K) (a1 : Int) (a2 : Int) (a3 : Int) : (lg_sl [tm_rv K 0, tm_iv a1, tm_iv a2, tm_iv a3]).length ≤ 4 := (tm_sl_r _ _ _ _ (tm_sl_i _ _ _ (tm_sl_i _ _ _ (tm_sl_i _ _ _ (tm_sl_n _)))))
theorem cm_push (K : tm_K) (l : Launch) (hst : l.stackTraces = false) (a1 : Int) (g1 : tm_in a1) (a2 : Int) (g2 : tm_in a2) (a3 : Int) (g3 : tm_in a3) : tm_ct K tm_xM l yX6_push cX6_push 4 none 0 [tm_rv K 0, tm_iv a1, tm_iv a2, tm_iv a3] (fm_push a1 a2 a3) 0 0 := by
  refine tm_ct_of hst (by decide +kernel) (Nat.le_trans (tm_fits_X6_push K a1 a2 a3) (Nat.le_of_ble_eq_true rfl)) ?_
  intro p e R s m args below meth c cx σ ls hl0
  have hl : tm_has 0 ls 4 [(0, tm_rv K 0), (1, tm_iv a1), (2, tm_iv a2), (3, tm_iv a3)] := ⟨by
    have h9 := hl0
    simp only [tm_args_r, tm_args_i, tm_args_i, tm_args_i, tm_args_n, Nat.zero_add, Nat.reduceAdd] at h9
    exact h9, by
    intro q hq
    simp only [List.mem_cons, List.not_mem_nil, or_false] at hq
    rcases hq with rfl | rfl | rfl | rfl
    · exact Or.inl (tm_rv_cat K 0)
    · exact Or.inl rfl
    · exact Or.inl rfl
    · exact Or.inl rfl⟩
  clear hl0
  unfold fm_push
  refine tm_aload_n cx dX6_push_0 (tm_has_at hl 0 rfl) ?_
  refine tg_X6_62 cx dX6_push_1 ?_
  refine tm_aload_n cx dX6_push_4 (tm_has_at hl 0 rfl) ?_
  refine tg_X6_180 cx dX6_push_5 (fun q5 => ?_)
  refine tm_iload_n cx dX6_push_8 (tm_has_at hl 1 rfl) ?_
  refine tm_iast cx tm_famM tm_hM_132 q5 g1 dX6_push_9 ?_
  refine tm_aload_n cx dX6_push_10 (tm_has_at hl 0 rfl) ?_
  refine tg_X6_65 cx dX6_push_11 ?_
  refine tm_aload_n cx dX6_push_14 (tm_has_at hl 0 rfl) ?_
  refine tg_X6_180 cx dX6_push_15 (fun q15 => ?_)
  refine tm_iload_n cx dX6_push_18 (tm_has_at hl 2 rfl) ?_
  refine tm_iast cx tm_famM tm_hM_133 q15 g2 dX6_push_19 ?_
  refine tm_aload_n cx dX6_push_20 (tm_has_at hl 0 rfl) ?_
  refine tg_X6_68 cx dX6_push_21 ?_
  refine tm_aload_n cx dX6_push_24 (tm_has_at hl 0 rfl) ?_
  refine tg_X6_180 cx dX6_push_25 (fun q25 => ?_)
  refine tm_iconst cx dX6_push_28 ?_
  refine tm_iast cx tm_famM tm_hM_134 q25 (by decide) dX6_push_29 ?_
  refine tm_ls_ (fun τ1 => ?_)
  refine tm_aload_n cx dX6_push_30 (tm_has_at hl 0 rfl) ?_
  refine tg_X6_71 cx dX6_push_31 ?_
  refine tm_aload_n cx dX6_push_34 (tm_has_at hl 0 rfl) ?_
  refine tg_X6_180 cx dX6_push_35 (fun q35 => ?_)
  refine tm_iload_n cx dX6_push_38 (tm_has_at hl 3 rfl) ?_
  refine tm_iast cx tm_famM tm_hM_135 q35 g3 dX6_push_39 ?_
  refine tm_aload_n cx dX6_push_40 (tm_has_at hl 0 rfl) ?_
  refine tm_dup_r cx dX6_push_41 ?_
  refine tg_X6_180 cx dX6_push_42 (fun q42 => ?_)
  refine tm_iconst cx dX6_push_45 ?_
  refine tm_iadd cx dX6_push_46 (fun q46 => ?_)
  refine tp_X6_180 cx q46 dX6_push_47 ?_
  exact tm_vreturn cx dX6_push_50
def fm_other (a1 : Int) (σ : tm_S) : tm_R :=
  if a1 = 32 then
    tm_rt 2592 σ
  else
    tm_gi (a1 + 3072) <|
    tm_rt (a1 + 3072) σ
theorem tm_fits_X6_other (K : tm_K) (a1 : Int) : (lg_sl [tm_iv a1]).length ≤ 1 := (tm_sl_i _ _ _ (tm_sl_n _))
theorem cm_other (K : tm_K) (l : Launch) (hst : l.stackTraces = false) (a1 : Int) (g1 : tm_in a1) : tm_ct K tm_xM l yX6_other cX6_other 1 (some .int) 1 [tm_iv a1] (fm_other a1) 0 0 := by
  refine tm_ct_of hst (by decide +kernel) (Nat.le_trans (tm_fits_X6_other K a1) (Nat.le_of_ble_eq_true rfl)) ?_
  intro p e R s m args below meth c cx σ ls hl0
  have hl : tm_has 0 ls 1 [(0, tm_iv a1)] := ⟨by
    have h9 := hl0
    simp only [tm_args_i, tm_args_n, Nat.zero_add, Nat.reduceAdd] at h9
    exact h9, by
    intro q hq
    simp only [List.mem_cons, List.not_mem_nil, or_false] at hq
    rcases hq with rfl
    · exact Or.inl rfl⟩
  clear hl0
  unfold fm_other
  refine tm_iload_n cx dX6_other_0 (tm_has_at hl 0 rfl) ?_
  refine tm_bipush cx dX6_other_1 (by decide) ?_
  refine tm_icmp_ne (tgt := 12) cx g1 (by decide) dX6_other_3 (by decide) (fun c3 => ?_) (fun c3 => ?_)
  · refine tm_sipush cx dX6_other_6 (by decide) ?_
    refine tm_goto (tgt := 17) cx dX6_other_9 (by decide) ?_
    exact tm_ireturn cx (by decide) dX6_other_17
  · refine tm_iload_n cx dX6_other_12 (tm_has_at hl 0 rfl) ?_
    refine tm_sipush cx dX6_other_13 (by decide) ?_
    refine tm_iadd cx dX6_other_16 (fun q16 => ?_)
    exact tm_ireturn cx q16 dX6_other_17
