set_option maxRecDepth 100000
def fm_goOn_J154 (v1 : Int) (v4 : Int) (vs1 : Int) (vs2 : Int) (σ : tm_S) : tm_R :=
  tm_bd (fm_decide vs1 vs2 σ) fun u154 σ154 =>
  tm_gx v1 30 <|
  tm_rt (-1) (tm_wa σ154 133 v1 v4)
theorem wm_goOn_J154 {p : Program} {l : Launch} {e : Env} {R : Room} {s : State} {m : MethodId} {args : Array Value} {below : List Frame} {meth : Method} {c : Code} {K : tm_K} (cx : tm_C p l R s m args meth c K cX6_goOn 5 RX6 "goOn" (some .int) 8 179) (v1 : Int) (v4 : Int) (vs1 : Int) (vs2 : Int) (σ : tm_S) (ls : Array Slot) (g1 : tm_in v1) (g4 : tm_in v4) (gs1 : tm_in vs1) (gs2 : tm_in vs2) (hl : tm_has 0 ls 5 [(0, tm_rv K 0), (1, tm_iv v1), (4, tm_iv v4)]) : tm_J p l e R s m args below meth c K tm_xM 1 (fm_goOn_J154 v1 v4 vs1 vs2 σ) σ (F0 m 154 ls [tm_iv vs2, tm_iv vs1, tm_rv K 0]) := by
  unfold fm_goOn_J154
  refine tm_callV (n := 2) cx (cm_decide K l (tm_hst cx) vs1 gs1 vs2 gs2) (lw_V q1378 q1380 qs78 q113 q1381) ⟨rfl, by decide +kernel, by decide +kernel, by decide +kernel⟩ rfl tm_cd_X6 (fun h => (tm_hM_0 h).1) ⟨Nat.le_of_ble_eq_true rfl, Nat.le_of_ble_eq_true rfl⟩ rfl (Nat.le_of_ble_eq_true rfl) hl.1.1 dX6_goOn_154 (fun u154 σ154 q154 => ?_)
  show tm_J p l e R s m args below meth c K tm_xM 1 _ _ (F0 m 157 ls [])
  refine tm_aload_n cx dX6_goOn_157 (tm_has_at hl 0 rfl) ?_
  refine tg_X6_65 cx dX6_goOn_158 ?_
  refine tm_iload_n cx dX6_goOn_161 (tm_has_at hl 1 rfl) ?_
  refine tm_iload cx dX6_goOn_162 (tm_has_at hl 2 rfl) ?_
  refine tm_iast cx tm_famM tm_hM_133 g1 g4 dX6_goOn_164 ?_
  refine tm_goto (tgt := 253) cx dX6_goOn_165 (by decide) ?_
  refine tm_iconst cx dX6_goOn_253 ?_
  exact tm_ireturn cx (by decide) dX6_goOn_254
def fm_goOn_J99 (v1 : Int) (vs0 : Int) (σ : tm_S) : tm_R :=
  tm_gx v1 30 <|
  tm_gi ((tm_a σ 134 v1) + 1) <|
  tm_gx v1 30 <|
  tm_gx v1 30 <|
  if (tm_a (tm_wa σ 134 v1 ((tm_a σ 134 v1) + 1)) 134 v1) = 2 then
    tm_gi ((tm_f (tm_wa σ 134 v1 ((tm_a σ 134 v1) + 1)) 479 0) - 1) <|
    tm_gx v1 30 <|
    tm_gx v1 30 <|
    if vs0 = (tm_a (tm_wf (tm_wa σ 134 v1 ((tm_a σ 134 v1) + 1)) 479 0 ((tm_f (tm_wa σ 134 v1 ((tm_a σ 134 v1) + 1)) 479 0) - 1)) 133 v1) then
      fm_goOn_J154 v1 vs0 (tm_a (tm_wf (tm_wa σ 134 v1 ((tm_a σ 134 v1) + 1)) 479 0 ((tm_f (tm_wa σ 134 v1 ((tm_a σ 134 v1) + 1)) 479 0) - 1)) 135 v1) 1 (tm_wf (tm_wa σ 134 v1 ((tm_a σ 134 v1) + 1)) 479 0 ((tm_f (tm_wa σ 134 v1 ((tm_a σ 134 v1) + 1)) 479 0) - 1))
    else
      fm_goOn_J154 v1 vs0 (tm_a (tm_wf (tm_wa σ 134 v1 ((tm_a σ 134 v1) + 1)) 479 0 ((tm_f (tm_wa σ 134 v1 ((tm_a σ 134 v1) + 1)) 479 0) - 1)) 135 v1) 0 (tm_wf (tm_wa σ 134 v1 ((tm_a σ 134 v1) + 1)) 479 0 ((tm_f (tm_wa σ 134 v1 ((tm_a σ 134 v1) + 1)) 479 0) - 1))
  else
    tm_gx v1 30 <|
    tm_rt (-1) (tm_wa (tm_wa σ 134 v1 ((tm_a σ 134 v1) + 1)) 133 v1 vs0)
theorem wm_goOn_J99 {p : Program} {l : Launch} {e : Env} {R : Room} {s : State} {m : MethodId} {args : Array Value} {below : List Frame} {meth : Method} {c : Code} {K : tm_K} (cx : tm_C p l R s m args meth c K cX6_goOn 5 RX6 "goOn" (some .int) 8 179) (v1 : Int) (vs0 : Int) (σ : tm_S) (ls : Array Slot) (g1 : tm_in v1) (gs0 : tm_in vs0) (hl : tm_has 0 ls 5 [(0, tm_rv K 0), (1, tm_iv v1)]) : tm_J p l e R s m args below meth c K tm_xM 1 (fm_goOn_J99 v1 vs0 σ) σ (F0 m 99 ls [tm_iv vs0]) := by
  unfold fm_goOn_J99
  refine tm_istore (lv' := [(4, tm_iv vs0), (0, tm_rv K 0), (1, tm_iv v1)]) cx dX6_goOn_99 hl (by decide) (by decide) rfl (fun ls hl => ?_)
  refine tm_aload_n cx dX6_goOn_101 (tm_has_at hl 1 rfl) ?_
  refine tg_X6_68 cx dX6_goOn_102 ?_
  refine tm_iload_n cx dX6_goOn_105 (tm_has_at hl 2 rfl) ?_
  refine tm_dup2_ir cx dX6_goOn_106 ?_
  refine tm_iald cx tm_hM_134 g1 dX6_goOn_107 (fun i107 q107 => ?_)
  refine tm_iconst cx dX6_goOn_108 ?_
  refine tm_iadd cx dX6_goOn_109 (fun q109 => ?_)
  refine tm_iast cx tm_famM tm_hM_134 g1 q109 dX6_goOn_110 ?_
  refine tm_aload_n cx dX6_goOn_111 (tm_has_at hl 1 rfl) ?_
  refine tg_X6_68 cx dX6_goOn_112 ?_
  refine tm_iload_n cx dX6_goOn_115 (tm_has_at hl 2 rfl) ?_
  refine tm_iald cx tm_hM_134 g1 dX6_goOn_116 (fun i116 q116 => ?_)
  refine tm_iconst cx dX6_goOn_117 ?_
  refine tm_icmp_ne (tgt := 157) cx q116 (by decide) dX6_goOn_118 (by decide) (fun c118 => ?_) (fun c118 => ?_)
  · refine tm_aload_n cx dX6_goOn_121 (tm_has_at hl 1 rfl) ?_
    refine tm_dup_r cx dX6_goOn_122 ?_
    refine tg_X6_180 cx dX6_goOn_123 (fun q123 => ?_)
    refine tm_iconst cx dX6_goOn_126 ?_
    refine tm_isub cx dX6_goOn_127 (fun q127 => ?_)
    refine tp_X6_180 cx q127 dX6_goOn_128 ?_
    refine tm_aload_n cx dX6_goOn_131 (tm_has_at hl 1 rfl) ?_
    refine tm_aload_n cx dX6_goOn_132 (tm_has_at hl 1 rfl) ?_
    refine tg_X6_71 cx dX6_goOn_133 ?_
    refine tm_iload_n cx dX6_goOn_136 (tm_has_at hl 2 rfl) ?_
    refine tm_iald cx tm_hM_135 g1 dX6_goOn_137 (fun i137 q137 => ?_)
    refine tm_iload cx dX6_goOn_138 (tm_has_at hl 0 rfl) ?_
    refine tm_aload_n cx dX6_goOn_140 (tm_has_at hl 1 rfl) ?_
    refine tg_X6_65 cx dX6_goOn_141 ?_
    refine tm_iload_n cx dX6_goOn_144 (tm_has_at hl 2 rfl) ?_
    refine tm_iald cx tm_hM_133 g1 dX6_goOn_145 (fun i145 q145 => ?_)
    refine tm_icmp_ne (tgt := 153) cx gs0 q145 dX6_goOn_146 (by decide) (fun c146 => ?_) (fun c146 => ?_)
    · refine tm_iconst cx dX6_goOn_149 ?_
      refine tm_goto (tgt := 154) cx dX6_goOn_150 (by decide) ?_
      exact wm_goOn_J154 cx v1 vs0 (tm_a (tm_wf (tm_wa σ 134 v1 ((tm_a σ 134 v1) + 1)) 479 0 ((tm_f (tm_wa σ 134 v1 ((tm_a σ 134 v1) + 1)) 479 0) - 1)) 135 v1) 1 _ _ g1 gs0 q137 (by decide) (tm_has_sub hl [1, 2, 0] rfl)
    · refine tm_iconst cx dX6_goOn_153 ?_
      exact wm_goOn_J154 cx v1 vs0 (tm_a (tm_wf (tm_wa σ 134 v1 ((tm_a σ 134 v1) + 1)) 479 0 ((tm_f (tm_wa σ 134 v1 ((tm_a σ 134 v1) + 1)) 479 0) - 1)) 135 v1) 0 _ _ g1 gs0 q137 (by decide) (tm_has_sub hl [1, 2, 0] rfl)
  · refine tm_aload_n cx dX6_goOn_157 (tm_has_at hl 1 rfl) ?_
    refine tg_X6_65 cx dX6_goOn_158 ?_
    refine tm_iload_n cx dX6_goOn_161 (tm_has_at hl 2 rfl) ?_
    refine tm_iload cx dX6_goOn_162 (tm_has_at hl 0 rfl) ?_
    refine tm_iast cx tm_famM tm_hM_133 g1 gs0 dX6_goOn_164 ?_
    refine tm_goto (tgt := 253) cx dX6_goOn_165 (by decide) ?_
    refine tm_iconst cx dX6_goOn_253 ?_
    exact tm_ireturn cx (by decide) dX6_goOn_254
def fm_goOn (σ : tm_S) : tm_R :=
  tm_gi ((tm_f σ 479 0) - 1) <|
  tm_lt ((tm_f σ 479 0) - 1) fun x6 =>
  tm_gx x6 30 <|
  if (tm_a σ 132 x6) = 8 then
    tm_gi ((tm_f σ 479 0) - 1) <|
    tm_gx x6 30 <|
    tm_bd (fm_putBack (tm_a (tm_wf σ 479 0 ((tm_f σ 479 0) - 1)) 133 x6) (tm_wf σ 479 0 ((tm_f σ 479 0) - 1))) fun u35 σ35 =>
    tm_rt (-1) σ35
  else
    tm_bd (fm_need σ) fun u41 σ41 =>
    if u41 = (-1) then
      tm_rt u41 σ41
    else
      tm_bd (fm_isExpandable u41 σ41) fun u52 σ52 =>
      if u52 = 0 then
        tm_bd (fm_meaningOf u41 σ52) fun u62 σ62 =>
        tm_gx x6 30 <|
        if (tm_a σ62 132 x6) = 13 then
          if u62 < 1000 then
            fm_goOn_J99 x6 256 σ62
          else
            tm_gi (u62 - 1000) <|
            fm_goOn_J99 x6 ((u62 - 1000) % 256) σ62
        else
          if u62 = 11 then
            tm_gi ((tm_f σ62 479 0) - 1) <|
            tm_bd (fm_spelled x6 (tm_wf σ62 479 0 ((tm_f σ62 479 0) - 1))) fun u186 σ186 =>
            tm_rt (-1) σ186
          else
            if u41 < 4096 then
              tm_gx x6 30 <|
              if (tm_a σ62 134 x6) = 11 then
                tm_bd (fm_stop 5 σ62) fun u218 σ218 =>
                tm_rt u218 σ218
              else
                tm_gi (12 * x6) <|
                tm_gx x6 30 <|
                tm_gi ((12 * x6) + (tm_a σ62 134 x6)) <|
                tm_gx ((12 * x6) + (tm_a σ62 134 x6)) 360 <|
                tm_gx x6 30 <|
                tm_gi ((tm_a (tm_wa σ62 136 ((12 * x6) + (tm_a σ62 134 x6)) (u41 % 256)) 134 x6) + 1) <|
                tm_gx x6 30 <|
                tm_rt (-1) (tm_wa (tm_wa σ62 136 ((12 * x6) + (tm_a σ62 134 x6)) (u41 % 256)) 134 x6 ((tm_a (tm_wa σ62 136 ((12 * x6) + (tm_a σ62 134 x6)) (u41 % 256)) 134 x6) + 1))
            else
              tm_bd (fm_stop 4 σ62) fun u201 σ201 =>
              tm_rt u201 σ201
      else
        tm_rt u41 σ52
theorem tm_fits_X6_goOn (K : tm_K) : (lg_sl [tm_rv K 0]).length ≤ 1 := (tm_sl_r _ _ _ _ (tm_sl_n _))
theorem cm_goOn (K : tm_K) (l : Launch) (hst : l.stackTraces = false) : tm_ct K tm_xM l yX6_goOn cX6_goOn 5 (some .int) 1 [tm_rv K 0] (fm_goOn) 8 179 := by
  refine tm_ct_of hst (by decide +kernel) (Nat.le_trans (tm_fits_X6_goOn K) (Nat.le_of_ble_eq_true rfl)) ?_
  intro p e R s m args below meth c cx σ ls hl0
  have hl : tm_has 0 ls 5 [(0, tm_rv K 0)] := ⟨by
    have h9 := hl0
    simp only [tm_args_r, tm_args_n, Nat.zero_add, Nat.reduceAdd] at h9
    exact h9, by
    intro q hq
    simp only [List.mem_cons, List.not_mem_nil, or_false] at hq
    rcases hq with rfl
    · exact Or.inl (tm_rv_cat K 0)⟩
  clear hl0
  unfold fm_goOn
  refine tm_aload_n cx dX6_goOn_0 (tm_has_at hl 0 rfl) ?_
  refine tg_X6_180 cx dX6_goOn_1 (fun q1 => ?_)
  refine tm_iconst cx dX6_goOn_4 ?_
  refine tm_isub cx dX6_goOn_5 (fun q5 => ?_)
  refine tm_lt_ q5 (fun x6 q6 => ?_)
  refine tm_istore_n (lv' := [(1, tm_iv x6), (0, tm_rv K 0)]) cx dX6_goOn_6 hl (by decide) (by decide) rfl (fun ls hl => ?_)
  refine tm_aload_n cx dX6_goOn_7 (tm_has_at hl 1 rfl) ?_
  refine tg_X6_62 cx dX6_goOn_8 ?_
  refine tm_iload_n cx dX6_goOn_11 (tm_has_at hl 0 rfl) ?_
  refine tm_iald cx tm_hM_132 q6 dX6_goOn_12 (fun i12 q12 => ?_)
  refine tm_bipush cx dX6_goOn_13 (by decide) ?_
  refine tm_icmp_ne (tgt := 40) cx q12 (by decide) dX6_goOn_15 (by decide) (fun c15 => ?_) (fun c15 => ?_)
  · refine tm_aload_n cx dX6_goOn_18 (tm_has_at hl 1 rfl) ?_
    refine tm_dup_r cx dX6_goOn_19 ?_
    refine tg_X6_180 cx dX6_goOn_20 (fun q20 => ?_)
    refine tm_iconst cx dX6_goOn_23 ?_
    refine tm_isub cx dX6_goOn_24 (fun q24 => ?_)
    refine tp_X6_180 cx q24 dX6_goOn_25 ?_
    refine tm_aload_n cx dX6_goOn_28 (tm_has_at hl 1 rfl) ?_
    refine tm_aload_n cx dX6_goOn_29 (tm_has_at hl 1 rfl) ?_
    refine tg_X6_65 cx dX6_goOn_30 ?_
    refine tm_iload_n cx dX6_goOn_33 (tm_has_at hl 0 rfl) ?_
    refine tm_iald cx tm_hM_133 q6 dX6_goOn_34 (fun i34 q34 => ?_)
    refine tm_callV (n := 1) cx (cm_putBack K l (tm_hst cx) (tm_a (tm_wf σ 479 0 ((tm_f σ 479 0) - 1)) 133 x6) q34) (lw_V q1343 q1345 qs70 q113 q1346) ⟨rfl, by decide +kernel, by decide +kernel, by decide +kernel⟩ rfl tm_cd_X6 (fun h => (tm_hM_0 h).1) ⟨Nat.le_of_ble_eq_true rfl, Nat.le_of_ble_eq_true rfl⟩ rfl (Nat.le_of_ble_eq_true rfl) hl.1.1 dX6_goOn_35 (fun u35 σ35 q35 => ?_)
    show tm_J p l e R s m args below meth c K tm_xM 1 _ _ (F0 m 38 ls [])
    refine tm_iconst cx dX6_goOn_38 ?_
    exact tm_ireturn cx (by decide) dX6_goOn_39
  · refine tm_aload_n cx dX6_goOn_40 (tm_has_at hl 1 rfl) ?_
    refine tm_callV (n := 0) cx (cm_need K l (tm_hst cx)) (lw_V q1313 q1315 qs64 q113 q1316) ⟨rfl, by decide +kernel, by decide +kernel, by decide +kernel⟩ rfl tm_cd_X6 (fun h => (tm_hM_0 h).1) ⟨Nat.le_of_ble_eq_true rfl, Nat.le_of_ble_eq_true rfl⟩ rfl (Nat.le_of_ble_eq_true rfl) hl.1.1 dX6_goOn_41 (fun u41 σ41 q41 => ?_)
    show tm_J p l e R s m args below meth c K tm_xM 1 _ _ (F0 m 44 ls [tm_iv u41])
    refine tm_istore_n (lv' := [(2, tm_iv u41), (1, tm_iv x6), (0, tm_rv K 0)]) cx dX6_goOn_44 hl (by decide) (by decide) rfl (fun ls hl => ?_)
    refine tm_iload_n cx dX6_goOn_45 (tm_has_at hl 0 rfl) ?_
    refine tm_iconst cx dX6_goOn_46 ?_
    refine tm_icmp_eq (tgt := 58) cx q41 (by decide) dX6_goOn_47 (by decide) (fun c47 => ?_) (fun c47 => ?_)
    · refine tm_iload_n cx dX6_goOn_58 (tm_has_at hl 0 rfl) ?_
      exact tm_ireturn cx q41 dX6_goOn_59
    · refine tm_aload_n cx dX6_goOn_50 (tm_has_at hl 2 rfl) ?_
      refine tm_iload_n cx dX6_goOn_51 (tm_has_at hl 0 rfl) ?_
      refine tm_callV (n := 1) cx (cm_isExpandable K l (tm_hst cx) u41 q41) (lw_V q1287 q1289 qs59 q113 q1290) ⟨rfl, by decide +kernel, by decide +kernel, by decide +kernel⟩ rfl tm_cd_X6 (fun h => (tm_hM_0 h).1) ⟨Nat.le_of_ble_eq_true rfl, Nat.le_of_ble_eq_true rfl⟩ rfl (Nat.le_of_ble_eq_true rfl) hl.1.1 dX6_goOn_52 (fun u52 σ52 q52 => ?_)
      show tm_J p l e R s m args below meth c K tm_xM 1 _ _ (F0 m 55 ls [tm_iv u52])
      refine tm_if_eq (tgt := 60) cx q52 dX6_goOn_55 (by decide) (fun c55 => ?_) (fun c55 => ?_)
      · refine tm_aload_n cx dX6_goOn_60 (tm_has_at hl 2 rfl) ?_
        refine tm_iload_n cx dX6_goOn_61 (tm_has_at hl 0 rfl) ?_
        refine tm_callV (n := 1) cx (cm_meaningOf K l (tm_hst cx) u41 q41) (lw_V q1291 q1293 qs60 q113 q1294) ⟨rfl, by decide +kernel, by decide +kernel, by decide +kernel⟩ rfl tm_cd_X6 (fun h => (tm_hM_0 h).1) ⟨Nat.le_of_ble_eq_true rfl, Nat.le_of_ble_eq_true rfl⟩ rfl (Nat.le_of_ble_eq_true rfl) hl.1.1 dX6_goOn_62 (fun u62 σ62 q62 => ?_)
        show tm_J p l e R s m args below meth c K tm_xM 1 _ _ (F0 m 65 ls [tm_iv u62])
        refine tm_istore_n (lv' := [(3, tm_iv u62), (2, tm_iv u41), (1, tm_iv x6), (0, tm_rv K 0)]) cx dX6_goOn_65 hl (by decide) (by decide) rfl (fun ls hl => ?_)
        refine tm_aload_n cx dX6_goOn_66 (tm_has_at hl 3 rfl) ?_
        refine tg_X6_62 cx dX6_goOn_67 ?_
        refine tm_iload_n cx dX6_goOn_70 (tm_has_at hl 2 rfl) ?_
        refine tm_iald cx tm_hM_132 q6 dX6_goOn_71 (fun i71 q71 => ?_)
        refine tm_bipush cx dX6_goOn_72 (by decide) ?_
        refine tm_icmp_ne (tgt := 168) cx q71 (by decide) dX6_goOn_74 (by decide) (fun c74 => ?_) (fun c74 => ?_)
        · refine tm_iload_n cx dX6_goOn_77 (tm_has_at hl 0 rfl) ?_
          refine tm_sipush cx dX6_goOn_78 (by decide) ?_
          refine tm_icmp_ge (tgt := 90) cx q62 (by decide) dX6_goOn_81 (by decide) (fun c81 => ?_) (fun c81 => ?_)
          · refine tm_sipush cx dX6_goOn_84 (by decide) ?_
            refine tm_goto (tgt := 99) cx dX6_goOn_87 (by decide) ?_
            exact wm_goOn_J99 cx x6 256 _ _ q6 (by decide) (tm_has_sub hl [3, 2] rfl)
          · refine tm_iload_n cx dX6_goOn_90 (tm_has_at hl 0 rfl) ?_
            refine tm_sipush cx dX6_goOn_91 (by decide) ?_
            refine tm_isub cx dX6_goOn_94 (fun q94 => ?_)
            refine tm_sipush cx dX6_goOn_95 (by decide) ?_
            refine tm_iand255 cx q94 dX6_goOn_98 (fun q98 => ?_)
            exact wm_goOn_J99 cx x6 ((u62 - 1000) % 256) _ _ q6 q98 (tm_has_sub hl [3, 2] rfl)
        · refine tm_iload_n cx dX6_goOn_168 (tm_has_at hl 0 rfl) ?_
          refine tm_bipush cx dX6_goOn_169 (by decide) ?_
          refine tm_icmp_ne (tgt := 192) cx q62 (by decide) dX6_goOn_171 (by decide) (fun c171 => ?_) (fun c171 => ?_)
          · refine tm_aload_n cx dX6_goOn_174 (tm_has_at hl 3 rfl) ?_
            refine tm_dup_r cx dX6_goOn_175 ?_
            refine tg_X6_180 cx dX6_goOn_176 (fun q176 => ?_)
            refine tm_iconst cx dX6_goOn_179 ?_
            refine tm_isub cx dX6_goOn_180 (fun q180 => ?_)
            refine tp_X6_180 cx q180 dX6_goOn_181 ?_
            refine tm_aload_n cx dX6_goOn_184 (tm_has_at hl 3 rfl) ?_
            refine tm_iload_n cx dX6_goOn_185 (tm_has_at hl 2 rfl) ?_
            refine tm_callV (n := 1) cx (cm_spelled K l (tm_hst cx) x6 q6) (lw_V q1386 q1388 qs80 q113 q1389) ⟨rfl, by decide +kernel, by decide +kernel, by decide +kernel⟩ rfl tm_cd_X6 (fun h => (tm_hM_0 h).1) ⟨Nat.le_of_ble_eq_true rfl, Nat.le_of_ble_eq_true rfl⟩ rfl (Nat.le_of_ble_eq_true rfl) hl.1.1 dX6_goOn_186 (fun u186 σ186 q186 => ?_)
            show tm_J p l e R s m args below meth c K tm_xM 1 _ _ (F0 m 189 ls [])
            refine tm_goto (tgt := 253) cx dX6_goOn_189 (by decide) ?_
            refine tm_iconst cx dX6_goOn_253 ?_
            exact tm_ireturn cx (by decide) dX6_goOn_254
          · refine tm_iload_n cx dX6_goOn_192 (tm_has_at hl 1 rfl) ?_
            refine tm_sipush cx dX6_goOn_193 (by decide) ?_
            refine tm_icmp_lt (tgt := 205) cx q41 (by decide) dX6_goOn_196 (by decide) (fun c196 => ?_) (fun c196 => ?_)
            · refine tm_aload_n cx dX6_goOn_205 (tm_has_at hl 3 rfl) ?_
              refine tg_X6_68 cx dX6_goOn_206 ?_
              refine tm_iload_n cx dX6_goOn_209 (tm_has_at hl 2 rfl) ?_
              refine tm_iald cx tm_hM_134 q6 dX6_goOn_210 (fun i210 q210 => ?_)
              refine tm_bipush cx dX6_goOn_211 (by decide) ?_
              refine tm_icmp_ne (tgt := 222) cx q210 (by decide) dX6_goOn_213 (by decide) (fun c213 => ?_) (fun c213 => ?_)
              · refine tm_aload_n cx dX6_goOn_216 (tm_has_at hl 3 rfl) ?_
                refine tm_iconst cx dX6_goOn_217 ?_
                refine tm_callV (n := 1) cx (cm_stop K l (tm_hst cx) 5 (by decide)) (lw_V q1271 q1273 qs55 q113 q1274) ⟨rfl, by decide +kernel, by decide +kernel, by decide +kernel⟩ rfl tm_cd_X6 (fun h => (tm_hM_0 h).1) ⟨Nat.le_of_ble_eq_true rfl, Nat.le_of_ble_eq_true rfl⟩ rfl (Nat.le_of_ble_eq_true rfl) hl.1.1 dX6_goOn_218 (fun u218 σ218 q218 => ?_)
                show tm_J p l e R s m args below meth c K tm_xM 1 _ _ (F0 m 221 ls [tm_iv u218])
                exact tm_ireturn cx q218 dX6_goOn_221
              · refine tm_aload_n cx dX6_goOn_222 (tm_has_at hl 3 rfl) ?_
                refine tg_X6_74 cx dX6_goOn_223 ?_
                refine tm_bipush cx dX6_goOn_226 (by decide) ?_
                refine tm_iload_n cx dX6_goOn_228 (tm_has_at hl 2 rfl) ?_
                refine tm_imul cx dX6_goOn_229 (fun q229 => ?_)
                refine tm_aload_n cx dX6_goOn_230 (tm_has_at hl 3 rfl) ?_
                refine tg_X6_68 cx dX6_goOn_231 ?_
                refine tm_iload_n cx dX6_goOn_234 (tm_has_at hl 2 rfl) ?_
                refine tm_iald cx tm_hM_134 q6 dX6_goOn_235 (fun i235 q235 => ?_)
                refine tm_iadd cx dX6_goOn_236 (fun q236 => ?_)
                refine tm_iload_n cx dX6_goOn_237 (tm_has_at hl 1 rfl) ?_
                refine tm_sipush cx dX6_goOn_238 (by decide) ?_
                refine tm_iand255 cx q41 dX6_goOn_241 (fun q241 => ?_)
                refine tm_iast cx tm_famM tm_hM_136 q236 q241 dX6_goOn_242 ?_
                refine tm_aload_n cx dX6_goOn_243 (tm_has_at hl 3 rfl) ?_
                refine tg_X6_68 cx dX6_goOn_244 ?_
                refine tm_iload_n cx dX6_goOn_247 (tm_has_at hl 2 rfl) ?_
                refine tm_dup2_ir cx dX6_goOn_248 ?_
                refine tm_iald cx tm_hM_134 q6 dX6_goOn_249 (fun i249 q249 => ?_)
                refine tm_iconst cx dX6_goOn_250 ?_
                refine tm_iadd cx dX6_goOn_251 (fun q251 => ?_)
                refine tm_iast cx tm_famM tm_hM_134 q6 q251 dX6_goOn_252 ?_
                refine tm_iconst cx dX6_goOn_253 ?_
                exact tm_ireturn cx (by decide) dX6_goOn_254
            · refine tm_aload_n cx dX6_goOn_199 (tm_has_at hl 3 rfl) ?_
              refine tm_iconst cx dX6_goOn_200 ?_
              refine tm_callV (n := 1) cx (cm_stop K l (tm_hst cx) 4 (by decide)) (lw_V q1271 q1273 qs55 q113 q1274) ⟨rfl, by decide +kernel, by decide +kernel, by decide +kernel⟩ rfl tm_cd_X6 (fun h => (tm_hM_0 h).1) ⟨Nat.le_of_ble_eq_true rfl, Nat.le_of_ble_eq_true rfl⟩ rfl (Nat.le_of_ble_eq_true rfl) hl.1.1 dX6_goOn_201 (fun u201 σ201 q201 => ?_)
              show tm_J p l e R s m args below meth c K tm_xM 1 _ _ (F0 m 204 ls [tm_iv u201])
              exact tm_ireturn cx q201 dX6_goOn_204
      · refine tm_iload_n cx dX6_goOn_58 (tm_has_at hl 0 rfl) ?_
        exact tm_ireturn cx q41 dX6_goOn_59
def fm_expand_J27 (r7 : Int → Int → tm_S → tm_R) (v2 : Int) (v3 : Int) (σ : tm_S) : tm_R :=
  if v2 = (-1) then
    tm_bd (fm_goOn σ) fun u41 σ41 =>
    r7 u41 v3 σ41
  else
    tm_bd (fm_begin v2 σ) fun u34 σ34 =>
    r7 u34 v3 σ34
theorem wm_expand_J27 {p : Program} {l : Launch} {e : Env} {R : Room} {s : State} {m : MethodId} {args : Array Value} {below : List Frame} {meth : Method} {c : Code} {K : tm_K} {r7 : Int → Int → tm_S → tm_R} (cx : tm_C p l R s m args meth c K cX6_expand 4 RX6 "expand" none 10 227) (h7 : ∀ (v2 : Int) (v3 : Int) (τ : tm_S) (ls : Array Slot), tm_in v2 → tm_in v3 → tm_has 0 ls 4 [(0, tm_rv K 0), (2, tm_iv v2), (3, tm_iv v3)] → tm_J p l e R s m args below meth c K tm_xM 0 (r7 v2 v3 τ) τ (F0 m 7 ls [])) (v2 : Int) (v3 : Int) (σ : tm_S) (ls : Array Slot) (g2 : tm_in v2) (g3 : tm_in v3) (hl : tm_has 0 ls 4 [(0, tm_rv K 0), (2, tm_iv v2), (3, tm_iv v3)]) : tm_J p l e R s m args below meth c K tm_xM 0 (fm_expand_J27 r7 v2 v3 σ) σ (F0 m 27 ls []) := by
  unfold fm_expand_J27
  refine tm_iload_n cx dX6_expand_27 (tm_has_at hl 1 rfl) ?_
  refine tm_iconst cx dX6_expand_28 ?_
  refine tm_icmp_eq (tgt := 40) cx g2 (by decide) dX6_expand_29 (by decide) (fun c29 => ?_) (fun c29 => ?_)
  · refine tm_aload_n cx dX6_expand_40 (tm_has_at hl 0 rfl) ?_
    refine tm_callV (n := 0) cx (cm_goOn K l (tm_hst cx)) (lw_V q1382 q1384 qs79 q113 q1385) ⟨rfl, by decide +kernel, by decide +kernel, by decide +kernel⟩ rfl tm_cd_X6 (fun h => (tm_hM_0 h).1) ⟨Nat.le_of_ble_eq_true rfl, Nat.le_of_ble_eq_true rfl⟩ rfl (Nat.le_of_ble_eq_true rfl) hl.1.1 dX6_expand_41 (fun u41 σ41 q41 => ?_)
    show tm_J p l e R s m args below meth c K tm_xM 0 _ _ (F0 m 44 ls [tm_iv u41])
    refine tm_istore_n (lv' := [(2, tm_iv u41), (0, tm_rv K 0), (3, tm_iv v3)]) cx dX6_expand_44 hl (by decide) (by decide) rfl (fun ls hl => ?_)
    refine tm_goto (tgt := 7) cx dX6_expand_45 (by decide) ?_
    exact h7 u41 v3 _ _ q41 g3 (tm_has_sub hl [1, 0, 2] rfl)
  · refine tm_aload_n cx dX6_expand_32 (tm_has_at hl 0 rfl) ?_
    refine tm_iload_n cx dX6_expand_33 (tm_has_at hl 1 rfl) ?_
    refine tm_callV (n := 1) cx (cm_begin K l (tm_hst cx) v2 g2) (lw_V q1305 q1307 qs62 q113 q1308) ⟨rfl, by decide +kernel, by decide +kernel, by decide +kernel⟩ rfl tm_cd_X6 (fun h => (tm_hM_0 h).1) ⟨Nat.le_of_ble_eq_true rfl, Nat.le_of_ble_eq_true rfl⟩ rfl (Nat.le_of_ble_eq_true rfl) hl.1.1 dX6_expand_34 (fun u34 σ34 q34 => ?_)
    show tm_J p l e R s m args below meth c K tm_xM 0 _ _ (F0 m 37 ls [tm_iv u34])
    refine tm_goto (tgt := 44) cx dX6_expand_37 (by decide) ?_
    refine tm_istore_n (lv' := [(2, tm_iv u34), (0, tm_rv K 0), (3, tm_iv v3)]) cx dX6_expand_44 hl (by decide) (by decide) rfl (fun ls hl => ?_)
    refine tm_goto (tgt := 7) cx dX6_expand_45 (by decide) ?_
    exact h7 u34 v3 _ _ q34 g3 (tm_has_sub hl [1, 0, 2] rfl)
def fm_expand_B7 (r7 : Int → Int → tm_S → tm_R) (v2 : Int) (v3 : Int) (σ : tm_S) : tm_R :=
  if (tm_f σ 453 0) = 0 then
    if v2 = (-1) then
      if v3 < (tm_f σ 479 0) then
        fm_expand_J27 r7 v2 v3 σ
      else
        tm_rt 0 σ
    else
      fm_expand_J27 r7 v2 v3 σ
  else
    tm_rt 0 σ
theorem wm_expand_B7 {p : Program} {l : Launch} {e : Env} {R : Room} {s : State} {m : MethodId} {args : Array Value} {below : List Frame} {meth : Method} {c : Code} {K : tm_K} {r7 : Int → Int → tm_S → tm_R} (cx : tm_C p l R s m args meth c K cX6_expand 4 RX6 "expand" none 10 227) (h7 : ∀ (v2 : Int) (v3 : Int) (τ : tm_S) (ls : Array Slot), tm_in v2 → tm_in v3 → tm_has 0 ls 4 [(0, tm_rv K 0), (2, tm_iv v2), (3, tm_iv v3)] → tm_J p l e R s m args below meth c K tm_xM 0 (r7 v2 v3 τ) τ (F0 m 7 ls [])) (v2 : Int) (v3 : Int) (σ : tm_S) (ls : Array Slot) (g2 : tm_in v2) (g3 : tm_in v3) (hl : tm_has 0 ls 4 [(0, tm_rv K 0), (2, tm_iv v2), (3, tm_iv v3)]) : tm_J p l e R s m args below meth c K tm_xM 0 (fm_expand_B7 r7 v2 v3 σ) σ (F0 m 7 ls []) := by
  unfold fm_expand_B7
  refine tm_aload_n cx dX6_expand_7 (tm_has_at hl 0 rfl) ?_
  refine tg_X6_159 cx dX6_expand_8 (fun q8 => ?_)
  refine tm_if_ne (tgt := 48) cx q8 dX6_expand_11 (by decide) (fun c11 => ?_) (fun c11 => ?_)
  · refine tm_iload_n cx dX6_expand_14 (tm_has_at hl 1 rfl) ?_
    refine tm_iconst cx dX6_expand_15 ?_
    refine tm_icmp_ne (tgt := 27) cx g2 (by decide) dX6_expand_16 (by decide) (fun c16 => ?_) (fun c16 => ?_)
    · refine tm_aload_n cx dX6_expand_19 (tm_has_at hl 0 rfl) ?_
      refine tg_X6_180 cx dX6_expand_20 (fun q20 => ?_)
      refine tm_iload_n cx dX6_expand_23 (tm_has_at hl 2 rfl) ?_
      refine tm_icmp_le (tgt := 48) cx q20 g3 dX6_expand_24 (by decide) (fun c24 => ?_) (fun c24 => ?_)
      · exact wm_expand_J27 cx h7 v2 v3 _ _ g2 g3 (tm_has_sub hl [0, 1, 2] rfl)
      · exact tm_vreturn cx dX6_expand_48
    · exact wm_expand_J27 cx h7 v2 v3 _ _ g2 g3 (tm_has_sub hl [0, 1, 2] rfl)
  · exact tm_vreturn cx dX6_expand_48
def fm_expand_L7 : Nat → Int → Int → tm_S → tm_R
  | 0, _, _, _ => none
  | n + 1, v2, v3, σ => fm_expand_B7 (fm_expand_L7 n) v2 v3 σ
theorem wm_expand_L7 {p : Program} {l : Launch} {e : Env} {R : Room} {s : State} {m : MethodId} {args : Array Value} {below : List Frame} {meth : Method} {c : Code} {K : tm_K} (cx : tm_C p l R s m args meth c K cX6_expand 4 RX6 "expand" none 10 227) : ∀ (n : Nat) (v2 : Int) (v3 : Int) (σ : tm_S) (ls : Array Slot), tm_in v2 → tm_in v3 → tm_has 0 ls 4 [(0, tm_rv K 0), (2, tm_iv v2), (3, tm_iv v3)] → tm_J p l e R s m args below meth c K tm_xM 0 (fm_expand_L7 n v2 v3 σ) σ (F0 m 7 ls []) := by
  intro n
  induction n with
  | zero => intros; exact tm_none
  | succ n ih =>
    intro v2 v3 σ ls g2 g3 hl
    exact wm_expand_B7 (r7 := fm_expand_L7 n) cx ih v2 v3 σ ls g2 g3 hl
def fm_expand (a1 : Int) (σ : tm_S) : tm_R :=
  tm_lt (tm_f σ 479 0) fun x6 =>
  fm_expand_L7 tm_FU a1 x6 σ
theorem tm_fits_X6_expand (K : tm_K) (a1 : Int) : (lg_sl [tm_rv K 0, tm_iv a1]).length ≤ 2 := (tm_sl_r _ _ _ _ (tm_sl_i _ _ _ (tm_sl_n _)))
theorem cm_expand (K : tm_K) (l : Launch) (hst : l.stackTraces = false) (a1 : Int) (g1 : tm_in a1) : tm_ct K tm_xM l yX6_expand cX6_expand 4 none 0 [tm_rv K 0, tm_iv a1] (fm_expand a1) 10 227 := by
  refine tm_ct_of hst (by decide +kernel) (Nat.le_trans (tm_fits_X6_expand K a1) (Nat.le_of_ble_eq_true rfl)) ?_
  intro p e R s m args below meth c cx σ ls hl0
  have hl : tm_has 0 ls 4 [(0, tm_rv K 0), (1, tm_iv a1)] := ⟨by
    have h9 := hl0
    simp only [tm_args_r, tm_args_i, tm_args_n, Nat.zero_add, Nat.reduceAdd] at h9
    exact h9, by
    intro q hq
    simp only [List.mem_cons, List.not_mem_nil, or_false] at hq
    rcases hq with rfl | rfl
    · exact Or.inl (tm_rv_cat K 0)
    · exact Or.inl rfl⟩
  clear hl0
  unfold fm_expand
  refine tm_iload_n cx dX6_expand_0 (tm_has_at hl 1 rfl) ?_
  refine tm_istore_n (lv' := [(2, tm_iv a1), (0, tm_rv K 0), (1, tm_iv a1)]) cx dX6_expand_1 hl (by decide) (by decide) rfl (fun ls hl => ?_)
  refine tm_aload_n cx dX6_expand_2 (tm_has_at hl 1 rfl) ?_
  refine tg_X6_180 cx dX6_expand_3 (fun q3 => ?_)
  refine tm_lt_ q3 (fun x6 q6 => ?_)
  refine tm_istore_n (lv' := [(3, tm_iv x6), (2, tm_iv a1), (0, tm_rv K 0), (1, tm_iv a1)]) cx dX6_expand_6 hl (by decide) (by decide) rfl (fun ls hl => ?_)
  exact wm_expand_L7 cx tm_FU a1 x6 _ _ g1 q6 (tm_has_sub hl [2, 1, 0] rfl)
def fm_closeGroup_B14 (r14 : tm_S → tm_R) (σ : tm_S) : tm_R :=
  if 0 < (tm_f σ 467 0) then
    tm_gi ((tm_f σ 467 0) - 1) <|
    tm_gx ((tm_f σ 467 0) - 1) 60 <|
    if (tm_a σ 120 ((tm_f σ 467 0) - 1)) = (tm_f σ 466 0) then
      tm_gi ((tm_f σ 467 0) - 1) <|
      tm_gx (tm_f (tm_wf σ 467 0 ((tm_f σ 467 0) - 1)) 467 0) 60 <|
      tm_lt (tm_a (tm_wf σ 467 0 ((tm_f σ 467 0) - 1)) 121 (tm_f (tm_wf σ 467 0 ((tm_f σ 467 0) - 1)) 467 0)) fun x58 =>
      if x58 < 200 then
        tm_gx (tm_f (tm_wf σ 467 0 ((tm_f σ 467 0) - 1)) 467 0) 60 <|
        tm_gx x58 120 <|
        r14 (tm_wa (tm_wf σ 467 0 ((tm_f σ 467 0) - 1)) 115 x58 (tm_a (tm_wf σ 467 0 ((tm_f σ 467 0) - 1)) 122 (tm_f (tm_wf σ 467 0 ((tm_f σ 467 0) - 1)) 467 0)))
      else
        tm_gi (x58 - 200) <|
        tm_gx (tm_f (tm_wf σ 467 0 ((tm_f σ 467 0) - 1)) 467 0) 60 <|
        tm_gx (x58 - 200) 128 <|
        r14 (tm_wa (tm_wf σ 467 0 ((tm_f σ 467 0) - 1)) 108 (x58 - 200) (tm_a (tm_wf σ 467 0 ((tm_f σ 467 0) - 1)) 122 (tm_f (tm_wf σ 467 0 ((tm_f σ 467 0) - 1)) 467 0)))
    else
      tm_gi ((tm_f σ 466 0) - 1) <|
      tm_rt 0 (tm_wf σ 466 0 ((tm_f σ 466 0) - 1))
  else
    tm_gi ((tm_f σ 466 0) - 1) <|
    tm_rt 0 (tm_wf σ 466 0 ((tm_f σ 466 0) - 1))
theorem wm_closeGroup_B14 {p : Program} {l : Launch} {e : Env} {R : Room} {s : State} {m : MethodId} {args : Array Value} {below : List Frame} {meth : Method} {c : Code} {K : tm_K} {r14 : tm_S → tm_R} (cx : tm_C p l R s m args meth c K cX6_closeGroup 2 RX6 "closeGroup" none 1 21) (h14 : ∀  (τ : tm_S) (ls : Array Slot), tm_has 0 ls 2 [(0, tm_rv K 0)] → tm_J p l e R s m args below meth c K tm_xM 0 (r14 τ) τ (F0 m 14 ls [])) (σ : tm_S) (ls : Array Slot) (hl : tm_has 0 ls 2 [(0, tm_rv K 0)]) : tm_J p l e R s m args below meth c K tm_xM 0 (fm_closeGroup_B14 r14 σ) σ (F0 m 14 ls []) := by
  unfold fm_closeGroup_B14
  refine tm_aload_n cx dX6_closeGroup_14 (tm_has_at hl 0 rfl) ?_
  refine tg_X6_171 cx dX6_closeGroup_15 (fun q15 => ?_)
  refine tm_if_le (tgt := 106) cx q15 dX6_closeGroup_18 (by decide) (fun c18 => ?_) (fun c18 => ?_)
  · refine tm_aload_n cx dX6_closeGroup_21 (tm_has_at hl 0 rfl) ?_
    refine tg_X6_35 cx dX6_closeGroup_22 ?_
    refine tm_aload_n cx dX6_closeGroup_25 (tm_has_at hl 0 rfl) ?_
    refine tg_X6_171 cx dX6_closeGroup_26 (fun q26 => ?_)
    refine tm_iconst cx dX6_closeGroup_29 ?_
    refine tm_isub cx dX6_closeGroup_30 (fun q30 => ?_)
    refine tm_iald cx tm_hM_120 q30 dX6_closeGroup_31 (fun i31 q31 => ?_)
    refine tm_aload_n cx dX6_closeGroup_32 (tm_has_at hl 0 rfl) ?_
    refine tg_X6_168 cx dX6_closeGroup_33 (fun q33 => ?_)
    refine tm_icmp_ne (tgt := 106) cx q31 q33 dX6_closeGroup_36 (by decide) (fun c36 => ?_) (fun c36 => ?_)
    · refine tm_aload_n cx dX6_closeGroup_39 (tm_has_at hl 0 rfl) ?_
      refine tm_dup_r cx dX6_closeGroup_40 ?_
      refine tg_X6_171 cx dX6_closeGroup_41 (fun q41 => ?_)
      refine tm_iconst cx dX6_closeGroup_44 ?_
      refine tm_isub cx dX6_closeGroup_45 (fun q45 => ?_)
      refine tp_X6_171 cx q45 dX6_closeGroup_46 ?_
      refine tm_aload_n cx dX6_closeGroup_49 (tm_has_at hl 0 rfl) ?_
      refine tg_X6_38 cx dX6_closeGroup_50 ?_
      refine tm_aload_n cx dX6_closeGroup_53 (tm_has_at hl 0 rfl) ?_
      refine tg_X6_171 cx dX6_closeGroup_54 (fun q54 => ?_)
      refine tm_iald cx tm_hM_121 q54 dX6_closeGroup_57 (fun i57 q57 => ?_)
      refine tm_lt_ q57 (fun x58 q58 => ?_)
      refine tm_istore_n (lv' := [(1, tm_iv x58), (0, tm_rv K 0)]) cx dX6_closeGroup_58 hl (by decide) (by decide) rfl (fun ls hl => ?_)
      refine tm_iload_n cx dX6_closeGroup_59 (tm_has_at hl 0 rfl) ?_
      refine tm_sipush cx dX6_closeGroup_60 (by decide) ?_
      refine tm_icmp_ge (tgt := 84) cx q58 (by decide) dX6_closeGroup_63 (by decide) (fun c63 => ?_) (fun c63 => ?_)
      · refine tm_aload_n cx dX6_closeGroup_66 (tm_has_at hl 1 rfl) ?_
        refine tg_X6_29 cx dX6_closeGroup_67 ?_
        refine tm_iload_n cx dX6_closeGroup_70 (tm_has_at hl 0 rfl) ?_
        refine tm_aload_n cx dX6_closeGroup_71 (tm_has_at hl 1 rfl) ?_
        refine tg_X6_41 cx dX6_closeGroup_72 ?_
        refine tm_aload_n cx dX6_closeGroup_75 (tm_has_at hl 1 rfl) ?_
        refine tg_X6_171 cx dX6_closeGroup_76 (fun q76 => ?_)
        refine tm_iald cx tm_hM_122 q76 dX6_closeGroup_79 (fun i79 q79 => ?_)
        refine tm_iast cx tm_famM tm_hM_115 q58 q79 dX6_closeGroup_80 ?_
        refine tm_goto (tgt := 103) cx dX6_closeGroup_81 (by decide) ?_
        refine tm_goto (tgt := 14) cx dX6_closeGroup_103 (by decide) ?_
        exact h14 _ _ (tm_has_sub hl [1] rfl)
      · refine tm_aload_n cx dX6_closeGroup_84 (tm_has_at hl 1 rfl) ?_
        refine tg_X6_13 cx dX6_closeGroup_85 ?_
        refine tm_iload_n cx dX6_closeGroup_88 (tm_has_at hl 0 rfl) ?_
        refine tm_sipush cx dX6_closeGroup_89 (by decide) ?_
        refine tm_isub cx dX6_closeGroup_92 (fun q92 => ?_)
        refine tm_aload_n cx dX6_closeGroup_93 (tm_has_at hl 1 rfl) ?_
        refine tg_X6_41 cx dX6_closeGroup_94 ?_
        refine tm_aload_n cx dX6_closeGroup_97 (tm_has_at hl 1 rfl) ?_
        refine tg_X6_171 cx dX6_closeGroup_98 (fun q98 => ?_)
        refine tm_iald cx tm_hM_122 q98 dX6_closeGroup_101 (fun i101 q101 => ?_)
        refine tm_iast cx tm_famM tm_hM_108 q92 q101 dX6_closeGroup_102 ?_
        refine tm_goto (tgt := 14) cx dX6_closeGroup_103 (by decide) ?_
        exact h14 _ _ (tm_has_sub hl [1] rfl)
    · refine tm_aload_n cx dX6_closeGroup_106 (tm_has_at hl 0 rfl) ?_
      refine tm_dup_r cx dX6_closeGroup_107 ?_
      refine tg_X6_168 cx dX6_closeGroup_108 (fun q108 => ?_)
      refine tm_iconst cx dX6_closeGroup_111 ?_
      refine tm_isub cx dX6_closeGroup_112 (fun q112 => ?_)
      refine tp_X6_168 cx q112 dX6_closeGroup_113 ?_
      exact tm_vreturn cx dX6_closeGroup_116
  · refine tm_aload_n cx dX6_closeGroup_106 (tm_has_at hl 0 rfl) ?_
    refine tm_dup_r cx dX6_closeGroup_107 ?_
    refine tg_X6_168 cx dX6_closeGroup_108 (fun q108 => ?_)
    refine tm_iconst cx dX6_closeGroup_111 ?_
    refine tm_isub cx dX6_closeGroup_112 (fun q112 => ?_)
    refine tp_X6_168 cx q112 dX6_closeGroup_113 ?_
    exact tm_vreturn cx dX6_closeGroup_116
def fm_closeGroup_L14 : Nat → tm_S → tm_R
  | 0, _ => none
  | n + 1, σ => fm_closeGroup_B14 (fm_closeGroup_L14 n) σ
theorem wm_closeGroup_L14 {p : Program} {l : Launch} {e : Env} {R : Room} {s : State} {m : MethodId} {args : Array Value} {below : List Frame} {meth : Method} {c : Code} {K : tm_K} (cx : tm_C p l R s m args meth c K cX6_closeGroup 2 RX6 "closeGroup" none 1 21) : ∀ (n : Nat) (σ : tm_S) (ls : Array Slot), tm_has 0 ls 2 [(0, tm_rv K 0)] → tm_J p l e R s m args below meth c K tm_xM 0 (fm_closeGroup_L14 n σ) σ (F0 m 14 ls []) := by
  intro n
  induction n with
  | zero => intros; exact tm_none
  | succ n ih =>
    intro σ ls hl
    exact wm_closeGroup_B14 (r14 := fm_closeGroup_L14 n) cx ih σ ls hl
def fm_closeGroup (σ : tm_S) : tm_R :=
  if (tm_f σ 466 0) = 0 then
    tm_bd (fm_stop 1 σ) fun u9 σ9 =>
    tm_rt 0 σ9
  else
    fm_closeGroup_L14 tm_FU σ
theorem tm_fits_X6_closeGroup (K : tm_K) : (lg_sl [tm_rv K 0]).length ≤ 1 := (tm_sl_r _ _ _ _ (tm_sl_n _))
theorem cm_closeGroup (K : tm_K) (l : Launch) (hst : l.stackTraces = false) : tm_ct K tm_xM l yX6_closeGroup cX6_closeGroup 2 none 0 [tm_rv K 0] (fm_closeGroup) 1 21 := by
  refine tm_ct_of hst (by decide +kernel) (Nat.le_trans (tm_fits_X6_closeGroup K) (Nat.le_of_ble_eq_true rfl)) ?_
  intro p e R s m args below meth c cx σ ls hl0
  have hl : tm_has 0 ls 2 [(0, tm_rv K 0)] := ⟨by
    have h9 := hl0
    simp only [tm_args_r, tm_args_n, Nat.zero_add, Nat.reduceAdd] at h9
    exact h9, by
    intro q hq
    simp only [List.mem_cons, List.not_mem_nil, or_false] at hq
    rcases hq with rfl
    · exact Or.inl (tm_rv_cat K 0)⟩
  clear hl0
  unfold fm_closeGroup
  refine tm_aload_n cx dX6_closeGroup_0 (tm_has_at hl 0 rfl) ?_
  refine tg_X6_168 cx dX6_closeGroup_1 (fun q1 => ?_)
  refine tm_if_ne (tgt := 14) cx q1 dX6_closeGroup_4 (by decide) (fun c4 => ?_) (fun c4 => ?_)
  · refine tm_aload_n cx dX6_closeGroup_7 (tm_has_at hl 0 rfl) ?_
    refine tm_iconst cx dX6_closeGroup_8 ?_
    refine tm_callV (n := 1) cx (cm_stop K l (tm_hst cx) 1 (by decide)) (lw_V q1271 q1273 qs55 q113 q1274) ⟨rfl, by decide +kernel, by decide +kernel, by decide +kernel⟩ rfl tm_cd_X6 (fun h => (tm_hM_0 h).1) ⟨Nat.le_of_ble_eq_true rfl, Nat.le_of_ble_eq_true rfl⟩ rfl (Nat.le_of_ble_eq_true rfl) hl.1.1 dX6_closeGroup_9 (fun u9 σ9 q9 => ?_)
    show tm_J p l e R s m args below meth c K tm_xM 0 _ _ (F0 m 12 ls [tm_iv u9])
    refine tm_istore_n (lv' := [(1, tm_iv u9), (0, tm_rv K 0)]) cx dX6_closeGroup_12 hl (by decide) (by decide) rfl (fun ls hl => ?_)
    exact tm_vreturn cx dX6_closeGroup_13
  · exact wm_closeGroup_L14 cx tm_FU _ _ (tm_has_sub hl [0] rfl)
def fm_send (a1 : Int) (σ : tm_S) : tm_R :=
  if (tm_f σ 485 0) = 200 then
    tm_bd (fm_stop 5 σ) fun u12 σ12 =>
    tm_rt 0 σ12
  else
    tm_gx (tm_f σ 485 0) 200 <|
    tm_gi ((tm_f (tm_wa σ 138 (tm_f σ 485 0) a1) 485 0) + 1) <|
    tm_rt 0 (tm_wf (tm_wa σ 138 (tm_f σ 485 0) a1) 485 0 ((tm_f (tm_wa σ 138 (tm_f σ 485 0) a1) 485 0) + 1))
theorem tm_fits_X6_send (K : tm_K) (a1 : Int) : (lg_sl [tm_rv K 0, tm_iv a1]).length ≤ 2 := (tm_sl_r _ _ _ _ (tm_sl_i _ _ _ (tm_sl_n _)))
theorem cm_send (K : tm_K) (l : Launch) (hst : l.stackTraces = false) (a1 : Int) (g1 : tm_in a1) : tm_ct K tm_xM l yX6_send cX6_send 3 none 0 [tm_rv K 0, tm_iv a1] (fm_send a1) 1 21 := by
  refine tm_ct_of hst (by decide +kernel) (Nat.le_trans (tm_fits_X6_send K a1) (Nat.le_of_ble_eq_true rfl)) ?_
  intro p e R s m args below meth c cx σ ls hl0
  have hl : tm_has 0 ls 3 [(0, tm_rv K 0), (1, tm_iv a1)] := ⟨by
    have h9 := hl0
    simp only [tm_args_r, tm_args_i, tm_args_n, Nat.zero_add, Nat.reduceAdd] at h9
    exact h9, by
    intro q hq
    simp only [List.mem_cons, List.not_mem_nil, or_false] at hq
    rcases hq with rfl | rfl
    · exact Or.inl (tm_rv_cat K 0)
    · exact Or.inl rfl⟩
  clear hl0
  unfold fm_send
  refine tm_aload_n cx dX6_send_0 (tm_has_at hl 0 rfl) ?_
  refine tg_X6_183 cx dX6_send_1 (fun q1 => ?_)
  refine tm_sipush cx dX6_send_4 (by decide) ?_
  refine tm_icmp_ne (tgt := 17) cx q1 (by decide) dX6_send_7 (by decide) (fun c7 => ?_) (fun c7 => ?_)
  · refine tm_aload_n cx dX6_send_10 (tm_has_at hl 0 rfl) ?_
    refine tm_iconst cx dX6_send_11 ?_
    refine tm_callV (n := 1) cx (cm_stop K l (tm_hst cx) 5 (by decide)) (lw_V q1271 q1273 qs55 q113 q1274) ⟨rfl, by decide +kernel, by decide +kernel, by decide +kernel⟩ rfl tm_cd_X6 (fun h => (tm_hM_0 h).1) ⟨Nat.le_of_ble_eq_true rfl, Nat.le_of_ble_eq_true rfl⟩ rfl (Nat.le_of_ble_eq_true rfl) hl.1.1 dX6_send_12 (fun u12 σ12 q12 => ?_)
    show tm_J p l e R s m args below meth c K tm_xM 0 _ _ (F0 m 15 ls [tm_iv u12])
    refine tm_istore_n (lv' := [(2, tm_iv u12), (0, tm_rv K 0), (1, tm_iv a1)]) cx dX6_send_15 hl (by decide) (by decide) rfl (fun ls hl => ?_)
    exact tm_vreturn cx dX6_send_16
  · refine tm_aload_n cx dX6_send_17 (tm_has_at hl 0 rfl) ?_
    refine tg_X6_77 cx dX6_send_18 ?_
    refine tm_aload_n cx dX6_send_21 (tm_has_at hl 0 rfl) ?_
    refine tg_X6_183 cx dX6_send_22 (fun q22 => ?_)
    refine tm_iload_n cx dX6_send_25 (tm_has_at hl 1 rfl) ?_
    refine tm_iast cx tm_famM tm_hM_138 q22 g1 dX6_send_26 ?_
    refine tm_aload_n cx dX6_send_27 (tm_has_at hl 0 rfl) ?_
    refine tm_dup_r cx dX6_send_28 ?_
    refine tg_X6_183 cx dX6_send_29 (fun q29 => ?_)
    refine tm_iconst cx dX6_send_32 ?_
    refine tm_iadd cx dX6_send_33 (fun q33 => ?_)
    refine tp_X6_183 cx q33 dX6_send_34 ?_
    exact tm_vreturn cx dX6_send_37
def fm_needName (σ : tm_S) : tm_R :=
  tm_bd (fm_need σ) fun u1 σ1 =>
  if u1 = (-1) then
    tm_rt (-1) σ1
  else
    tm_bd (fm_isName u1 σ1) fun u13 σ13 =>
    if u13 = 0 then
      tm_bd (fm_stop 4 σ13) fun u32 σ32 =>
      tm_rt u32 σ32
    else
      tm_bd (fm_plain u1 σ13) fun u20 σ20 =>
      tm_gi (u20 - 4096) <|
      tm_rt (u20 - 4096) σ20
theorem tm_fits_X6_needName (K : tm_K) : (lg_sl [tm_rv K 0]).length ≤ 1 := (tm_sl_r _ _ _ _ (tm_sl_n _))
theorem cm_needName (K : tm_K) (l : Launch) (hst : l.stackTraces = false) : tm_ct K tm_xM l yX6_needName cX6_needName 2 (some .int) 1 [tm_rv K 0] (fm_needName) 6 133 := by
  refine tm_ct_of hst (by decide +kernel) (Nat.le_trans (tm_fits_X6_needName K) (Nat.le_of_ble_eq_true rfl)) ?_
  intro p e R s m args below meth c cx σ ls hl0
  have hl : tm_has 0 ls 2 [(0, tm_rv K 0)] := ⟨by
    have h9 := hl0
    simp only [tm_args_r, tm_args_n, Nat.zero_add, Nat.reduceAdd] at h9
    exact h9, by
    intro q hq
    simp only [List.mem_cons, List.not_mem_nil, or_false] at hq
    rcases hq with rfl
    · exact Or.inl (tm_rv_cat K 0)⟩
  clear hl0
  unfold fm_needName
  refine tm_aload_n cx dX6_needName_0 (tm_has_at hl 0 rfl) ?_
  refine tm_callV (n := 0) cx (cm_need K l (tm_hst cx)) (lw_V q1313 q1315 qs64 q113 q1316) ⟨rfl, by decide +kernel, by decide +kernel, by decide +kernel⟩ rfl tm_cd_X6 (fun h => (tm_hM_0 h).1) ⟨Nat.le_of_ble_eq_true rfl, Nat.le_of_ble_eq_true rfl⟩ rfl (Nat.le_of_ble_eq_true rfl) hl.1.1 dX6_needName_1 (fun u1 σ1 q1 => ?_)
  show tm_J p l e R s m args below meth c K tm_xM 1 _ _ (F0 m 4 ls [tm_iv u1])
  refine tm_istore_n (lv' := [(1, tm_iv u1), (0, tm_rv K 0)]) cx dX6_needName_4 hl (by decide) (by decide) rfl (fun ls hl => ?_)
  refine tm_iload_n cx dX6_needName_5 (tm_has_at hl 0 rfl) ?_
  refine tm_iconst cx dX6_needName_6 ?_
  refine tm_icmp_ne (tgt := 12) cx q1 (by decide) dX6_needName_7 (by decide) (fun c7 => ?_) (fun c7 => ?_)
  · refine tm_iconst cx dX6_needName_10 ?_
    exact tm_ireturn cx (by decide) dX6_needName_11
  · refine tm_iload_n cx dX6_needName_12 (tm_has_at hl 0 rfl) ?_
    refine tm_callS (n := 1) cx (cm_isName K l (tm_hst cx) u1 q1) (lw_S q1298 q1299 q113 q1300) ⟨by decide +kernel, by decide +kernel, by decide +kernel⟩ rfl ⟨Nat.le_of_ble_eq_true rfl, Nat.le_of_ble_eq_true rfl⟩ rfl (Nat.le_of_ble_eq_true rfl) hl.1.1 dX6_needName_13 (fun u13 σ13 q13 => ?_)
    show tm_J p l e R s m args below meth c K tm_xM 1 _ _ (F0 m 16 ls [tm_iv u13])
    refine tm_if_eq (tgt := 30) cx q13 dX6_needName_16 (by decide) (fun c16 => ?_) (fun c16 => ?_)
    · refine tm_aload_n cx dX6_needName_30 (tm_has_at hl 1 rfl) ?_
      refine tm_iconst cx dX6_needName_31 ?_
      refine tm_callV (n := 1) cx (cm_stop K l (tm_hst cx) 4 (by decide)) (lw_V q1271 q1273 qs55 q113 q1274) ⟨rfl, by decide +kernel, by decide +kernel, by decide +kernel⟩ rfl tm_cd_X6 (fun h => (tm_hM_0 h).1) ⟨Nat.le_of_ble_eq_true rfl, Nat.le_of_ble_eq_true rfl⟩ rfl (Nat.le_of_ble_eq_true rfl) hl.1.1 dX6_needName_32 (fun u32 σ32 q32 => ?_)
      show tm_J p l e R s m args below meth c K tm_xM 1 _ _ (F0 m 35 ls [tm_iv u32])
      exact tm_ireturn cx q32 dX6_needName_35
    · refine tm_iload_n cx dX6_needName_19 (tm_has_at hl 0 rfl) ?_
      refine tm_callS (n := 1) cx (cm_plain K l (tm_hst cx) u1 q1) (lw_S q1317 q1318 q113 q1319) ⟨by decide +kernel, by decide +kernel, by decide +kernel⟩ rfl ⟨Nat.le_of_ble_eq_true rfl, Nat.le_of_ble_eq_true rfl⟩ rfl (Nat.le_of_ble_eq_true rfl) hl.1.1 dX6_needName_20 (fun u20 σ20 q20 => ?_)
      show tm_J p l e R s m args below meth c K tm_xM 1 _ _ (F0 m 23 ls [tm_iv u20])
      refine tm_sipush cx dX6_needName_23 (by decide) ?_
      refine tm_isub cx dX6_needName_26 (fun q26 => ?_)
      refine tm_goto (tgt := 35) cx dX6_needName_27 (by decide) ?_
      exact tm_ireturn cx q26 dX6_needName_35
def fm_let_J31 (v1 : Int) (v2 : Int) (σ : tm_S) : tm_R :=
  if v2 = (-1) then
    tm_rt 0 σ
  else
    tm_bd (fm_meaningOf v2 σ) fun u40 σ40 =>
    tm_bd (fm_change v1 u40 σ40) fun u43 σ43 =>
    tm_rt 0 σ43
theorem wm_let_J31 {p : Program} {l : Launch} {e : Env} {R : Room} {s : State} {m : MethodId} {args : Array Value} {below : List Frame} {meth : Method} {c : Code} {K : tm_K} (cx : tm_C p l R s m args meth c K cX6_let 3 RX6 "let" none 7 154) (v1 : Int) (v2 : Int) (σ : tm_S) (ls : Array Slot) (g1 : tm_in v1) (g2 : tm_in v2) (hl : tm_has 0 ls 3 [(0, tm_rv K 0), (1, tm_iv v1), (2, tm_iv v2)]) : tm_J p l e R s m args below meth c K tm_xM 0 (fm_let_J31 v1 v2 σ) σ (F0 m 31 ls []) := by
  unfold fm_let_J31
  refine tm_iload_n cx dX6_let_31 (tm_has_at hl 2 rfl) ?_
  refine tm_iconst cx dX6_let_32 ?_
  refine tm_icmp_eq (tgt := 46) cx g2 (by decide) dX6_let_33 (by decide) (fun c33 => ?_) (fun c33 => ?_)
  · exact tm_vreturn cx dX6_let_46
  · refine tm_aload_n cx dX6_let_36 (tm_has_at hl 0 rfl) ?_
    refine tm_iload_n cx dX6_let_37 (tm_has_at hl 1 rfl) ?_
    refine tm_aload_n cx dX6_let_38 (tm_has_at hl 0 rfl) ?_
    refine tm_iload_n cx dX6_let_39 (tm_has_at hl 2 rfl) ?_
    refine tm_callV (n := 1) cx (cm_meaningOf K l (tm_hst cx) v2 g2) (lw_V q1291 q1293 qs60 q113 q1294) ⟨rfl, by decide +kernel, by decide +kernel, by decide +kernel⟩ rfl tm_cd_X6 (fun h => (tm_hM_0 h).1) ⟨Nat.le_of_ble_eq_true rfl, Nat.le_of_ble_eq_true rfl⟩ rfl (Nat.le_of_ble_eq_true rfl) hl.1.1 dX6_let_40 (fun u40 σ40 q40 => ?_)
    show tm_J p l e R s m args below meth c K tm_xM 0 _ _ (F0 m 43 ls [tm_iv u40, tm_iv v1, tm_rv K 0])
    refine tm_callV (n := 2) cx (cm_change K l (tm_hst cx) v1 g1 u40 q40) (lw_V q1390 q1392 qs81 q113 q1393) ⟨rfl, by decide +kernel, by decide +kernel, by decide +kernel⟩ rfl tm_cd_X6 (fun h => (tm_hM_0 h).1) ⟨Nat.le_of_ble_eq_true rfl, Nat.le_of_ble_eq_true rfl⟩ rfl (Nat.le_of_ble_eq_true rfl) hl.1.1 dX6_let_43 (fun u43 σ43 q43 => ?_)
    show tm_J p l e R s m args below meth c K tm_xM 0 _ _ (F0 m 46 ls [])
    exact tm_vreturn cx dX6_let_46
def fm_let_J18 (v1 : Int) (vs0 : Int) (σ : tm_S) : tm_R :=
  if vs0 = 3133 then
    tm_bd (fm_need σ) fun u27 σ27 =>
    fm_let_J31 v1 u27 σ27
  else
    fm_let_J31 v1 vs0 σ
theorem wm_let_J18 {p : Program} {l : Launch} {e : Env} {R : Room} {s : State} {m : MethodId} {args : Array Value} {below : List Frame} {meth : Method} {c : Code} {K : tm_K} (cx : tm_C p l R s m args meth c K cX6_let 3 RX6 "let" none 7 154) (v1 : Int) (vs0 : Int) (σ : tm_S) (ls : Array Slot) (g1 : tm_in v1) (gs0 : tm_in vs0) (hl : tm_has 0 ls 3 [(0, tm_rv K 0), (1, tm_iv v1)]) : tm_J p l e R s m args below meth c K tm_xM 0 (fm_let_J18 v1 vs0 σ) σ (F0 m 18 ls [tm_iv vs0]) := by
  unfold fm_let_J18
  refine tm_istore_n (lv' := [(2, tm_iv vs0), (0, tm_rv K 0), (1, tm_iv v1)]) cx dX6_let_18 hl (by decide) (by decide) rfl (fun ls hl => ?_)
  refine tm_iload_n cx dX6_let_19 (tm_has_at hl 0 rfl) ?_
  refine tm_sipush cx dX6_let_20 (by decide) ?_
  refine tm_icmp_ne (tgt := 31) cx gs0 (by decide) dX6_let_23 (by decide) (fun c23 => ?_) (fun c23 => ?_)
  · refine tm_aload_n cx dX6_let_26 (tm_has_at hl 1 rfl) ?_
    refine tm_callV (n := 0) cx (cm_need K l (tm_hst cx)) (lw_V q1313 q1315 qs64 q113 q1316) ⟨rfl, by decide +kernel, by decide +kernel, by decide +kernel⟩ rfl tm_cd_X6 (fun h => (tm_hM_0 h).1) ⟨Nat.le_of_ble_eq_true rfl, Nat.le_of_ble_eq_true rfl⟩ rfl (Nat.le_of_ble_eq_true rfl) hl.1.1 dX6_let_27 (fun u27 σ27 q27 => ?_)
    show tm_J p l e R s m args below meth c K tm_xM 0 _ _ (F0 m 30 ls [tm_iv u27])
    refine tm_istore_n (lv' := [(2, tm_iv u27), (0, tm_rv K 0), (1, tm_iv v1)]) cx dX6_let_30 hl (by decide) (by decide) rfl (fun ls hl => ?_)
    exact wm_let_J31 cx v1 u27 _ _ g1 q27 (tm_has_sub hl [1, 2, 0] rfl)
  · exact wm_let_J31 cx v1 vs0 _ _ g1 gs0 (tm_has_sub hl [1, 2, 0] rfl)
def fm_let (σ : tm_S) : tm_R :=
  tm_bd (fm_needName σ) fun u1 σ1 =>
  if u1 = (-1) then
    fm_let_J18 u1 (-1) σ1
  else
    tm_bd (fm_need σ1) fun u15 σ15 =>
    fm_let_J18 u1 u15 σ15
theorem tm_fits_X6_let (K : tm_K) : (lg_sl [tm_rv K 0]).length ≤ 1 := (tm_sl_r _ _ _ _ (tm_sl_n _))
theorem cm_let (K : tm_K) (l : Launch) (hst : l.stackTraces = false) : tm_ct K tm_xM l yX6_let cX6_let 3 none 0 [tm_rv K 0] (fm_let) 7 154 := by
  refine tm_ct_of hst (by decide +kernel) (Nat.le_trans (tm_fits_X6_let K) (Nat.le_of_ble_eq_true rfl)) ?_
  intro p e R s m args below meth c cx σ ls hl0
  have hl : tm_has 0 ls 3 [(0, tm_rv K 0)] := ⟨by
    have h9 := hl0
    simp only [tm_args_r, tm_args_n, Nat.zero_add, Nat.reduceAdd] at h9
    exact h9, by
    intro q hq
    simp only [List.mem_cons, List.not_mem_nil, or_false] at hq
    rcases hq with rfl
    · exact Or.inl (tm_rv_cat K 0)⟩
  clear hl0
  unfold fm_let
  refine tm_aload_n cx dX6_let_0 (tm_has_at hl 0 rfl) ?_
  refine tm_callV (n := 0) cx (cm_needName K l (tm_hst cx)) (lw_V q1410 q1412 qs86 q113 q1413) ⟨rfl, by decide +kernel, by decide +kernel, by decide +kernel⟩ rfl tm_cd_X6 (fun h => (tm_hM_0 h).1) ⟨Nat.le_of_ble_eq_true rfl, Nat.le_of_ble_eq_true rfl⟩ rfl (Nat.le_of_ble_eq_true rfl) hl.1.1 dX6_let_1 (fun u1 σ1 q1 => ?_)
  show tm_J p l e R s m args below meth c K tm_xM 0 _ _ (F0 m 4 ls [tm_iv u1])
  refine tm_istore_n (lv' := [(1, tm_iv u1), (0, tm_rv K 0)]) cx dX6_let_4 hl (by decide) (by decide) rfl (fun ls hl => ?_)
  refine tm_iload_n cx dX6_let_5 (tm_has_at hl 0 rfl) ?_
  refine tm_iconst cx dX6_let_6 ?_
  refine tm_icmp_ne (tgt := 14) cx q1 (by decide) dX6_let_7 (by decide) (fun c7 => ?_) (fun c7 => ?_)
  · refine tm_iconst cx dX6_let_10 ?_
    refine tm_goto (tgt := 18) cx dX6_let_11 (by decide) ?_
    exact wm_let_J18 cx u1 (-1) _ _ q1 (by decide) (tm_has_sub hl [1, 0] rfl)
  · refine tm_aload_n cx dX6_let_14 (tm_has_at hl 1 rfl) ?_
    refine tm_callV (n := 0) cx (cm_need K l (tm_hst cx)) (lw_V q1313 q1315 qs64 q113 q1316) ⟨rfl, by decide +kernel, by decide +kernel, by decide +kernel⟩ rfl tm_cd_X6 (fun h => (tm_hM_0 h).1) ⟨Nat.le_of_ble_eq_true rfl, Nat.le_of_ble_eq_true rfl⟩ rfl (Nat.le_of_ble_eq_true rfl) hl.1.1 dX6_let_15 (fun u15 σ15 q15 => ?_)
    show tm_J p l e R s m args below meth c K tm_xM 0 _ _ (F0 m 18 ls [tm_iv u15])
    exact wm_let_J18 cx u1 u15 _ _ q1 q15 (tm_has_sub hl [1, 0] rfl)
def fm_digit (a1 : Int) (σ : tm_S) : tm_R :=
  tm_bd (fm_isCharacter a1 12 σ) fun u3 σ3 =>
  if u3 = 0 then
    tm_rt (-1) σ3
  else
    if 47 < (a1 % 256) then
      if (a1 % 256) < 58 then
        tm_gi ((a1 % 256) - 48) <|
        tm_rt ((a1 % 256) - 48) σ3
      else
        tm_rt (-1) σ3
    else
      tm_rt (-1) σ3
theorem tm_fits_X6_digit (K : tm_K) (a1 : Int) : (lg_sl [tm_iv a1]).length ≤ 1 := (tm_sl_i _ _ _ (tm_sl_n _))
theorem cm_digit (K : tm_K) (l : Launch) (hst : l.stackTraces = false) (a1 : Int) (g1 : tm_in a1) : tm_ct K tm_xM l yX6_digit cX6_digit 1 (some .int) 1 [tm_iv a1] (fm_digit a1) 1 21 := by
  refine tm_ct_of hst (by decide +kernel) (Nat.le_trans (tm_fits_X6_digit K a1) (Nat.le_of_ble_eq_true rfl)) ?_
  intro p e R s m args below meth c cx σ ls hl0
  have hl : tm_has 0 ls 1 [(0, tm_iv a1)] := ⟨by
    have h9 := hl0
    simp only [tm_args_i, tm_args_n, Nat.zero_add, Nat.reduceAdd] at h9
    exact h9, by
    intro q hq
    simp only [List.mem_cons, List.not_mem_nil, or_false] at hq
    rcases hq with rfl
    · exact Or.inl rfl⟩
  clear hl0
  unfold fm_digit
  refine tm_iload_n cx dX6_digit_0 (tm_has_at hl 0 rfl) ?_
  refine tm_bipush cx dX6_digit_1 (by decide) ?_
  refine tm_callS (n := 2) cx (cm_isCharacter K l (tm_hst cx) a1 g1 12 (by decide)) (lw_S q1328 q1329 q113 q1330) ⟨by decide +kernel, by decide +kernel, by decide +kernel⟩ rfl ⟨Nat.le_of_ble_eq_true rfl, Nat.le_of_ble_eq_true rfl⟩ rfl (Nat.le_of_ble_eq_true rfl) hl.1.1 dX6_digit_3 (fun u3 σ3 q3 => ?_)
  show tm_J p l e R s m args below meth c K tm_xM 1 _ _ (F0 m 6 ls [tm_iv u3])
  refine tm_if_eq (tgt := 40) cx q3 dX6_digit_6 (by decide) (fun c6 => ?_) (fun c6 => ?_)
  · refine tm_iconst cx dX6_digit_40 ?_
    exact tm_ireturn cx (by decide) dX6_digit_41
  · refine tm_iload_n cx dX6_digit_9 (tm_has_at hl 0 rfl) ?_
    refine tm_sipush cx dX6_digit_10 (by decide) ?_
    refine tm_iand255 cx g1 dX6_digit_13 (fun q13 => ?_)
    refine tm_bipush cx dX6_digit_14 (by decide) ?_
    refine tm_icmp_le (tgt := 40) cx q13 (by decide) dX6_digit_16 (by decide) (fun c16 => ?_) (fun c16 => ?_)
    · refine tm_iload_n cx dX6_digit_19 (tm_has_at hl 0 rfl) ?_
      refine tm_sipush cx dX6_digit_20 (by decide) ?_
      refine tm_iand255 cx g1 dX6_digit_23 (fun q23 => ?_)
      refine tm_bipush cx dX6_digit_24 (by decide) ?_
      refine tm_icmp_ge (tgt := 40) cx q23 (by decide) dX6_digit_26 (by decide) (fun c26 => ?_) (fun c26 => ?_)
      · refine tm_iload_n cx dX6_digit_29 (tm_has_at hl 0 rfl) ?_
        refine tm_sipush cx dX6_digit_30 (by decide) ?_
        refine tm_iand255 cx g1 dX6_digit_33 (fun q33 => ?_)
        refine tm_bipush cx dX6_digit_34 (by decide) ?_
        refine tm_isub cx dX6_digit_36 (fun q36 => ?_)
        refine tm_goto (tgt := 41) cx dX6_digit_37 (by decide) ?_
        exact tm_ireturn cx q36 dX6_digit_41
      · refine tm_iconst cx dX6_digit_40 ?_
        exact tm_ireturn cx (by decide) dX6_digit_41
    · refine tm_iconst cx dX6_digit_40 ?_
      exact tm_ireturn cx (by decide) dX6_digit_41
def fm_catcode_J182 (v3 : Int) (v5 : Int) (σ : tm_S) : tm_R :=
  if (tm_f σ 453 0) = 0 then
    tm_gi (200 + v3) <|
    tm_bd (fm_change (200 + v3) v5 σ) fun u197 σ197 =>
    tm_rt 0 σ197
  else
    tm_rt 0 σ
theorem wm_catcode_J182 {p : Program} {l : Launch} {e : Env} {R : Room} {s : State} {m : MethodId} {args : Array Value} {below : List Frame} {meth : Method} {c : Code} {K : tm_K} (cx : tm_C p l R s m args meth c K cX6_catcode 8 RX6 "catcode" none 6 133) (v3 : Int) (v5 : Int) (σ : tm_S) (ls : Array Slot) (g3 : tm_in v3) (g5 : tm_in v5) (hl : tm_has 0 ls 8 [(0, tm_rv K 0), (3, tm_iv v3), (5, tm_iv v5)]) : tm_J p l e R s m args below meth c K tm_xM 0 (fm_catcode_J182 v3 v5 σ) σ (F0 m 182 ls []) := by
  unfold fm_catcode_J182
  refine tm_aload_n cx dX6_catcode_182 (tm_has_at hl 0 rfl) ?_
  refine tg_X6_159 cx dX6_catcode_183 (fun q183 => ?_)
  refine tm_if_ne (tgt := 200) cx q183 dX6_catcode_186 (by decide) (fun c186 => ?_) (fun c186 => ?_)
  · refine tm_aload_n cx dX6_catcode_189 (tm_has_at hl 0 rfl) ?_
    refine tm_sipush cx dX6_catcode_190 (by decide) ?_
    refine tm_iload_n cx dX6_catcode_193 (tm_has_at hl 1 rfl) ?_
    refine tm_iadd cx dX6_catcode_194 (fun q194 => ?_)
    refine tm_iload cx dX6_catcode_195 (tm_has_at hl 2 rfl) ?_
    refine tm_callV (n := 2) cx (cm_change K l (tm_hst cx) (200 + v3) q194 v5 g5) (lw_V q1390 q1392 qs81 q113 q1393) ⟨rfl, by decide +kernel, by decide +kernel, by decide +kernel⟩ rfl tm_cd_X6 (fun h => (tm_hM_0 h).1) ⟨Nat.le_of_ble_eq_true rfl, Nat.le_of_ble_eq_true rfl⟩ rfl (Nat.le_of_ble_eq_true rfl) hl.1.1 dX6_catcode_197 (fun u197 σ197 q197 => ?_)
    show tm_J p l e R s m args below meth c K tm_xM 0 _ _ (F0 m 200 ls [])
    exact tm_vreturn cx dX6_catcode_200
  · exact tm_vreturn cx dX6_catcode_200
def fm_catcode_J161 (v3 : Int) (v5 : Int) (σ : tm_S) : tm_R :=
  if (tm_f σ 453 0) = 0 then
    if 15 < v5 then
      tm_bd (fm_stop 4 σ) fun u177 σ177 =>
      fm_catcode_J182 v3 v5 σ177
    else
      fm_catcode_J182 v3 v5 σ
  else
    fm_catcode_J182 v3 v5 σ
theorem wm_catcode_J161 {p : Program} {l : Launch} {e : Env} {R : Room} {s : State} {m : MethodId} {args : Array Value} {below : List Frame} {meth : Method} {c : Code} {K : tm_K} (cx : tm_C p l R s m args meth c K cX6_catcode 8 RX6 "catcode" none 6 133) (v3 : Int) (v5 : Int) (σ : tm_S) (ls : Array Slot) (g3 : tm_in v3) (g5 : tm_in v5) (hl : tm_has 0 ls 8 [(0, tm_rv K 0), (3, tm_iv v3), (5, tm_iv v5)]) : tm_J p l e R s m args below meth c K tm_xM 0 (fm_catcode_J161 v3 v5 σ) σ (F0 m 161 ls []) := by
  unfold fm_catcode_J161
  refine tm_aload_n cx dX6_catcode_161 (tm_has_at hl 0 rfl) ?_
  refine tg_X6_159 cx dX6_catcode_162 (fun q162 => ?_)
  refine tm_if_ne (tgt := 182) cx q162 dX6_catcode_165 (by decide) (fun c165 => ?_) (fun c165 => ?_)
  · refine tm_iload cx dX6_catcode_168 (tm_has_at hl 2 rfl) ?_
    refine tm_bipush cx dX6_catcode_170 (by decide) ?_
    refine tm_icmp_le (tgt := 182) cx g5 (by decide) dX6_catcode_172 (by decide) (fun c172 => ?_) (fun c172 => ?_)
    · refine tm_aload_n cx dX6_catcode_175 (tm_has_at hl 0 rfl) ?_
      refine tm_iconst cx dX6_catcode_176 ?_
      refine tm_callV (n := 1) cx (cm_stop K l (tm_hst cx) 4 (by decide)) (lw_V q1271 q1273 qs55 q113 q1274) ⟨rfl, by decide +kernel, by decide +kernel, by decide +kernel⟩ rfl tm_cd_X6 (fun h => (tm_hM_0 h).1) ⟨Nat.le_of_ble_eq_true rfl, Nat.le_of_ble_eq_true rfl⟩ rfl (Nat.le_of_ble_eq_true rfl) hl.1.1 dX6_catcode_177 (fun u177 σ177 q177 => ?_)
      show tm_J p l e R s m args below meth c K tm_xM 0 _ _ (F0 m 180 ls [tm_iv u177])
      refine tm_istore (lv' := [(7, tm_iv u177), (0, tm_rv K 0), (3, tm_iv v3), (5, tm_iv v5)]) cx dX6_catcode_180 hl (by decide) (by decide) rfl (fun ls hl => ?_)
      exact wm_catcode_J182 cx v3 v5 _ _ g3 g5 (tm_has_sub hl [1, 2, 3] rfl)
    · exact wm_catcode_J182 cx v3 v5 _ _ g3 g5 (tm_has_sub hl [0, 1, 2] rfl)
  · exact wm_catcode_J182 cx v3 v5 _ _ g3 g5 (tm_has_sub hl [0, 1, 2] rfl)
def fm_catcode_J149 (v3 : Int) (v5 : Int) (v6 : Int) (σ : tm_S) : tm_R :=
  if v6 = (-1) then
    fm_catcode_J161 v3 v5 σ
  else
    tm_bd (fm_putBack v6 σ) fun u158 σ158 =>
    fm_catcode_J161 v3 v5 σ158
theorem wm_catcode_J149 {p : Program} {l : Launch} {e : Env} {R : Room} {s : State} {m : MethodId} {args : Array Value} {below : List Frame} {meth : Method} {c : Code} {K : tm_K} (cx : tm_C p l R s m args meth c K cX6_catcode 8 RX6 "catcode" none 6 133) (v3 : Int) (v5 : Int) (v6 : Int) (σ : tm_S) (ls : Array Slot) (g3 : tm_in v3) (g5 : tm_in v5) (g6 : tm_in v6) (hl : tm_has 0 ls 8 [(0, tm_rv K 0), (3, tm_iv v3), (5, tm_iv v5), (6, tm_iv v6)]) : tm_J p l e R s m args below meth c K tm_xM 0 (fm_catcode_J149 v3 v5 v6 σ) σ (F0 m 149 ls []) := by
  unfold fm_catcode_J149
  refine tm_iload cx dX6_catcode_149 (tm_has_at hl 3 rfl) ?_
  refine tm_iconst cx dX6_catcode_151 ?_
  refine tm_icmp_eq (tgt := 161) cx g6 (by decide) dX6_catcode_152 (by decide) (fun c152 => ?_) (fun c152 => ?_)
  · exact wm_catcode_J161 cx v3 v5 _ _ g3 g5 (tm_has_sub hl [0, 1, 2] rfl)
  · refine tm_aload_n cx dX6_catcode_155 (tm_has_at hl 0 rfl) ?_
    refine tm_iload cx dX6_catcode_156 (tm_has_at hl 3 rfl) ?_
    refine tm_callV (n := 1) cx (cm_putBack K l (tm_hst cx) v6 g6) (lw_V q1343 q1345 qs70 q113 q1346) ⟨rfl, by decide +kernel, by decide +kernel, by decide +kernel⟩ rfl tm_cd_X6 (fun h => (tm_hM_0 h).1) ⟨Nat.le_of_ble_eq_true rfl, Nat.le_of_ble_eq_true rfl⟩ rfl (Nat.le_of_ble_eq_true rfl) hl.1.1 dX6_catcode_158 (fun u158 σ158 q158 => ?_)
    show tm_J p l e R s m args below meth c K tm_xM 0 _ _ (F0 m 161 ls [])
    exact wm_catcode_J161 cx v3 v5 _ _ g3 g5 (tm_has_sub hl [0, 1, 2] rfl)
def fm_catcode_J79 (vs0 : Int) (σ : tm_S) : tm_R :=
  tm_bd (fm_need σ) fun u81 σ81 =>
  if u81 = (-1) then
    tm_rt 0 σ81
  else
    tm_bd (fm_digit u81 σ81) fun u95 σ95 =>
    if u95 < 0 then
      tm_bd (fm_stop 4 σ95) fun u107 σ107 =>
      tm_rt 0 σ107
    else
      tm_bd (fm_get σ95) fun u114 σ114 =>
      if u114 = (-1) then
        fm_catcode_J149 vs0 u95 u114 σ114
      else
        tm_bd (fm_digit u114 σ114) fun u127 σ127 =>
        if u127 < 0 then
          fm_catcode_J149 vs0 u95 u114 σ127
        else
          tm_gi (10 * u95) <|
          tm_bd (fm_digit u114 σ127) fun u140 σ140 =>
          tm_gi ((10 * u95) + u140) <|
          tm_lt ((10 * u95) + u140) fun x144 =>
          fm_catcode_J161 vs0 x144 σ140
theorem wm_catcode_J79 {p : Program} {l : Launch} {e : Env} {R : Room} {s : State} {m : MethodId} {args : Array Value} {below : List Frame} {meth : Method} {c : Code} {K : tm_K} (cx : tm_C p l R s m args meth c K cX6_catcode 8 RX6 "catcode" none 6 133) (vs0 : Int) (σ : tm_S) (ls : Array Slot) (gs0 : tm_in vs0) (hl : tm_has 0 ls 8 [(0, tm_rv K 0)]) : tm_J p l e R s m args below meth c K tm_xM 0 (fm_catcode_J79 vs0 σ) σ (F0 m 79 ls [tm_iv vs0]) := by
  unfold fm_catcode_J79
  refine tm_istore_n (lv' := [(3, tm_iv vs0), (0, tm_rv K 0)]) cx dX6_catcode_79 hl (by decide) (by decide) rfl (fun ls hl => ?_)
  refine tm_aload_n cx dX6_catcode_80 (tm_has_at hl 1 rfl) ?_
  refine tm_callV (n := 0) cx (cm_need K l (tm_hst cx)) (lw_V q1313 q1315 qs64 q113 q1316) ⟨rfl, by decide +kernel, by decide +kernel, by decide +kernel⟩ rfl tm_cd_X6 (fun h => (tm_hM_0 h).1) ⟨Nat.le_of_ble_eq_true rfl, Nat.le_of_ble_eq_true rfl⟩ rfl (Nat.le_of_ble_eq_true rfl) hl.1.1 dX6_catcode_81 (fun u81 σ81 q81 => ?_)
  show tm_J p l e R s m args below meth c K tm_xM 0 _ _ (F0 m 84 ls [tm_iv u81])
  refine tm_istore (lv' := [(4, tm_iv u81), (3, tm_iv vs0), (0, tm_rv K 0)]) cx dX6_catcode_84 hl (by decide) (by decide) rfl (fun ls hl => ?_)
  refine tm_iload cx dX6_catcode_86 (tm_has_at hl 0 rfl) ?_
  refine tm_iconst cx dX6_catcode_88 ?_
  refine tm_icmp_ne (tgt := 93) cx q81 (by decide) dX6_catcode_89 (by decide) (fun c89 => ?_) (fun c89 => ?_)
  · exact tm_vreturn cx dX6_catcode_92
  · refine tm_iload cx dX6_catcode_93 (tm_has_at hl 0 rfl) ?_
    refine tm_callS (n := 1) cx (cm_digit K l (tm_hst cx) u81 q81) (lw_S q1418 q1419 q113 q1420) ⟨by decide +kernel, by decide +kernel, by decide +kernel⟩ rfl ⟨Nat.le_of_ble_eq_true rfl, Nat.le_of_ble_eq_true rfl⟩ rfl (Nat.le_of_ble_eq_true rfl) hl.1.1 dX6_catcode_95 (fun u95 σ95 q95 => ?_)
    show tm_J p l e R s m args below meth c K tm_xM 0 _ _ (F0 m 98 ls [tm_iv u95])
    refine tm_istore (lv' := [(5, tm_iv u95), (4, tm_iv u81), (3, tm_iv vs0), (0, tm_rv K 0)]) cx dX6_catcode_98 hl (by decide) (by decide) rfl (fun ls hl => ?_)
    refine tm_iload cx dX6_catcode_100 (tm_has_at hl 0 rfl) ?_
    refine tm_if_ge (tgt := 113) cx q95 dX6_catcode_102 (by decide) (fun c102 => ?_) (fun c102 => ?_)
    · refine tm_aload_n cx dX6_catcode_105 (tm_has_at hl 3 rfl) ?_
      refine tm_iconst cx dX6_catcode_106 ?_
      refine tm_callV (n := 1) cx (cm_stop K l (tm_hst cx) 4 (by decide)) (lw_V q1271 q1273 qs55 q113 q1274) ⟨rfl, by decide +kernel, by decide +kernel, by decide +kernel⟩ rfl tm_cd_X6 (fun h => (tm_hM_0 h).1) ⟨Nat.le_of_ble_eq_true rfl, Nat.le_of_ble_eq_true rfl⟩ rfl (Nat.le_of_ble_eq_true rfl) hl.1.1 dX6_catcode_107 (fun u107 σ107 q107 => ?_)
      show tm_J p l e R s m args below meth c K tm_xM 0 _ _ (F0 m 110 ls [tm_iv u107])
      refine tm_istore (lv' := [(6, tm_iv u107), (5, tm_iv u95), (4, tm_iv u81), (3, tm_iv vs0), (0, tm_rv K 0)]) cx dX6_catcode_110 hl (by decide) (by decide) rfl (fun ls hl => ?_)
      exact tm_vreturn cx dX6_catcode_112
    · refine tm_aload_n cx dX6_catcode_113 (tm_has_at hl 3 rfl) ?_
      refine tm_callV (n := 0) cx (cm_get K l (tm_hst cx)) (lw_V q1259 q1261 qs52 q113 q1262) ⟨rfl, by decide +kernel, by decide +kernel, by decide +kernel⟩ rfl tm_cd_X6 (fun h => (tm_hM_0 h).1) ⟨Nat.le_of_ble_eq_true rfl, Nat.le_of_ble_eq_true rfl⟩ rfl (Nat.le_of_ble_eq_true rfl) hl.1.1 dX6_catcode_114 (fun u114 σ114 q114 => ?_)
      show tm_J p l e R s m args below meth c K tm_xM 0 _ _ (F0 m 117 ls [tm_iv u114])
      refine tm_istore (lv' := [(6, tm_iv u114), (5, tm_iv u95), (4, tm_iv u81), (3, tm_iv vs0), (0, tm_rv K 0)]) cx dX6_catcode_117 hl (by decide) (by decide) rfl (fun ls hl => ?_)
      refine tm_iload cx dX6_catcode_119 (tm_has_at hl 0 rfl) ?_
      refine tm_iconst cx dX6_catcode_121 ?_
      refine tm_icmp_eq (tgt := 149) cx q114 (by decide) dX6_catcode_122 (by decide) (fun c122 => ?_) (fun c122 => ?_)
      · exact wm_catcode_J149 cx vs0 u95 u114 _ _ gs0 q95 q114 (tm_has_sub hl [4, 3, 1, 0] rfl)
      · refine tm_iload cx dX6_catcode_125 (tm_has_at hl 0 rfl) ?_
        refine tm_callS (n := 1) cx (cm_digit K l (tm_hst cx) u114 q114) (lw_S q1418 q1419 q113 q1420) ⟨by decide +kernel, by decide +kernel, by decide +kernel⟩ rfl ⟨Nat.le_of_ble_eq_true rfl, Nat.le_of_ble_eq_true rfl⟩ rfl (Nat.le_of_ble_eq_true rfl) hl.1.1 dX6_catcode_127 (fun u127 σ127 q127 => ?_)
        show tm_J p l e R s m args below meth c K tm_xM 0 _ _ (F0 m 130 ls [tm_iv u127])
        refine tm_if_lt (tgt := 149) cx q127 dX6_catcode_130 (by decide) (fun c130 => ?_) (fun c130 => ?_)
        · exact wm_catcode_J149 cx vs0 u95 u114 _ _ gs0 q95 q114 (tm_has_sub hl [4, 3, 1, 0] rfl)
        · refine tm_bipush cx dX6_catcode_133 (by decide) ?_
          refine tm_iload cx dX6_catcode_135 (tm_has_at hl 1 rfl) ?_
          refine tm_imul cx dX6_catcode_137 (fun q137 => ?_)
          refine tm_iload cx dX6_catcode_138 (tm_has_at hl 0 rfl) ?_
          refine tm_callS (n := 1) cx (cm_digit K l (tm_hst cx) u114 q114) (lw_S q1418 q1419 q113 q1420) ⟨by decide +kernel, by decide +kernel, by decide +kernel⟩ rfl ⟨Nat.le_of_ble_eq_true rfl, Nat.le_of_ble_eq_true rfl⟩ rfl (Nat.le_of_ble_eq_true rfl) hl.1.1 dX6_catcode_140 (fun u140 σ140 q140 => ?_)
          show tm_J p l e R s m args below meth c K tm_xM 0 _ _ (F0 m 143 ls [tm_iv u140, tm_iv (10 * u95)])
          refine tm_iadd cx dX6_catcode_143 (fun q143 => ?_)
          refine tm_lt_ q143 (fun x144 q144 => ?_)
          refine tm_istore (lv' := [(5, tm_iv x144), (6, tm_iv u114), (4, tm_iv u81), (3, tm_iv vs0), (0, tm_rv K 0)]) cx dX6_catcode_144 hl (by decide) (by decide) rfl (fun ls hl => ?_)
          refine tm_goto (tgt := 161) cx dX6_catcode_146 (by decide) ?_
          exact wm_catcode_J161 cx vs0 x144 _ _ gs0 q144 (tm_has_sub hl [4, 3, 0] rfl)
def fm_catcode_J55 (v1 : Int) (v2 : Int) (σ : tm_S) : tm_R :=
  tm_bd (fm_isName v1 σ) fun u56 σ56 =>
  if u56 = 0 then
    fm_catcode_J79 (v1 % 256) σ56
  else
    tm_gi (11 * v2) <|
    tm_gx (11 * v2) 1320 <|
    fm_catcode_J79 (tm_a σ56 112 (11 * v2)) σ56
theorem wm_catcode_J55 {p : Program} {l : Launch} {e : Env} {R : Room} {s : State} {m : MethodId} {args : Array Value} {below : List Frame} {meth : Method} {c : Code} {K : tm_K} (cx : tm_C p l R s m args meth c K cX6_catcode 8 RX6 "catcode" none 6 133) (v1 : Int) (v2 : Int) (σ : tm_S) (ls : Array Slot) (g1 : tm_in v1) (g2 : tm_in v2) (hl : tm_has 0 ls 8 [(0, tm_rv K 0), (1, tm_iv v1), (2, tm_iv v2)]) : tm_J p l e R s m args below meth c K tm_xM 0 (fm_catcode_J55 v1 v2 σ) σ (F0 m 55 ls []) := by
  unfold fm_catcode_J55
  refine tm_iload_n cx dX6_catcode_55 (tm_has_at hl 1 rfl) ?_
  refine tm_callS (n := 1) cx (cm_isName K l (tm_hst cx) v1 g1) (lw_S q1298 q1299 q113 q1300) ⟨by decide +kernel, by decide +kernel, by decide +kernel⟩ rfl ⟨Nat.le_of_ble_eq_true rfl, Nat.le_of_ble_eq_true rfl⟩ rfl (Nat.le_of_ble_eq_true rfl) hl.1.1 dX6_catcode_56 (fun u56 σ56 q56 => ?_)
  show tm_J p l e R s m args below meth c K tm_xM 0 _ _ (F0 m 59 ls [tm_iv u56])
  refine tm_if_eq (tgt := 74) cx q56 dX6_catcode_59 (by decide) (fun c59 => ?_) (fun c59 => ?_)
  · refine tm_iload_n cx dX6_catcode_74 (tm_has_at hl 1 rfl) ?_
    refine tm_sipush cx dX6_catcode_75 (by decide) ?_
    refine tm_iand255 cx g1 dX6_catcode_78 (fun q78 => ?_)
    exact wm_catcode_J79 cx (v1 % 256) _ _ q78 (tm_has_sub hl [0] rfl)
  · refine tm_aload_n cx dX6_catcode_62 (tm_has_at hl 0 rfl) ?_
    refine tg_X6_19 cx dX6_catcode_63 ?_
    refine tm_bipush cx dX6_catcode_66 (by decide) ?_
    refine tm_iload_n cx dX6_catcode_68 (tm_has_at hl 2 rfl) ?_
    refine tm_imul cx dX6_catcode_69 (fun q69 => ?_)
    refine tm_iald cx tm_hM_112 q69 dX6_catcode_70 (fun i70 q70 => ?_)
    refine tm_goto (tgt := 79) cx dX6_catcode_71 (by decide) ?_
    exact wm_catcode_J79 cx (tm_a σ56 112 (11 * v2)) _ _ q70 (tm_has_sub hl [0] rfl)
def fm_catcode_J30 (v1 : Int) (vs0 : Int) (σ : tm_S) : tm_R :=
  tm_bd (fm_isName v1 σ) fun u32 σ32 =>
  if u32 = 0 then
    fm_catcode_J55 v1 vs0 σ32
  else
    tm_gx vs0 120 <|
    if (tm_a σ32 113 vs0) = 1 then
      fm_catcode_J55 v1 vs0 σ32
    else
      tm_bd (fm_stop 4 σ32) fun u50 σ50 =>
      tm_rt 0 σ50
theorem wm_catcode_J30 {p : Program} {l : Launch} {e : Env} {R : Room} {s : State} {m : MethodId} {args : Array Value} {below : List Frame} {meth : Method} {c : Code} {K : tm_K} (cx : tm_C p l R s m args meth c K cX6_catcode 8 RX6 "catcode" none 6 133) (v1 : Int) (vs0 : Int) (σ : tm_S) (ls : Array Slot) (g1 : tm_in v1) (gs0 : tm_in vs0) (hl : tm_has 0 ls 8 [(0, tm_rv K 0), (1, tm_iv v1)]) : tm_J p l e R s m args below meth c K tm_xM 0 (fm_catcode_J30 v1 vs0 σ) σ (F0 m 30 ls [tm_iv vs0]) := by
  unfold fm_catcode_J30
  refine tm_istore_n (lv' := [(2, tm_iv vs0), (0, tm_rv K 0), (1, tm_iv v1)]) cx dX6_catcode_30 hl (by decide) (by decide) rfl (fun ls hl => ?_)
  refine tm_iload_n cx dX6_catcode_31 (tm_has_at hl 2 rfl) ?_
  refine tm_callS (n := 1) cx (cm_isName K l (tm_hst cx) v1 g1) (lw_S q1298 q1299 q113 q1300) ⟨by decide +kernel, by decide +kernel, by decide +kernel⟩ rfl ⟨Nat.le_of_ble_eq_true rfl, Nat.le_of_ble_eq_true rfl⟩ rfl (Nat.le_of_ble_eq_true rfl) hl.1.1 dX6_catcode_32 (fun u32 σ32 q32 => ?_)
  show tm_J p l e R s m args below meth c K tm_xM 0 _ _ (F0 m 35 ls [tm_iv u32])
  refine tm_if_eq (tgt := 55) cx q32 dX6_catcode_35 (by decide) (fun c35 => ?_) (fun c35 => ?_)
  · exact wm_catcode_J55 cx v1 vs0 _ _ g1 gs0 (tm_has_sub hl [1, 2, 0] rfl)
  · refine tm_aload_n cx dX6_catcode_38 (tm_has_at hl 1 rfl) ?_
    refine tg_X6_22 cx dX6_catcode_39 ?_
    refine tm_iload_n cx dX6_catcode_42 (tm_has_at hl 0 rfl) ?_
    refine tm_iald cx tm_hM_113 gs0 dX6_catcode_43 (fun i43 q43 => ?_)
    refine tm_iconst cx dX6_catcode_44 ?_
    refine tm_icmp_eq (tgt := 55) cx q43 (by decide) dX6_catcode_45 (by decide) (fun c45 => ?_) (fun c45 => ?_)
    · exact wm_catcode_J55 cx v1 vs0 _ _ g1 gs0 (tm_has_sub hl [1, 2, 0] rfl)
    · refine tm_aload_n cx dX6_catcode_48 (tm_has_at hl 1 rfl) ?_
      refine tm_iconst cx dX6_catcode_49 ?_
      refine tm_callV (n := 1) cx (cm_stop K l (tm_hst cx) 4 (by decide)) (lw_V q1271 q1273 qs55 q113 q1274) ⟨rfl, by decide +kernel, by decide +kernel, by decide +kernel⟩ rfl tm_cd_X6 (fun h => (tm_hM_0 h).1) ⟨Nat.le_of_ble_eq_true rfl, Nat.le_of_ble_eq_true rfl⟩ rfl (Nat.le_of_ble_eq_true rfl) hl.1.1 dX6_catcode_50 (fun u50 σ50 q50 => ?_)
      show tm_J p l e R s m args below meth c K tm_xM 0 _ _ (F0 m 53 ls [tm_iv u50])
      refine tm_istore_n (lv' := [(3, tm_iv u50), (2, tm_iv vs0), (0, tm_rv K 0), (1, tm_iv v1)]) cx dX6_catcode_53 hl (by decide) (by decide) rfl (fun ls hl => ?_)
      exact tm_vreturn cx dX6_catcode_54
def fm_catcode (σ : tm_S) : tm_R :=
  tm_bd (fm_need σ) fun u1 σ1 =>
  if u1 = (-1) then
    tm_rt 0 σ1
  else
    tm_bd (fm_isName u1 σ1) fun u12 σ12 =>
    if u12 = 0 then
      fm_catcode_J30 u1 0 σ12
    else
      tm_bd (fm_plain u1 σ12) fun u19 σ19 =>
      tm_gi (u19 - 4096) <|
      fm_catcode_J30 u1 (u19 - 4096) σ19
theorem tm_fits_X6_catcode (K : tm_K) : (lg_sl [tm_rv K 0]).length ≤ 1 := (tm_sl_r _ _ _ _ (tm_sl_n _))
theorem cm_catcode (K : tm_K) (l : Launch) (hst : l.stackTraces = false) : tm_ct K tm_xM l yX6_catcode cX6_catcode 8 none 0 [tm_rv K 0] (fm_catcode) 6 133 := by
  refine tm_ct_of hst (by decide +kernel) (Nat.le_trans (tm_fits_X6_catcode K) (Nat.le_of_ble_eq_true rfl)) ?_
  intro p e R s m args below meth c cx σ ls hl0
  have hl : tm_has 0 ls 8 [(0, tm_rv K 0)] := ⟨by
    have h9 := hl0
    simp only [tm_args_r, tm_args_n, Nat.zero_add, Nat.reduceAdd] at h9
    exact h9, by
    intro q hq
    simp only [List.mem_cons, List.not_mem_nil, or_false] at hq
    rcases hq with rfl
    · exact Or.inl (tm_rv_cat K 0)⟩
  clear hl0
  unfold fm_catcode
  refine tm_aload_n cx dX6_catcode_0 (tm_has_at hl 0 rfl) ?_
  refine tm_callV (n := 0) cx (cm_need K l (tm_hst cx)) (lw_V q1313 q1315 qs64 q113 q1316) ⟨rfl, by decide +kernel, by decide +kernel, by decide +kernel⟩ rfl tm_cd_X6 (fun h => (tm_hM_0 h).1) ⟨Nat.le_of_ble_eq_true rfl, Nat.le_of_ble_eq_true rfl⟩ rfl (Nat.le_of_ble_eq_true rfl) hl.1.1 dX6_catcode_1 (fun u1 σ1 q1 => ?_)
  show tm_J p l e R s m args below meth c K tm_xM 0 _ _ (F0 m 4 ls [tm_iv u1])
  refine tm_istore_n (lv' := [(1, tm_iv u1), (0, tm_rv K 0)]) cx dX6_catcode_4 hl (by decide) (by decide) rfl (fun ls hl => ?_)
  refine tm_iload_n cx dX6_catcode_5 (tm_has_at hl 0 rfl) ?_
  refine tm_iconst cx dX6_catcode_6 ?_
  refine tm_icmp_ne (tgt := 11) cx q1 (by decide) dX6_catcode_7 (by decide) (fun c7 => ?_) (fun c7 => ?_)
  · exact tm_vreturn cx dX6_catcode_10
  · refine tm_iload_n cx dX6_catcode_11 (tm_has_at hl 0 rfl) ?_
    refine tm_callS (n := 1) cx (cm_isName K l (tm_hst cx) u1 q1) (lw_S q1298 q1299 q113 q1300) ⟨by decide +kernel, by decide +kernel, by decide +kernel⟩ rfl ⟨Nat.le_of_ble_eq_true rfl, Nat.le_of_ble_eq_true rfl⟩ rfl (Nat.le_of_ble_eq_true rfl) hl.1.1 dX6_catcode_12 (fun u12 σ12 q12 => ?_)
    show tm_J p l e R s m args below meth c K tm_xM 0 _ _ (F0 m 15 ls [tm_iv u12])
    refine tm_if_eq (tgt := 29) cx q12 dX6_catcode_15 (by decide) (fun c15 => ?_) (fun c15 => ?_)
    · refine tm_iconst cx dX6_catcode_29 ?_
      exact wm_catcode_J30 cx u1 0 _ _ q1 (by decide) (tm_has_sub hl [1, 0] rfl)
    · refine tm_iload_n cx dX6_catcode_18 (tm_has_at hl 0 rfl) ?_
      refine tm_callS (n := 1) cx (cm_plain K l (tm_hst cx) u1 q1) (lw_S q1317 q1318 q113 q1319) ⟨by decide +kernel, by decide +kernel, by decide +kernel⟩ rfl ⟨Nat.le_of_ble_eq_true rfl, Nat.le_of_ble_eq_true rfl⟩ rfl (Nat.le_of_ble_eq_true rfl) hl.1.1 dX6_catcode_19 (fun u19 σ19 q19 => ?_)
      show tm_J p l e R s m args below meth c K tm_xM 0 _ _ (F0 m 22 ls [tm_iv u19])
      refine tm_sipush cx dX6_catcode_22 (by decide) ?_
      refine tm_isub cx dX6_catcode_25 (fun q25 => ?_)
      refine tm_goto (tgt := 30) cx dX6_catcode_26 (by decide) ?_
      exact wm_catcode_J30 cx u1 (u19 - 4096) _ _ q1 q25 (tm_has_sub hl [1, 0] rfl)
def fm_readText_J40 (v2 : Int) (σ : tm_S) : tm_R :=
  if v2 = (-1) then
    tm_rt 0 σ
  else
    tm_rt 1 σ
theorem wm_readText_J40 {p : Program} {l : Launch} {e : Env} {R : Room} {s : State} {m : MethodId} {args : Array Value} {below : List Frame} {meth : Method} {c : Code} {K : tm_K} (cx : tm_C p l R s m args meth c K cX6_readText 4 RX6 "readText" (some .boolean) 6 133) (v2 : Int) (σ : tm_S) (ls : Array Slot) (g2 : tm_in v2) (hl : tm_has 0 ls 4 [(2, tm_iv v2)]) : tm_J p l e R s m args below meth c K tm_xM 1 (fm_readText_J40 v2 σ) σ (F0 m 40 ls []) := by
  unfold fm_readText_J40
  refine tm_iload_n cx dX6_readText_40 (tm_has_at hl 0 rfl) ?_
  refine tm_iconst cx dX6_readText_41 ?_
  refine tm_icmp_eq (tgt := 49) cx g2 (by decide) dX6_readText_42 (by decide) (fun c42 => ?_) (fun c42 => ?_)
  · refine tm_iconst cx dX6_readText_49 ?_
    exact tm_zreturn cx (by decide) dX6_readText_50
  · refine tm_iconst cx dX6_readText_45 ?_
    refine tm_goto (tgt := 50) cx dX6_readText_46 (by decide) ?_
    exact tm_zreturn cx (by decide) dX6_readText_50
def fm_readText_J168 (r19 : Int → tm_S → tm_R) (v1 : Int) (v2 : Int) (σ : tm_S) : tm_R :=
  tm_gx v1 61 <|
  if (tm_a σ 124 v1) = 12 then
    tm_bd (fm_stop 5 σ) fun u181 σ181 =>
    if u181 = (-1) then
      tm_rt 0 σ181
    else
      tm_rt 1 σ181
  else
    tm_gi (13 * v1) <|
    tm_gx v1 61 <|
    tm_gi ((13 * v1) + (tm_a σ 124 v1)) <|
    tm_gx ((13 * v1) + (tm_a σ 124 v1)) 800 <|
    tm_gx v1 61 <|
    tm_gi ((tm_a (tm_wa σ 125 ((13 * v1) + (tm_a σ 124 v1)) v2) 124 v1) + 1) <|
    tm_gx v1 61 <|
    r19 v1 (tm_wa (tm_wa σ 125 ((13 * v1) + (tm_a σ 124 v1)) v2) 124 v1 ((tm_a (tm_wa σ 125 ((13 * v1) + (tm_a σ 124 v1)) v2) 124 v1) + 1))
theorem wm_readText_J168 {p : Program} {l : Launch} {e : Env} {R : Room} {s : State} {m : MethodId} {args : Array Value} {below : List Frame} {meth : Method} {c : Code} {K : tm_K} {r19 : Int → tm_S → tm_R} (cx : tm_C p l R s m args meth c K cX6_readText 4 RX6 "readText" (some .boolean) 6 133) (h19 : ∀ (v1 : Int) (τ : tm_S) (ls : Array Slot), tm_in v1 → tm_has 0 ls 4 [(0, tm_rv K 0), (1, tm_iv v1)] → tm_J p l e R s m args below meth c K tm_xM 1 (r19 v1 τ) τ (F0 m 19 ls [])) (v1 : Int) (v2 : Int) (σ : tm_S) (ls : Array Slot) (g1 : tm_in v1) (g2 : tm_in v2) (hl : tm_has 0 ls 4 [(0, tm_rv K 0), (1, tm_iv v1), (2, tm_iv v2)]) : tm_J p l e R s m args below meth c K tm_xM 1 (fm_readText_J168 r19 v1 v2 σ) σ (F0 m 168 ls []) := by
  unfold fm_readText_J168
  refine tm_aload_n cx dX6_readText_168 (tm_has_at hl 0 rfl) ?_
  refine tg_X6_44 cx dX6_readText_169 ?_
  refine tm_iload_n cx dX6_readText_172 (tm_has_at hl 1 rfl) ?_
  refine tm_iald cx tm_hM_124 g1 dX6_readText_173 (fun i173 q173 => ?_)
  refine tm_bipush cx dX6_readText_174 (by decide) ?_
  refine tm_icmp_ne (tgt := 194) cx q173 (by decide) dX6_readText_176 (by decide) (fun c176 => ?_) (fun c176 => ?_)
  · refine tm_aload_n cx dX6_readText_179 (tm_has_at hl 0 rfl) ?_
    refine tm_iconst cx dX6_readText_180 ?_
    refine tm_callV (n := 1) cx (cm_stop K l (tm_hst cx) 5 (by decide)) (lw_V q1271 q1273 qs55 q113 q1274) ⟨rfl, by decide +kernel, by decide +kernel, by decide +kernel⟩ rfl tm_cd_X6 (fun h => (tm_hM_0 h).1) ⟨Nat.le_of_ble_eq_true rfl, Nat.le_of_ble_eq_true rfl⟩ rfl (Nat.le_of_ble_eq_true rfl) hl.1.1 dX6_readText_181 (fun u181 σ181 q181 => ?_)
    show tm_J p l e R s m args below meth c K tm_xM 1 _ _ (F0 m 184 ls [tm_iv u181])
    refine tm_iconst cx dX6_readText_184 ?_
    refine tm_icmp_eq (tgt := 192) cx q181 (by decide) dX6_readText_185 (by decide) (fun c185 => ?_) (fun c185 => ?_)
    · refine tm_iconst cx dX6_readText_192 ?_
      exact tm_zreturn cx (by decide) dX6_readText_193
    · refine tm_iconst cx dX6_readText_188 ?_
      refine tm_goto (tgt := 193) cx dX6_readText_189 (by decide) ?_
      exact tm_zreturn cx (by decide) dX6_readText_193
  · refine tm_aload_n cx dX6_readText_194 (tm_has_at hl 0 rfl) ?_
    refine tg_X6_47 cx dX6_readText_195 ?_
    refine tm_bipush cx dX6_readText_198 (by decide) ?_
    refine tm_iload_n cx dX6_readText_200 (tm_has_at hl 1 rfl) ?_
    refine tm_imul cx dX6_readText_201 (fun q201 => ?_)
    refine tm_aload_n cx dX6_readText_202 (tm_has_at hl 0 rfl) ?_
    refine tg_X6_44 cx dX6_readText_203 ?_
    refine tm_iload_n cx dX6_readText_206 (tm_has_at hl 1 rfl) ?_
    refine tm_iald cx tm_hM_124 g1 dX6_readText_207 (fun i207 q207 => ?_)
    refine tm_iadd cx dX6_readText_208 (fun q208 => ?_)
    refine tm_iload_n cx dX6_readText_209 (tm_has_at hl 2 rfl) ?_
    refine tm_iast cx tm_famM tm_hM_125 q208 g2 dX6_readText_210 ?_
    refine tm_aload_n cx dX6_readText_211 (tm_has_at hl 0 rfl) ?_
    refine tg_X6_44 cx dX6_readText_212 ?_
    refine tm_iload_n cx dX6_readText_215 (tm_has_at hl 1 rfl) ?_
    refine tm_dup2_ir cx dX6_readText_216 ?_
    refine tm_iald cx tm_hM_124 g1 dX6_readText_217 (fun i217 q217 => ?_)
    refine tm_iconst cx dX6_readText_218 ?_
    refine tm_iadd cx dX6_readText_219 (fun q219 => ?_)
    refine tm_iast cx tm_famM tm_hM_124 g1 q219 dX6_readText_220 ?_
    refine tm_goto (tgt := 19) cx dX6_readText_221 (by decide) ?_
    exact h19 v1 _ _ g1 (tm_has_sub hl [0, 1] rfl)
def fm_readText_J106 (σ : tm_S) : tm_R :=
  tm_bd (fm_stop 4 σ) fun u108 σ108 =>
  if u108 = (-1) then
    tm_rt 0 σ108
  else
    tm_rt 1 σ108
theorem wm_readText_J106 {p : Program} {l : Launch} {e : Env} {R : Room} {s : State} {m : MethodId} {args : Array Value} {below : List Frame} {meth : Method} {c : Code} {K : tm_K} (cx : tm_C p l R s m args meth c K cX6_readText 4 RX6 "readText" (some .boolean) 6 133) (σ : tm_S) (ls : Array Slot) (hl : tm_has 0 ls 4 [(0, tm_rv K 0)]) : tm_J p l e R s m args below meth c K tm_xM 1 (fm_readText_J106 σ) σ (F0 m 106 ls []) := by
  unfold fm_readText_J106
  refine tm_aload_n cx dX6_readText_106 (tm_has_at hl 0 rfl) ?_
  refine tm_iconst cx dX6_readText_107 ?_
  refine tm_callV (n := 1) cx (cm_stop K l (tm_hst cx) 4 (by decide)) (lw_V q1271 q1273 qs55 q113 q1274) ⟨rfl, by decide +kernel, by decide +kernel, by decide +kernel⟩ rfl tm_cd_X6 (fun h => (tm_hM_0 h).1) ⟨Nat.le_of_ble_eq_true rfl, Nat.le_of_ble_eq_true rfl⟩ rfl (Nat.le_of_ble_eq_true rfl) hl.1.1 dX6_readText_108 (fun u108 σ108 q108 => ?_)
  show tm_J p l e R s m args below meth c K tm_xM 1 _ _ (F0 m 111 ls [tm_iv u108])
  refine tm_iconst cx dX6_readText_111 ?_
  refine tm_icmp_eq (tgt := 119) cx q108 (by decide) dX6_readText_112 (by decide) (fun c112 => ?_) (fun c112 => ?_)
  · refine tm_iconst cx dX6_readText_119 ?_
    exact tm_zreturn cx (by decide) dX6_readText_120
  · refine tm_iconst cx dX6_readText_115 ?_
    refine tm_goto (tgt := 120) cx dX6_readText_116 (by decide) ?_
    exact tm_zreturn cx (by decide) dX6_readText_120
def fm_readText_B19 (r19 : Int → tm_S → tm_R) (v1 : Int) (σ : tm_S) : tm_R :=
  tm_bd (fm_need σ) fun u20 σ20 =>
  tm_bd (fm_plain u20 σ20) fun u23 σ23 =>
  if u23 = (-1) then
    fm_readText_J40 u23 σ23
  else
    tm_bd (fm_isCharacter u23 1 σ23) fun u34 σ34 =>
    if u34 = 0 then
      tm_bd (fm_isCharacter u23 6 σ34) fun u54 σ54 =>
      if u54 = 0 then
        tm_bd (fm_isCharacter u23 2 σ54) fun u147 σ147 =>
        if u147 = 0 then
          fm_readText_J168 r19 v1 u23 σ147
        else
          tm_bd (fm_stop 1 σ147) fun u155 σ155 =>
          if u155 = (-1) then
            tm_rt 0 σ155
          else
            tm_rt 1 σ155
      else
        tm_bd (fm_need σ54) fun u61 σ61 =>
        if u61 = (-1) then
          tm_rt 0 σ61
        else
          if u61 < 4096 then
            tm_gx v1 61 <|
            if (tm_a σ61 128 v1) = 4 then
              fm_readText_J106 σ61
            else
              tm_gx v1 61 <|
              tm_gi (49 + (tm_a σ61 128 v1)) <|
              if (u61 % 256) = (49 + (tm_a σ61 128 v1)) then
                tm_gx v1 61 <|
                tm_gi ((tm_a σ61 128 v1) + 1) <|
                tm_gx v1 61 <|
                tm_gx v1 61 <|
                tm_gi (16384 + (tm_a (tm_wa σ61 128 v1 ((tm_a σ61 128 v1) + 1)) 128 v1)) <|
                tm_lt (16384 + (tm_a (tm_wa σ61 128 v1 ((tm_a σ61 128 v1) + 1)) 128 v1)) fun x141 =>
                fm_readText_J168 r19 v1 x141 (tm_wa σ61 128 v1 ((tm_a σ61 128 v1) + 1))
              else
                fm_readText_J106 σ61
          else
            fm_readText_J106 σ61
    else
      fm_readText_J40 u23 σ34
theorem wm_readText_B19 {p : Program} {l : Launch} {e : Env} {R : Room} {s : State} {m : MethodId} {args : Array Value} {below : List Frame} {meth : Method} {c : Code} {K : tm_K} {r19 : Int → tm_S → tm_R} (cx : tm_C p l R s m args meth c K cX6_readText 4 RX6 "readText" (some .boolean) 6 133) (h19 : ∀ (v1 : Int) (τ : tm_S) (ls : Array Slot), tm_in v1 → tm_has 0 ls 4 [(0, tm_rv K 0), (1, tm_iv v1)] → tm_J p l e R s m args below meth c K tm_xM 1 (r19 v1 τ) τ (F0 m 19 ls [])) (v1 : Int) (σ : tm_S) (ls : Array Slot) (g1 : tm_in v1) (hl : tm_has 0 ls 4 [(0, tm_rv K 0), (1, tm_iv v1)]) : tm_J p l e R s m args below meth c K tm_xM 1 (fm_readText_B19 r19 v1 σ) σ (F0 m 19 ls []) := by
  unfold fm_readText_B19
  refine tm_aload_n cx dX6_readText_19 (tm_has_at hl 0 rfl) ?_
  refine tm_callV (n := 0) cx (cm_need K l (tm_hst cx)) (lw_V q1313 q1315 qs64 q113 q1316) ⟨rfl, by decide +kernel, by decide +kernel, by decide +kernel⟩ rfl tm_cd_X6 (fun h => (tm_hM_0 h).1) ⟨Nat.le_of_ble_eq_true rfl, Nat.le_of_ble_eq_true rfl⟩ rfl (Nat.le_of_ble_eq_true rfl) hl.1.1 dX6_readText_20 (fun u20 σ20 q20 => ?_)
  show tm_J p l e R s m args below meth c K tm_xM 1 _ _ (F0 m 23 ls [tm_iv u20])
  refine tm_callS (n := 1) cx (cm_plain K l (tm_hst cx) u20 q20) (lw_S q1317 q1318 q113 q1319) ⟨by decide +kernel, by decide +kernel, by decide +kernel⟩ rfl ⟨Nat.le_of_ble_eq_true rfl, Nat.le_of_ble_eq_true rfl⟩ rfl (Nat.le_of_ble_eq_true rfl) hl.1.1 dX6_readText_23 (fun u23 σ23 q23 => ?_)
  show tm_J p l e R s m args below meth c K tm_xM 1 _ _ (F0 m 26 ls [tm_iv u23])
  refine tm_istore_n (lv' := [(2, tm_iv u23), (0, tm_rv K 0), (1, tm_iv v1)]) cx dX6_readText_26 hl (by decide) (by decide) rfl (fun ls hl => ?_)
  refine tm_iload_n cx dX6_readText_27 (tm_has_at hl 0 rfl) ?_
  refine tm_iconst cx dX6_readText_28 ?_
  refine tm_icmp_eq (tgt := 40) cx q23 (by decide) dX6_readText_29 (by decide) (fun c29 => ?_) (fun c29 => ?_)
  · exact wm_readText_J40 cx u23 _ _ q23 (tm_has_sub hl [0] rfl)
  · refine tm_iload_n cx dX6_readText_32 (tm_has_at hl 0 rfl) ?_
    refine tm_iconst cx dX6_readText_33 ?_
    refine tm_callS (n := 2) cx (cm_isCharacter K l (tm_hst cx) u23 q23 1 (by decide)) (lw_S q1328 q1329 q113 q1330) ⟨by decide +kernel, by decide +kernel, by decide +kernel⟩ rfl ⟨Nat.le_of_ble_eq_true rfl, Nat.le_of_ble_eq_true rfl⟩ rfl (Nat.le_of_ble_eq_true rfl) hl.1.1 dX6_readText_34 (fun u34 σ34 q34 => ?_)
    show tm_J p l e R s m args below meth c K tm_xM 1 _ _ (F0 m 37 ls [tm_iv u34])
    refine tm_if_eq (tgt := 51) cx q34 dX6_readText_37 (by decide) (fun c37 => ?_) (fun c37 => ?_)
    · refine tm_iload_n cx dX6_readText_51 (tm_has_at hl 0 rfl) ?_
      refine tm_bipush cx dX6_readText_52 (by decide) ?_
      refine tm_callS (n := 2) cx (cm_isCharacter K l (tm_hst cx) u23 q23 6 (by decide)) (lw_S q1328 q1329 q113 q1330) ⟨by decide +kernel, by decide +kernel, by decide +kernel⟩ rfl ⟨Nat.le_of_ble_eq_true rfl, Nat.le_of_ble_eq_true rfl⟩ rfl (Nat.le_of_ble_eq_true rfl) hl.1.1 dX6_readText_54 (fun u54 σ54 q54 => ?_)
      show tm_J p l e R s m args below meth c K tm_xM 1 _ _ (F0 m 57 ls [tm_iv u54])
      refine tm_if_eq (tgt := 145) cx q54 dX6_readText_57 (by decide) (fun c57 => ?_) (fun c57 => ?_)
      · refine tm_iload_n cx dX6_readText_145 (tm_has_at hl 0 rfl) ?_
        refine tm_iconst cx dX6_readText_146 ?_
        refine tm_callS (n := 2) cx (cm_isCharacter K l (tm_hst cx) u23 q23 2 (by decide)) (lw_S q1328 q1329 q113 q1330) ⟨by decide +kernel, by decide +kernel, by decide +kernel⟩ rfl ⟨Nat.le_of_ble_eq_true rfl, Nat.le_of_ble_eq_true rfl⟩ rfl (Nat.le_of_ble_eq_true rfl) hl.1.1 dX6_readText_147 (fun u147 σ147 q147 => ?_)
        show tm_J p l e R s m args below meth c K tm_xM 1 _ _ (F0 m 150 ls [tm_iv u147])
        refine tm_if_eq (tgt := 168) cx q147 dX6_readText_150 (by decide) (fun c150 => ?_) (fun c150 => ?_)
        · exact wm_readText_J168 cx h19 v1 u23 _ _ g1 q23 (tm_has_sub hl [1, 2, 0] rfl)
        · refine tm_aload_n cx dX6_readText_153 (tm_has_at hl 1 rfl) ?_
          refine tm_iconst cx dX6_readText_154 ?_
          refine tm_callV (n := 1) cx (cm_stop K l (tm_hst cx) 1 (by decide)) (lw_V q1271 q1273 qs55 q113 q1274) ⟨rfl, by decide +kernel, by decide +kernel, by decide +kernel⟩ rfl tm_cd_X6 (fun h => (tm_hM_0 h).1) ⟨Nat.le_of_ble_eq_true rfl, Nat.le_of_ble_eq_true rfl⟩ rfl (Nat.le_of_ble_eq_true rfl) hl.1.1 dX6_readText_155 (fun u155 σ155 q155 => ?_)
          show tm_J p l e R s m args below meth c K tm_xM 1 _ _ (F0 m 158 ls [tm_iv u155])
          refine tm_iconst cx dX6_readText_158 ?_
          refine tm_icmp_eq (tgt := 166) cx q155 (by decide) dX6_readText_159 (by decide) (fun c159 => ?_) (fun c159 => ?_)
          · refine tm_iconst cx dX6_readText_166 ?_
            exact tm_zreturn cx (by decide) dX6_readText_167
          · refine tm_iconst cx dX6_readText_162 ?_
            refine tm_goto (tgt := 167) cx dX6_readText_163 (by decide) ?_
            exact tm_zreturn cx (by decide) dX6_readText_167
      · refine tm_aload_n cx dX6_readText_60 (tm_has_at hl 1 rfl) ?_
        refine tm_callV (n := 0) cx (cm_need K l (tm_hst cx)) (lw_V q1313 q1315 qs64 q113 q1316) ⟨rfl, by decide +kernel, by decide +kernel, by decide +kernel⟩ rfl tm_cd_X6 (fun h => (tm_hM_0 h).1) ⟨Nat.le_of_ble_eq_true rfl, Nat.le_of_ble_eq_true rfl⟩ rfl (Nat.le_of_ble_eq_true rfl) hl.1.1 dX6_readText_61 (fun u61 σ61 q61 => ?_)
        show tm_J p l e R s m args below meth c K tm_xM 1 _ _ (F0 m 64 ls [tm_iv u61])
        refine tm_istore_n (lv' := [(3, tm_iv u61), (2, tm_iv u23), (0, tm_rv K 0), (1, tm_iv v1)]) cx dX6_readText_64 hl (by decide) (by decide) rfl (fun ls hl => ?_)
        refine tm_iload_n cx dX6_readText_65 (tm_has_at hl 0 rfl) ?_
        refine tm_iconst cx dX6_readText_66 ?_
        refine tm_icmp_ne (tgt := 72) cx q61 (by decide) dX6_readText_67 (by decide) (fun c67 => ?_) (fun c67 => ?_)
        · refine tm_iconst cx dX6_readText_70 ?_
          exact tm_zreturn cx (by decide) dX6_readText_71
        · refine tm_iload_n cx dX6_readText_72 (tm_has_at hl 0 rfl) ?_
          refine tm_sipush cx dX6_readText_73 (by decide) ?_
          refine tm_icmp_ge (tgt := 106) cx q61 (by decide) dX6_readText_76 (by decide) (fun c76 => ?_) (fun c76 => ?_)
          · refine tm_aload_n cx dX6_readText_79 (tm_has_at hl 2 rfl) ?_
            refine tg_X6_56 cx dX6_readText_80 ?_
            refine tm_iload_n cx dX6_readText_83 (tm_has_at hl 3 rfl) ?_
            refine tm_iald cx tm_hM_128 g1 dX6_readText_84 (fun i84 q84 => ?_)
            refine tm_iconst cx dX6_readText_85 ?_
            refine tm_icmp_eq (tgt := 106) cx q84 (by decide) dX6_readText_86 (by decide) (fun c86 => ?_) (fun c86 => ?_)
            · exact wm_readText_J106 cx _ _ (tm_has_sub hl [2] rfl)
            · refine tm_iload_n cx dX6_readText_89 (tm_has_at hl 0 rfl) ?_
              refine tm_sipush cx dX6_readText_90 (by decide) ?_
              refine tm_iand255 cx q61 dX6_readText_93 (fun q93 => ?_)
              refine tm_bipush cx dX6_readText_94 (by decide) ?_
              refine tm_aload_n cx dX6_readText_96 (tm_has_at hl 2 rfl) ?_
              refine tg_X6_56 cx dX6_readText_97 ?_
              refine tm_iload_n cx dX6_readText_100 (tm_has_at hl 3 rfl) ?_
              refine tm_iald cx tm_hM_128 g1 dX6_readText_101 (fun i101 q101 => ?_)
              refine tm_iadd cx dX6_readText_102 (fun q102 => ?_)
              refine tm_icmp_eq (tgt := 121) cx q93 q102 dX6_readText_103 (by decide) (fun c103 => ?_) (fun c103 => ?_)
              · refine tm_aload_n cx dX6_readText_121 (tm_has_at hl 2 rfl) ?_
                refine tg_X6_56 cx dX6_readText_122 ?_
                refine tm_iload_n cx dX6_readText_125 (tm_has_at hl 3 rfl) ?_
                refine tm_dup2_ir cx dX6_readText_126 ?_
                refine tm_iald cx tm_hM_128 g1 dX6_readText_127 (fun i127 q127 => ?_)
                refine tm_iconst cx dX6_readText_128 ?_
                refine tm_iadd cx dX6_readText_129 (fun q129 => ?_)
                refine tm_iast cx tm_famM tm_hM_128 g1 q129 dX6_readText_130 ?_
                refine tm_sipush cx dX6_readText_131 (by decide) ?_
                refine tm_aload_n cx dX6_readText_134 (tm_has_at hl 2 rfl) ?_
                refine tg_X6_56 cx dX6_readText_135 ?_
                refine tm_iload_n cx dX6_readText_138 (tm_has_at hl 3 rfl) ?_
                refine tm_iald cx tm_hM_128 g1 dX6_readText_139 (fun i139 q139 => ?_)
                refine tm_iadd cx dX6_readText_140 (fun q140 => ?_)
                refine tm_lt_ q140 (fun x141 q141 => ?_)
                refine tm_istore_n (lv' := [(2, tm_iv x141), (3, tm_iv u61), (0, tm_rv K 0), (1, tm_iv v1)]) cx dX6_readText_141 hl (by decide) (by decide) rfl (fun ls hl => ?_)
                refine tm_goto (tgt := 168) cx dX6_readText_142 (by decide) ?_
                exact wm_readText_J168 cx h19 v1 x141 _ _ g1 q141 (tm_has_sub hl [2, 3, 0] rfl)
              · exact wm_readText_J106 cx _ _ (tm_has_sub hl [2] rfl)
          · exact wm_readText_J106 cx _ _ (tm_has_sub hl [2] rfl)
    · exact wm_readText_J40 cx u23 _ _ q23 (tm_has_sub hl [0] rfl)
def fm_readText_L19 : Nat → Int → tm_S → tm_R
  | 0, _, _ => none
  | n + 1, v1, σ => fm_readText_B19 (fm_readText_L19 n) v1 σ
theorem wm_readText_L19 {p : Program} {l : Launch} {e : Env} {R : Room} {s : State} {m : MethodId} {args : Array Value} {below : List Frame} {meth : Method} {c : Code} {K : tm_K} (cx : tm_C p l R s m args meth c K cX6_readText 4 RX6 "readText" (some .boolean) 6 133) : ∀ (n : Nat) (v1 : Int) (σ : tm_S) (ls : Array Slot), tm_in v1 → tm_has 0 ls 4 [(0, tm_rv K 0), (1, tm_iv v1)] → tm_J p l e R s m args below meth c K tm_xM 1 (fm_readText_L19 n v1 σ) σ (F0 m 19 ls []) := by
  intro n
  induction n with
  | zero => intros; exact tm_none
  | succ n ih =>
    intro v1 σ ls g1 hl
    exact wm_readText_B19 (r19 := fm_readText_L19 n) cx ih v1 σ ls g1 hl
def fm_readText (σ : tm_S) : tm_R :=
  tm_lt (tm_f σ 471 0) fun x4 =>
  tm_gx x4 61 <|
  tm_gx x4 61 <|
  fm_readText_L19 tm_FU x4 (tm_wa (tm_wa σ 124 x4 0) 128 x4 0)
theorem tm_fits_X6_readText (K : tm_K) : (lg_sl [tm_rv K 0]).length ≤ 1 := (tm_sl_r _ _ _ _ (tm_sl_n _))
theorem cm_readText (K : tm_K) (l : Launch) (hst : l.stackTraces = false) : tm_ct K tm_xM l yX6_readText cX6_readText 4 (some .boolean) 1 [tm_rv K 0] (fm_readText) 6 133 := by
  refine tm_ct_of hst (by decide +kernel) (Nat.le_trans (tm_fits_X6_readText K) (Nat.le_of_ble_eq_true rfl)) ?_
  intro p e R s m args below meth c cx σ ls hl0
  have hl : tm_has 0 ls 4 [(0, tm_rv K 0)] := ⟨by
    have h9 := hl0
    simp only [tm_args_r, tm_args_n, Nat.zero_add, Nat.reduceAdd] at h9
    exact h9, by
    intro q hq
    simp only [List.mem_cons, List.not_mem_nil, or_false] at hq
    rcases hq with rfl
    · exact Or.inl (tm_rv_cat K 0)⟩
  clear hl0
  unfold fm_readText
  refine tm_aload_n cx dX6_readText_0 (tm_has_at hl 0 rfl) ?_
  refine tg_X6_174 cx dX6_readText_1 (fun q1 => ?_)
  refine tm_lt_ q1 (fun x4 q4 => ?_)
  refine tm_istore_n (lv' := [(1, tm_iv x4), (0, tm_rv K 0)]) cx dX6_readText_4 hl (by decide) (by decide) rfl (fun ls hl => ?_)
  refine tm_aload_n cx dX6_readText_5 (tm_has_at hl 1 rfl) ?_
  refine tg_X6_44 cx dX6_readText_6 ?_
  refine tm_iload_n cx dX6_readText_9 (tm_has_at hl 0 rfl) ?_
  refine tm_iconst cx dX6_readText_10 ?_
  refine tm_iast cx tm_famM tm_hM_124 q4 (by decide) dX6_readText_11 ?_
  refine tm_aload_n cx dX6_readText_12 (tm_has_at hl 1 rfl) ?_
  refine tg_X6_56 cx dX6_readText_13 ?_
  refine tm_iload_n cx dX6_readText_16 (tm_has_at hl 0 rfl) ?_
  refine tm_iconst cx dX6_readText_17 ?_
  refine tm_iast cx tm_famM tm_hM_128 q4 (by decide) dX6_readText_18 ?_
  exact wm_readText_L19 cx tm_FU x4 _ _ q4 (tm_has_sub hl [1, 0] rfl)
def fm_needExpanded_J44 (v1 : Int) (σ : tm_S) : tm_R :=
  if (tm_f σ 453 0) = 0 then
    tm_rt v1 σ
  else
    tm_rt (-1) σ
theorem wm_needExpanded_J44 {p : Program} {l : Launch} {e : Env} {R : Room} {s : State} {m : MethodId} {args : Array Value} {below : List Frame} {meth : Method} {c : Code} {K : tm_K} (cx : tm_C p l R s m args meth c K cX6_needExpanded 2 RX6 "needExpanded" (some .int) 11 250) (v1 : Int) (σ : tm_S) (ls : Array Slot) (g1 : tm_in v1) (hl : tm_has 0 ls 2 [(0, tm_rv K 0), (1, tm_iv v1)]) : tm_J p l e R s m args below meth c K tm_xM 1 (fm_needExpanded_J44 v1 σ) σ (F0 m 44 ls []) := by
  unfold fm_needExpanded_J44
  refine tm_aload_n cx dX6_needExpanded_44 (tm_has_at hl 0 rfl) ?_
  refine tg_X6_159 cx dX6_needExpanded_45 (fun q45 => ?_)
  refine tm_if_ne (tgt := 55) cx q45 dX6_needExpanded_48 (by decide) (fun c48 => ?_) (fun c48 => ?_)
  · refine tm_iload_n cx dX6_needExpanded_51 (tm_has_at hl 1 rfl) ?_
    refine tm_goto (tgt := 56) cx dX6_needExpanded_52 (by decide) ?_
    exact tm_ireturn cx g1 dX6_needExpanded_56
  · refine tm_iconst cx dX6_needExpanded_55 ?_
    exact tm_ireturn cx (by decide) dX6_needExpanded_56
def fm_needExpanded_B5 (r5 : Int → tm_S → tm_R) (v1 : Int) (σ : tm_S) : tm_R :=
  if (tm_f σ 453 0) = 0 then
    tm_bd (fm_isExpandable v1 σ) fun u14 σ14 =>
    if u14 = 0 then
      fm_needExpanded_J44 v1 σ14
    else
      tm_bd (fm_expand v1 σ14) fun u22 σ22 =>
      if (tm_f σ22 453 0) = 0 then
        tm_bd (fm_need σ22) fun u33 σ33 =>
        r5 u33 σ33
      else
        r5 (-1) σ22
  else
    fm_needExpanded_J44 v1 σ
theorem wm_needExpanded_B5 {p : Program} {l : Launch} {e : Env} {R : Room} {s : State} {m : MethodId} {args : Array Value} {below : List Frame} {meth : Method} {c : Code} {K : tm_K} {r5 : Int → tm_S → tm_R} (cx : tm_C p l R s m args meth c K cX6_needExpanded 2 RX6 "needExpanded" (some .int) 11 250) (h5 : ∀ (v1 : Int) (τ : tm_S) (ls : Array Slot), tm_in v1 → tm_has 0 ls 2 [(0, tm_rv K 0), (1, tm_iv v1)] → tm_J p l e R s m args below meth c K tm_xM 1 (r5 v1 τ) τ (F0 m 5 ls [])) (v1 : Int) (σ : tm_S) (ls : Array Slot) (g1 : tm_in v1) (hl : tm_has 0 ls 2 [(0, tm_rv K 0), (1, tm_iv v1)]) : tm_J p l e R s m args below meth c K tm_xM 1 (fm_needExpanded_B5 r5 v1 σ) σ (F0 m 5 ls []) := by
  unfold fm_needExpanded_B5
  refine tm_aload_n cx dX6_needExpanded_5 (tm_has_at hl 0 rfl) ?_
  refine tg_X6_159 cx dX6_needExpanded_6 (fun q6 => ?_)
  refine tm_if_ne (tgt := 44) cx q6 dX6_needExpanded_9 (by decide) (fun c9 => ?_) (fun c9 => ?_)
  · refine tm_aload_n cx dX6_needExpanded_12 (tm_has_at hl 0 rfl) ?_
    refine tm_iload_n cx dX6_needExpanded_13 (tm_has_at hl 1 rfl) ?_
    refine tm_callV (n := 1) cx (cm_isExpandable K l (tm_hst cx) v1 g1) (lw_V q1287 q1289 qs59 q113 q1290) ⟨rfl, by decide +kernel, by decide +kernel, by decide +kernel⟩ rfl tm_cd_X6 (fun h => (tm_hM_0 h).1) ⟨Nat.le_of_ble_eq_true rfl, Nat.le_of_ble_eq_true rfl⟩ rfl (Nat.le_of_ble_eq_true rfl) hl.1.1 dX6_needExpanded_14 (fun u14 σ14 q14 => ?_)
    show tm_J p l e R s m args below meth c K tm_xM 1 _ _ (F0 m 17 ls [tm_iv u14])
    refine tm_if_eq (tgt := 44) cx q14 dX6_needExpanded_17 (by decide) (fun c17 => ?_) (fun c17 => ?_)
    · exact wm_needExpanded_J44 cx v1 _ _ g1 (tm_has_sub hl [0, 1] rfl)
    · refine tm_aload_n cx dX6_needExpanded_20 (tm_has_at hl 0 rfl) ?_
      refine tm_iload_n cx dX6_needExpanded_21 (tm_has_at hl 1 rfl) ?_
      refine tm_callV (n := 1) cx (cm_expand K l (tm_hst cx) v1 g1) (lw_V q1301 q1303 qs61 q113 q1304) ⟨rfl, by decide +kernel, by decide +kernel, by decide +kernel⟩ rfl tm_cd_X6 (fun h => (tm_hM_0 h).1) ⟨Nat.le_of_ble_eq_true rfl, Nat.le_of_ble_eq_true rfl⟩ rfl (Nat.le_of_ble_eq_true rfl) hl.1.1 dX6_needExpanded_22 (fun u22 σ22 q22 => ?_)
      show tm_J p l e R s m args below meth c K tm_xM 1 _ _ (F0 m 25 ls [])
      refine tm_aload_n cx dX6_needExpanded_25 (tm_has_at hl 0 rfl) ?_
      refine tg_X6_159 cx dX6_needExpanded_26 (fun q26 => ?_)
      refine tm_if_ne (tgt := 39) cx q26 dX6_needExpanded_29 (by decide) (fun c29 => ?_) (fun c29 => ?_)
      · refine tm_aload_n cx dX6_needExpanded_32 (tm_has_at hl 0 rfl) ?_
        refine tm_callV (n := 0) cx (cm_need K l (tm_hst cx)) (lw_V q1313 q1315 qs64 q113 q1316) ⟨rfl, by decide +kernel, by decide +kernel, by decide +kernel⟩ rfl tm_cd_X6 (fun h => (tm_hM_0 h).1) ⟨Nat.le_of_ble_eq_true rfl, Nat.le_of_ble_eq_true rfl⟩ rfl (Nat.le_of_ble_eq_true rfl) hl.1.1 dX6_needExpanded_33 (fun u33 σ33 q33 => ?_)
        show tm_J p l e R s m args below meth c K tm_xM 1 _ _ (F0 m 36 ls [tm_iv u33])
        refine tm_goto (tgt := 40) cx dX6_needExpanded_36 (by decide) ?_
        refine tm_istore_n (lv' := [(1, tm_iv u33), (0, tm_rv K 0)]) cx dX6_needExpanded_40 hl (by decide) (by decide) rfl (fun ls hl => ?_)
        refine tm_goto (tgt := 5) cx dX6_needExpanded_41 (by decide) ?_
        exact h5 u33 _ _ q33 (tm_has_sub hl [1, 0] rfl)
      · refine tm_iconst cx dX6_needExpanded_39 ?_
        refine tm_istore_n (lv' := [(1, tm_iv (-1)), (0, tm_rv K 0)]) cx dX6_needExpanded_40 hl (by decide) (by decide) rfl (fun ls hl => ?_)
        refine tm_goto (tgt := 5) cx dX6_needExpanded_41 (by decide) ?_
        exact h5 (-1) _ _ (by decide) (tm_has_sub hl [1, 0] rfl)
  · exact wm_needExpanded_J44 cx v1 _ _ g1 (tm_has_sub hl [0, 1] rfl)
def fm_needExpanded_L5 : Nat → Int → tm_S → tm_R
  | 0, _, _ => none
  | n + 1, v1, σ => fm_needExpanded_B5 (fm_needExpanded_L5 n) v1 σ
theorem wm_needExpanded_L5 {p : Program} {l : Launch} {e : Env} {R : Room} {s : State} {m : MethodId} {args : Array Value} {below : List Frame} {meth : Method} {c : Code} {K : tm_K} (cx : tm_C p l R s m args meth c K cX6_needExpanded 2 RX6 "needExpanded" (some .int) 11 250) : ∀ (n : Nat) (v1 : Int) (σ : tm_S) (ls : Array Slot), tm_in v1 → tm_has 0 ls 2 [(0, tm_rv K 0), (1, tm_iv v1)] → tm_J p l e R s m args below meth c K tm_xM 1 (fm_needExpanded_L5 n v1 σ) σ (F0 m 5 ls []) := by
  intro n
  induction n with
  | zero => intros; exact tm_none
  | succ n ih =>
    intro v1 σ ls g1 hl
    exact wm_needExpanded_B5 (r5 := fm_needExpanded_L5 n) cx ih v1 σ ls g1 hl
def fm_needExpanded (σ : tm_S) : tm_R :=
  tm_bd (fm_need σ) fun u1 σ1 =>
  fm_needExpanded_L5 tm_FU u1 σ1
theorem tm_fits_X6_needExpanded (K : tm_K) : (lg_sl [tm_rv K 0]).length ≤ 1 := (tm_sl_r _ _ _ _ (tm_sl_n _))
theorem cm_needExpanded (K : tm_K) (l : Launch) (hst : l.stackTraces = false) : tm_ct K tm_xM l yX6_needExpanded cX6_needExpanded 2 (some .int) 1 [tm_rv K 0] (fm_needExpanded) 11 250 := by
  refine tm_ct_of hst (by decide +kernel) (Nat.le_trans (tm_fits_X6_needExpanded K) (Nat.le_of_ble_eq_true rfl)) ?_
  intro p e R s m args below meth c cx σ ls hl0
  have hl : tm_has 0 ls 2 [(0, tm_rv K 0)] := ⟨by
    have h9 := hl0
    simp only [tm_args_r, tm_args_n, Nat.zero_add, Nat.reduceAdd] at h9
    exact h9, by
    intro q hq
    simp only [List.mem_cons, List.not_mem_nil, or_false] at hq
    rcases hq with rfl
    · exact Or.inl (tm_rv_cat K 0)⟩
  clear hl0
  unfold fm_needExpanded
  refine tm_aload_n cx dX6_needExpanded_0 (tm_has_at hl 0 rfl) ?_
  refine tm_callV (n := 0) cx (cm_need K l (tm_hst cx)) (lw_V q1313 q1315 qs64 q113 q1316) ⟨rfl, by decide +kernel, by decide +kernel, by decide +kernel⟩ rfl tm_cd_X6 (fun h => (tm_hM_0 h).1) ⟨Nat.le_of_ble_eq_true rfl, Nat.le_of_ble_eq_true rfl⟩ rfl (Nat.le_of_ble_eq_true rfl) hl.1.1 dX6_needExpanded_1 (fun u1 σ1 q1 => ?_)
  show tm_J p l e R s m args below meth c K tm_xM 1 _ _ (F0 m 4 ls [tm_iv u1])
  refine tm_istore_n (lv' := [(1, tm_iv u1), (0, tm_rv K 0)]) cx dX6_needExpanded_4 hl (by decide) (by decide) rfl (fun ls hl => ?_)
  exact wm_needExpanded_L5 cx tm_FU u1 _ _ q1 (tm_has_sub hl [1, 0] rfl)
