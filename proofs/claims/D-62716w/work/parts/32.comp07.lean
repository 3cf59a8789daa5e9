set_option maxRecDepth 100000
def fc_X7_kind (a0 : Int) (σ : tm_S) : tm_R :=
  tm_rt 3 σ
theorem tm_fits_X7_kind (K : tm_K) (a0 : Int) : (lg_sl [tm_rv K a0]).length ≤ 1 := (tm_sl_r _ _ _ _ (tm_sl_n _))
theorem cc_X7_kind (K : tm_K) (l : Launch) (hst : l.stackTraces = false) (a0 : Int) (g0 : tm_in a0) : tm_ct K tm_xC l yX7_kind cX7_kind 1 (some .int) 1 [tm_rv K a0] (fc_X7_kind a0) 0 0 := by
  refine tm_ct_of hst (by decide +kernel) (Nat.le_trans (tm_fits_X7_kind K a0) (Nat.le_of_ble_eq_true rfl)) ?_
  intro p e R s m args below meth c cx σ ls hl0
  have hl : tm_has 0 ls 1 [(0, tm_rv K a0)] := ⟨by
    have h9 := hl0
    simp only [tm_args_r, tm_args_n, Nat.zero_add, Nat.reduceAdd] at h9
    exact h9, by
    intro q hq
    simp only [List.mem_cons, List.not_mem_nil, or_false] at hq
    rcases hq with rfl
    · exact Or.inl (tm_rv_cat K a0)⟩
  clear hl0
  unfold fc_X7_kind
  refine tm_iconst cx dX7_kind_0 ?_
  exact tm_ireturn cx (by decide) dX7_kind_1
def fc_meaning (a1 : Int) (a2 : Int) (σ : tm_S) : tm_R :=
  tm_bd (fc_asked a1 a2 σ) fun u3 σ3 =>
  if u3 < 0 then
    tm_rt 0 σ3
  else
    tm_bd (tm_m3 (tm_k σ3 u3) (fc_X2_kind u3 σ3) (fc_X8_kind u3 σ3) (fc_X7_kind u3 σ3)) fun u19 σ19 =>
    tm_rt u19 σ19
theorem tm_fits_X1_meaning (K : tm_K) (a1 : Int) (a2 : Int) : (lg_sl [tm_rv K 0, tm_lv a1, tm_iv a2]).length ≤ 4 := (tm_sl_r _ _ _ _ (tm_sl_l _ _ _ (tm_sl_i _ _ _ (tm_sl_n _))))
theorem cc_meaning (K : tm_K) (l : Launch) (hst : l.stackTraces = false) (a1 : Int) (g1 : tm_inl a1) (a2 : Int) (g2 : tm_in a2) : tm_ct K tm_xC l yX1_meaning cX1_meaning 5 (some .int) 1 [tm_rv K 0, tm_lv a1, tm_iv a2] (fc_meaning a1 a2) 7 127 := by
  refine tm_ct_of hst (by decide +kernel) (Nat.le_trans (tm_fits_X1_meaning K a1 a2) (Nat.le_of_ble_eq_true rfl)) ?_
  intro p e R s m args below meth c cx σ ls hl0
  have hl : tm_has 1 ls 5 [(0, tm_rv K 0), (1, tm_lv a1), (3, tm_iv a2)] := ⟨by
    have h9 := hl0
    simp only [tm_args_r, tm_args_l, tm_args_i, tm_args_n, Nat.zero_add, Nat.reduceAdd] at h9
    exact h9, by
    intro q hq
    simp only [List.mem_cons, List.not_mem_nil, or_false] at hq
    rcases hq with rfl | rfl | rfl
    · exact Or.inl (tm_rv_cat K 0)
    · exact Or.inr (Or.inl ⟨by decide, rfl⟩)
    · exact Or.inl rfl⟩
  clear hl0
  unfold fc_meaning
  refine tm_aload_n cx dX1_meaning_0 (tm_has_at hl 0 rfl) ?_
  refine tm_lload_n cx dX1_meaning_1 (tm_has_at hl 1 rfl) ?_
  refine tm_iload_n cx dX1_meaning_2 (tm_has_at hl 2 rfl) ?_
  refine tm_callV (n := 2) cx (cc_asked K l (tm_hst cx) a1 g1 a2 g2) (lw_V q1018 q1020 qs48 q95 q1021) ⟨rfl, by decide +kernel, by decide +kernel, by decide +kernel⟩ rfl tm_cd_X1 (fun h => (tm_hC_0 h).1) ⟨Nat.le_of_ble_eq_true rfl, Nat.le_of_ble_eq_true rfl⟩ rfl (Nat.le_of_ble_eq_true rfl) hl.1.1 dX1_meaning_3 (fun u3 σ3 q3 => ?_)
  show tm_J p l e R s m args below meth c K tm_xC 1 _ _ (F0 m 6 ls [tm_rv K u3])
  refine tm_astore (lv' := [(4, tm_rv K u3), (0, tm_rv K 0), (1, tm_lv a1), (3, tm_iv a2)]) cx dX1_meaning_6 hl (by decide) (by decide) rfl (fun ls hl => ?_)
  refine tm_aload cx dX1_meaning_8 (tm_has_at hl 0 rfl) ?_
  refine tm_ifnonnull (tgt := 17) cx dX1_meaning_10 (by decide) (fun c10 => ?_) (fun c10 => ?_)
  · refine tm_iconst cx dX1_meaning_13 ?_
    refine tm_goto (tgt := 24) cx dX1_meaning_14 (by decide) ?_
    exact tm_ireturn cx (by decide) dX1_meaning_24
  · refine tm_aload cx dX1_meaning_17 (tm_has_at hl 0 rfl) ?_
    refine tm_callF (n := 0) cx (cc_X2_kind K l (tm_hst cx) u3 q3) (cc_X8_kind K l (tm_hst cx) u3 q3) (cc_X7_kind K l (tm_hst cx) u3 q3) (tm_lwF q1038 q1041 q1043 q97 q1045) (tm_lwF q1038 q1051 q1053 q120 q1055) (tm_lwF q1038 q1046 q1048 q119 q1050) (List.mem_of_getElem? (i := 3) rfl) (List.mem_of_getElem? (i := 7) rfl) (List.mem_of_getElem? (i := 11) rfl) ⟨by decide +kernel, by decide +kernel, by decide +kernel⟩ rfl ⟨Nat.le_of_ble_eq_true rfl, Nat.le_of_ble_eq_true rfl⟩ ⟨Nat.le_of_ble_eq_true rfl, Nat.le_of_ble_eq_true rfl⟩ ⟨Nat.le_of_ble_eq_true rfl, Nat.le_of_ble_eq_true rfl⟩ rfl (Nat.le_of_ble_eq_true rfl) hl.1.1 dX1_meaning_19 (fun u19 σ19 q19 => ?_)
    show tm_J p l e R s m args below meth c K tm_xC 1 _ _ (F0 m 24 ls [tm_iv u19])
    exact tm_ireturn cx q19 dX1_meaning_24
def fc_detail (a1 : Int) (a2 : Int) (a3 : Int) (σ : tm_S) : tm_R :=
  tm_bd (fc_asked a1 a2 σ) fun u3 σ3 =>
  if tm_k σ3 u3 = 39 then
    if a3 = 0 then
      tm_gx (u3 - 400) 18 <|
      tm_gi ((u3 - 400) + 1) <|
      tm_rt ((u3 - 400) + 1) σ3
    else
      if a3 = 1 then
        tm_rt 0 σ3
      else
        if a3 = 2 then
          tm_rt 0 σ3
        else
          tm_rt (-1) σ3
  else
    tm_gm σ3 u3 <|
    if tm_k σ3 u3 = 5 then
      if a3 = 0 then
        tm_rt (tm_f σ3 256 u3) σ3
      else
        if a3 = 1 then
          tm_rt 0 σ3
        else
          if a3 = 2 then
            tm_rt 0 σ3
          else
            tm_rt (-1) σ3
    else
      tm_gm σ3 u3 <|
      if tm_k σ3 u3 = 6 then
        if a3 < 3 then
          if a3 = 0 then
            tm_rt (tm_f σ3 322 u3) σ3
          else
            if a3 = 1 then
              tm_gk (tm_k σ3 (tm_f σ3 320 u3)) 21 <|
              tm_rt (tm_n σ3 (tm_f σ3 320 u3)) σ3
            else
              if a3 = 2 then
                tm_gk (tm_k σ3 (tm_f σ3 321 u3)) 21 <|
                tm_rt (tm_n σ3 (tm_f σ3 321 u3)) σ3
              else
                tm_rt (-1) σ3
        else
          tm_gi (a3 - 3) <|
          tm_gk (tm_k σ3 (tm_f σ3 321 u3)) 21 <|
          if (a3 - 3) < (tm_n σ3 (tm_f σ3 321 u3)) then
            tm_gi (a3 - 3) <|
            tm_gx (a3 - 3) (tm_n σ3 (tm_f σ3 321 u3)) <|
            tm_lt (tm_a σ3 (tm_f σ3 321 u3) (a3 - 3)) fun x203 =>
            if x203 < 0 then
              tm_gi (4096 - x203) <|
              tm_rt (4096 - x203) σ3
            else
              if x203 < 4096 then
                tm_rt x203 σ3
              else
                tm_rt 4096 σ3
          else
            tm_rt (-1) σ3
      else
        tm_gm σ3 u3 <|
        if a3 = 1 then
          tm_rt 0 σ3
        else
          if a3 = 2 then
            tm_rt 0 σ3
          else
            tm_rt (-1) σ3
theorem tm_fits_X1_detail (K : tm_K) (a1 : Int) (a2 : Int) (a3 : Int) : (lg_sl [tm_rv K 0, tm_lv a1, tm_iv a2, tm_iv a3]).length ≤ 5 := (tm_sl_r _ _ _ _ (tm_sl_l _ _ _ (tm_sl_i _ _ _ (tm_sl_i _ _ _ (tm_sl_n _)))))
theorem cc_detail (K : tm_K) (l : Launch) (hst : l.stackTraces = false) (a1 : Int) (g1 : tm_inl a1) (a2 : Int) (g2 : tm_in a2) (a3 : Int) (g3 : tm_in a3) : tm_ct K tm_xC l yX1_detail cX1_detail 8 (some .int) 1 [tm_rv K 0, tm_lv a1, tm_iv a2, tm_iv a3] (fc_detail a1 a2 a3) 7 127 := by
  refine tm_ct_of hst (by decide +kernel) (Nat.le_trans (tm_fits_X1_detail K a1 a2 a3) (Nat.le_of_ble_eq_true rfl)) ?_
  intro p e R s m args below meth c cx σ ls hl0
  have hl : tm_has 1 ls 8 [(0, tm_rv K 0), (1, tm_lv a1), (3, tm_iv a2), (4, tm_iv a3)] := ⟨by
    have h9 := hl0
    simp only [tm_args_r, tm_args_l, tm_args_i, tm_args_i, tm_args_n, Nat.zero_add, Nat.reduceAdd] at h9
    exact h9, by
    intro q hq
    simp only [List.mem_cons, List.not_mem_nil, or_false] at hq
    rcases hq with rfl | rfl | rfl | rfl
    · exact Or.inl (tm_rv_cat K 0)
    · exact Or.inr (Or.inl ⟨by decide, rfl⟩)
    · exact Or.inl rfl
    · exact Or.inl rfl⟩
  clear hl0
  unfold fc_detail
  refine tm_aload_n cx dX1_detail_0 (tm_has_at hl 0 rfl) ?_
  refine tm_lload_n cx dX1_detail_1 (tm_has_at hl 1 rfl) ?_
  refine tm_iload_n cx dX1_detail_2 (tm_has_at hl 2 rfl) ?_
  refine tm_callV (n := 2) cx (cc_asked K l (tm_hst cx) a1 g1 a2 g2) (lw_V q1018 q1020 qs48 q95 q1021) ⟨rfl, by decide +kernel, by decide +kernel, by decide +kernel⟩ rfl tm_cd_X1 (fun h => (tm_hC_0 h).1) ⟨Nat.le_of_ble_eq_true rfl, Nat.le_of_ble_eq_true rfl⟩ rfl (Nat.le_of_ble_eq_true rfl) hl.1.1 dX1_detail_3 (fun u3 σ3 q3 => ?_)
  show tm_J p l e R s m args below meth c K tm_xC 1 _ _ (F0 m 6 ls [tm_rv K u3])
  refine tm_astore (lv' := [(5, tm_rv K u3), (0, tm_rv K 0), (1, tm_lv a1), (3, tm_iv a2), (4, tm_iv a3)]) cx dX1_detail_6 hl (by decide) (by decide) rfl (fun ls hl => ?_)
  refine tm_aload cx dX1_detail_8 (tm_has_at hl 0 rfl) ?_
  refine tm_fork (fun c10 => ?_) (fun c10 => ?_)
  · refine tm_instY cx (k := 39) (Or.inr (Or.inr ⟨rfl, rfl⟩)) c10 q734 dX1_detail_10 ?_
    refine tm_if_eq_f (tgt := 52) cx (by decide) (by decide) dX1_detail_13 (by decide) ?_
    refine tm_iload cx dX1_detail_16 (tm_has_at hl 4 rfl) ?_
    refine tm_if_ne (tgt := 34) cx g3 dX1_detail_18 (by decide) (fun c18 => ?_) (fun c18 => ?_)
    · refine tm_aload cx dX1_detail_21 (tm_has_at hl 0 rfl) ?_
      refine tm_castK cx c10 q734 dX1_detail_23 ?_
      refine tm_ordinal cx (tm_lwU q863 q677 q679 q680 q96 q681) ⟨by decide, by decide⟩ (Nat.le_of_ble_eq_true rfl) hl.1.1 dX1_detail_26 (fun o26 => ?_)
      refine tm_iconst cx dX1_detail_29 ?_
      refine tm_iadd cx dX1_detail_30 (fun q30 => ?_)
      refine tm_goto (tgt := 51) cx dX1_detail_31 (by decide) ?_
      exact tm_ireturn cx q30 dX1_detail_51
    · refine tm_iload cx dX1_detail_34 (tm_has_at hl 4 rfl) ?_
      refine tm_iconst cx dX1_detail_36 ?_
      refine tm_icmp_eq (tgt := 46) cx g3 (by decide) dX1_detail_37 (by decide) (fun c37 => ?_) (fun c37 => ?_)
      · refine tm_iconst cx dX1_detail_46 ?_
        refine tm_goto (tgt := 51) cx dX1_detail_47 (by decide) ?_
        exact tm_ireturn cx (by decide) dX1_detail_51
      · refine tm_iload cx dX1_detail_40 (tm_has_at hl 4 rfl) ?_
        refine tm_iconst cx dX1_detail_42 ?_
        refine tm_icmp_ne (tgt := 50) cx g3 (by decide) dX1_detail_43 (by decide) (fun c43 => ?_) (fun c43 => ?_)
        · refine tm_iconst cx dX1_detail_46 ?_
          refine tm_goto (tgt := 51) cx dX1_detail_47 (by decide) ?_
          exact tm_ireturn cx (by decide) dX1_detail_51
        · refine tm_iconst cx dX1_detail_50 ?_
          exact tm_ireturn cx (by decide) dX1_detail_51
  · refine tm_gm_ (fun m10 => ?_)
    refine tm_instN cx (k := 39) (Or.inr (Or.inr ⟨rfl, rfl⟩)) m10 c10 q734 dX1_detail_10 ?_
    refine tm_if_eq_t (tgt := 52) cx (by decide) (by decide) dX1_detail_13 (by decide) ?_
    refine tm_aload cx dX1_detail_52 (tm_has_at hl 0 rfl) ?_
    refine tm_fork (fun c54 => ?_) (fun c54 => ?_)
    · refine tm_instY cx (k := 5) (Or.inl ⟨rfl, rfl⟩) c54 q756 dX1_detail_54 ?_
      refine tm_if_eq_f (tgt := 94) cx (by decide) (by decide) dX1_detail_57 (by decide) ?_
      refine tm_iload cx dX1_detail_60 (tm_has_at hl 4 rfl) ?_
      refine tm_if_ne (tgt := 76) cx g3 dX1_detail_62 (by decide) (fun c62 => ?_) (fun c62 => ?_)
      · refine tm_aload cx dX1_detail_65 (tm_has_at hl 0 rfl) ?_
        refine tm_castO cx tm_cd_X8 (fun _ => c54) q756 dX1_detail_67 ?_
        refine tg_X1_188 cx (fun _ => c54) dX1_detail_70 (fun q70 => ?_)
        refine tm_goto (tgt := 93) cx dX1_detail_73 (by decide) ?_
        exact tm_ireturn cx q70 dX1_detail_93
      · refine tm_iload cx dX1_detail_76 (tm_has_at hl 4 rfl) ?_
        refine tm_iconst cx dX1_detail_78 ?_
        refine tm_icmp_eq (tgt := 88) cx g3 (by decide) dX1_detail_79 (by decide) (fun c79 => ?_) (fun c79 => ?_)
        · refine tm_iconst cx dX1_detail_88 ?_
          refine tm_goto (tgt := 93) cx dX1_detail_89 (by decide) ?_
          exact tm_ireturn cx (by decide) dX1_detail_93
        · refine tm_iload cx dX1_detail_82 (tm_has_at hl 4 rfl) ?_
          refine tm_iconst cx dX1_detail_84 ?_
          refine tm_icmp_ne (tgt := 92) cx g3 (by decide) dX1_detail_85 (by decide) (fun c85 => ?_) (fun c85 => ?_)
          · refine tm_iconst cx dX1_detail_88 ?_
            refine tm_goto (tgt := 93) cx dX1_detail_89 (by decide) ?_
            exact tm_ireturn cx (by decide) dX1_detail_93
          · refine tm_iconst cx dX1_detail_92 ?_
            exact tm_ireturn cx (by decide) dX1_detail_93
    · refine tm_gm_ (fun m54 => ?_)
      refine tm_instN cx (k := 5) (Or.inl ⟨rfl, rfl⟩) m54 c54 q756 dX1_detail_54 ?_
      refine tm_if_eq_t (tgt := 94) cx (by decide) (by decide) dX1_detail_57 (by decide) ?_
      refine tm_aload cx dX1_detail_94 (tm_has_at hl 0 rfl) ?_
      refine tm_fork (fun c96 => ?_) (fun c96 => ?_)
      · refine tm_instY cx (k := 6) (Or.inr (Or.inl ⟨rfl, rfl⟩)) c96 q886 dX1_detail_96 ?_
        refine tm_if_ne_f (tgt := 120) cx (by decide) (by decide) dX1_detail_99 (by decide) ?_
        refine tm_aload cx dX1_detail_120 (tm_has_at hl 0 rfl) ?_
        refine tm_castO cx tm_cd_X7 (fun _ => c96) q886 dX1_detail_122 ?_
        refine tm_astore (lv' := [(6, tm_rv K u3), (5, tm_rv K u3), (0, tm_rv K 0), (1, tm_lv a1), (3, tm_iv a2), (4, tm_iv a3)]) cx dX1_detail_125 hl (by decide) (by decide) rfl (fun ls hl => ?_)
        refine tm_iload cx dX1_detail_127 (tm_has_at hl 5 rfl) ?_
        refine tm_iconst cx dX1_detail_129 ?_
        refine tm_icmp_ge (tgt := 178) cx g3 (by decide) dX1_detail_130 (by decide) (fun c130 => ?_) (fun c130 => ?_)
        · refine tm_iload cx dX1_detail_133 (tm_has_at hl 5 rfl) ?_
          refine tm_if_ne (tgt := 146) cx g3 dX1_detail_135 (by decide) (fun c135 => ?_) (fun c135 => ?_)
          · refine tm_aload cx dX1_detail_138 (tm_has_at hl 0 rfl) ?_
            refine tg_X1_420 cx (fun _ => c96) dX1_detail_140 (fun q140 => ?_)
            refine tm_goto (tgt := 177) cx dX1_detail_143 (by decide) ?_
            exact tm_ireturn cx q140 dX1_detail_177
          · refine tm_iload cx dX1_detail_146 (tm_has_at hl 5 rfl) ?_
            refine tm_iconst cx dX1_detail_148 ?_
            refine tm_icmp_ne (tgt := 161) cx g3 (by decide) dX1_detail_149 (by decide) (fun c149 => ?_) (fun c149 => ?_)
            · refine tm_aload cx dX1_detail_152 (tm_has_at hl 0 rfl) ?_
              refine tg_X1_423 cx (fun _ => c96) dX1_detail_154 (fun q154 => ?_)
              refine tm_gk_ (fun k157 => ?_)
              refine tm_alen cx (fun _ => ⟨k157, rfl⟩) (by decide) dX1_detail_157 (fun q157 => ?_)
              refine tm_goto (tgt := 177) cx dX1_detail_158 (by decide) ?_
              exact tm_ireturn cx (tm_in0 q157) dX1_detail_177
            · refine tm_iload cx dX1_detail_161 (tm_has_at hl 5 rfl) ?_
              refine tm_iconst cx dX1_detail_163 ?_
              refine tm_icmp_ne (tgt := 176) cx g3 (by decide) dX1_detail_164 (by decide) (fun c164 => ?_) (fun c164 => ?_)
              · refine tm_aload cx dX1_detail_167 (tm_has_at hl 0 rfl) ?_
                refine tg_X1_425 cx (fun _ => c96) dX1_detail_169 (fun q169 => ?_)
                refine tm_gk_ (fun k172 => ?_)
                refine tm_alen cx (fun _ => ⟨k172, rfl⟩) (by decide) dX1_detail_172 (fun q172 => ?_)
                refine tm_goto (tgt := 177) cx dX1_detail_173 (by decide) ?_
                exact tm_ireturn cx (tm_in0 q172) dX1_detail_177
              · refine tm_iconst cx dX1_detail_176 ?_
                exact tm_ireturn cx (by decide) dX1_detail_177
        · refine tm_iload cx dX1_detail_178 (tm_has_at hl 5 rfl) ?_
          refine tm_iconst cx dX1_detail_180 ?_
          refine tm_isub cx dX1_detail_181 (fun q181 => ?_)
          refine tm_aload cx dX1_detail_182 (tm_has_at hl 0 rfl) ?_
          refine tg_X1_425 cx (fun _ => c96) dX1_detail_184 (fun q184 => ?_)
          refine tm_gk_ (fun k187 => ?_)
          refine tm_alen cx (fun _ => ⟨k187, rfl⟩) (by decide) dX1_detail_187 (fun q187 => ?_)
          refine tm_icmp_lt (tgt := 193) cx q181 (tm_in0 q187) dX1_detail_188 (by decide) (fun c188 => ?_) (fun c188 => ?_)
          · refine tm_aload cx dX1_detail_193 (tm_has_at hl 0 rfl) ?_
            refine tg_X1_425 cx (fun _ => c96) dX1_detail_195 (fun q195 => ?_)
            refine tm_iload cx dX1_detail_198 (tm_has_at hl 5 rfl) ?_
            refine tm_iconst cx dX1_detail_200 ?_
            refine tm_isub cx dX1_detail_201 (fun q201 => ?_)
            refine tm_sald cx (fun _ => ⟨k187, rfl⟩) q201 dX1_detail_202 (fun i202 q202 => ?_)
            refine tm_lt_ q202 (fun x203 q203 => ?_)
            refine tm_istore (lv' := [(7, tm_iv x203), (6, tm_rv K u3), (5, tm_rv K u3), (0, tm_rv K 0), (1, tm_lv a1), (3, tm_iv a2), (4, tm_iv a3)]) cx dX1_detail_203 hl (by decide) (by decide) rfl (fun ls hl => ?_)
            refine tm_iload cx dX1_detail_205 (tm_has_at hl 0 rfl) ?_
            refine tm_if_ge (tgt := 219) cx q203 dX1_detail_207 (by decide) (fun c207 => ?_) (fun c207 => ?_)
            · refine tm_sipush cx dX1_detail_210 (by decide) ?_
              refine tm_iload cx dX1_detail_213 (tm_has_at hl 0 rfl) ?_
              refine tm_isub cx dX1_detail_215 (fun q215 => ?_)
              refine tm_goto (tgt := 235) cx dX1_detail_216 (by decide) ?_
              exact tm_ireturn cx q215 dX1_detail_235
            · refine tm_iload cx dX1_detail_219 (tm_has_at hl 0 rfl) ?_
              refine tm_sipush cx dX1_detail_221 (by decide) ?_
              refine tm_icmp_lt (tgt := 233) cx q203 (by decide) dX1_detail_224 (by decide) (fun c224 => ?_) (fun c224 => ?_)
              · refine tm_iload cx dX1_detail_233 (tm_has_at hl 0 rfl) ?_
                exact tm_ireturn cx q203 dX1_detail_235
              · refine tm_sipush cx dX1_detail_227 (by decide) ?_
                refine tm_goto (tgt := 235) cx dX1_detail_230 (by decide) ?_
                exact tm_ireturn cx (by decide) dX1_detail_235
          · refine tm_iconst cx dX1_detail_191 ?_
            exact tm_ireturn cx (by decide) dX1_detail_192
      · refine tm_gm_ (fun m96 => ?_)
        refine tm_instN cx (k := 6) (Or.inr (Or.inl ⟨rfl, rfl⟩)) m96 c96 q886 dX1_detail_96 ?_
        refine tm_if_ne_t (tgt := 120) cx (by decide) (by decide) dX1_detail_99 (by decide) ?_
        refine tm_iload cx dX1_detail_102 (tm_has_at hl 4 rfl) ?_
        refine tm_iconst cx dX1_detail_104 ?_
        refine tm_icmp_eq (tgt := 114) cx g3 (by decide) dX1_detail_105 (by decide) (fun c105 => ?_) (fun c105 => ?_)
        · refine tm_iconst cx dX1_detail_114 ?_
          refine tm_goto (tgt := 119) cx dX1_detail_115 (by decide) ?_
          exact tm_ireturn cx (by decide) dX1_detail_119
        · refine tm_iload cx dX1_detail_108 (tm_has_at hl 4 rfl) ?_
          refine tm_iconst cx dX1_detail_110 ?_
          refine tm_icmp_ne (tgt := 118) cx g3 (by decide) dX1_detail_111 (by decide) (fun c111 => ?_) (fun c111 => ?_)
          · refine tm_iconst cx dX1_detail_114 ?_
            refine tm_goto (tgt := 119) cx dX1_detail_115 (by decide) ?_
            exact tm_ireturn cx (by decide) dX1_detail_119
          · refine tm_iconst cx dX1_detail_118 ?_
            exact tm_ireturn cx (by decide) dX1_detail_119
def fc_X3_putBack_B7 (r7 : Int → Int → tm_S → tm_R) (v0 : Int) (v2 : Int) (σ : tm_S) : tm_R :=
  if v2 < 0 then
    tm_rt 0 σ
  else
    tm_gk (tm_k σ v0) 3 <|
    tm_gk (tm_k σ (tm_f σ 128 v0)) 21 <|
    tm_gx v2 (tm_n σ (tm_f σ 128 v0)) <|
    tm_bd (fc_back (tm_a σ (tm_f σ 128 v0) v2) σ) fun u18 σ18 =>
    tm_gi (v2 + (-1)) <|
    r7 v0 (v2 + (-1)) σ18
theorem wc_X3_putBack_B7 {p : Program} {l : Launch} {e : Env} {R : Room} {s : State} {m : MethodId} {args : Array Value} {below : List Frame} {meth : Method} {c : Code} {K : tm_K} {r7 : Int → Int → tm_S → tm_R} (cx : tm_C p l R s m args meth c K cX3_putBack 3 RX3 "putBack" none 8 142) (h7 : ∀ (v0 : Int) (v2 : Int) (τ : tm_S) (ls : Array Slot), tm_in v0 → tm_in v2 → tm_has 0 ls 3 [(0, tm_rv K v0), (1, tm_rv K 0), (2, tm_iv v2)] → tm_J p l e R s m args below meth c K tm_xC 0 (r7 v0 v2 τ) τ (F0 m 7 ls [])) (v0 : Int) (v2 : Int) (σ : tm_S) (ls : Array Slot) (g0 : tm_in v0) (g2 : tm_in v2) (hl : tm_has 0 ls 3 [(0, tm_rv K v0), (1, tm_rv K 0), (2, tm_iv v2)]) : tm_J p l e R s m args below meth c K tm_xC 0 (fc_X3_putBack_B7 r7 v0 v2 σ) σ (F0 m 7 ls []) := by
  unfold fc_X3_putBack_B7
  refine tm_iload_n cx dX3_putBack_7 (tm_has_at hl 2 rfl) ?_
  refine tm_if_lt (tgt := 27) cx g2 dX3_putBack_8 (by decide) (fun c8 => ?_) (fun c8 => ?_)
  · exact tm_vreturn cx dX3_putBack_27
  · refine tm_aload_n cx dX3_putBack_11 (tm_has_at hl 1 rfl) ?_
    refine tm_aload_n cx dX3_putBack_12 (tm_has_at hl 0 rfl) ?_
    refine tm_gk_ (fun k13 => ?_)
    refine tg_X3_7 cx (fun _ => k13) dX3_putBack_13 (fun q13 => ?_)
    refine tm_iload_n cx dX3_putBack_16 (tm_has_at hl 2 rfl) ?_
    refine tm_gk_ (fun k17 => ?_)
    refine tm_sald cx (fun _ => ⟨k17, rfl⟩) g2 dX3_putBack_17 (fun i17 q17 => ?_)
    refine tm_callVN (n := 1) (host := "TokenMouth") cx (cc_back K l (tm_hst cx) (tm_a σ (tm_f σ 128 v0) v2) q17) q693 q95 q692 qs20 (List.mem_of_getElem? (i := 11) rfl) ⟨by decide +kernel, by decide +kernel, by decide +kernel⟩ rfl tm_cd_X1 (fun h => (tm_hC_0 h).1) ⟨Nat.le_of_ble_eq_true rfl, Nat.le_of_ble_eq_true rfl⟩ rfl (Nat.le_of_ble_eq_true rfl) hl.1.1 dX3_putBack_18 (fun u18 σ18 q18 => ?_)
    show tm_J p l e R s m args below meth c K tm_xC 0 _ _ (F0 m 21 ls [])
    refine tm_iinc (lv' := [(2, tm_iv (v2 + (-1))), (0, tm_rv K v0), (1, tm_rv K 0)]) cx dX3_putBack_21 hl (j := 2) rfl (by decide) (by decide) rfl (fun q21 ls hl => ?_)
    refine tm_goto (tgt := 7) cx dX3_putBack_24 (by decide) ?_
    exact h7 v0 (v2 + (-1)) _ _ g0 q21 (tm_has_sub hl [1, 2, 0] rfl)
def fc_X3_putBack_L7 : Nat → Int → Int → tm_S → tm_R
  | 0, _, _, _ => none
  | n + 1, v0, v2, σ => fc_X3_putBack_B7 (fc_X3_putBack_L7 n) v0 v2 σ
theorem wc_X3_putBack_L7 {p : Program} {l : Launch} {e : Env} {R : Room} {s : State} {m : MethodId} {args : Array Value} {below : List Frame} {meth : Method} {c : Code} {K : tm_K} (cx : tm_C p l R s m args meth c K cX3_putBack 3 RX3 "putBack" none 8 142) : ∀ (n : Nat) (v0 : Int) (v2 : Int) (σ : tm_S) (ls : Array Slot), tm_in v0 → tm_in v2 → tm_has 0 ls 3 [(0, tm_rv K v0), (1, tm_rv K 0), (2, tm_iv v2)] → tm_J p l e R s m args below meth c K tm_xC 0 (fc_X3_putBack_L7 n v0 v2 σ) σ (F0 m 7 ls []) := by
  intro n
  induction n with
  | zero => intros; exact tm_none
  | succ n ih =>
    intro v0 v2 σ ls g0 g2 hl
    exact wc_X3_putBack_B7 (r7 := fc_X3_putBack_L7 n) cx ih v0 v2 σ ls g0 g2 hl
def fc_X3_putBack (a0 : Int) (σ : tm_S) : tm_R :=
  tm_gk (tm_k σ a0) 3 <|
  tm_gi ((tm_f σ 129 a0) - 1) <|
  tm_lt ((tm_f σ 129 a0) - 1) fun x6 =>
  fc_X3_putBack_L7 tm_FU a0 x6 σ
theorem tm_fits_X3_putBack (K : tm_K) (a0 : Int) : (lg_sl [tm_rv K a0, tm_rv K 0]).length ≤ 2 := (tm_sl_r _ _ _ _ (tm_sl_r _ _ _ _ (tm_sl_n _)))
theorem cc_X3_putBack (K : tm_K) (l : Launch) (hst : l.stackTraces = false) (a0 : Int) (g0 : tm_in a0) : tm_ct K tm_xC l yX3_putBack cX3_putBack 3 none 0 [tm_rv K a0, tm_rv K 0] (fc_X3_putBack a0) 8 142 := by
  refine tm_ct_of hst (by decide +kernel) (Nat.le_trans (tm_fits_X3_putBack K a0) (Nat.le_of_ble_eq_true rfl)) ?_
  intro p e R s m args below meth c cx σ ls hl0
  have hl : tm_has 0 ls 3 [(0, tm_rv K a0), (1, tm_rv K 0)] := ⟨by
    have h9 := hl0
    simp only [tm_args_r, tm_args_r, tm_args_n, Nat.zero_add, Nat.reduceAdd] at h9
    exact h9, by
    intro q hq
    simp only [List.mem_cons, List.not_mem_nil, or_false] at hq
    rcases hq with rfl | rfl
    · exact Or.inl (tm_rv_cat K a0)
    · exact Or.inl (tm_rv_cat K 0)⟩
  clear hl0
  unfold fc_X3_putBack
  refine tm_aload_n cx dX3_putBack_0 (tm_has_at hl 0 rfl) ?_
  refine tm_gk_ (fun k1 => ?_)
  refine tg_X3_13 cx (fun _ => k1) dX3_putBack_1 (fun q1 => ?_)
  refine tm_iconst cx dX3_putBack_4 ?_
  refine tm_isub cx dX3_putBack_5 (fun q5 => ?_)
  refine tm_lt_ q5 (fun x6 q6 => ?_)
  refine tm_istore_n (lv' := [(2, tm_iv x6), (0, tm_rv K a0), (1, tm_rv K 0)]) cx dX3_putBack_6 hl (by decide) (by decide) rfl (fun ls hl => ?_)
  exact wc_X3_putBack_L7 cx tm_FU a0 x6 _ _ g0 q6 (tm_has_sub hl [1, 2, 0] rfl)
def fc_X7_expand_J90 (r50 : Int → Int → Int → tm_S → tm_R) (v0 : Int) (v2 : Int) (v3 : Int) (v4 : Int) (σ : tm_S) : tm_R :=
  if v2 = v4 then
    tm_gx v3 4 <|
    tm_bd (fc_undelimited (130 + v3) σ) fun u103 σ103 =>
    tm_gi (v3 + 1) <|
    r50 v0 v2 (v3 + 1) σ103
  else
    tm_gx v3 4 <|
    tm_gk (tm_k σ v0) 6 <|
    tm_bd (fc_delimited (130 + v3) (tm_f σ 320 v0) v4 v2 σ) fun u123 σ123 =>
    tm_gi (v3 + 1) <|
    r50 v0 v2 (v3 + 1) σ123
theorem wc_X7_expand_J90 {p : Program} {l : Launch} {e : Env} {R : Room} {s : State} {m : MethodId} {args : Array Value} {below : List Frame} {meth : Method} {c : Code} {K : tm_K} {r50 : Int → Int → Int → tm_S → tm_R} (cx : tm_C p l R s m args meth c K cX7_expand 5 RX7 "expand" none 15 374) (h50 : ∀ (v0 : Int) (v2 : Int) (v3 : Int) (τ : tm_S) (ls : Array Slot), tm_in v0 → tm_in v2 → tm_in v3 → tm_has 0 ls 5 [(0, tm_rv K v0), (1, tm_rv K 0), (2, tm_iv v2), (3, tm_iv v3)] → tm_J p l e R s m args below meth c K tm_xC 0 (r50 v0 v2 v3 τ) τ (F0 m 50 ls [])) (v0 : Int) (v2 : Int) (v3 : Int) (v4 : Int) (σ : tm_S) (ls : Array Slot) (g0 : tm_in v0) (g2 : tm_in v2) (g3 : tm_in v3) (g4 : tm_in v4) (hl : tm_has 0 ls 5 [(0, tm_rv K v0), (1, tm_rv K 0), (2, tm_iv v2), (3, tm_iv v3), (4, tm_iv v4)]) : tm_J p l e R s m args below meth c K tm_xC 0 (fc_X7_expand_J90 r50 v0 v2 v3 v4 σ) σ (F0 m 90 ls []) := by
  unfold fc_X7_expand_J90
  refine tm_iload_n cx dX7_expand_90 (tm_has_at hl 2 rfl) ?_
  refine tm_iload cx dX7_expand_91 (tm_has_at hl 4 rfl) ?_
  refine tm_icmp_ne (tgt := 109) cx g2 g4 dX7_expand_93 (by decide) (fun c93 => ?_) (fun c93 => ?_)
  · refine tm_aload_n cx dX7_expand_96 (tm_has_at hl 1 rfl) ?_
    refine tm_aload_n cx dX7_expand_97 (tm_has_at hl 1 rfl) ?_
    refine tg_X7_40 cx dX7_expand_98 ?_
    refine tm_iload_n cx dX7_expand_101 (tm_has_at hl 3 rfl) ?_
    refine tm_aald cx (by decide) tm_hC_123 g3 dX7_expand_102 (fun i102 q102 f102 => ?_)
    rw [tm_aC_123 f102 _ i102] at q102 ⊢
    refine tm_callVN (n := 1) (host := "TokenMouth") cx (cc_undelimited K l (tm_hst cx) (130 + v3) q102) q802 q95 q801 qs34 (List.mem_of_getElem? (i := 15) rfl) ⟨by decide +kernel, by decide +kernel, by decide +kernel⟩ rfl tm_cd_X1 (fun h => (tm_hC_0 h).1) ⟨Nat.le_of_ble_eq_true rfl, Nat.le_of_ble_eq_true rfl⟩ rfl (Nat.le_of_ble_eq_true rfl) hl.1.1 dX7_expand_103 (fun u103 σ103 q103 => ?_)
    show tm_J p l e R s m args below meth c K tm_xC 0 _ _ (F0 m 106 ls [])
    refine tm_goto (tgt := 126) cx dX7_expand_106 (by decide) ?_
    refine tm_iinc (lv' := [(3, tm_iv (v3 + 1)), (0, tm_rv K v0), (1, tm_rv K 0), (2, tm_iv v2), (4, tm_iv v4)]) cx dX7_expand_126 hl (j := 3) rfl (by decide) (by decide) rfl (fun q126 ls hl => ?_)
    refine tm_goto (tgt := 50) cx dX7_expand_129 (by decide) ?_
    exact h50 v0 v2 (v3 + 1) _ _ g0 g2 q126 (tm_has_sub hl [1, 2, 3, 0] rfl)
  · refine tm_aload_n cx dX7_expand_109 (tm_has_at hl 1 rfl) ?_
    refine tm_aload_n cx dX7_expand_110 (tm_has_at hl 1 rfl) ?_
    refine tg_X7_40 cx dX7_expand_111 ?_
    refine tm_iload_n cx dX7_expand_114 (tm_has_at hl 3 rfl) ?_
    refine tm_aald cx (by decide) tm_hC_123 g3 dX7_expand_115 (fun i115 q115 f115 => ?_)
    rw [tm_aC_123 f115 _ i115] at q115 ⊢
    refine tm_aload_n cx dX7_expand_116 (tm_has_at hl 0 rfl) ?_
    refine tm_gk_ (fun k117 => ?_)
    refine tg_X7_15 cx (fun _ => k117) dX7_expand_117 (fun q117 => ?_)
    refine tm_iload cx dX7_expand_120 (tm_has_at hl 4 rfl) ?_
    refine tm_iload_n cx dX7_expand_122 (tm_has_at hl 2 rfl) ?_
    refine tm_callVN (n := 4) (host := "TokenMouth") cx (cc_delimited K l (tm_hst cx) (130 + v3) q115 (tm_f σ 320 v0) q117 v4 g4 v2 g2) q822 q95 q821 qs36 (List.mem_of_getElem? (i := 16) rfl) ⟨by decide +kernel, by decide +kernel, by decide +kernel⟩ rfl tm_cd_X1 (fun h => (tm_hC_0 h).1) ⟨Nat.le_of_ble_eq_true rfl, Nat.le_of_ble_eq_true rfl⟩ rfl (Nat.le_of_ble_eq_true rfl) hl.1.1 dX7_expand_123 (fun u123 σ123 q123 => ?_)
    show tm_J p l e R s m args below meth c K tm_xC 0 _ _ (F0 m 126 ls [])
    refine tm_iinc (lv' := [(3, tm_iv (v3 + 1)), (0, tm_rv K v0), (1, tm_rv K 0), (2, tm_iv v2), (4, tm_iv v4)]) cx dX7_expand_126 hl (j := 3) rfl (by decide) (by decide) rfl (fun q126 ls hl => ?_)
    refine tm_goto (tgt := 50) cx dX7_expand_129 (by decide) ?_
    exact h50 v0 v2 (v3 + 1) _ _ g0 g2 q126 (tm_has_sub hl [1, 2, 3, 0] rfl)
def fc_X7_expand_B66 (r50 : Int → Int → Int → tm_S → tm_R) (r66 : Int → Int → Int → Int → tm_S → tm_R) (v0 : Int) (v2 : Int) (v3 : Int) (v4 : Int) (σ : tm_S) : tm_R :=
  tm_gk (tm_k σ v0) 6 <|
  tm_gk (tm_k σ (tm_f σ 320 v0)) 21 <|
  if v2 < (tm_n σ (tm_f σ 320 v0)) then
    tm_gx v2 (tm_n σ (tm_f σ 320 v0)) <|
    if (tm_a σ (tm_f σ 320 v0) v2) < 0 then
      fc_X7_expand_J90 r50 v0 v2 v3 v4 σ
    else
      tm_gi (v2 + 1) <|
      r66 v0 (v2 + 1) v3 v4 σ
  else
    fc_X7_expand_J90 r50 v0 v2 v3 v4 σ
theorem wc_X7_expand_B66 {p : Program} {l : Launch} {e : Env} {R : Room} {s : State} {m : MethodId} {args : Array Value} {below : List Frame} {meth : Method} {c : Code} {K : tm_K} {r50 : Int → Int → Int → tm_S → tm_R} {r66 : Int → Int → Int → Int → tm_S → tm_R} (cx : tm_C p l R s m args meth c K cX7_expand 5 RX7 "expand" none 15 374) (h50 : ∀ (v0 : Int) (v2 : Int) (v3 : Int) (τ : tm_S) (ls : Array Slot), tm_in v0 → tm_in v2 → tm_in v3 → tm_has 0 ls 5 [(0, tm_rv K v0), (1, tm_rv K 0), (2, tm_iv v2), (3, tm_iv v3)] → tm_J p l e R s m args below meth c K tm_xC 0 (r50 v0 v2 v3 τ) τ (F0 m 50 ls [])) (h66 : ∀ (v0 : Int) (v2 : Int) (v3 : Int) (v4 : Int) (τ : tm_S) (ls : Array Slot), tm_in v0 → tm_in v2 → tm_in v3 → tm_in v4 → tm_has 0 ls 5 [(0, tm_rv K v0), (1, tm_rv K 0), (2, tm_iv v2), (3, tm_iv v3), (4, tm_iv v4)] → tm_J p l e R s m args below meth c K tm_xC 0 (r66 v0 v2 v3 v4 τ) τ (F0 m 66 ls [])) (v0 : Int) (v2 : Int) (v3 : Int) (v4 : Int) (σ : tm_S) (ls : Array Slot) (g0 : tm_in v0) (g2 : tm_in v2) (g3 : tm_in v3) (g4 : tm_in v4) (hl : tm_has 0 ls 5 [(0, tm_rv K v0), (1, tm_rv K 0), (2, tm_iv v2), (3, tm_iv v3), (4, tm_iv v4)]) : tm_J p l e R s m args below meth c K tm_xC 0 (fc_X7_expand_B66 r50 r66 v0 v2 v3 v4 σ) σ (F0 m 66 ls []) := by
  unfold fc_X7_expand_B66
  refine tm_iload_n cx dX7_expand_66 (tm_has_at hl 2 rfl) ?_
  refine tm_aload_n cx dX7_expand_67 (tm_has_at hl 0 rfl) ?_
  refine tm_gk_ (fun k68 => ?_)
  refine tg_X7_15 cx (fun _ => k68) dX7_expand_68 (fun q68 => ?_)
  refine tm_gk_ (fun k71 => ?_)
  refine tm_alen cx (fun _ => ⟨k71, rfl⟩) (by decide) dX7_expand_71 (fun q71 => ?_)
  refine tm_icmp_ge (tgt := 90) cx g2 (tm_in0 q71) dX7_expand_72 (by decide) (fun c72 => ?_) (fun c72 => ?_)
  · refine tm_aload_n cx dX7_expand_75 (tm_has_at hl 0 rfl) ?_
    refine tg_X7_15 cx (fun _ => k68) dX7_expand_76 (fun q76 => ?_)
    refine tm_iload_n cx dX7_expand_79 (tm_has_at hl 2 rfl) ?_
    refine tm_sald cx (fun _ => ⟨k71, rfl⟩) g2 dX7_expand_80 (fun i80 q80 => ?_)
    refine tm_if_lt (tgt := 90) cx q80 dX7_expand_81 (by decide) (fun c81 => ?_) (fun c81 => ?_)
    · exact wc_X7_expand_J90 cx h50 v0 v2 v3 v4 _ _ g0 g2 g3 g4 (tm_has_sub hl [0, 1, 2, 3, 4] rfl)
    · refine tm_iinc (lv' := [(2, tm_iv (v2 + 1)), (0, tm_rv K v0), (1, tm_rv K 0), (3, tm_iv v3), (4, tm_iv v4)]) cx dX7_expand_84 hl (j := 2) rfl (by decide) (by decide) rfl (fun q84 ls hl => ?_)
      refine tm_goto (tgt := 66) cx dX7_expand_87 (by decide) ?_
      exact h66 v0 (v2 + 1) v3 v4 _ _ g0 q84 g3 g4 (tm_has_sub hl [1, 2, 0, 3, 4] rfl)
  · exact wc_X7_expand_J90 cx h50 v0 v2 v3 v4 _ _ g0 g2 g3 g4 (tm_has_sub hl [0, 1, 2, 3, 4] rfl)
def fc_X7_expand_L66 (r50 : Int → Int → Int → tm_S → tm_R) : Nat → Int → Int → Int → Int → tm_S → tm_R
  | 0, _, _, _, _, _ => none
  | n + 1, v0, v2, v3, v4, σ => fc_X7_expand_B66 r50 (fc_X7_expand_L66 r50 n) v0 v2 v3 v4 σ
theorem wc_X7_expand_L66 {p : Program} {l : Launch} {e : Env} {R : Room} {s : State} {m : MethodId} {args : Array Value} {below : List Frame} {meth : Method} {c : Code} {K : tm_K} {r50 : Int → Int → Int → tm_S → tm_R} (cx : tm_C p l R s m args meth c K cX7_expand 5 RX7 "expand" none 15 374) (h50 : ∀ (v0 : Int) (v2 : Int) (v3 : Int) (τ : tm_S) (ls : Array Slot), tm_in v0 → tm_in v2 → tm_in v3 → tm_has 0 ls 5 [(0, tm_rv K v0), (1, tm_rv K 0), (2, tm_iv v2), (3, tm_iv v3)] → tm_J p l e R s m args below meth c K tm_xC 0 (r50 v0 v2 v3 τ) τ (F0 m 50 ls [])) : ∀ (n : Nat) (v0 : Int) (v2 : Int) (v3 : Int) (v4 : Int) (σ : tm_S) (ls : Array Slot), tm_in v0 → tm_in v2 → tm_in v3 → tm_in v4 → tm_has 0 ls 5 [(0, tm_rv K v0), (1, tm_rv K 0), (2, tm_iv v2), (3, tm_iv v3), (4, tm_iv v4)] → tm_J p l e R s m args below meth c K tm_xC 0 (fc_X7_expand_L66 r50 n v0 v2 v3 v4 σ) σ (F0 m 66 ls []) := by
  intro n
  induction n with
  | zero => intros; exact tm_none
  | succ n ih =>
    intro v0 v2 v3 v4 σ ls g0 g2 g3 g4 hl
    exact wc_X7_expand_B66 (r66 := fc_X7_expand_L66 r50 n) cx h50 ih v0 v2 v3 v4 σ ls g0 g2 g3 g4 hl
def fc_X7_expand_B140 (r140 : Int → Int → tm_S → tm_R) (v0 : Int) (v3 : Int) (σ : tm_S) : tm_R :=
  if v3 < 0 then
    tm_rt 0 σ
  else
    tm_gk (tm_k σ v0) 6 <|
    tm_gk (tm_k σ (tm_f σ 321 v0)) 21 <|
    tm_gx v3 (tm_n σ (tm_f σ 321 v0)) <|
    if (tm_a σ (tm_f σ 321 v0) v3) < 0 then
      tm_gx v3 (tm_n σ (tm_f σ 321 v0)) <|
      tm_gi ((-1) - (tm_a σ (tm_f σ 321 v0) v3)) <|
      tm_gx ((-1) - (tm_a σ (tm_f σ 321 v0) v3)) 4 <|
      tm_gk (tm_k σ (130 + ((-1) - (tm_a σ (tm_f σ 321 v0) v3)))) 3 <|
      tm_bd (fc_X3_putBack (130 + ((-1) - (tm_a σ (tm_f σ 321 v0) v3))) σ) fun u180 σ180 =>
      tm_gi (v3 + (-1)) <|
      r140 v0 (v3 + (-1)) σ180
    else
      tm_gx v3 (tm_n σ (tm_f σ 321 v0)) <|
      tm_bd (fc_back (tm_a σ (tm_f σ 321 v0) v3) σ) fun u160 σ160 =>
      tm_gi (v3 + (-1)) <|
      r140 v0 (v3 + (-1)) σ160
theorem wc_X7_expand_B140 {p : Program} {l : Launch} {e : Env} {R : Room} {s : State} {m : MethodId} {args : Array Value} {below : List Frame} {meth : Method} {c : Code} {K : tm_K} {r140 : Int → Int → tm_S → tm_R} (cx : tm_C p l R s m args meth c K cX7_expand 5 RX7 "expand" none 15 374) (h140 : ∀ (v0 : Int) (v3 : Int) (τ : tm_S) (ls : Array Slot), tm_in v0 → tm_in v3 → tm_has 0 ls 5 [(0, tm_rv K v0), (1, tm_rv K 0), (3, tm_iv v3)] → tm_J p l e R s m args below meth c K tm_xC 0 (r140 v0 v3 τ) τ (F0 m 140 ls [])) (v0 : Int) (v3 : Int) (σ : tm_S) (ls : Array Slot) (g0 : tm_in v0) (g3 : tm_in v3) (hl : tm_has 0 ls 5 [(0, tm_rv K v0), (1, tm_rv K 0), (3, tm_iv v3)]) : tm_J p l e R s m args below meth c K tm_xC 0 (fc_X7_expand_B140 r140 v0 v3 σ) σ (F0 m 140 ls []) := by
  unfold fc_X7_expand_B140
  refine tm_iload_n cx dX7_expand_140 (tm_has_at hl 2 rfl) ?_
  refine tm_if_lt (tgt := 189) cx g3 dX7_expand_141 (by decide) (fun c141 => ?_) (fun c141 => ?_)
  · exact tm_vreturn cx dX7_expand_189
  · refine tm_aload_n cx dX7_expand_144 (tm_has_at hl 0 rfl) ?_
    refine tm_gk_ (fun k145 => ?_)
    refine tg_X7_21 cx (fun _ => k145) dX7_expand_145 (fun q145 => ?_)
    refine tm_iload_n cx dX7_expand_148 (tm_has_at hl 2 rfl) ?_
    refine tm_gk_ (fun k149 => ?_)
    refine tm_sald cx (fun _ => ⟨k149, rfl⟩) g3 dX7_expand_149 (fun i149 q149 => ?_)
    refine tm_if_lt (tgt := 166) cx q149 dX7_expand_150 (by decide) (fun c150 => ?_) (fun c150 => ?_)
    · refine tm_aload_n cx dX7_expand_166 (tm_has_at hl 1 rfl) ?_
      refine tg_X7_40 cx dX7_expand_167 ?_
      refine tm_iconst cx dX7_expand_170 ?_
      refine tm_aload_n cx dX7_expand_171 (tm_has_at hl 0 rfl) ?_
      refine tg_X7_21 cx (fun _ => k145) dX7_expand_172 (fun q172 => ?_)
      refine tm_iload_n cx dX7_expand_175 (tm_has_at hl 2 rfl) ?_
      refine tm_sald cx (fun _ => ⟨k149, rfl⟩) g3 dX7_expand_176 (fun i176 q176 => ?_)
      refine tm_isub cx dX7_expand_177 (fun q177 => ?_)
      refine tm_aald cx (by decide) tm_hC_123 q177 dX7_expand_178 (fun i178 q178 f178 => ?_)
      rw [tm_aC_123 f178 _ i178] at q178 ⊢
      refine tm_aload_n cx dX7_expand_179 (tm_has_at hl 1 rfl) ?_
      refine tm_gk_ (fun k180 => ?_)
      refine tm_callV (n := 1) cx (cc_X3_putBack K l (tm_hst cx) (130 + ((-1) - (tm_a σ (tm_f σ 321 v0) v3))) q178) (lw_V q837 q838 q839 q101 q840) ⟨rfl, by decide +kernel, by decide +kernel, by decide +kernel⟩ rfl tm_cd_X3 (fun _ => k180) ⟨Nat.le_of_ble_eq_true rfl, Nat.le_of_ble_eq_true rfl⟩ rfl (Nat.le_of_ble_eq_true rfl) hl.1.1 dX7_expand_180 (fun u180 σ180 q180 => ?_)
      show tm_J p l e R s m args below meth c K tm_xC 0 _ _ (F0 m 183 ls [])
      refine tm_iinc (lv' := [(3, tm_iv (v3 + (-1))), (0, tm_rv K v0), (1, tm_rv K 0)]) cx dX7_expand_183 hl (j := 2) rfl (by decide) (by decide) rfl (fun q183 ls hl => ?_)
      refine tm_goto (tgt := 140) cx dX7_expand_186 (by decide) ?_
      exact h140 v0 (v3 + (-1)) _ _ g0 q183 (tm_has_sub hl [1, 2, 0] rfl)
    · refine tm_aload_n cx dX7_expand_153 (tm_has_at hl 1 rfl) ?_
      refine tm_aload_n cx dX7_expand_154 (tm_has_at hl 0 rfl) ?_
      refine tg_X7_21 cx (fun _ => k145) dX7_expand_155 (fun q155 => ?_)
      refine tm_iload_n cx dX7_expand_158 (tm_has_at hl 2 rfl) ?_
      refine tm_sald cx (fun _ => ⟨k149, rfl⟩) g3 dX7_expand_159 (fun i159 q159 => ?_)
      refine tm_callVN (n := 1) (host := "TokenMouth") cx (cc_back K l (tm_hst cx) (tm_a σ (tm_f σ 321 v0) v3) q159) q693 q95 q692 qs20 (List.mem_of_getElem? (i := 17) rfl) ⟨by decide +kernel, by decide +kernel, by decide +kernel⟩ rfl tm_cd_X1 (fun h => (tm_hC_0 h).1) ⟨Nat.le_of_ble_eq_true rfl, Nat.le_of_ble_eq_true rfl⟩ rfl (Nat.le_of_ble_eq_true rfl) hl.1.1 dX7_expand_160 (fun u160 σ160 q160 => ?_)
      show tm_J p l e R s m args below meth c K tm_xC 0 _ _ (F0 m 163 ls [])
      refine tm_goto (tgt := 183) cx dX7_expand_163 (by decide) ?_
      refine tm_iinc (lv' := [(3, tm_iv (v3 + (-1))), (0, tm_rv K v0), (1, tm_rv K 0)]) cx dX7_expand_183 hl (j := 2) rfl (by decide) (by decide) rfl (fun q183 ls hl => ?_)
      refine tm_goto (tgt := 140) cx dX7_expand_186 (by decide) ?_
      exact h140 v0 (v3 + (-1)) _ _ g0 q183 (tm_has_sub hl [1, 2, 0] rfl)
def fc_X7_expand_L140 : Nat → Int → Int → tm_S → tm_R
  | 0, _, _, _ => none
  | n + 1, v0, v3, σ => fc_X7_expand_B140 (fc_X7_expand_L140 n) v0 v3 σ
theorem wc_X7_expand_L140 {p : Program} {l : Launch} {e : Env} {R : Room} {s : State} {m : MethodId} {args : Array Value} {below : List Frame} {meth : Method} {c : Code} {K : tm_K} (cx : tm_C p l R s m args meth c K cX7_expand 5 RX7 "expand" none 15 374) : ∀ (n : Nat) (v0 : Int) (v3 : Int) (σ : tm_S) (ls : Array Slot), tm_in v0 → tm_in v3 → tm_has 0 ls 5 [(0, tm_rv K v0), (1, tm_rv K 0), (3, tm_iv v3)] → tm_J p l e R s m args below meth c K tm_xC 0 (fc_X7_expand_L140 n v0 v3 σ) σ (F0 m 140 ls []) := by
  intro n
  induction n with
  | zero => intros; exact tm_none
  | succ n ih =>
    intro v0 v3 σ ls g0 g3 hl
    exact wc_X7_expand_B140 (r140 := fc_X7_expand_L140 n) cx ih v0 v3 σ ls g0 g3 hl
def fc_X7_expand_B50 (r50 : Int → Int → Int → tm_S → tm_R) (v0 : Int) (v2 : Int) (v3 : Int) (σ : tm_S) : tm_R :=
  tm_gk (tm_k σ v0) 6 <|
  if v3 < (tm_f σ 322 v0) then
    tm_gi (v2 + 1) <|
    tm_lt (v2 + 1) fun x61 =>
    fc_X7_expand_L66 r50 tm_FU v0 x61 v3 x61 σ
  else
    tm_gk (tm_k σ (tm_f σ 321 v0)) 21 <|
    tm_gi ((tm_n σ (tm_f σ 321 v0)) - 1) <|
    tm_lt ((tm_n σ (tm_f σ 321 v0)) - 1) fun x139 =>
    fc_X7_expand_L140 tm_FU v0 x139 σ
theorem wc_X7_expand_B50 {p : Program} {l : Launch} {e : Env} {R : Room} {s : State} {m : MethodId} {args : Array Value} {below : List Frame} {meth : Method} {c : Code} {K : tm_K} {r50 : Int → Int → Int → tm_S → tm_R} (cx : tm_C p l R s m args meth c K cX7_expand 5 RX7 "expand" none 15 374) (h50 : ∀ (v0 : Int) (v2 : Int) (v3 : Int) (τ : tm_S) (ls : Array Slot), tm_in v0 → tm_in v2 → tm_in v3 → tm_has 0 ls 5 [(0, tm_rv K v0), (1, tm_rv K 0), (2, tm_iv v2), (3, tm_iv v3)] → tm_J p l e R s m args below meth c K tm_xC 0 (r50 v0 v2 v3 τ) τ (F0 m 50 ls [])) (v0 : Int) (v2 : Int) (v3 : Int) (σ : tm_S) (ls : Array Slot) (g0 : tm_in v0) (g2 : tm_in v2) (g3 : tm_in v3) (hl : tm_has 0 ls 5 [(0, tm_rv K v0), (1, tm_rv K 0), (2, tm_iv v2), (3, tm_iv v3)]) : tm_J p l e R s m args below meth c K tm_xC 0 (fc_X7_expand_B50 r50 v0 v2 v3 σ) σ (F0 m 50 ls []) := by
  unfold fc_X7_expand_B50
  refine tm_iload_n cx dX7_expand_50 (tm_has_at hl 3 rfl) ?_
  refine tm_aload_n cx dX7_expand_51 (tm_has_at hl 0 rfl) ?_
  refine tm_gk_ (fun k52 => ?_)
  refine tg_X7_24 cx (fun _ => k52) dX7_expand_52 (fun q52 => ?_)
  refine tm_icmp_ge (tgt := 132) cx g3 q52 dX7_expand_55 (by decide) (fun c55 => ?_) (fun c55 => ?_)
  · refine tm_iload_n cx dX7_expand_58 (tm_has_at hl 2 rfl) ?_
    refine tm_iconst cx dX7_expand_59 ?_
    refine tm_iadd cx dX7_expand_60 (fun q60 => ?_)
    refine tm_lt_ q60 (fun x61 q61 => ?_)
    refine tm_istore (lv' := [(4, tm_iv x61), (0, tm_rv K v0), (1, tm_rv K 0), (2, tm_iv v2), (3, tm_iv v3)]) cx dX7_expand_61 hl (by decide) (by decide) rfl (fun ls hl => ?_)
    refine tm_iload cx dX7_expand_63 (tm_has_at hl 0 rfl) ?_
    refine tm_istore_n (lv' := [(2, tm_iv x61), (4, tm_iv x61), (0, tm_rv K v0), (1, tm_rv K 0), (3, tm_iv v3)]) cx dX7_expand_65 hl (by decide) (by decide) rfl (fun ls hl => ?_)
    exact wc_X7_expand_L66 cx h50 tm_FU v0 x61 v3 x61 _ _ g0 q61 g3 q61 (tm_has_sub hl [2, 3, 0, 4, 1] rfl)
  · refine tm_aload_n cx dX7_expand_132 (tm_has_at hl 0 rfl) ?_
    refine tg_X7_21 cx (fun _ => k52) dX7_expand_133 (fun q133 => ?_)
    refine tm_gk_ (fun k136 => ?_)
    refine tm_alen cx (fun _ => ⟨k136, rfl⟩) (by decide) dX7_expand_136 (fun q136 => ?_)
    refine tm_iconst cx dX7_expand_137 ?_
    refine tm_isub cx dX7_expand_138 (fun q138 => ?_)
    refine tm_lt_ q138 (fun x139 q139 => ?_)
    refine tm_istore_n (lv' := [(3, tm_iv x139), (0, tm_rv K v0), (1, tm_rv K 0), (2, tm_iv v2)]) cx dX7_expand_139 hl (by decide) (by decide) rfl (fun ls hl => ?_)
    exact wc_X7_expand_L140 cx tm_FU v0 x139 _ _ g0 q139 (tm_has_sub hl [1, 2, 0] rfl)
def fc_X7_expand_L50 : Nat → Int → Int → Int → tm_S → tm_R
  | 0, _, _, _, _ => none
  | n + 1, v0, v2, v3, σ => fc_X7_expand_B50 (fc_X7_expand_L50 n) v0 v2 v3 σ
theorem wc_X7_expand_L50 {p : Program} {l : Launch} {e : Env} {R : Room} {s : State} {m : MethodId} {args : Array Value} {below : List Frame} {meth : Method} {c : Code} {K : tm_K} (cx : tm_C p l R s m args meth c K cX7_expand 5 RX7 "expand" none 15 374) : ∀ (n : Nat) (v0 : Int) (v2 : Int) (v3 : Int) (σ : tm_S) (ls : Array Slot), tm_in v0 → tm_in v2 → tm_in v3 → tm_has 0 ls 5 [(0, tm_rv K v0), (1, tm_rv K 0), (2, tm_iv v2), (3, tm_iv v3)] → tm_J p l e R s m args below meth c K tm_xC 0 (fc_X7_expand_L50 n v0 v2 v3 σ) σ (F0 m 50 ls []) := by
  intro n
  induction n with
  | zero => intros; exact tm_none
  | succ n ih =>
    intro v0 v2 v3 σ ls g0 g2 g3 hl
    exact wc_X7_expand_B50 (r50 := fc_X7_expand_L50 n) cx ih v0 v2 v3 σ ls g0 g2 g3 hl
def fc_X7_expand_B2 (r2 : Int → Int → tm_S → tm_R) (v0 : Int) (v2 : Int) (σ : tm_S) : tm_R :=
  tm_gk (tm_k σ v0) 6 <|
  tm_gk (tm_k σ (tm_f σ 320 v0)) 21 <|
  if v2 < (tm_n σ (tm_f σ 320 v0)) then
    tm_gx v2 (tm_n σ (tm_f σ 320 v0)) <|
    if (tm_a σ (tm_f σ 320 v0) v2) < 0 then
      fc_X7_expand_L50 tm_FU v0 v2 0 σ
    else
      tm_bd (fc_need σ) fun u21 σ21 =>
      tm_gk (tm_k σ21 v0) 6 <|
      tm_gk (tm_k σ21 (tm_f σ21 320 v0)) 21 <|
      tm_gx v2 (tm_n σ21 (tm_f σ21 320 v0)) <|
      tm_bd (fc_same u21 (tm_a σ21 (tm_f σ21 320 v0) v2) σ21) fun u30 σ30 =>
      if u30 = 0 then
        tm_bd (fc_fail 6 σ30) fun _ _ => none
      else
        tm_gi (v2 + 1) <|
        r2 v0 (v2 + 1) σ30
  else
    fc_X7_expand_L50 tm_FU v0 v2 0 σ
theorem wc_X7_expand_B2 {p : Program} {l : Launch} {e : Env} {R : Room} {s : State} {m : MethodId} {args : Array Value} {below : List Frame} {meth : Method} {c : Code} {K : tm_K} {r2 : Int → Int → tm_S → tm_R} (cx : tm_C p l R s m args meth c K cX7_expand 5 RX7 "expand" none 15 374) (h2 : ∀ (v0 : Int) (v2 : Int) (τ : tm_S) (ls : Array Slot), tm_in v0 → tm_in v2 → tm_has 0 ls 5 [(0, tm_rv K v0), (1, tm_rv K 0), (2, tm_iv v2)] → tm_J p l e R s m args below meth c K tm_xC 0 (r2 v0 v2 τ) τ (F0 m 2 ls [])) (v0 : Int) (v2 : Int) (σ : tm_S) (ls : Array Slot) (g0 : tm_in v0) (g2 : tm_in v2) (hl : tm_has 0 ls 5 [(0, tm_rv K v0), (1, tm_rv K 0), (2, tm_iv v2)]) : tm_J p l e R s m args below meth c K tm_xC 0 (fc_X7_expand_B2 r2 v0 v2 σ) σ (F0 m 2 ls []) := by
  unfold fc_X7_expand_B2
  refine tm_iload_n cx dX7_expand_2 (tm_has_at hl 2 rfl) ?_
  refine tm_aload_n cx dX7_expand_3 (tm_has_at hl 0 rfl) ?_
  refine tm_gk_ (fun k4 => ?_)
  refine tg_X7_15 cx (fun _ => k4) dX7_expand_4 (fun q4 => ?_)
  refine tm_gk_ (fun k7 => ?_)
  refine tm_alen cx (fun _ => ⟨k7, rfl⟩) (by decide) dX7_expand_7 (fun q7 => ?_)
  refine tm_icmp_ge (tgt := 48) cx g2 (tm_in0 q7) dX7_expand_8 (by decide) (fun c8 => ?_) (fun c8 => ?_)
  · refine tm_aload_n cx dX7_expand_11 (tm_has_at hl 0 rfl) ?_
    refine tg_X7_15 cx (fun _ => k4) dX7_expand_12 (fun q12 => ?_)
    refine tm_iload_n cx dX7_expand_15 (tm_has_at hl 2 rfl) ?_
    refine tm_sald cx (fun _ => ⟨k7, rfl⟩) g2 dX7_expand_16 (fun i16 q16 => ?_)
    refine tm_if_lt (tgt := 48) cx q16 dX7_expand_17 (by decide) (fun c17 => ?_) (fun c17 => ?_)
    · refine tm_iconst cx dX7_expand_48 ?_
      refine tm_istore_n (lv' := [(3, tm_iv 0), (0, tm_rv K v0), (1, tm_rv K 0), (2, tm_iv v2)]) cx dX7_expand_49 hl (by decide) (by decide) rfl (fun ls hl => ?_)
      exact wc_X7_expand_L50 cx tm_FU v0 v2 0 _ _ g0 g2 (by decide) (tm_has_sub hl [1, 2, 3, 0] rfl)
    · refine tm_aload_n cx dX7_expand_20 (tm_has_at hl 1 rfl) ?_
      refine tm_callVN (n := 0) (host := "TokenMouth") cx (cc_need K l (tm_hst cx)) q689 q95 q688 qs19 (List.mem_of_getElem? (i := 12) rfl) ⟨by decide +kernel, by decide +kernel, by decide +kernel⟩ rfl tm_cd_X1 (fun h => (tm_hC_0 h).1) ⟨Nat.le_of_ble_eq_true rfl, Nat.le_of_ble_eq_true rfl⟩ rfl (Nat.le_of_ble_eq_true rfl) hl.1.1 dX7_expand_21 (fun u21 σ21 q21 => ?_)
      show tm_J p l e R s m args below meth c K tm_xC 0 _ _ (F0 m 24 ls [tm_iv u21])
      refine tm_aload_n cx dX7_expand_24 (tm_has_at hl 0 rfl) ?_
      refine tm_gk_ (fun k25 => ?_)
      refine tg_X7_15 cx (fun _ => k25) dX7_expand_25 (fun q25 => ?_)
      refine tm_iload_n cx dX7_expand_28 (tm_has_at hl 2 rfl) ?_
      refine tm_gk_ (fun k29 => ?_)
      refine tm_sald cx (fun _ => ⟨k29, rfl⟩) g2 dX7_expand_29 (fun i29 q29 => ?_)
      refine tm_callSN (n := 2) (host := "TokenMouth") cx (cc_same K l (tm_hst cx) u21 q21 (tm_a σ21 (tm_f σ21 320 v0) v2) q29) q794 q95 q793 (List.mem_of_getElem? (i := 13) rfl) ⟨by decide +kernel, by decide +kernel, by decide +kernel⟩ rfl ⟨Nat.le_of_ble_eq_true rfl, Nat.le_of_ble_eq_true rfl⟩ rfl (Nat.le_of_ble_eq_true rfl) hl.1.1 dX7_expand_30 (fun u30 σ30 q30 => ?_)
      show tm_J p l e R s m args below meth c K tm_xC 0 _ _ (F0 m 33 ls [tm_iv u30])
      refine tm_if_ne (tgt := 42) cx q30 dX7_expand_33 (by decide) (fun c33 => ?_) (fun c33 => ?_)
      · refine tm_aload_n cx dX7_expand_36 (tm_has_at hl 1 rfl) ?_
        refine tm_bipush cx dX7_expand_37 (by decide) ?_
        refine tm_callVN (n := 1) (host := "TokenMouth") cx (cc_fail K l (tm_hst cx) 6 (by decide)) q583 q95 q582 qs10 (List.mem_of_getElem? (i := 14) rfl) ⟨by decide +kernel, by decide +kernel, by decide +kernel⟩ rfl tm_cd_X1 (fun h => (tm_hC_0 h).1) ⟨Nat.le_of_ble_eq_true rfl, Nat.le_of_ble_eq_true rfl⟩ rfl (Nat.le_of_ble_eq_true rfl) hl.1.1 dX7_expand_39 (fun _ _ _ => ?_)
        exact tm_none
      · refine tm_iinc (lv' := [(2, tm_iv (v2 + 1)), (0, tm_rv K v0), (1, tm_rv K 0)]) cx dX7_expand_42 hl (j := 2) rfl (by decide) (by decide) rfl (fun q42 ls hl => ?_)
        refine tm_goto (tgt := 2) cx dX7_expand_45 (by decide) ?_
        exact h2 v0 (v2 + 1) _ _ g0 q42 (tm_has_sub hl [1, 2, 0] rfl)
  · refine tm_iconst cx dX7_expand_48 ?_
    refine tm_istore_n (lv' := [(3, tm_iv 0), (0, tm_rv K v0), (1, tm_rv K 0), (2, tm_iv v2)]) cx dX7_expand_49 hl (by decide) (by decide) rfl (fun ls hl => ?_)
    exact wc_X7_expand_L50 cx tm_FU v0 v2 0 _ _ g0 g2 (by decide) (tm_has_sub hl [1, 2, 3, 0] rfl)
def fc_X7_expand_L2 : Nat → Int → Int → tm_S → tm_R
  | 0, _, _, _ => none
  | n + 1, v0, v2, σ => fc_X7_expand_B2 (fc_X7_expand_L2 n) v0 v2 σ
theorem wc_X7_expand_L2 {p : Program} {l : Launch} {e : Env} {R : Room} {s : State} {m : MethodId} {args : Array Value} {below : List Frame} {meth : Method} {c : Code} {K : tm_K} (cx : tm_C p l R s m args meth c K cX7_expand 5 RX7 "expand" none 15 374) : ∀ (n : Nat) (v0 : Int) (v2 : Int) (σ : tm_S) (ls : Array Slot), tm_in v0 → tm_in v2 → tm_has 0 ls 5 [(0, tm_rv K v0), (1, tm_rv K 0), (2, tm_iv v2)] → tm_J p l e R s m args below meth c K tm_xC 0 (fc_X7_expand_L2 n v0 v2 σ) σ (F0 m 2 ls []) := by
  intro n
  induction n with
  | zero => intros; exact tm_none
  | succ n ih =>
    intro v0 v2 σ ls g0 g2 hl
    exact wc_X7_expand_B2 (r2 := fc_X7_expand_L2 n) cx ih v0 v2 σ ls g0 g2 hl
def fc_X7_expand (a0 : Int) (σ : tm_S) : tm_R :=
  fc_X7_expand_L2 tm_FU a0 0 σ
theorem tm_fits_X7_expand (K : tm_K) (a0 : Int) : (lg_sl [tm_rv K a0, tm_rv K 0]).length ≤ 2 := (tm_sl_r _ _ _ _ (tm_sl_r _ _ _ _ (tm_sl_n _)))
theorem cc_X7_expand (K : tm_K) (l : Launch) (hst : l.stackTraces = false) (a0 : Int) (g0 : tm_in a0) : tm_ct K tm_xC l yX7_expand cX7_expand 5 none 0 [tm_rv K a0, tm_rv K 0] (fc_X7_expand a0) 15 374 := by
  refine tm_ct_of hst (by decide +kernel) (Nat.le_trans (tm_fits_X7_expand K a0) (Nat.le_of_ble_eq_true rfl)) ?_
  intro p e R s m args below meth c cx σ ls hl0
  have hl : tm_has 0 ls 5 [(0, tm_rv K a0), (1, tm_rv K 0)] := ⟨by
    have h9 := hl0
    simp only [tm_args_r, tm_args_r, tm_args_n, Nat.zero_add, Nat.reduceAdd] at h9
    exact h9, by
    intro q hq
    simp only [List.mem_cons, List.not_mem_nil, or_false] at hq
    rcases hq with rfl | rfl
    · exact Or.inl (tm_rv_cat K a0)
    · exact Or.inl (tm_rv_cat K 0)⟩
  clear hl0
  unfold fc_X7_expand
  refine tm_iconst cx dX7_expand_0 ?_
  refine tm_istore_n (lv' := [(2, tm_iv 0), (0, tm_rv K a0), (1, tm_rv K 0)]) cx dX7_expand_1 hl (by decide) (by decide) rfl (fun ls hl => ?_)
  exact wc_X7_expand_L2 cx tm_FU a0 0 _ _ g0 (by decide) (tm_has_sub hl [1, 2, 0] rfl)
def fc_X8_expand (a0 : Int) (σ : tm_S) : tm_R :=
  tm_rt 0 σ
theorem tm_fits_X8_expand (K : tm_K) (a0 : Int) : (lg_sl [tm_rv K a0, tm_rv K 0]).length ≤ 2 := (tm_sl_r _ _ _ _ (tm_sl_r _ _ _ _ (tm_sl_n _)))
theorem cc_X8_expand (K : tm_K) (l : Launch) (hst : l.stackTraces = false) (a0 : Int) (g0 : tm_in a0) : tm_ct K tm_xC l yX8_expand cX8_expand 2 none 0 [tm_rv K a0, tm_rv K 0] (fc_X8_expand a0) 0 0 := by
  refine tm_ct_of hst (by decide +kernel) (Nat.le_trans (tm_fits_X8_expand K a0) (Nat.le_of_ble_eq_true rfl)) ?_
  intro p e R s m args below meth c cx σ ls hl0
  have hl : tm_has 0 ls 2 [(0, tm_rv K a0), (1, tm_rv K 0)] := ⟨by
    have h9 := hl0
    simp only [tm_args_r, tm_args_r, tm_args_n, Nat.zero_add, Nat.reduceAdd] at h9
    exact h9, by
    intro q hq
    simp only [List.mem_cons, List.not_mem_nil, or_false] at hq
    rcases hq with rfl | rfl
    · exact Or.inl (tm_rv_cat K a0)
    · exact Or.inl (tm_rv_cat K 0)⟩
  clear hl0
  unfold fc_X8_expand
  exact tm_vreturn cx dX8_expand_0
def fc_needExpanded_B5 (E : Int → tm_S → tm_R) (r5 : Int → tm_S → tm_R) (v1 : Int) (σ : tm_S) : tm_R :=
  tm_bd (fc_isExpandable v1 σ) fun u7 σ7 =>
  if u7 = 0 then
    tm_rt v1 σ7
  else
    tm_bd (E v1 σ7) fun u15 σ15 =>
    tm_bd (fc_need σ15) fun u19 σ19 =>
    r5 u19 σ19
theorem wc_needExpanded_B5 {p : Program} {l : Launch} {e : Env} {R : Room} {s : State} {m : MethodId} {args : Array Value} {below : List Frame} {meth : Method} {c : Code} {K : tm_K} {r5 : Int → tm_S → tm_R} {fr0 lo0 : Nat} {E : Int → tm_S → tm_R} (cx : tm_C p l R s m args meth c K cX1_needExpanded 2 RX1 "needExpanded" (some .int) (fr0 + 13) (lo0 + 320)) (hE : ∀ t : Int, tm_in t → tm_ct K tm_xC l yX1_expand cX1_expand 2 none 0 [tm_rv K 0, tm_iv t] (E t) fr0 lo0) (h5 : ∀ (v1 : Int) (τ : tm_S) (ls : Array Slot), tm_in v1 → tm_has 0 ls 2 [(0, tm_rv K 0), (1, tm_iv v1)] → tm_J p l e R s m args below meth c K tm_xC 1 (r5 v1 τ) τ (F0 m 5 ls [])) (v1 : Int) (σ : tm_S) (ls : Array Slot) (g1 : tm_in v1) (hl : tm_has 0 ls 2 [(0, tm_rv K 0), (1, tm_iv v1)]) : tm_J p l e R s m args below meth c K tm_xC 1 (fc_needExpanded_B5 E r5 v1 σ) σ (F0 m 5 ls []) := by
  unfold fc_needExpanded_B5
  refine tm_aload_n cx dX1_needExpanded_5 (tm_has_at hl 0 rfl) ?_
  refine tm_iload_n cx dX1_needExpanded_6 (tm_has_at hl 1 rfl) ?_
  refine tm_callV (n := 1) cx (cc_isExpandable K l (tm_hst cx) v1 g1) (lw_V q603 q605 qs14 q95 q606) ⟨rfl, by decide +kernel, by decide +kernel, by decide +kernel⟩ rfl tm_cd_X1 (fun h => (tm_hC_0 h).1) ⟨by omega, by omega⟩ rfl (Nat.le_of_ble_eq_true rfl) hl.1.1 dX1_needExpanded_7 (fun u7 σ7 q7 => ?_)
  show tm_J p l e R s m args below meth c K tm_xC 1 _ _ (F0 m 10 ls [tm_iv u7])
  refine tm_if_eq (tgt := 26) cx q7 dX1_needExpanded_10 (by decide) (fun c10 => ?_) (fun c10 => ?_)
  · refine tm_iload_n cx dX1_needExpanded_26 (tm_has_at hl 1 rfl) ?_
    exact tm_ireturn cx g1 dX1_needExpanded_27
  · refine tm_aload_n cx dX1_needExpanded_13 (tm_has_at hl 0 rfl) ?_
    refine tm_iload_n cx dX1_needExpanded_14 (tm_has_at hl 1 rfl) ?_
    refine tm_callV (n := 1) cx (hE v1 g1) (lw_V q663 q665 qs17 q95 q666) ⟨rfl, by decide +kernel, by decide +kernel, by decide +kernel⟩ rfl tm_cd_X1 (fun h => (tm_hC_0 h).1) ⟨by omega, by omega⟩ rfl (Nat.le_of_ble_eq_true rfl) hl.1.1 dX1_needExpanded_15 (fun u15 σ15 q15 => ?_)
    show tm_J p l e R s m args below meth c K tm_xC 1 _ _ (F0 m 18 ls [])
    refine tm_aload_n cx dX1_needExpanded_18 (tm_has_at hl 0 rfl) ?_
    refine tm_callV (n := 0) cx (cc_need K l (tm_hst cx)) (lw_V q686 q688 qs19 q95 q689) ⟨rfl, by decide +kernel, by decide +kernel, by decide +kernel⟩ rfl tm_cd_X1 (fun h => (tm_hC_0 h).1) ⟨by omega, by omega⟩ rfl (Nat.le_of_ble_eq_true rfl) hl.1.1 dX1_needExpanded_19 (fun u19 σ19 q19 => ?_)
    show tm_J p l e R s m args below meth c K tm_xC 1 _ _ (F0 m 22 ls [tm_iv u19])
    refine tm_istore_n (lv' := [(1, tm_iv u19), (0, tm_rv K 0)]) cx dX1_needExpanded_22 hl (by decide) (by decide) rfl (fun ls hl => ?_)
    refine tm_goto (tgt := 5) cx dX1_needExpanded_23 (by decide) ?_
    exact h5 u19 _ _ q19 (tm_has_sub hl [1, 0] rfl)
def fc_needExpanded_L5 (E : Int → tm_S → tm_R) : Nat → Int → tm_S → tm_R
  | 0, _, _ => none
  | n + 1, v1, σ => fc_needExpanded_B5 E (fc_needExpanded_L5 E n) v1 σ
theorem wc_needExpanded_L5 {p : Program} {l : Launch} {e : Env} {R : Room} {s : State} {m : MethodId} {args : Array Value} {below : List Frame} {meth : Method} {c : Code} {K : tm_K} {fr0 lo0 : Nat} {E : Int → tm_S → tm_R} (cx : tm_C p l R s m args meth c K cX1_needExpanded 2 RX1 "needExpanded" (some .int) (fr0 + 13) (lo0 + 320)) (hE : ∀ t : Int, tm_in t → tm_ct K tm_xC l yX1_expand cX1_expand 2 none 0 [tm_rv K 0, tm_iv t] (E t) fr0 lo0) : ∀ (n : Nat) (v1 : Int) (σ : tm_S) (ls : Array Slot), tm_in v1 → tm_has 0 ls 2 [(0, tm_rv K 0), (1, tm_iv v1)] → tm_J p l e R s m args below meth c K tm_xC 1 (fc_needExpanded_L5 E n v1 σ) σ (F0 m 5 ls []) := by
  intro n
  induction n with
  | zero => intros; exact tm_none
  | succ n ih =>
    intro v1 σ ls g1 hl
    exact wc_needExpanded_B5 (r5 := fc_needExpanded_L5 E n) cx hE ih v1 σ ls g1 hl
def fc_needExpanded (E : Int → tm_S → tm_R) (σ : tm_S) : tm_R :=
  tm_bd (fc_need σ) fun u1 σ1 =>
  fc_needExpanded_L5 E tm_FU u1 σ1
theorem tm_fits_X1_needExpanded (K : tm_K) : (lg_sl [tm_rv K 0]).length ≤ 1 := (tm_sl_r _ _ _ _ (tm_sl_n _))
theorem cc_needExpanded (K : tm_K) (l : Launch) (hst : l.stackTraces = false) (E : Int → tm_S → tm_R) {fr0 lo0 : Nat} (hE : ∀ t : Int, tm_in t → tm_ct K tm_xC l yX1_expand cX1_expand 2 none 0 [tm_rv K 0, tm_iv t] (E t) fr0 lo0) : tm_ct K tm_xC l yX1_needExpanded cX1_needExpanded 2 (some .int) 1 [tm_rv K 0] (fc_needExpanded E) (fr0 + 13) (lo0 + 320) := by
  refine tm_ct_of hst (by decide +kernel) (Nat.le_trans (tm_fits_X1_needExpanded K) (Nat.le_of_ble_eq_true rfl)) ?_
  intro p e R s m args below meth c cx σ ls hl0
  have hl : tm_has 0 ls 2 [(0, tm_rv K 0)] := ⟨by
    have h9 := hl0
    simp only [tm_args_r, tm_args_n, Nat.zero_add, Nat.reduceAdd] at h9
    exact h9, by
    intro q hq
    simp only [List.mem_cons, List.not_mem_nil, or_false] at hq
    rcases hq with rfl
    · exact Or.inl (tm_rv_cat K 0)⟩
  clear hl0
  unfold fc_needExpanded
  refine tm_aload_n cx dX1_needExpanded_0 (tm_has_at hl 0 rfl) ?_
  refine tm_callV (n := 0) cx (cc_need K l (tm_hst cx)) (lw_V q686 q688 qs19 q95 q689) ⟨rfl, by decide +kernel, by decide +kernel, by decide +kernel⟩ rfl tm_cd_X1 (fun h => (tm_hC_0 h).1) ⟨by omega, by omega⟩ rfl (Nat.le_of_ble_eq_true rfl) hl.1.1 dX1_needExpanded_1 (fun u1 σ1 q1 => ?_)
  show tm_J p l e R s m args below meth c K tm_xC 1 _ _ (F0 m 4 ls [tm_iv u1])
  refine tm_istore_n (lv' := [(1, tm_iv u1), (0, tm_rv K 0)]) cx dX1_needExpanded_4 hl (by decide) (by decide) rfl (fun ls hl => ?_)
  exact wc_needExpanded_L5 cx hE tm_FU u1 _ _ q1 (tm_has_sub hl [1, 0] rfl)
def fc_expandAfter_J31 (E : Int → tm_S → tm_R) (v1 : Int) (σ : tm_S) : tm_R :=
  tm_bd (fc_back v1 σ) fun u33 σ33 =>
  tm_rt 0 σ33
theorem wc_expandAfter_J31 {p : Program} {l : Launch} {e : Env} {R : Room} {s : State} {m : MethodId} {args : Array Value} {below : List Frame} {meth : Method} {c : Code} {K : tm_K} {fr0 lo0 : Nat} {E : Int → tm_S → tm_R} (cx : tm_C p l R s m args meth c K cX1_expandAfter 3 RX1 "expandAfter" none (fr0 + 13) (lo0 + 320)) (hE : ∀ t : Int, tm_in t → tm_ct K tm_xC l yX1_expand cX1_expand 2 none 0 [tm_rv K 0, tm_iv t] (E t) fr0 lo0) (v1 : Int) (σ : tm_S) (ls : Array Slot) (g1 : tm_in v1) (hl : tm_has 0 ls 3 [(0, tm_rv K 0), (1, tm_iv v1)]) : tm_J p l e R s m args below meth c K tm_xC 0 (fc_expandAfter_J31 E v1 σ) σ (F0 m 31 ls []) := by
  unfold fc_expandAfter_J31
  refine tm_aload_n cx dX1_expandAfter_31 (tm_has_at hl 0 rfl) ?_
  refine tm_iload_n cx dX1_expandAfter_32 (tm_has_at hl 1 rfl) ?_
  refine tm_callV (n := 1) cx (cc_back K l (tm_hst cx) v1 g1) (lw_V q690 q692 qs20 q95 q693) ⟨rfl, by decide +kernel, by decide +kernel, by decide +kernel⟩ rfl tm_cd_X1 (fun h => (tm_hC_0 h).1) ⟨by omega, by omega⟩ rfl (Nat.le_of_ble_eq_true rfl) hl.1.1 dX1_expandAfter_33 (fun u33 σ33 q33 => ?_)
  show tm_J p l e R s m args below meth c K tm_xC 0 _ _ (F0 m 36 ls [])
  exact tm_vreturn cx dX1_expandAfter_36
def fc_expandAfter (E : Int → tm_S → tm_R) (σ : tm_S) : tm_R :=
  tm_bd (fc_need σ) fun u1 σ1 =>
  tm_bd (fc_need σ1) fun u6 σ6 =>
  tm_bd (fc_isExpandable u6 σ6) fun u12 σ12 =>
  if u12 = 0 then
    tm_bd (fc_back u6 σ12) fun u28 σ28 =>
    fc_expandAfter_J31 E u1 σ28
  else
    tm_bd (E u6 σ12) fun u20 σ20 =>
    fc_expandAfter_J31 E u1 σ20
theorem tm_fits_X1_expandAfter (K : tm_K) : (lg_sl [tm_rv K 0]).length ≤ 1 := (tm_sl_r _ _ _ _ (tm_sl_n _))
theorem cc_expandAfter (K : tm_K) (l : Launch) (hst : l.stackTraces = false) (E : Int → tm_S → tm_R) {fr0 lo0 : Nat} (hE : ∀ t : Int, tm_in t → tm_ct K tm_xC l yX1_expand cX1_expand 2 none 0 [tm_rv K 0, tm_iv t] (E t) fr0 lo0) : tm_ct K tm_xC l yX1_expandAfter cX1_expandAfter 3 none 0 [tm_rv K 0] (fc_expandAfter E) (fr0 + 13) (lo0 + 320) := by
  refine tm_ct_of hst (by decide +kernel) (Nat.le_trans (tm_fits_X1_expandAfter K) (Nat.le_of_ble_eq_true rfl)) ?_
  intro p e R s m args below meth c cx σ ls hl0
  have hl : tm_has 0 ls 3 [(0, tm_rv K 0)] := ⟨by
    have h9 := hl0
    simp only [tm_args_r, tm_args_n, Nat.zero_add, Nat.reduceAdd] at h9
    exact h9, by
    intro q hq
    simp only [List.mem_cons, List.not_mem_nil, or_false] at hq
    rcases hq with rfl
    · exact Or.inl (tm_rv_cat K 0)⟩
  clear hl0
  unfold fc_expandAfter
  refine tm_aload_n cx dX1_expandAfter_0 (tm_has_at hl 0 rfl) ?_
  refine tm_callV (n := 0) cx (cc_need K l (tm_hst cx)) (lw_V q686 q688 qs19 q95 q689) ⟨rfl, by decide +kernel, by decide +kernel, by decide +kernel⟩ rfl tm_cd_X1 (fun h => (tm_hC_0 h).1) ⟨by omega, by omega⟩ rfl (Nat.le_of_ble_eq_true rfl) hl.1.1 dX1_expandAfter_1 (fun u1 σ1 q1 => ?_)
  show tm_J p l e R s m args below meth c K tm_xC 0 _ _ (F0 m 4 ls [tm_iv u1])
  refine tm_istore_n (lv' := [(1, tm_iv u1), (0, tm_rv K 0)]) cx dX1_expandAfter_4 hl (by decide) (by decide) rfl (fun ls hl => ?_)
  refine tm_aload_n cx dX1_expandAfter_5 (tm_has_at hl 1 rfl) ?_
  refine tm_callV (n := 0) cx (cc_need K l (tm_hst cx)) (lw_V q686 q688 qs19 q95 q689) ⟨rfl, by decide +kernel, by decide +kernel, by decide +kernel⟩ rfl tm_cd_X1 (fun h => (tm_hC_0 h).1) ⟨by omega, by omega⟩ rfl (Nat.le_of_ble_eq_true rfl) hl.1.1 dX1_expandAfter_6 (fun u6 σ6 q6 => ?_)
  show tm_J p l e R s m args below meth c K tm_xC 0 _ _ (F0 m 9 ls [tm_iv u6])
  refine tm_istore_n (lv' := [(2, tm_iv u6), (1, tm_iv u1), (0, tm_rv K 0)]) cx dX1_expandAfter_9 hl (by decide) (by decide) rfl (fun ls hl => ?_)
  refine tm_aload_n cx dX1_expandAfter_10 (tm_has_at hl 2 rfl) ?_
  refine tm_iload_n cx dX1_expandAfter_11 (tm_has_at hl 0 rfl) ?_
  refine tm_callV (n := 1) cx (cc_isExpandable K l (tm_hst cx) u6 q6) (lw_V q603 q605 qs14 q95 q606) ⟨rfl, by decide +kernel, by decide +kernel, by decide +kernel⟩ rfl tm_cd_X1 (fun h => (tm_hC_0 h).1) ⟨by omega, by omega⟩ rfl (Nat.le_of_ble_eq_true rfl) hl.1.1 dX1_expandAfter_12 (fun u12 σ12 q12 => ?_)
  show tm_J p l e R s m args below meth c K tm_xC 0 _ _ (F0 m 15 ls [tm_iv u12])
  refine tm_if_eq (tgt := 26) cx q12 dX1_expandAfter_15 (by decide) (fun c15 => ?_) (fun c15 => ?_)
  · refine tm_aload_n cx dX1_expandAfter_26 (tm_has_at hl 2 rfl) ?_
    refine tm_iload_n cx dX1_expandAfter_27 (tm_has_at hl 0 rfl) ?_
    refine tm_callV (n := 1) cx (cc_back K l (tm_hst cx) u6 q6) (lw_V q690 q692 qs20 q95 q693) ⟨rfl, by decide +kernel, by decide +kernel, by decide +kernel⟩ rfl tm_cd_X1 (fun h => (tm_hC_0 h).1) ⟨by omega, by omega⟩ rfl (Nat.le_of_ble_eq_true rfl) hl.1.1 dX1_expandAfter_28 (fun u28 σ28 q28 => ?_)
    show tm_J p l e R s m args below meth c K tm_xC 0 _ _ (F0 m 31 ls [])
    exact wc_expandAfter_J31 cx hE u1 _ _ q1 (tm_has_sub hl [2, 1] rfl)
  · refine tm_aload_n cx dX1_expandAfter_18 (tm_has_at hl 2 rfl) ?_
    refine tm_iload_n cx dX1_expandAfter_19 (tm_has_at hl 0 rfl) ?_
    refine tm_callV (n := 1) cx (hE u6 q6) (lw_V q663 q665 qs17 q95 q666) ⟨rfl, by decide +kernel, by decide +kernel, by decide +kernel⟩ rfl tm_cd_X1 (fun h => (tm_hC_0 h).1) ⟨by omega, by omega⟩ rfl (Nat.le_of_ble_eq_true rfl) hl.1.1 dX1_expandAfter_20 (fun u20 σ20 q20 => ?_)
    show tm_J p l e R s m args below meth c K tm_xC 0 _ _ (F0 m 23 ls [])
    refine tm_goto (tgt := 31) cx dX1_expandAfter_23 (by decide) ?_
    exact wc_expandAfter_J31 cx hE u1 _ _ q1 (tm_has_sub hl [2, 1] rfl)
def fc_spell_J116 (E : Int → tm_S → tm_R) (v4 : Int) (σ : tm_S) : tm_R :=
  tm_bd (fc_back v4 σ) fun u119 σ119 =>
  tm_rt 0 σ119
theorem wc_spell_J116 {p : Program} {l : Launch} {e : Env} {R : Room} {s : State} {m : MethodId} {args : Array Value} {below : List Frame} {meth : Method} {c : Code} {K : tm_K} {fr0 lo0 : Nat} {E : Int → tm_S → tm_R} (cx : tm_C p l R s m args meth c K cX1_spell 5 RX1 "spell" none (fr0 + 14) (lo0 + 341)) (hE : ∀ t : Int, tm_in t → tm_ct K tm_xC l yX1_expand cX1_expand 2 none 0 [tm_rv K 0, tm_iv t] (E t) fr0 lo0) (v4 : Int) (σ : tm_S) (ls : Array Slot) (g4 : tm_in v4) (hl : tm_has 0 ls 5 [(0, tm_rv K 0), (4, tm_iv v4)]) : tm_J p l e R s m args below meth c K tm_xC 0 (fc_spell_J116 E v4 σ) σ (F0 m 116 ls []) := by
  unfold fc_spell_J116
  refine tm_aload_n cx dX1_spell_116 (tm_has_at hl 0 rfl) ?_
  refine tm_iload cx dX1_spell_117 (tm_has_at hl 1 rfl) ?_
  refine tm_callV (n := 1) cx (cc_back K l (tm_hst cx) v4 g4) (lw_V q690 q692 qs20 q95 q693) ⟨rfl, by decide +kernel, by decide +kernel, by decide +kernel⟩ rfl tm_cd_X1 (fun h => (tm_hC_0 h).1) ⟨by omega, by omega⟩ rfl (Nat.le_of_ble_eq_true rfl) hl.1.1 dX1_spell_119 (fun u119 σ119 q119 => ?_)
  show tm_J p l e R s m args below meth c K tm_xC 0 _ _ (F0 m 122 ls [])
  exact tm_vreturn cx dX1_spell_122
def fc_spell_J82 (E : Int → tm_S → tm_R) (v1 : Int) (v2 : Int) (σ : tm_S) : tm_R :=
  tm_bd (fc_known v1 v2 0 σ) fun u86 σ86 =>
  tm_bd (fc_nameOf u86 σ86) fun u94 σ94 =>
  tm_gk (tm_k σ94 u94) 4 <|
  if (tm_f σ94 195 u94) < 0 then
    tm_bd (fc_nameOf u86 σ94) fun u107 σ107 =>
    tm_bd (fc_change u107 401 σ107) fun u113 σ113 =>
    fc_spell_J116 E u86 σ113
  else
    fc_spell_J116 E u86 σ94
theorem wc_spell_J82 {p : Program} {l : Launch} {e : Env} {R : Room} {s : State} {m : MethodId} {args : Array Value} {below : List Frame} {meth : Method} {c : Code} {K : tm_K} {fr0 lo0 : Nat} {E : Int → tm_S → tm_R} (cx : tm_C p l R s m args meth c K cX1_spell 5 RX1 "spell" none (fr0 + 14) (lo0 + 341)) (hE : ∀ t : Int, tm_in t → tm_ct K tm_xC l yX1_expand cX1_expand 2 none 0 [tm_rv K 0, tm_iv t] (E t) fr0 lo0) (v1 : Int) (v2 : Int) (σ : tm_S) (ls : Array Slot) (g1 : tm_in v1) (g2 : tm_in v2) (hl : tm_has 0 ls 5 [(0, tm_rv K 0), (1, tm_rv K v1), (2, tm_iv v2)]) : tm_J p l e R s m args below meth c K tm_xC 0 (fc_spell_J82 E v1 v2 σ) σ (F0 m 82 ls []) := by
  unfold fc_spell_J82
  refine tm_aload_n cx dX1_spell_82 (tm_has_at hl 0 rfl) ?_
  refine tm_aload_n cx dX1_spell_83 (tm_has_at hl 1 rfl) ?_
  refine tm_iload_n cx dX1_spell_84 (tm_has_at hl 2 rfl) ?_
  refine tm_iconst cx dX1_spell_85 ?_
  refine tm_callV (n := 3) cx (cc_known K l (tm_hst cx) v1 g1 v2 g2 0 (by decide)) (lw_V q584 q586 qs11 q95 q587) ⟨rfl, by decide +kernel, by decide +kernel, by decide +kernel⟩ rfl tm_cd_X1 (fun h => (tm_hC_0 h).1) ⟨by omega, by omega⟩ rfl (Nat.le_of_ble_eq_true rfl) hl.1.1 dX1_spell_86 (fun u86 σ86 q86 => ?_)
  show tm_J p l e R s m args below meth c K tm_xC 0 _ _ (F0 m 89 ls [tm_iv u86])
  refine tm_istore (lv' := [(4, tm_iv u86), (0, tm_rv K 0), (1, tm_rv K v1), (2, tm_iv v2)]) cx dX1_spell_89 hl (by decide) (by decide) rfl (fun ls hl => ?_)
  refine tm_aload_n cx dX1_spell_91 (tm_has_at hl 1 rfl) ?_
  refine tm_iload cx dX1_spell_92 (tm_has_at hl 0 rfl) ?_
  refine tm_callV (n := 1) cx (cc_nameOf K l (tm_hst cx) u86 q86) (lw_V q613 q615 qs16 q95 q616) ⟨rfl, by decide +kernel, by decide +kernel, by decide +kernel⟩ rfl tm_cd_X1 (fun h => (tm_hC_0 h).1) ⟨by omega, by omega⟩ rfl (Nat.le_of_ble_eq_true rfl) hl.1.1 dX1_spell_94 (fun u94 σ94 q94 => ?_)
  show tm_J p l e R s m args below meth c K tm_xC 0 _ _ (F0 m 97 ls [tm_rv K u94])
  refine tm_gk_ (fun k97 => ?_)
  refine tg_X1_114 cx (fun _ => k97) dX1_spell_97 (fun q97 => ?_)
  refine tm_ifnonnull (tgt := 116) cx dX1_spell_100 (by decide) (fun c100 => ?_) (fun c100 => ?_)
  · refine tm_aload_n cx dX1_spell_103 (tm_has_at hl 1 rfl) ?_
    refine tm_aload_n cx dX1_spell_104 (tm_has_at hl 1 rfl) ?_
    refine tm_iload cx dX1_spell_105 (tm_has_at hl 0 rfl) ?_
    refine tm_callV (n := 1) cx (cc_nameOf K l (tm_hst cx) u86 q86) (lw_V q613 q615 qs16 q95 q616) ⟨rfl, by decide +kernel, by decide +kernel, by decide +kernel⟩ rfl tm_cd_X1 (fun h => (tm_hC_0 h).1) ⟨by omega, by omega⟩ rfl (Nat.le_of_ble_eq_true rfl) hl.1.1 dX1_spell_107 (fun u107 σ107 q107 => ?_)
    show tm_J p l e R s m args below meth c K tm_xC 0 _ _ (F0 m 110 ls [tm_rv K u107, tm_rv K 0])
    refine tm_getc cx (k := 1) (by decide) rfl (x := 401) rfl q611 dX1_spell_110 ?_
    refine tm_callV (n := 2) cx (cc_change K l (tm_hst cx) u107 q107 401 (by decide)) (lw_V q711 q713 qs24 q95 q714) ⟨rfl, by decide +kernel, by decide +kernel, by decide +kernel⟩ rfl tm_cd_X1 (fun h => (tm_hC_0 h).1) ⟨by omega, by omega⟩ rfl (Nat.le_of_ble_eq_true rfl) hl.1.1 dX1_spell_113 (fun u113 σ113 q113 => ?_)
    show tm_J p l e R s m args below meth c K tm_xC 0 _ _ (F0 m 116 ls [])
    exact wc_spell_J116 cx hE u86 _ _ q86 (tm_has_sub hl [1, 0] rfl)
  · exact wc_spell_J116 cx hE u86 _ _ q86 (tm_has_sub hl [1, 0] rfl)
def fc_spell_J53 (E : Int → tm_S → tm_R) (r19 : Int → Int → Int → tm_S → tm_R) (v1 : Int) (v2 : Int) (v3 : Int) (σ : tm_S) : tm_R :=
  tm_gb (v3 % 256) <|
  tm_gk (tm_k σ v1) 20 <|
  tm_gx v2 (tm_n σ v1) <|
  tm_gb (v3 % 256) <|
  tm_gi (v2 + 1) <|
  tm_bd (fc_needExpanded E (tm_wa σ v1 v2 (v3 % 256))) fun u66 σ66 =>
  r19 v1 (v2 + 1) u66 σ66
theorem wc_spell_J53 {p : Program} {l : Launch} {e : Env} {R : Room} {s : State} {m : MethodId} {args : Array Value} {below : List Frame} {meth : Method} {c : Code} {K : tm_K} {r19 : Int → Int → Int → tm_S → tm_R} {fr0 lo0 : Nat} {E : Int → tm_S → tm_R} (cx : tm_C p l R s m args meth c K cX1_spell 5 RX1 "spell" none (fr0 + 14) (lo0 + 341)) (hE : ∀ t : Int, tm_in t → tm_ct K tm_xC l yX1_expand cX1_expand 2 none 0 [tm_rv K 0, tm_iv t] (E t) fr0 lo0) (h19 : ∀ (v1 : Int) (v2 : Int) (v3 : Int) (τ : tm_S) (ls : Array Slot), tm_in v1 → tm_in v2 → tm_in v3 → tm_has 0 ls 5 [(0, tm_rv K 0), (1, tm_rv K v1), (2, tm_iv v2), (3, tm_iv v3)] → tm_J p l e R s m args below meth c K tm_xC 0 (r19 v1 v2 v3 τ) τ (F0 m 19 ls [])) (v1 : Int) (v2 : Int) (v3 : Int) (σ : tm_S) (ls : Array Slot) (g1 : tm_in v1) (g2 : tm_in v2) (g3 : tm_in v3) (hl : tm_has 0 ls 5 [(0, tm_rv K 0), (1, tm_rv K v1), (2, tm_iv v2), (3, tm_iv v3)]) : tm_J p l e R s m args below meth c K tm_xC 0 (fc_spell_J53 E r19 v1 v2 v3 σ) σ (F0 m 53 ls []) := by
  unfold fc_spell_J53
  refine tm_aload_n cx dX1_spell_53 (tm_has_at hl 1 rfl) ?_
  refine tm_iload_n cx dX1_spell_54 (tm_has_at hl 2 rfl) ?_
  refine tm_iload_n cx dX1_spell_55 (tm_has_at hl 3 rfl) ?_
  refine tm_sipush cx dX1_spell_56 (by decide) ?_
  refine tm_iand255 cx g3 dX1_spell_59 (fun q59 => ?_)
  refine tm_i2b cx dX1_spell_60 ?_
  refine tm_gk_ (fun k61 => ?_)
  refine tm_bast cx tm_famC (fun _ => ⟨k61, rfl⟩) g2 q59 dX1_spell_61 ?_
  refine tm_iinc (lv' := [(2, tm_iv (v2 + 1)), (0, tm_rv K 0), (1, tm_rv K v1), (3, tm_iv v3)]) cx dX1_spell_62 hl (j := 2) rfl (by decide) (by decide) rfl (fun q62 ls hl => ?_)
  refine tm_aload_n cx dX1_spell_65 (tm_has_at hl 1 rfl) ?_
  refine tm_callV (n := 0) cx (cc_needExpanded K l (tm_hst cx) E hE) (lw_V q702 q704 qs23 q95 q705) ⟨rfl, by decide +kernel, by decide +kernel, by decide +kernel⟩ rfl tm_cd_X1 (fun h => (tm_hC_0 h).1) ⟨by omega, by omega⟩ rfl (Nat.le_of_ble_eq_true rfl) hl.1.1 dX1_spell_66 (fun u66 σ66 q66 => ?_)
  show tm_J p l e R s m args below meth c K tm_xC 0 _ _ (F0 m 69 ls [tm_iv u66])
  refine tm_istore_n (lv' := [(3, tm_iv u66), (2, tm_iv (v2 + 1)), (0, tm_rv K 0), (1, tm_rv K v1)]) cx dX1_spell_69 hl (by decide) (by decide) rfl (fun ls hl => ?_)
  refine tm_goto (tgt := 19) cx dX1_spell_70 (by decide) ?_
  exact h19 v1 (v2 + 1) u66 _ _ g1 q62 q66 (tm_has_sub hl [2, 3, 1, 0] rfl)
def fc_spell_J42 (E : Int → tm_S → tm_R) (r19 : Int → Int → Int → tm_S → tm_R) (v1 : Int) (v2 : Int) (v3 : Int) (σ : tm_S) : tm_R :=
  if v2 = 11 then
    tm_bd (fc_fail 5 σ) fun _ _ => none
  else
    fc_spell_J53 E r19 v1 v2 v3 σ
theorem wc_spell_J42 {p : Program} {l : Launch} {e : Env} {R : Room} {s : State} {m : MethodId} {args : Array Value} {below : List Frame} {meth : Method} {c : Code} {K : tm_K} {r19 : Int → Int → Int → tm_S → tm_R} {fr0 lo0 : Nat} {E : Int → tm_S → tm_R} (cx : tm_C p l R s m args meth c K cX1_spell 5 RX1 "spell" none (fr0 + 14) (lo0 + 341)) (hE : ∀ t : Int, tm_in t → tm_ct K tm_xC l yX1_expand cX1_expand 2 none 0 [tm_rv K 0, tm_iv t] (E t) fr0 lo0) (h19 : ∀ (v1 : Int) (v2 : Int) (v3 : Int) (τ : tm_S) (ls : Array Slot), tm_in v1 → tm_in v2 → tm_in v3 → tm_has 0 ls 5 [(0, tm_rv K 0), (1, tm_rv K v1), (2, tm_iv v2), (3, tm_iv v3)] → tm_J p l e R s m args below meth c K tm_xC 0 (r19 v1 v2 v3 τ) τ (F0 m 19 ls [])) (v1 : Int) (v2 : Int) (v3 : Int) (σ : tm_S) (ls : Array Slot) (g1 : tm_in v1) (g2 : tm_in v2) (g3 : tm_in v3) (hl : tm_has 0 ls 5 [(0, tm_rv K 0), (1, tm_rv K v1), (2, tm_iv v2), (3, tm_iv v3)]) : tm_J p l e R s m args below meth c K tm_xC 0 (fc_spell_J42 E r19 v1 v2 v3 σ) σ (F0 m 42 ls []) := by
  unfold fc_spell_J42
  refine tm_iload_n cx dX1_spell_42 (tm_has_at hl 2 rfl) ?_
  refine tm_bipush cx dX1_spell_43 (by decide) ?_
  refine tm_icmp_ne (tgt := 53) cx g2 (by decide) dX1_spell_45 (by decide) (fun c45 => ?_) (fun c45 => ?_)
  · refine tm_aload_n cx dX1_spell_48 (tm_has_at hl 0 rfl) ?_
    refine tm_iconst cx dX1_spell_49 ?_
    refine tm_callV (n := 1) cx (cc_fail K l (tm_hst cx) 5 (by decide)) (lw_V q580 q582 qs10 q95 q583) ⟨rfl, by decide +kernel, by decide +kernel, by decide +kernel⟩ rfl tm_cd_X1 (fun h => (tm_hC_0 h).1) ⟨by omega, by omega⟩ rfl (Nat.le_of_ble_eq_true rfl) hl.1.1 dX1_spell_50 (fun _ _ _ => ?_)
    exact tm_none
  · exact wc_spell_J53 cx hE h19 v1 v2 v3 _ _ g1 g2 g3 (tm_has_sub hl [0, 1, 2, 3] rfl)
def fc_spell_B19 (E : Int → tm_S → tm_R) (r19 : Int → Int → Int → tm_S → tm_R) (v1 : Int) (v2 : Int) (v3 : Int) (σ : tm_S) : tm_R :=
  tm_bd (fc_meaningOf v3 σ) fun u21 σ21 =>
  tm_gq σ21 u21 <|
  if u21 = 410 then
    if v2 = 0 then
      tm_bd (fc_fail 4 σ21) fun _ _ => none
    else
      fc_spell_J82 E v1 v2 σ21
  else
    tm_bd (fc_isCharacter v3 σ21) fun u31 σ31 =>
    if u31 = 0 then
      tm_bd (fc_fail 4 σ31) fun _ _ => none
    else
      fc_spell_J42 E r19 v1 v2 v3 σ31
theorem wc_spell_B19 {p : Program} {l : Launch} {e : Env} {R : Room} {s : State} {m : MethodId} {args : Array Value} {below : List Frame} {meth : Method} {c : Code} {K : tm_K} {r19 : Int → Int → Int → tm_S → tm_R} {fr0 lo0 : Nat} {E : Int → tm_S → tm_R} (cx : tm_C p l R s m args meth c K cX1_spell 5 RX1 "spell" none (fr0 + 14) (lo0 + 341)) (hE : ∀ t : Int, tm_in t → tm_ct K tm_xC l yX1_expand cX1_expand 2 none 0 [tm_rv K 0, tm_iv t] (E t) fr0 lo0) (h19 : ∀ (v1 : Int) (v2 : Int) (v3 : Int) (τ : tm_S) (ls : Array Slot), tm_in v1 → tm_in v2 → tm_in v3 → tm_has 0 ls 5 [(0, tm_rv K 0), (1, tm_rv K v1), (2, tm_iv v2), (3, tm_iv v3)] → tm_J p l e R s m args below meth c K tm_xC 0 (r19 v1 v2 v3 τ) τ (F0 m 19 ls [])) (v1 : Int) (v2 : Int) (v3 : Int) (σ : tm_S) (ls : Array Slot) (g1 : tm_in v1) (g2 : tm_in v2) (g3 : tm_in v3) (hl : tm_has 0 ls 5 [(0, tm_rv K 0), (1, tm_rv K v1), (2, tm_iv v2), (3, tm_iv v3)]) : tm_J p l e R s m args below meth c K tm_xC 0 (fc_spell_B19 E r19 v1 v2 v3 σ) σ (F0 m 19 ls []) := by
  unfold fc_spell_B19
  refine tm_aload_n cx dX1_spell_19 (tm_has_at hl 0 rfl) ?_
  refine tm_iload_n cx dX1_spell_20 (tm_has_at hl 3 rfl) ?_
  refine tm_callV (n := 1) cx (cc_meaningOf K l (tm_hst cx) v3 g3) (lw_V q607 q609 qs15 q95 q610) ⟨rfl, by decide +kernel, by decide +kernel, by decide +kernel⟩ rfl tm_cd_X1 (fun h => (tm_hC_0 h).1) ⟨by omega, by omega⟩ rfl (Nat.le_of_ble_eq_true rfl) hl.1.1 dX1_spell_21 (fun u21 σ21 q21 => ?_)
  show tm_J p l e R s m args below meth c K tm_xC 0 _ _ (F0 m 24 ls [tm_rv K u21])
  refine tm_getc cx (k := 10) (by decide) rfl (x := 410) rfl q706 dX1_spell_24 ?_
  refine tm_gq_ (fun r27x => ?_)
  refine tm_acmp_eq (tgt := 73) cx (fun _ => r27x) (fun h => Or.inr (by rw [(tm_hC_410 h).1]; decide)) dX1_spell_27 (by decide) (fun c27 => ?_) (fun c27 => ?_)
  · refine tm_iload_n cx dX1_spell_73 (tm_has_at hl 2 rfl) ?_
    refine tm_if_ne (tgt := 82) cx g2 dX1_spell_74 (by decide) (fun c74 => ?_) (fun c74 => ?_)
    · refine tm_aload_n cx dX1_spell_77 (tm_has_at hl 0 rfl) ?_
      refine tm_iconst cx dX1_spell_78 ?_
      refine tm_callV (n := 1) cx (cc_fail K l (tm_hst cx) 4 (by decide)) (lw_V q580 q582 qs10 q95 q583) ⟨rfl, by decide +kernel, by decide +kernel, by decide +kernel⟩ rfl tm_cd_X1 (fun h => (tm_hC_0 h).1) ⟨by omega, by omega⟩ rfl (Nat.le_of_ble_eq_true rfl) hl.1.1 dX1_spell_79 (fun _ _ _ => ?_)
      exact tm_none
    · exact wc_spell_J82 cx hE v1 v2 _ _ g1 g2 (tm_has_sub hl [0, 1, 2] rfl)
  · refine tm_iload_n cx dX1_spell_30 (tm_has_at hl 3 rfl) ?_
    refine tm_callS (n := 1) cx (cc_isCharacter K l (tm_hst cx) v3 g3) (lw_S q708 q709 q95 q710) ⟨by decide +kernel, by decide +kernel, by decide +kernel⟩ rfl ⟨by omega, by omega⟩ rfl (Nat.le_of_ble_eq_true rfl) hl.1.1 dX1_spell_31 (fun u31 σ31 q31 => ?_)
    show tm_J p l e R s m args below meth c K tm_xC 0 _ _ (F0 m 34 ls [tm_iv u31])
    refine tm_if_ne (tgt := 42) cx q31 dX1_spell_34 (by decide) (fun c34 => ?_) (fun c34 => ?_)
    · refine tm_aload_n cx dX1_spell_37 (tm_has_at hl 0 rfl) ?_
      refine tm_iconst cx dX1_spell_38 ?_
      refine tm_callV (n := 1) cx (cc_fail K l (tm_hst cx) 4 (by decide)) (lw_V q580 q582 qs10 q95 q583) ⟨rfl, by decide +kernel, by decide +kernel, by decide +kernel⟩ rfl tm_cd_X1 (fun h => (tm_hC_0 h).1) ⟨by omega, by omega⟩ rfl (Nat.le_of_ble_eq_true rfl) hl.1.1 dX1_spell_39 (fun _ _ _ => ?_)
      exact tm_none
    · exact wc_spell_J42 cx hE h19 v1 v2 v3 _ _ g1 g2 g3 (tm_has_sub hl [0, 1, 2, 3] rfl)
def fc_spell_L19 (E : Int → tm_S → tm_R) : Nat → Int → Int → Int → tm_S → tm_R
  | 0, _, _, _, _ => none
  | n + 1, v1, v2, v3, σ => fc_spell_B19 E (fc_spell_L19 E n) v1 v2 v3 σ
theorem wc_spell_L19 {p : Program} {l : Launch} {e : Env} {R : Room} {s : State} {m : MethodId} {args : Array Value} {below : List Frame} {meth : Method} {c : Code} {K : tm_K} {fr0 lo0 : Nat} {E : Int → tm_S → tm_R} (cx : tm_C p l R s m args meth c K cX1_spell 5 RX1 "spell" none (fr0 + 14) (lo0 + 341)) (hE : ∀ t : Int, tm_in t → tm_ct K tm_xC l yX1_expand cX1_expand 2 none 0 [tm_rv K 0, tm_iv t] (E t) fr0 lo0) : ∀ (n : Nat) (v1 : Int) (v2 : Int) (v3 : Int) (σ : tm_S) (ls : Array Slot), tm_in v1 → tm_in v2 → tm_in v3 → tm_has 0 ls 5 [(0, tm_rv K 0), (1, tm_rv K v1), (2, tm_iv v2), (3, tm_iv v3)] → tm_J p l e R s m args below meth c K tm_xC 0 (fc_spell_L19 E n v1 v2 v3 σ) σ (F0 m 19 ls []) := by
  intro n
  induction n with
  | zero => intros; exact tm_none
  | succ n ih =>
    intro v1 v2 v3 σ ls g1 g2 g3 hl
    exact wc_spell_B19 (r19 := fc_spell_L19 E n) cx hE ih v1 v2 v3 σ ls g1 g2 g3 hl
def fc_spell (E : Int → tm_S → tm_R) (σ : tm_S) : tm_R :=
  tm_gi ((tm_f σ 18 0) - 1) <|
  tm_gx ((tm_f σ 18 0) - 1) 30 <|
  tm_lt (300 + ((tm_f σ 18 0) - 1)) fun x11 =>
  tm_bd (fc_needExpanded E σ) fun u15 σ15 =>
  fc_spell_L19 E tm_FU x11 0 u15 σ15
theorem tm_fits_X1_spell (K : tm_K) : (lg_sl [tm_rv K 0]).length ≤ 1 := (tm_sl_r _ _ _ _ (tm_sl_n _))
theorem cc_spell (K : tm_K) (l : Launch) (hst : l.stackTraces = false) (E : Int → tm_S → tm_R) {fr0 lo0 : Nat} (hE : ∀ t : Int, tm_in t → tm_ct K tm_xC l yX1_expand cX1_expand 2 none 0 [tm_rv K 0, tm_iv t] (E t) fr0 lo0) : tm_ct K tm_xC l yX1_spell cX1_spell 5 none 0 [tm_rv K 0] (fc_spell E) (fr0 + 14) (lo0 + 341) := by
  refine tm_ct_of hst (by decide +kernel) (Nat.le_trans (tm_fits_X1_spell K) (Nat.le_of_ble_eq_true rfl)) ?_
  intro p e R s m args below meth c cx σ ls hl0
  have hl : tm_has 0 ls 5 [(0, tm_rv K 0)] := ⟨by
    have h9 := hl0
    simp only [tm_args_r, tm_args_n, Nat.zero_add, Nat.reduceAdd] at h9
    exact h9, by
    intro q hq
    simp only [List.mem_cons, List.not_mem_nil, or_false] at hq
    rcases hq with rfl
    · exact Or.inl (tm_rv_cat K 0)⟩
  clear hl0
  unfold fc_spell
  refine tm_aload_n cx dX1_spell_0 (tm_has_at hl 0 rfl) ?_
  refine tg_X1_38 cx dX1_spell_1 ?_
  refine tm_aload_n cx dX1_spell_4 (tm_has_at hl 0 rfl) ?_
  refine tg_X1_235 cx dX1_spell_5 (fun q5 => ?_)
  refine tm_iconst cx dX1_spell_8 ?_
  refine tm_isub cx dX1_spell_9 (fun q9 => ?_)
  refine tm_aald cx (by decide) tm_hC_108 q9 dX1_spell_10 (fun i10 q10 f10 => ?_)
  rw [tm_aC_108 f10 _ i10] at q10 ⊢
  refine tm_ltr_ q10 (fun x11 q11 => ?_)
  refine tm_astore_n (lv' := [(1, tm_rv K x11), (0, tm_rv K 0)]) cx dX1_spell_11 hl (by decide) (by decide) rfl (fun ls hl => ?_)
  refine tm_iconst cx dX1_spell_12 ?_
  refine tm_istore_n (lv' := [(2, tm_iv 0), (1, tm_rv K x11), (0, tm_rv K 0)]) cx dX1_spell_13 hl (by decide) (by decide) rfl (fun ls hl => ?_)
  refine tm_aload_n cx dX1_spell_14 (tm_has_at hl 2 rfl) ?_
  refine tm_callV (n := 0) cx (cc_needExpanded K l (tm_hst cx) E hE) (lw_V q702 q704 qs23 q95 q705) ⟨rfl, by decide +kernel, by decide +kernel, by decide +kernel⟩ rfl tm_cd_X1 (fun h => (tm_hC_0 h).1) ⟨by omega, by omega⟩ rfl (Nat.le_of_ble_eq_true rfl) hl.1.1 dX1_spell_15 (fun u15 σ15 q15 => ?_)
  show tm_J p l e R s m args below meth c K tm_xC 0 _ _ (F0 m 18 ls [tm_iv u15])
  refine tm_istore_n (lv' := [(3, tm_iv u15), (2, tm_iv 0), (1, tm_rv K x11), (0, tm_rv K 0)]) cx dX1_spell_18 hl (by decide) (by decide) rfl (fun ls hl => ?_)
  exact wc_spell_L19 cx hE tm_FU x11 0 u15 _ _ q11 (by decide) q15 (tm_has_sub hl [3, 2, 1, 0] rfl)
def fc_test_J112 (E : Int → tm_S → tm_R) (v2 : Int) (v3 : Int) (σ : tm_S) : tm_R :=
  tm_gi (v2 + 1) <|
  tm_gx v2 12 <|
  tm_gb 1 <|
  if v3 = 0 then
    tm_bd (fc_skip 1 (tm_wa (tm_wf σ 20 0 (v2 + 1)) 119 v2 1)) fun u133 σ133 =>
    if u133 = 0 then
      tm_gi ((tm_f σ133 20 0) - 1) <|
      tm_rt 0 (tm_wf σ133 20 0 ((tm_f σ133 20 0) - 1))
    else
      tm_gx v2 12 <|
      tm_gb 2 <|
      tm_rt 0 (tm_wa σ133 119 v2 2)
  else
    tm_rt 0 (tm_wa (tm_wf σ 20 0 (v2 + 1)) 119 v2 1)
theorem wc_test_J112 {p : Program} {l : Launch} {e : Env} {R : Room} {s : State} {m : MethodId} {args : Array Value} {below : List Frame} {meth : Method} {c : Code} {K : tm_K} {fr0 lo0 : Nat} {E : Int → tm_S → tm_R} (cx : tm_C p l R s m args meth c K cX1_test 5 RX1 "test" none (fr0 + 14) (lo0 + 343)) (hE : ∀ t : Int, tm_in t → tm_ct K tm_xC l yX1_expand cX1_expand 2 none 0 [tm_rv K 0, tm_iv t] (E t) fr0 lo0) (v2 : Int) (v3 : Int) (σ : tm_S) (ls : Array Slot) (g2 : tm_in v2) (g3 : tm_in v3) (hl : tm_has 0 ls 5 [(0, tm_rv K 0), (2, tm_iv v2), (3, tm_iv v3)]) : tm_J p l e R s m args below meth c K tm_xC 0 (fc_test_J112 E v2 v3 σ) σ (F0 m 112 ls []) := by
  unfold fc_test_J112
  refine tm_aload_n cx dX1_test_112 (tm_has_at hl 0 rfl) ?_
  refine tm_iload_n cx dX1_test_113 (tm_has_at hl 1 rfl) ?_
  refine tm_iconst cx dX1_test_114 ?_
  refine tm_iadd cx dX1_test_115 (fun q115 => ?_)
  refine tp_X1_136 cx q115 dX1_test_116 ?_
  refine tm_aload_n cx dX1_test_119 (tm_has_at hl 0 rfl) ?_
  refine tg_X1_48 cx dX1_test_120 ?_
  refine tm_iload_n cx dX1_test_123 (tm_has_at hl 1 rfl) ?_
  refine tm_iconst cx dX1_test_124 ?_
  refine tm_bast cx tm_famC tm_hC_119 g2 (by decide) dX1_test_125 ?_
  refine tm_iload_n cx dX1_test_126 (tm_has_at hl 2 rfl) ?_
  refine tm_if_eq (tgt := 131) cx g3 dX1_test_127 (by decide) (fun c127 => ?_) (fun c127 => ?_)
  · refine tm_aload_n cx dX1_test_131 (tm_has_at hl 0 rfl) ?_
    refine tm_iconst cx dX1_test_132 ?_
    refine tm_callV (n := 1) cx (cc_skip K l (tm_hst cx) 1 (by decide)) (lw_V q730 q732 qs28 q95 q733) ⟨rfl, by decide +kernel, by decide +kernel, by decide +kernel⟩ rfl tm_cd_X1 (fun h => (tm_hC_0 h).1) ⟨by omega, by omega⟩ rfl (Nat.le_of_ble_eq_true rfl) hl.1.1 dX1_test_133 (fun u133 σ133 q133 => ?_)
    show tm_J p l e R s m args below meth c K tm_xC 0 _ _ (F0 m 136 ls [tm_iv u133])
    refine tm_if_eq (tgt := 149) cx q133 dX1_test_136 (by decide) (fun c136 => ?_) (fun c136 => ?_)
    · refine tm_aload_n cx dX1_test_149 (tm_has_at hl 0 rfl) ?_
      refine tm_dup_r cx dX1_test_150 ?_
      refine tg_X1_136 cx dX1_test_151 (fun q151 => ?_)
      refine tm_iconst cx dX1_test_154 ?_
      refine tm_isub cx dX1_test_155 (fun q155 => ?_)
      refine tp_X1_136 cx q155 dX1_test_156 ?_
      exact tm_vreturn cx dX1_test_159
    · refine tm_aload_n cx dX1_test_139 (tm_has_at hl 0 rfl) ?_
      refine tg_X1_48 cx dX1_test_140 ?_
      refine tm_iload_n cx dX1_test_143 (tm_has_at hl 1 rfl) ?_
      refine tm_iconst cx dX1_test_144 ?_
      refine tm_bast cx tm_famC tm_hC_119 g2 (by decide) dX1_test_145 ?_
      refine tm_goto (tgt := 159) cx dX1_test_146 (by decide) ?_
      exact tm_vreturn cx dX1_test_159
  · exact tm_vreturn cx dX1_test_130
def fc_test_J48 (E : Int → tm_S → tm_R) (v1 : Int) (v2 : Int) (vs0 : Int) (σ : tm_S) : tm_R :=
  tm_gq σ v1 <|
  if v1 = 412 then
    tm_bd (fc_needExpanded E σ) fun u58 σ58 =>
    tm_bd (fc_codeOf u58 σ58) fun u61 σ61 =>
    tm_bd (fc_needExpanded E σ61) fun u70 σ70 =>
    tm_bd (fc_codeOf u70 σ70) fun u73 σ73 =>
    if u61 = u73 then
      fc_test_J112 E v2 1 σ73
    else
      fc_test_J112 E v2 0 σ73
  else
    tm_gq σ v1 <|
    if v1 = 413 then
      tm_bd (fc_need σ) fun u96 σ96 =>
      tm_bd (fc_need σ96) fun u105 σ105 =>
      tm_bd (fc_meansSame u96 u105 σ105) fun u108 σ108 =>
      fc_test_J112 E v2 u108 σ108
    else
      fc_test_J112 E v2 vs0 σ
theorem wc_test_J48 {p : Program} {l : Launch} {e : Env} {R : Room} {s : State} {m : MethodId} {args : Array Value} {below : List Frame} {meth : Method} {c : Code} {K : tm_K} {fr0 lo0 : Nat} {E : Int → tm_S → tm_R} (cx : tm_C p l R s m args meth c K cX1_test 5 RX1 "test" none (fr0 + 14) (lo0 + 343)) (hE : ∀ t : Int, tm_in t → tm_ct K tm_xC l yX1_expand cX1_expand 2 none 0 [tm_rv K 0, tm_iv t] (E t) fr0 lo0) (v1 : Int) (v2 : Int) (vs0 : Int) (σ : tm_S) (ls : Array Slot) (g1 : tm_in v1) (g2 : tm_in v2) (gs0 : tm_in vs0) (hl : tm_has 0 ls 5 [(0, tm_rv K 0), (1, tm_rv K v1), (2, tm_iv v2)]) : tm_J p l e R s m args below meth c K tm_xC 0 (fc_test_J48 E v1 v2 vs0 σ) σ (F0 m 48 ls [tm_iv vs0]) := by
  unfold fc_test_J48
  refine tm_istore_n (lv' := [(3, tm_iv vs0), (0, tm_rv K 0), (1, tm_rv K v1), (2, tm_iv v2)]) cx dX1_test_48 hl (by decide) (by decide) rfl (fun ls hl => ?_)
  refine tm_aload_n cx dX1_test_49 (tm_has_at hl 2 rfl) ?_
  refine tm_getc cx (k := 12) (by decide) rfl (x := 412) rfl q747 dX1_test_50 ?_
  refine tm_gq_ (fun r53x => ?_)
  refine tm_acmp_ne (tgt := 88) cx (fun _ => r53x) (fun h => Or.inr (by rw [(tm_hC_412 h).1]; decide)) dX1_test_53 (by decide) (fun c53 => ?_) (fun c53 => ?_)
  · refine tm_aload_n cx dX1_test_56 (tm_has_at hl 1 rfl) ?_
    refine tm_aload_n cx dX1_test_57 (tm_has_at hl 1 rfl) ?_
    refine tm_callV (n := 0) cx (cc_needExpanded K l (tm_hst cx) E hE) (lw_V q702 q704 qs23 q95 q705) ⟨rfl, by decide +kernel, by decide +kernel, by decide +kernel⟩ rfl tm_cd_X1 (fun h => (tm_hC_0 h).1) ⟨by omega, by omega⟩ rfl (Nat.le_of_ble_eq_true rfl) hl.1.1 dX1_test_58 (fun u58 σ58 q58 => ?_)
    show tm_J p l e R s m args below meth c K tm_xC 0 _ _ (F0 m 61 ls [tm_iv u58, tm_rv K 0])
    refine tm_callV (n := 1) cx (cc_codeOf K l (tm_hst cx) u58 q58) (lw_V q748 q750 qs31 q95 q751) ⟨rfl, by decide +kernel, by decide +kernel, by decide +kernel⟩ rfl tm_cd_X1 (fun h => (tm_hC_0 h).1) ⟨by omega, by omega⟩ rfl (Nat.le_of_ble_eq_true rfl) hl.1.1 dX1_test_61 (fun u61 σ61 q61 => ?_)
    show tm_J p l e R s m args below meth c K tm_xC 0 _ _ (F0 m 64 ls [tm_iv u61])
    refine tm_istore (lv' := [(4, tm_iv u61), (3, tm_iv vs0), (0, tm_rv K 0), (1, tm_rv K v1), (2, tm_iv v2)]) cx dX1_test_64 hl (by decide) (by decide) rfl (fun ls hl => ?_)
    refine tm_iload cx dX1_test_66 (tm_has_at hl 0 rfl) ?_
    refine tm_aload_n cx dX1_test_68 (tm_has_at hl 2 rfl) ?_
    refine tm_aload_n cx dX1_test_69 (tm_has_at hl 2 rfl) ?_
    refine tm_callV (n := 0) cx (cc_needExpanded K l (tm_hst cx) E hE) (lw_V q702 q704 qs23 q95 q705) ⟨rfl, by decide +kernel, by decide +kernel, by decide +kernel⟩ rfl tm_cd_X1 (fun h => (tm_hC_0 h).1) ⟨by omega, by omega⟩ rfl (Nat.le_of_ble_eq_true rfl) hl.1.1 dX1_test_70 (fun u70 σ70 q70 => ?_)
    show tm_J p l e R s m args below meth c K tm_xC 0 _ _ (F0 m 73 ls [tm_iv u70, tm_rv K 0, tm_iv u61])
    refine tm_callV (n := 1) cx (cc_codeOf K l (tm_hst cx) u70 q70) (lw_V q748 q750 qs31 q95 q751) ⟨rfl, by decide +kernel, by decide +kernel, by decide +kernel⟩ rfl tm_cd_X1 (fun h => (tm_hC_0 h).1) ⟨by omega, by omega⟩ rfl (Nat.le_of_ble_eq_true rfl) hl.1.1 dX1_test_73 (fun u73 σ73 q73 => ?_)
    show tm_J p l e R s m args below meth c K tm_xC 0 _ _ (F0 m 76 ls [tm_iv u73, tm_iv u61])
    refine tm_icmp_ne (tgt := 83) cx q61 q73 dX1_test_76 (by decide) (fun c76 => ?_) (fun c76 => ?_)
    · refine tm_iconst cx dX1_test_79 ?_
      refine tm_goto (tgt := 84) cx dX1_test_80 (by decide) ?_
      refine tm_istore_n (lv' := [(3, tm_iv 1), (4, tm_iv u61), (0, tm_rv K 0), (1, tm_rv K v1), (2, tm_iv v2)]) cx dX1_test_84 hl (by decide) (by decide) rfl (fun ls hl => ?_)
      refine tm_goto (tgt := 112) cx dX1_test_85 (by decide) ?_
      exact wc_test_J112 cx hE v2 1 _ _ g2 (by decide) (tm_has_sub hl [2, 4, 0] rfl)
    · refine tm_iconst cx dX1_test_83 ?_
      refine tm_istore_n (lv' := [(3, tm_iv 0), (4, tm_iv u61), (0, tm_rv K 0), (1, tm_rv K v1), (2, tm_iv v2)]) cx dX1_test_84 hl (by decide) (by decide) rfl (fun ls hl => ?_)
      refine tm_goto (tgt := 112) cx dX1_test_85 (by decide) ?_
      exact wc_test_J112 cx hE v2 0 _ _ g2 (by decide) (tm_has_sub hl [2, 4, 0] rfl)
  · refine tm_aload_n cx dX1_test_88 (tm_has_at hl 2 rfl) ?_
    refine tm_getc cx (k := 13) (by decide) rfl (x := 413) rfl q757 dX1_test_89 ?_
    refine tm_gq_ (fun r92x => ?_)
    refine tm_acmp_ne (tgt := 112) cx (fun _ => r92x) (fun h => Or.inr (by rw [(tm_hC_413 h).1]; decide)) dX1_test_92 (by decide) (fun c92 => ?_) (fun c92 => ?_)
    · refine tm_aload_n cx dX1_test_95 (tm_has_at hl 1 rfl) ?_
      refine tm_callV (n := 0) cx (cc_need K l (tm_hst cx)) (lw_V q686 q688 qs19 q95 q689) ⟨rfl, by decide +kernel, by decide +kernel, by decide +kernel⟩ rfl tm_cd_X1 (fun h => (tm_hC_0 h).1) ⟨by omega, by omega⟩ rfl (Nat.le_of_ble_eq_true rfl) hl.1.1 dX1_test_96 (fun u96 σ96 q96 => ?_)
      show tm_J p l e R s m args below meth c K tm_xC 0 _ _ (F0 m 99 ls [tm_iv u96])
      refine tm_istore (lv' := [(4, tm_iv u96), (3, tm_iv vs0), (0, tm_rv K 0), (1, tm_rv K v1), (2, tm_iv v2)]) cx dX1_test_99 hl (by decide) (by decide) rfl (fun ls hl => ?_)
      refine tm_aload_n cx dX1_test_101 (tm_has_at hl 2 rfl) ?_
      refine tm_iload cx dX1_test_102 (tm_has_at hl 0 rfl) ?_
      refine tm_aload_n cx dX1_test_104 (tm_has_at hl 2 rfl) ?_
      refine tm_callV (n := 0) cx (cc_need K l (tm_hst cx)) (lw_V q686 q688 qs19 q95 q689) ⟨rfl, by decide +kernel, by decide +kernel, by decide +kernel⟩ rfl tm_cd_X1 (fun h => (tm_hC_0 h).1) ⟨by omega, by omega⟩ rfl (Nat.le_of_ble_eq_true rfl) hl.1.1 dX1_test_105 (fun u105 σ105 q105 => ?_)
      show tm_J p l e R s m args below meth c K tm_xC 0 _ _ (F0 m 108 ls [tm_iv u105, tm_iv u96, tm_rv K 0])
      refine tm_callV (n := 2) cx (cc_meansSame K l (tm_hst cx) u96 q96 u105 q105) (lw_V q758 q760 qs33 q95 q761) ⟨rfl, by decide +kernel, by decide +kernel, by decide +kernel⟩ rfl tm_cd_X1 (fun h => (tm_hC_0 h).1) ⟨by omega, by omega⟩ rfl (Nat.le_of_ble_eq_true rfl) hl.1.1 dX1_test_108 (fun u108 σ108 q108 => ?_)
      show tm_J p l e R s m args below meth c K tm_xC 0 _ _ (F0 m 111 ls [tm_iv u108])
      refine tm_istore_n (lv' := [(3, tm_iv u108), (4, tm_iv u96), (0, tm_rv K 0), (1, tm_rv K v1), (2, tm_iv v2)]) cx dX1_test_111 hl (by decide) (by decide) rfl (fun ls hl => ?_)
      exact wc_test_J112 cx hE v2 u108 _ _ g2 q108 (tm_has_sub hl [2, 4, 0] rfl)
    · exact wc_test_J112 cx hE v2 vs0 _ _ g2 gs0 (tm_has_sub hl [1, 3, 0] rfl)
def fc_test_J14 (E : Int → tm_S → tm_R) (v1 : Int) (σ : tm_S) : tm_R :=
  tm_lt (tm_f σ 20 0) fun x18 =>
  tm_gx x18 12 <|
  tm_gb 0 <|
  tm_gi ((tm_f (tm_wa σ 119 x18 0) 20 0) + 1) <|
  tm_gq (tm_wf (tm_wa σ 119 x18 0) 20 0 ((tm_f (tm_wa σ 119 x18 0) 20 0) + 1)) v1 <|
  if v1 = 414 then
    fc_test_J48 E v1 x18 1 (tm_wf (tm_wa σ 119 x18 0) 20 0 ((tm_f (tm_wa σ 119 x18 0) 20 0) + 1))
  else
    fc_test_J48 E v1 x18 0 (tm_wf (tm_wa σ 119 x18 0) 20 0 ((tm_f (tm_wa σ 119 x18 0) 20 0) + 1))
theorem wc_test_J14 {p : Program} {l : Launch} {e : Env} {R : Room} {s : State} {m : MethodId} {args : Array Value} {below : List Frame} {meth : Method} {c : Code} {K : tm_K} {fr0 lo0 : Nat} {E : Int → tm_S → tm_R} (cx : tm_C p l R s m args meth c K cX1_test 5 RX1 "test" none (fr0 + 14) (lo0 + 343)) (hE : ∀ t : Int, tm_in t → tm_ct K tm_xC l yX1_expand cX1_expand 2 none 0 [tm_rv K 0, tm_iv t] (E t) fr0 lo0) (v1 : Int) (σ : tm_S) (ls : Array Slot) (g1 : tm_in v1) (hl : tm_has 0 ls 5 [(0, tm_rv K 0), (1, tm_rv K v1)]) : tm_J p l e R s m args below meth c K tm_xC 0 (fc_test_J14 E v1 σ) σ (F0 m 14 ls []) := by
  unfold fc_test_J14
  refine tm_aload_n cx dX1_test_14 (tm_has_at hl 0 rfl) ?_
  refine tg_X1_136 cx dX1_test_15 (fun q15 => ?_)
  refine tm_lt_ q15 (fun x18 q18 => ?_)
  refine tm_istore_n (lv' := [(2, tm_iv x18), (0, tm_rv K 0), (1, tm_rv K v1)]) cx dX1_test_18 hl (by decide) (by decide) rfl (fun ls hl => ?_)
  refine tm_aload_n cx dX1_test_19 (tm_has_at hl 1 rfl) ?_
  refine tg_X1_48 cx dX1_test_20 ?_
  refine tm_iload_n cx dX1_test_23 (tm_has_at hl 0 rfl) ?_
  refine tm_iconst cx dX1_test_24 ?_
  refine tm_bast cx tm_famC tm_hC_119 q18 (by decide) dX1_test_25 ?_
  refine tm_aload_n cx dX1_test_26 (tm_has_at hl 1 rfl) ?_
  refine tm_dup_r cx dX1_test_27 ?_
  refine tg_X1_136 cx dX1_test_28 (fun q28 => ?_)
  refine tm_iconst cx dX1_test_31 ?_
  refine tm_iadd cx dX1_test_32 (fun q32 => ?_)
  refine tp_X1_136 cx q32 dX1_test_33 ?_
  refine tm_aload_n cx dX1_test_36 (tm_has_at hl 2 rfl) ?_
  refine tm_getc cx (k := 14) (by decide) rfl (x := 414) rfl q746 dX1_test_37 ?_
  refine tm_gq_ (fun r40x => ?_)
  refine tm_acmp_ne (tgt := 47) cx (fun _ => r40x) (fun h => Or.inr (by rw [(tm_hC_414 h).1]; decide)) dX1_test_40 (by decide) (fun c40 => ?_) (fun c40 => ?_)
  · refine tm_iconst cx dX1_test_43 ?_
    refine tm_goto (tgt := 48) cx dX1_test_44 (by decide) ?_
    exact wc_test_J48 cx hE v1 x18 1 _ _ g1 q18 (by decide) (tm_has_sub hl [1, 2, 0] rfl)
  · refine tm_iconst cx dX1_test_47 ?_
    exact wc_test_J48 cx hE v1 x18 0 _ _ g1 q18 (by decide) (tm_has_sub hl [1, 2, 0] rfl)
def fc_test (E : Int → tm_S → tm_R) (a1 : Int) (σ : tm_S) : tm_R :=
  if (tm_f σ 20 0) = 12 then
    tm_bd (fc_fail 5 σ) fun _ _ => none
  else
    fc_test_J14 E a1 σ
theorem tm_fits_X1_test (K : tm_K) (a1 : Int) : (lg_sl [tm_rv K 0, tm_rv K a1]).length ≤ 2 := (tm_sl_r _ _ _ _ (tm_sl_r _ _ _ _ (tm_sl_n _)))
theorem cc_test (K : tm_K) (l : Launch) (hst : l.stackTraces = false) (E : Int → tm_S → tm_R) {fr0 lo0 : Nat} (hE : ∀ t : Int, tm_in t → tm_ct K tm_xC l yX1_expand cX1_expand 2 none 0 [tm_rv K 0, tm_iv t] (E t) fr0 lo0) (a1 : Int) (g1 : tm_in a1) : tm_ct K tm_xC l yX1_test cX1_test 5 none 0 [tm_rv K 0, tm_rv K a1] (fc_test E a1) (fr0 + 14) (lo0 + 343) := by
  refine tm_ct_of hst (by decide +kernel) (Nat.le_trans (tm_fits_X1_test K a1) (Nat.le_of_ble_eq_true rfl)) ?_
  intro p e R s m args below meth c cx σ ls hl0
  have hl : tm_has 0 ls 5 [(0, tm_rv K 0), (1, tm_rv K a1)] := ⟨by
    have h9 := hl0
    simp only [tm_args_r, tm_args_r, tm_args_n, Nat.zero_add, Nat.reduceAdd] at h9
    exact h9, by
    intro q hq
    simp only [List.mem_cons, List.not_mem_nil, or_false] at hq
    rcases hq with rfl | rfl
    · exact Or.inl (tm_rv_cat K 0)
    · exact Or.inl (tm_rv_cat K a1)⟩
  clear hl0
  unfold fc_test
  refine tm_aload_n cx dX1_test_0 (tm_has_at hl 0 rfl) ?_
  refine tg_X1_136 cx dX1_test_1 (fun q1 => ?_)
  refine tm_bipush cx dX1_test_4 (by decide) ?_
  refine tm_icmp_ne (tgt := 14) cx q1 (by decide) dX1_test_6 (by decide) (fun c6 => ?_) (fun c6 => ?_)
  · refine tm_aload_n cx dX1_test_9 (tm_has_at hl 0 rfl) ?_
    refine tm_iconst cx dX1_test_10 ?_
    refine tm_callV (n := 1) cx (cc_fail K l (tm_hst cx) 5 (by decide)) (lw_V q580 q582 qs10 q95 q583) ⟨rfl, by decide +kernel, by decide +kernel, by decide +kernel⟩ rfl tm_cd_X1 (fun h => (tm_hC_0 h).1) ⟨by omega, by omega⟩ rfl (Nat.le_of_ble_eq_true rfl) hl.1.1 dX1_test_11 (fun _ _ _ => ?_)
    exact tm_none
  · exact wc_test_J14 cx hE a1 _ _ g1 (tm_has_sub hl [0, 1] rfl)
def fc_X2_expand (E : Int → tm_S → tm_R) (a0 : Int) (σ : tm_S) : tm_R :=
  tm_gx (a0 - 400) 18 <|
  tm_lt (a0 - 400) fun x4 =>
  if x4 = 7 then
    tm_bd (fc_expandAfter E σ) fun u65 σ65 =>
    tm_rt 0 σ65
  else
    if x4 = 8 then
      tm_bd (fc_mark σ) fun u72 σ72 =>
      tm_rt 0 σ72
    else
      if x4 = 9 then
        tm_bd (fc_spell E σ) fun u79 σ79 =>
        tm_rt 0 σ79
      else
        if x4 = 11 then
          tm_bd (fc_tell σ) fun u86 σ86 =>
          tm_rt 0 σ86
        else
          if x4 = 16 then
            tm_bd (fc_otherwise σ) fun u93 σ93 =>
            tm_rt 0 σ93
          else
            if x4 = 17 then
              tm_bd (fc_close σ) fun u100 σ100 =>
              tm_rt 0 σ100
            else
              tm_bd (fc_test E a0 σ) fun u108 σ108 =>
              tm_rt 0 σ108
theorem tm_fits_X2_expand (K : tm_K) (a0 : Int) : (lg_sl [tm_rv K a0, tm_rv K 0]).length ≤ 2 := (tm_sl_r _ _ _ _ (tm_sl_r _ _ _ _ (tm_sl_n _)))
theorem cc_X2_expand (K : tm_K) (l : Launch) (hst : l.stackTraces = false) (E : Int → tm_S → tm_R) {fr0 lo0 : Nat} (hE : ∀ t : Int, tm_in t → tm_ct K tm_xC l yX1_expand cX1_expand 2 none 0 [tm_rv K 0, tm_iv t] (E t) fr0 lo0) (a0 : Int) (g0 : tm_in a0) : tm_ct K tm_xC l yX2_expand cX2_expand 2 none 0 [tm_rv K a0, tm_rv K 0] (fc_X2_expand E a0) (fr0 + 15) (lo0 + 367) := by
  refine tm_ct_of hst (by decide +kernel) (Nat.le_trans (tm_fits_X2_expand K a0) (Nat.le_of_ble_eq_true rfl)) ?_
  intro p e R s m args below meth c cx σ ls hl0
  have hl : tm_has 0 ls 2 [(0, tm_rv K a0), (1, tm_rv K 0)] := ⟨by
    have h9 := hl0
    simp only [tm_args_r, tm_args_r, tm_args_n, Nat.zero_add, Nat.reduceAdd] at h9
    exact h9, by
    intro q hq
    simp only [List.mem_cons, List.not_mem_nil, or_false] at hq
    rcases hq with rfl | rfl
    · exact Or.inl (tm_rv_cat K a0)
    · exact Or.inl (tm_rv_cat K 0)⟩
  clear hl0
  unfold fc_X2_expand
  refine tm_aload_n cx dX2_expand_0 (tm_has_at hl 0 rfl) ?_
  refine tm_ordinal cx (tm_lwU q676 q677 q679 q680 q96 q681) ⟨by omega, by omega⟩ (Nat.le_of_ble_eq_true rfl) hl.1.1 dX2_expand_1 (fun o1 => ?_)
  refine tm_lt_ (tm_in18 o1) (fun x4 q4 => ?_)
  refine tm_fork (fun c4 => ?_) (fun c4_7 => ?_)
  · refine tm_swIn (tgt := 64) cx q4 dX2_expand_4 (by omega) (by rw [c4]; rfl) (by decide) ?_
    refine tm_aload_n cx dX2_expand_64 (tm_has_at hl 1 rfl) ?_
    refine tm_callVN (n := 0) (host := "TokenMouth") cx (cc_expandAfter K l (tm_hst cx) E hE) q685 q95 q684 qs18 (List.mem_of_getElem? (i := 2) rfl) ⟨by decide +kernel, by decide +kernel, by decide +kernel⟩ rfl tm_cd_X1 (fun h => (tm_hC_0 h).1) ⟨by omega, by omega⟩ rfl (Nat.le_of_ble_eq_true rfl) hl.1.1 dX2_expand_65 (fun u65 σ65 q65 => ?_)
    show tm_J p l e R s m args below meth c K tm_xC 0 _ _ (F0 m 68 ls [])
    refine tm_goto (tgt := 111) cx dX2_expand_68 (by decide) ?_
    exact tm_vreturn cx dX2_expand_111
  · refine tm_fork (fun c4 => ?_) (fun c4_8 => ?_)
    · refine tm_swIn (tgt := 71) cx q4 dX2_expand_4 (by omega) (by rw [c4]; rfl) (by decide) ?_
      refine tm_aload_n cx dX2_expand_71 (tm_has_at hl 1 rfl) ?_
      refine tm_callVN (n := 0) (host := "TokenMouth") cx (cc_mark K l (tm_hst cx)) q697 q95 q696 qs21 (List.mem_of_getElem? (i := 3) rfl) ⟨by decide +kernel, by decide +kernel, by decide +kernel⟩ rfl tm_cd_X1 (fun h => (tm_hC_0 h).1) ⟨by omega, by omega⟩ rfl (Nat.le_of_ble_eq_true rfl) hl.1.1 dX2_expand_72 (fun u72 σ72 q72 => ?_)
      show tm_J p l e R s m args below meth c K tm_xC 0 _ _ (F0 m 75 ls [])
      refine tm_goto (tgt := 111) cx dX2_expand_75 (by decide) ?_
      exact tm_vreturn cx dX2_expand_111
    · refine tm_fork (fun c4 => ?_) (fun c4_9 => ?_)
      · refine tm_swIn (tgt := 78) cx q4 dX2_expand_4 (by omega) (by rw [c4]; rfl) (by decide) ?_
        refine tm_aload_n cx dX2_expand_78 (tm_has_at hl 1 rfl) ?_
        refine tm_callVN (n := 0) (host := "TokenMouth") cx (cc_spell K l (tm_hst cx) E hE) q701 q95 q700 qs22 (List.mem_of_getElem? (i := 4) rfl) ⟨by decide +kernel, by decide +kernel, by decide +kernel⟩ rfl tm_cd_X1 (fun h => (tm_hC_0 h).1) ⟨by omega, by omega⟩ rfl (Nat.le_of_ble_eq_true rfl) hl.1.1 dX2_expand_79 (fun u79 σ79 q79 => ?_)
        show tm_J p l e R s m args below meth c K tm_xC 0 _ _ (F0 m 82 ls [])
        refine tm_goto (tgt := 111) cx dX2_expand_82 (by decide) ?_
        exact tm_vreturn cx dX2_expand_111
      · refine tm_fork (fun c4 => ?_) (fun c4_11 => ?_)
        · refine tm_swIn (tgt := 85) cx q4 dX2_expand_4 (by omega) (by rw [c4]; rfl) (by decide) ?_
          refine tm_aload_n cx dX2_expand_85 (tm_has_at hl 1 rfl) ?_
          refine tm_callVN (n := 0) (host := "TokenMouth") cx (cc_tell K l (tm_hst cx)) q722 q95 q721 qs26 (List.mem_of_getElem? (i := 5) rfl) ⟨by decide +kernel, by decide +kernel, by decide +kernel⟩ rfl tm_cd_X1 (fun h => (tm_hC_0 h).1) ⟨by omega, by omega⟩ rfl (Nat.le_of_ble_eq_true rfl) hl.1.1 dX2_expand_86 (fun u86 σ86 q86 => ?_)
          show tm_J p l e R s m args below meth c K tm_xC 0 _ _ (F0 m 89 ls [])
          refine tm_goto (tgt := 111) cx dX2_expand_89 (by decide) ?_
          exact tm_vreturn cx dX2_expand_111
        · refine tm_fork (fun c4 => ?_) (fun c4_16 => ?_)
          · refine tm_swIn (tgt := 92) cx q4 dX2_expand_4 (by omega) (by rw [c4]; rfl) (by decide) ?_
            refine tm_aload_n cx dX2_expand_92 (tm_has_at hl 1 rfl) ?_
            refine tm_callVN (n := 0) (host := "TokenMouth") cx (cc_otherwise K l (tm_hst cx)) q729 q95 q728 qs27 (List.mem_of_getElem? (i := 6) rfl) ⟨by decide +kernel, by decide +kernel, by decide +kernel⟩ rfl tm_cd_X1 (fun h => (tm_hC_0 h).1) ⟨by omega, by omega⟩ rfl (Nat.le_of_ble_eq_true rfl) hl.1.1 dX2_expand_93 (fun u93 σ93 q93 => ?_)
            show tm_J p l e R s m args below meth c K tm_xC 0 _ _ (F0 m 96 ls [])
            refine tm_goto (tgt := 111) cx dX2_expand_96 (by decide) ?_
            exact tm_vreturn cx dX2_expand_111
          · refine tm_fork (fun c4 => ?_) (fun c4_17 => ?_)
            · refine tm_swIn (tgt := 99) cx q4 dX2_expand_4 (by omega) (by rw [c4]; rfl) (by decide) ?_
              refine tm_aload_n cx dX2_expand_99 (tm_has_at hl 1 rfl) ?_
              refine tm_callVN (n := 0) (host := "TokenMouth") cx (cc_close K l (tm_hst cx)) q741 q95 q740 qs29 (List.mem_of_getElem? (i := 7) rfl) ⟨by decide +kernel, by decide +kernel, by decide +kernel⟩ rfl tm_cd_X1 (fun h => (tm_hC_0 h).1) ⟨by omega, by omega⟩ rfl (Nat.le_of_ble_eq_true rfl) hl.1.1 dX2_expand_100 (fun u100 σ100 q100 => ?_)
              show tm_J p l e R s m args below meth c K tm_xC 0 _ _ (F0 m 103 ls [])
              refine tm_goto (tgt := 111) cx dX2_expand_103 (by decide) ?_
              exact tm_vreturn cx dX2_expand_111
            · refine tm_swOut (tgt := 106) cx q4 dX2_expand_4 (by
                  have h9 : x4 < 7 ∨ 17 < x4 ∨ x4 = 10 ∨ x4 = 12 ∨ x4 = 13 ∨ x4 = 14 ∨ x4 = 15 := by omega
                  rcases h9 with h | h | h | h | h | h | h
                  · exact Or.inl h
                  · exact Or.inr (Or.inl h)
                  · rw [h]; exact Or.inr (Or.inr rfl)
                  · rw [h]; exact Or.inr (Or.inr rfl)
                  · rw [h]; exact Or.inr (Or.inr rfl)
                  · rw [h]; exact Or.inr (Or.inr rfl)
                  · rw [h]; exact Or.inr (Or.inr rfl)) (by decide) ?_
              refine tm_aload_n cx dX2_expand_106 (tm_has_at hl 1 rfl) ?_
              refine tm_aload_n cx dX2_expand_107 (tm_has_at hl 0 rfl) ?_
              refine tm_callVN (n := 1) (host := "TokenMouth") cx (cc_test K l (tm_hst cx) E hE a0 g0) q745 q95 q744 qs30 (List.mem_of_getElem? (i := 8) rfl) ⟨by decide +kernel, by decide +kernel, by decide +kernel⟩ rfl tm_cd_X1 (fun h => (tm_hC_0 h).1) ⟨by omega, by omega⟩ rfl (Nat.le_of_ble_eq_true rfl) hl.1.1 dX2_expand_108 (fun u108 σ108 q108 => ?_)
              show tm_J p l e R s m args below meth c K tm_xC 0 _ _ (F0 m 111 ls [])
              exact tm_vreturn cx dX2_expand_111
def fc_expandB_J19 (E : Int → tm_S → tm_R) (v1 : Int) (σ : tm_S) : tm_R :=
  tm_bd (fc_fail 5 σ) fun _ _ => none
theorem wc_expandB_J19 {p : Program} {l : Launch} {e : Env} {R : Room} {s : State} {m : MethodId} {args : Array Value} {below : List Frame} {meth : Method} {c : Code} {K : tm_K} {fr0 lo0 : Nat} {E : Int → tm_S → tm_R} (cx : tm_C p l R s m args meth c K cX1_expand 2 RX1 "expand" none (fr0 + 16) (lo0 + 398)) (hE : ∀ t : Int, tm_in t → tm_ct K tm_xC l yX1_expand cX1_expand 2 none 0 [tm_rv K 0, tm_iv t] (E t) fr0 lo0) (v1 : Int) (σ : tm_S) (ls : Array Slot) (g1 : tm_in v1) (hl : tm_has 0 ls 2 [(0, tm_rv K 0), (1, tm_iv v1)]) : tm_J p l e R s m args below meth c K tm_xC 0 (fc_expandB_J19 E v1 σ) σ (F0 m 19 ls []) := by
  unfold fc_expandB_J19
  refine tm_aload_n cx dX1_expand_19 (tm_has_at hl 0 rfl) ?_
  refine tm_iconst cx dX1_expand_20 ?_
  refine tm_callV (n := 1) cx (cc_fail K l (tm_hst cx) 5 (by decide)) (lw_V q580 q582 qs10 q95 q583) ⟨rfl, by decide +kernel, by decide +kernel, by decide +kernel⟩ rfl tm_cd_X1 (fun h => (tm_hC_0 h).1) ⟨by omega, by omega⟩ rfl (Nat.le_of_ble_eq_true rfl) hl.1.1 dX1_expand_21 (fun _ _ _ => ?_)
  exact tm_none
def fc_expandB_J24 (E : Int → tm_S → tm_R) (v1 : Int) (σ : tm_S) : tm_R :=
  tm_gi ((tm_f σ 17 0) + 1) <|
  tm_gi ((tm_f (tm_wf σ 17 0 ((tm_f σ 17 0) + 1)) 18 0) + 1) <|
  tm_bd (fc_meaningOf v1 (tm_wf (tm_wf σ 17 0 ((tm_f σ 17 0) + 1)) 18 0 ((tm_f (tm_wf σ 17 0 ((tm_f σ 17 0) + 1)) 18 0) + 1))) fun u46 σ46 =>
  tm_bd (tm_m3 (tm_k σ46 u46) (fc_X2_expand E u46 σ46) (fc_X8_expand u46 σ46) (fc_X7_expand u46 σ46)) fun u50 σ50 =>
  tm_gi ((tm_f σ50 18 0) - 1) <|
  tm_rt 0 (tm_wf σ50 18 0 ((tm_f σ50 18 0) - 1))
theorem wc_expandB_J24 {p : Program} {l : Launch} {e : Env} {R : Room} {s : State} {m : MethodId} {args : Array Value} {below : List Frame} {meth : Method} {c : Code} {K : tm_K} {fr0 lo0 : Nat} {E : Int → tm_S → tm_R} (cx : tm_C p l R s m args meth c K cX1_expand 2 RX1 "expand" none (fr0 + 16) (lo0 + 398)) (hE : ∀ t : Int, tm_in t → tm_ct K tm_xC l yX1_expand cX1_expand 2 none 0 [tm_rv K 0, tm_iv t] (E t) fr0 lo0) (v1 : Int) (σ : tm_S) (ls : Array Slot) (g1 : tm_in v1) (hl : tm_has 0 ls 2 [(0, tm_rv K 0), (1, tm_iv v1)]) : tm_J p l e R s m args below meth c K tm_xC 0 (fc_expandB_J24 E v1 σ) σ (F0 m 24 ls []) := by
  unfold fc_expandB_J24
  refine tm_aload_n cx dX1_expand_24 (tm_has_at hl 0 rfl) ?_
  refine tm_dup_r cx dX1_expand_25 ?_
  refine tg_X1_232 cx dX1_expand_26 (fun q26 => ?_)
  refine tm_iconst cx dX1_expand_29 ?_
  refine tm_iadd cx dX1_expand_30 (fun q30 => ?_)
  refine tp_X1_232 cx q30 dX1_expand_31 ?_
  refine tm_aload_n cx dX1_expand_34 (tm_has_at hl 0 rfl) ?_
  refine tm_dup_r cx dX1_expand_35 ?_
  refine tg_X1_235 cx dX1_expand_36 (fun q36 => ?_)
  refine tm_iconst cx dX1_expand_39 ?_
  refine tm_iadd cx dX1_expand_40 (fun q40 => ?_)
  refine tp_X1_235 cx q40 dX1_expand_41 ?_
  refine tm_aload_n cx dX1_expand_44 (tm_has_at hl 0 rfl) ?_
  refine tm_iload_n cx dX1_expand_45 (tm_has_at hl 1 rfl) ?_
  refine tm_callV (n := 1) cx (cc_meaningOf K l (tm_hst cx) v1 g1) (lw_V q607 q609 qs15 q95 q610) ⟨rfl, by decide +kernel, by decide +kernel, by decide +kernel⟩ rfl tm_cd_X1 (fun h => (tm_hC_0 h).1) ⟨by omega, by omega⟩ rfl (Nat.le_of_ble_eq_true rfl) hl.1.1 dX1_expand_46 (fun u46 σ46 q46 => ?_)
  show tm_J p l e R s m args below meth c K tm_xC 0 _ _ (F0 m 49 ls [tm_rv K u46])
  refine tm_aload_n cx dX1_expand_49 (tm_has_at hl 0 rfl) ?_
  refine tm_callF (n := 1) cx (cc_X2_expand K l (tm_hst cx) E hE u46 q46) (cc_X8_expand K l (tm_hst cx) u46 q46) (cc_X7_expand K l (tm_hst cx) u46 q46) (tm_lwF q668 q671 q673 q97 q675) (tm_lwF q668 q842 q844 q120 q846) (tm_lwF q668 q786 q788 q119 q790) (List.mem_of_getElem? (i := 1) rfl) (List.mem_of_getElem? (i := 5) rfl) (List.mem_of_getElem? (i := 9) rfl) ⟨by decide +kernel, by decide +kernel, by decide +kernel⟩ rfl ⟨by omega, by omega⟩ ⟨by omega, by omega⟩ ⟨by omega, by omega⟩ rfl (Nat.le_of_ble_eq_true rfl) hl.1.1 dX1_expand_50 (fun u50 σ50 q50 => ?_)
  show tm_J p l e R s m args below meth c K tm_xC 0 _ _ (F0 m 55 ls [])
  refine tm_aload_n cx dX1_expand_55 (tm_has_at hl 0 rfl) ?_
  refine tm_dup_r cx dX1_expand_56 ?_
  refine tg_X1_235 cx dX1_expand_57 (fun q57 => ?_)
  refine tm_iconst cx dX1_expand_60 ?_
  refine tm_isub cx dX1_expand_61 (fun q61 => ?_)
  refine tp_X1_235 cx q61 dX1_expand_62 ?_
  exact tm_vreturn cx dX1_expand_65
def fc_expandB (E : Int → tm_S → tm_R) (a1 : Int) (σ : tm_S) : tm_R :=
  if (tm_f σ 17 0) = 200 then
    fc_expandB_J19 E a1 σ
  else
    if (tm_f σ 18 0) = 30 then
      fc_expandB_J19 E a1 σ
    else
      fc_expandB_J24 E a1 σ
theorem tm_fits_X1_expand (K : tm_K) (a1 : Int) : (lg_sl [tm_rv K 0, tm_iv a1]).length ≤ 2 := (tm_sl_r _ _ _ _ (tm_sl_i _ _ _ (tm_sl_n _)))
theorem cc_expandB (K : tm_K) (l : Launch) (hst : l.stackTraces = false) (E : Int → tm_S → tm_R) {fr0 lo0 : Nat} (hE : ∀ t : Int, tm_in t → tm_ct K tm_xC l yX1_expand cX1_expand 2 none 0 [tm_rv K 0, tm_iv t] (E t) fr0 lo0) (a1 : Int) (g1 : tm_in a1) : tm_ct K tm_xC l yX1_expand cX1_expand 2 none 0 [tm_rv K 0, tm_iv a1] (fc_expandB E a1) (fr0 + 16) (lo0 + 398) := by
  refine tm_ct_of hst (by decide +kernel) (Nat.le_trans (tm_fits_X1_expand K a1) (Nat.le_of_ble_eq_true rfl)) ?_
  intro p e R s m args below meth c cx σ ls hl0
  have hl : tm_has 0 ls 2 [(0, tm_rv K 0), (1, tm_iv a1)] := ⟨by
    have h9 := hl0
    simp only [tm_args_r, tm_args_i, tm_args_n, Nat.zero_add, Nat.reduceAdd] at h9
    exact h9, by
    intro q hq
    simp only [List.mem_cons, List.not_mem_nil, or_false] at hq
    rcases hq with rfl | rfl
    · exact Or.inl (tm_rv_cat K 0)
    · exact Or.inl rfl⟩
  clear hl0
  unfold fc_expandB
  refine tm_aload_n cx dX1_expand_0 (tm_has_at hl 0 rfl) ?_
  refine tg_X1_232 cx dX1_expand_1 (fun q1 => ?_)
  refine tm_sipush cx dX1_expand_4 (by decide) ?_
  refine tm_icmp_eq (tgt := 19) cx q1 (by decide) dX1_expand_7 (by decide) (fun c7 => ?_) (fun c7 => ?_)
  · exact wc_expandB_J19 cx hE a1 _ _ g1 (tm_has_sub hl [0, 1] rfl)
  · refine tm_aload_n cx dX1_expand_10 (tm_has_at hl 0 rfl) ?_
    refine tg_X1_235 cx dX1_expand_11 (fun q11 => ?_)
    refine tm_bipush cx dX1_expand_14 (by decide) ?_
    refine tm_icmp_ne (tgt := 24) cx q11 (by decide) dX1_expand_16 (by decide) (fun c16 => ?_) (fun c16 => ?_)
    · exact wc_expandB_J19 cx hE a1 _ _ g1 (tm_has_sub hl [0, 1] rfl)
    · exact wc_expandB_J24 cx hE a1 _ _ g1 (tm_has_sub hl [0, 1] rfl)
