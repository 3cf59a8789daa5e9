set_option maxRecDepth 100000
def tm_DX : Nat := 40
def fc_EX : Nat → Int → tm_S → tm_R
  | 0 => fun _ _ => none
  | d + 1 => fc_expandB (fc_EX d)
theorem cc_EX (K : tm_K) (l : Launch) (hst : l.stackTraces = false) : ∀ (d : Nat) (t : Int), tm_in t → tm_ct K tm_xC l yX1_expand cX1_expand 2 none 0 [tm_rv K 0, tm_iv t] (fc_EX d t) (16 * d) (398 * d) := by
  intro d
  induction d with
  | zero => intro t ht σ o σ' h; cases h
  | succ d ih => exact fun t ht => cc_expandB K l hst (fc_EX d) ih t ht
def fc_bodyOf_J105 (r35 : Int → Int → Int → Int → tm_S → tm_R) (v1 : Int) (v2 : Int) (v3 : Int) (vs0 : Int) (σ : tm_S) : tm_R :=
  tm_bd (fc_levelOf vs0 σ) fun u110 σ110 =>
  tm_gi (v3 + u110) <|
  tm_lt (v3 + u110) fun x114 =>
  r35 v1 v2 x114 vs0 σ110
theorem wc_bodyOf_J105 {p : Program} {l : Launch} {e : Env} {R : Room} {s : State} {m : MethodId} {args : Array Value} {below : List Frame} {meth : Method} {c : Code} {K : tm_K} {r35 : Int → Int → Int → Int → tm_S → tm_R} (cx : tm_C p l R s m args meth c K cX1_bodyOf 5 RX1 "bodyOf" none 654 16261) (h35 : ∀ (v1 : Int) (v2 : Int) (v3 : Int) (v4 : Int) (τ : tm_S) (ls : Array Slot), tm_in v1 → tm_in v2 → tm_in v3 → tm_in v4 → tm_has 0 ls 5 [(0, tm_rv K 0), (1, tm_iv v1), (2, tm_iv v2), (3, tm_iv v3), (4, tm_iv v4)] → tm_J p l e R s m args below meth c K tm_xC 0 (r35 v1 v2 v3 v4 τ) τ (F0 m 35 ls [])) (v1 : Int) (v2 : Int) (v3 : Int) (vs0 : Int) (σ : tm_S) (ls : Array Slot) (g1 : tm_in v1) (g2 : tm_in v2) (g3 : tm_in v3) (gs0 : tm_in vs0) (hl : tm_has 0 ls 5 [(0, tm_rv K 0), (1, tm_iv v1), (2, tm_iv v2), (3, tm_iv v3)]) : tm_J p l e R s m args below meth c K tm_xC 0 (fc_bodyOf_J105 r35 v1 v2 v3 vs0 σ) σ (F0 m 105 ls [tm_iv vs0]) := by
  unfold fc_bodyOf_J105
  refine tm_istore (lv' := [(4, tm_iv vs0), (0, tm_rv K 0), (1, tm_iv v1), (2, tm_iv v2), (3, tm_iv v3)]) cx dX1_bodyOf_105 hl (by decide) (by decide) rfl (fun ls hl => ?_)
  refine tm_iload_n cx dX1_bodyOf_107 (tm_has_at hl 4 rfl) ?_
  refine tm_iload cx dX1_bodyOf_108 (tm_has_at hl 0 rfl) ?_
  refine tm_callS (n := 1) cx (cc_levelOf K l (tm_hst cx) vs0 gs0) (lw_S q808 q809 q95 q810) ⟨by decide +kernel, by decide +kernel, by decide +kernel⟩ rfl ⟨Nat.le_of_ble_eq_true rfl, Nat.le_of_ble_eq_true rfl⟩ rfl (Nat.le_of_ble_eq_true rfl) hl.1.1 dX1_bodyOf_110 (fun u110 σ110 q110 => ?_)
  show tm_J p l e R s m args below meth c K tm_xC 0 _ _ (F0 m 113 ls [tm_iv u110, tm_iv v3])
  refine tm_iadd cx dX1_bodyOf_113 (fun q113 => ?_)
  refine tm_lt_ q113 (fun x114 q114 => ?_)
  refine tm_istore_n (lv' := [(3, tm_iv x114), (4, tm_iv vs0), (0, tm_rv K 0), (1, tm_iv v1), (2, tm_iv v2)]) cx dX1_bodyOf_114 hl (by decide) (by decide) rfl (fun ls hl => ?_)
  refine tm_goto (tgt := 35) cx dX1_bodyOf_115 (by decide) ?_
  exact h35 v1 v2 x114 vs0 _ _ g1 g2 q114 gs0 (tm_has_sub hl [2, 3, 4, 0, 1] rfl)
def fc_bodyOf_J90 (r35 : Int → Int → Int → Int → tm_S → tm_R) (v1 : Int) (v2 : Int) (v3 : Int) (σ : tm_S) : tm_R :=
  if v1 = 0 then
    tm_bd (fc_need σ) fun u102 σ102 =>
    fc_bodyOf_J105 r35 v1 v2 v3 u102 σ102
  else
    tm_bd (fc_needExpanded (fc_EX tm_DX) σ) fun u95 σ95 =>
    fc_bodyOf_J105 r35 v1 v2 v3 u95 σ95
theorem wc_bodyOf_J90 {p : Program} {l : Launch} {e : Env} {R : Room} {s : State} {m : MethodId} {args : Array Value} {below : List Frame} {meth : Method} {c : Code} {K : tm_K} {r35 : Int → Int → Int → Int → tm_S → tm_R} (cx : tm_C p l R s m args meth c K cX1_bodyOf 5 RX1 "bodyOf" none 654 16261) (h35 : ∀ (v1 : Int) (v2 : Int) (v3 : Int) (v4 : Int) (τ : tm_S) (ls : Array Slot), tm_in v1 → tm_in v2 → tm_in v3 → tm_in v4 → tm_has 0 ls 5 [(0, tm_rv K 0), (1, tm_iv v1), (2, tm_iv v2), (3, tm_iv v3), (4, tm_iv v4)] → tm_J p l e R s m args below meth c K tm_xC 0 (r35 v1 v2 v3 v4 τ) τ (F0 m 35 ls [])) (v1 : Int) (v2 : Int) (v3 : Int) (σ : tm_S) (ls : Array Slot) (g1 : tm_in v1) (g2 : tm_in v2) (g3 : tm_in v3) (hl : tm_has 0 ls 5 [(0, tm_rv K 0), (1, tm_iv v1), (2, tm_iv v2), (3, tm_iv v3)]) : tm_J p l e R s m args below meth c K tm_xC 0 (fc_bodyOf_J90 r35 v1 v2 v3 σ) σ (F0 m 90 ls []) := by
  unfold fc_bodyOf_J90
  refine tm_iload_n cx dX1_bodyOf_90 (tm_has_at hl 1 rfl) ?_
  refine tm_if_eq (tgt := 101) cx g1 dX1_bodyOf_91 (by decide) (fun c91 => ?_) (fun c91 => ?_)
  · refine tm_aload_n cx dX1_bodyOf_101 (tm_has_at hl 0 rfl) ?_
    refine tm_callV (n := 0) cx (cc_need K l (tm_hst cx)) (lw_V q686 q688 qs19 q95 q689) ⟨rfl, by decide +kernel, by decide +kernel, by decide +kernel⟩ rfl tm_cd_X1 (fun h => (tm_hC_0 h).1) ⟨Nat.le_of_ble_eq_true rfl, Nat.le_of_ble_eq_true rfl⟩ rfl (Nat.le_of_ble_eq_true rfl) hl.1.1 dX1_bodyOf_102 (fun u102 σ102 q102 => ?_)
    show tm_J p l e R s m args below meth c K tm_xC 0 _ _ (F0 m 105 ls [tm_iv u102])
    exact wc_bodyOf_J105 cx h35 v1 v2 v3 u102 _ _ g1 g2 g3 q102 (tm_has_sub hl [0, 1, 2, 3] rfl)
  · refine tm_aload_n cx dX1_bodyOf_94 (tm_has_at hl 0 rfl) ?_
    refine tm_callV (n := 0) cx (cc_needExpanded K l (tm_hst cx) (fc_EX tm_DX) (fun t ht => cc_EX K l (tm_hst cx) tm_DX t ht)) (lw_V q702 q704 qs23 q95 q705) ⟨rfl, by decide +kernel, by decide +kernel, by decide +kernel⟩ rfl tm_cd_X1 (fun h => (tm_hC_0 h).1) ⟨Nat.le_of_ble_eq_true rfl, Nat.le_of_ble_eq_true rfl⟩ rfl (Nat.le_of_ble_eq_true rfl) hl.1.1 dX1_bodyOf_95 (fun u95 σ95 q95 => ?_)
    show tm_J p l e R s m args below meth c K tm_xC 0 _ _ (F0 m 98 ls [tm_iv u95])
    refine tm_goto (tgt := 105) cx dX1_bodyOf_98 (by decide) ?_
    exact wc_bodyOf_J105 cx h35 v1 v2 v3 u95 _ _ g1 g2 g3 q95 (tm_has_sub hl [0, 1, 2, 3] rfl)
def fc_bodyOf_J71 (r35 : Int → Int → Int → Int → tm_S → tm_R) (v1 : Int) (v2 : Int) (v3 : Int) (v4 : Int) (σ : tm_S) : tm_R :=
  tm_bd (fc_X3_add 125 v4 40 σ) fun u79 σ79 =>
  if u79 = 0 then
    tm_bd (fc_fail 5 σ79) fun _ _ => none
  else
    fc_bodyOf_J90 r35 v1 v2 v3 σ79
theorem wc_bodyOf_J71 {p : Program} {l : Launch} {e : Env} {R : Room} {s : State} {m : MethodId} {args : Array Value} {below : List Frame} {meth : Method} {c : Code} {K : tm_K} {r35 : Int → Int → Int → Int → tm_S → tm_R} (cx : tm_C p l R s m args meth c K cX1_bodyOf 5 RX1 "bodyOf" none 654 16261) (h35 : ∀ (v1 : Int) (v2 : Int) (v3 : Int) (v4 : Int) (τ : tm_S) (ls : Array Slot), tm_in v1 → tm_in v2 → tm_in v3 → tm_in v4 → tm_has 0 ls 5 [(0, tm_rv K 0), (1, tm_iv v1), (2, tm_iv v2), (3, tm_iv v3), (4, tm_iv v4)] → tm_J p l e R s m args below meth c K tm_xC 0 (r35 v1 v2 v3 v4 τ) τ (F0 m 35 ls [])) (v1 : Int) (v2 : Int) (v3 : Int) (v4 : Int) (σ : tm_S) (ls : Array Slot) (g1 : tm_in v1) (g2 : tm_in v2) (g3 : tm_in v3) (g4 : tm_in v4) (hl : tm_has 0 ls 5 [(0, tm_rv K 0), (1, tm_iv v1), (2, tm_iv v2), (3, tm_iv v3), (4, tm_iv v4)]) : tm_J p l e R s m args below meth c K tm_xC 0 (fc_bodyOf_J71 r35 v1 v2 v3 v4 σ) σ (F0 m 71 ls []) := by
  unfold fc_bodyOf_J71
  refine tm_aload_n cx dX1_bodyOf_71 (tm_has_at hl 0 rfl) ?_
  refine tg_X1_68 cx dX1_bodyOf_72 ?_
  refine tm_iload cx dX1_bodyOf_75 (tm_has_at hl 4 rfl) ?_
  refine tm_bipush cx dX1_bodyOf_77 (by decide) ?_
  refine tm_callV (n := 2) cx (cc_X3_add K l (tm_hst cx) 125 (by decide) v4 g4 40 (by decide)) (lw_V q814 q815 q816 q101 q817) ⟨rfl, by decide +kernel, by decide +kernel, by decide +kernel⟩ rfl tm_cd_X3 (fun h => (tm_hC_125 h).1) ⟨Nat.le_of_ble_eq_true rfl, Nat.le_of_ble_eq_true rfl⟩ rfl (Nat.le_of_ble_eq_true rfl) hl.1.1 dX1_bodyOf_79 (fun u79 σ79 q79 => ?_)
  show tm_J p l e R s m args below meth c K tm_xC 0 _ _ (F0 m 82 ls [tm_iv u79])
  refine tm_if_ne (tgt := 90) cx q79 dX1_bodyOf_82 (by decide) (fun c82 => ?_) (fun c82 => ?_)
  · refine tm_aload_n cx dX1_bodyOf_85 (tm_has_at hl 0 rfl) ?_
    refine tm_iconst cx dX1_bodyOf_86 ?_
    refine tm_callV (n := 1) cx (cc_fail K l (tm_hst cx) 5 (by decide)) (lw_V q580 q582 qs10 q95 q583) ⟨rfl, by decide +kernel, by decide +kernel, by decide +kernel⟩ rfl tm_cd_X1 (fun h => (tm_hC_0 h).1) ⟨Nat.le_of_ble_eq_true rfl, Nat.le_of_ble_eq_true rfl⟩ rfl (Nat.le_of_ble_eq_true rfl) hl.1.1 dX1_bodyOf_87 (fun _ _ _ => ?_)
    exact tm_none
  · exact wc_bodyOf_J90 cx h35 v1 v2 v3 _ _ g1 g2 g3 (tm_has_sub hl [0, 1, 2, 3] rfl)
def fc_bodyOf_J65 (r35 : Int → Int → Int → Int → tm_S → tm_R) (v1 : Int) (v2 : Int) (v3 : Int) (vs1 : Int) (σ : tm_S) : tm_R :=
  tm_bd (fc_behindHash vs1 v2 σ) fun u66 σ66 =>
  fc_bodyOf_J71 r35 v1 v2 v3 u66 σ66
theorem wc_bodyOf_J65 {p : Program} {l : Launch} {e : Env} {R : Room} {s : State} {m : MethodId} {args : Array Value} {below : List Frame} {meth : Method} {c : Code} {K : tm_K} {r35 : Int → Int → Int → Int → tm_S → tm_R} (cx : tm_C p l R s m args meth c K cX1_bodyOf 5 RX1 "bodyOf" none 654 16261) (h35 : ∀ (v1 : Int) (v2 : Int) (v3 : Int) (v4 : Int) (τ : tm_S) (ls : Array Slot), tm_in v1 → tm_in v2 → tm_in v3 → tm_in v4 → tm_has 0 ls 5 [(0, tm_rv K 0), (1, tm_iv v1), (2, tm_iv v2), (3, tm_iv v3), (4, tm_iv v4)] → tm_J p l e R s m args below meth c K tm_xC 0 (r35 v1 v2 v3 v4 τ) τ (F0 m 35 ls [])) (v1 : Int) (v2 : Int) (v3 : Int) (vs1 : Int) (σ : tm_S) (ls : Array Slot) (g1 : tm_in v1) (g2 : tm_in v2) (g3 : tm_in v3) (gs1 : tm_in vs1) (hl : tm_has 0 ls 5 [(0, tm_rv K 0), (1, tm_iv v1), (2, tm_iv v2), (3, tm_iv v3)]) : tm_J p l e R s m args below meth c K tm_xC 0 (fc_bodyOf_J65 r35 v1 v2 v3 vs1 σ) σ (F0 m 65 ls [tm_iv vs1, tm_rv K 0]) := by
  unfold fc_bodyOf_J65
  refine tm_iload_n cx dX1_bodyOf_65 (tm_has_at hl 2 rfl) ?_
  refine tm_callV (n := 2) cx (cc_behindHash K l (tm_hst cx) vs1 gs1 v2 g2) (lw_V q882 q884 qs45 q95 q885) ⟨rfl, by decide +kernel, by decide +kernel, by decide +kernel⟩ rfl tm_cd_X1 (fun h => (tm_hC_0 h).1) ⟨Nat.le_of_ble_eq_true rfl, Nat.le_of_ble_eq_true rfl⟩ rfl (Nat.le_of_ble_eq_true rfl) hl.1.1 dX1_bodyOf_66 (fun u66 σ66 q66 => ?_)
  show tm_J p l e R s m args below meth c K tm_xC 0 _ _ (F0 m 69 ls [tm_iv u66])
  refine tm_istore (lv' := [(4, tm_iv u66), (0, tm_rv K 0), (1, tm_iv v1), (2, tm_iv v2), (3, tm_iv v3)]) cx dX1_bodyOf_69 hl (by decide) (by decide) rfl (fun ls hl => ?_)
  exact wc_bodyOf_J71 cx h35 v1 v2 v3 u66 _ _ g1 g2 g3 q66 (tm_has_sub hl [1, 2, 3, 4, 0] rfl)
def fc_bodyOf_B35 (r35 : Int → Int → Int → Int → tm_S → tm_R) (v1 : Int) (v2 : Int) (v3 : Int) (v4 : Int) (σ : tm_S) : tm_R :=
  if 0 < v3 then
    tm_bd (fc_isOf v4 6 σ) fun u43 σ43 =>
    if u43 = 0 then
      fc_bodyOf_J71 r35 v1 v2 v3 v4 σ43
    else
      if v1 = 0 then
        tm_bd (fc_need σ43) fun u62 σ62 =>
        fc_bodyOf_J65 r35 v1 v2 v3 u62 σ62
      else
        tm_bd (fc_needExpanded (fc_EX tm_DX) σ43) fun u55 σ55 =>
        fc_bodyOf_J65 r35 v1 v2 v3 u55 σ55
  else
    tm_rt 0 σ
theorem wc_bodyOf_B35 {p : Program} {l : Launch} {e : Env} {R : Room} {s : State} {m : MethodId} {args : Array Value} {below : List Frame} {meth : Method} {c : Code} {K : tm_K} {r35 : Int → Int → Int → Int → tm_S → tm_R} (cx : tm_C p l R s m args meth c K cX1_bodyOf 5 RX1 "bodyOf" none 654 16261) (h35 : ∀ (v1 : Int) (v2 : Int) (v3 : Int) (v4 : Int) (τ : tm_S) (ls : Array Slot), tm_in v1 → tm_in v2 → tm_in v3 → tm_in v4 → tm_has 0 ls 5 [(0, tm_rv K 0), (1, tm_iv v1), (2, tm_iv v2), (3, tm_iv v3), (4, tm_iv v4)] → tm_J p l e R s m args below meth c K tm_xC 0 (r35 v1 v2 v3 v4 τ) τ (F0 m 35 ls [])) (v1 : Int) (v2 : Int) (v3 : Int) (v4 : Int) (σ : tm_S) (ls : Array Slot) (g1 : tm_in v1) (g2 : tm_in v2) (g3 : tm_in v3) (g4 : tm_in v4) (hl : tm_has 0 ls 5 [(0, tm_rv K 0), (1, tm_iv v1), (2, tm_iv v2), (3, tm_iv v3), (4, tm_iv v4)]) : tm_J p l e R s m args below meth c K tm_xC 0 (fc_bodyOf_B35 r35 v1 v2 v3 v4 σ) σ (F0 m 35 ls []) := by
  unfold fc_bodyOf_B35
  refine tm_iload_n cx dX1_bodyOf_35 (tm_has_at hl 3 rfl) ?_
  refine tm_if_le (tgt := 118) cx g3 dX1_bodyOf_36 (by decide) (fun c36 => ?_) (fun c36 => ?_)
  · refine tm_iload cx dX1_bodyOf_39 (tm_has_at hl 4 rfl) ?_
    refine tm_bipush cx dX1_bodyOf_41 (by decide) ?_
    refine tm_callS (n := 2) cx (cc_isOf K l (tm_hst cx) v4 g4 6 (by decide)) (lw_S q811 q812 q95 q813) ⟨by decide +kernel, by decide +kernel, by decide +kernel⟩ rfl ⟨Nat.le_of_ble_eq_true rfl, Nat.le_of_ble_eq_true rfl⟩ rfl (Nat.le_of_ble_eq_true rfl) hl.1.1 dX1_bodyOf_43 (fun u43 σ43 q43 => ?_)
    show tm_J p l e R s m args below meth c K tm_xC 0 _ _ (F0 m 46 ls [tm_iv u43])
    refine tm_if_eq (tgt := 71) cx q43 dX1_bodyOf_46 (by decide) (fun c46 => ?_) (fun c46 => ?_)
    · exact wc_bodyOf_J71 cx h35 v1 v2 v3 v4 _ _ g1 g2 g3 g4 (tm_has_sub hl [0, 1, 2, 3, 4] rfl)
    · refine tm_aload_n cx dX1_bodyOf_49 (tm_has_at hl 0 rfl) ?_
      refine tm_iload_n cx dX1_bodyOf_50 (tm_has_at hl 1 rfl) ?_
      refine tm_if_eq (tgt := 61) cx g1 dX1_bodyOf_51 (by decide) (fun c51 => ?_) (fun c51 => ?_)
      · refine tm_aload_n cx dX1_bodyOf_61 (tm_has_at hl 0 rfl) ?_
        refine tm_callV (n := 0) cx (cc_need K l (tm_hst cx)) (lw_V q686 q688 qs19 q95 q689) ⟨rfl, by decide +kernel, by decide +kernel, by decide +kernel⟩ rfl tm_cd_X1 (fun h => (tm_hC_0 h).1) ⟨Nat.le_of_ble_eq_true rfl, Nat.le_of_ble_eq_true rfl⟩ rfl (Nat.le_of_ble_eq_true rfl) hl.1.1 dX1_bodyOf_62 (fun u62 σ62 q62 => ?_)
        show tm_J p l e R s m args below meth c K tm_xC 0 _ _ (F0 m 65 ls [tm_iv u62, tm_rv K 0])
        exact wc_bodyOf_J65 cx h35 v1 v2 v3 u62 _ _ g1 g2 g3 q62 (tm_has_sub hl [0, 1, 2, 3] rfl)
      · refine tm_aload_n cx dX1_bodyOf_54 (tm_has_at hl 0 rfl) ?_
        refine tm_callV (n := 0) cx (cc_needExpanded K l (tm_hst cx) (fc_EX tm_DX) (fun t ht => cc_EX K l (tm_hst cx) tm_DX t ht)) (lw_V q702 q704 qs23 q95 q705) ⟨rfl, by decide +kernel, by decide +kernel, by decide +kernel⟩ rfl tm_cd_X1 (fun h => (tm_hC_0 h).1) ⟨Nat.le_of_ble_eq_true rfl, Nat.le_of_ble_eq_true rfl⟩ rfl (Nat.le_of_ble_eq_true rfl) hl.1.1 dX1_bodyOf_55 (fun u55 σ55 q55 => ?_)
        show tm_J p l e R s m args below meth c K tm_xC 0 _ _ (F0 m 58 ls [tm_iv u55, tm_rv K 0])
        refine tm_goto (tgt := 65) cx dX1_bodyOf_58 (by decide) ?_
        exact wc_bodyOf_J65 cx h35 v1 v2 v3 u55 _ _ g1 g2 g3 q55 (tm_has_sub hl [0, 1, 2, 3] rfl)
  · exact tm_vreturn cx dX1_bodyOf_118
def fc_bodyOf_L35 : Nat → Int → Int → Int → Int → tm_S → tm_R
  | 0, _, _, _, _, _ => none
  | n + 1, v1, v2, v3, v4, σ => fc_bodyOf_B35 (fc_bodyOf_L35 n) v1 v2 v3 v4 σ
theorem wc_bodyOf_L35 {p : Program} {l : Launch} {e : Env} {R : Room} {s : State} {m : MethodId} {args : Array Value} {below : List Frame} {meth : Method} {c : Code} {K : tm_K} (cx : tm_C p l R s m args meth c K cX1_bodyOf 5 RX1 "bodyOf" none 654 16261) : ∀ (n : Nat) (v1 : Int) (v2 : Int) (v3 : Int) (v4 : Int) (σ : tm_S) (ls : Array Slot), tm_in v1 → tm_in v2 → tm_in v3 → tm_in v4 → tm_has 0 ls 5 [(0, tm_rv K 0), (1, tm_iv v1), (2, tm_iv v2), (3, tm_iv v3), (4, tm_iv v4)] → tm_J p l e R s m args below meth c K tm_xC 0 (fc_bodyOf_L35 n v1 v2 v3 v4 σ) σ (F0 m 35 ls []) := by
  intro n
  induction n with
  | zero => intros; exact tm_none
  | succ n ih =>
    intro v1 v2 v3 v4 σ ls g1 g2 g3 g4 hl
    exact wc_bodyOf_B35 (r35 := fc_bodyOf_L35 n) cx ih v1 v2 v3 v4 σ ls g1 g2 g3 g4 hl
def fc_bodyOf_J25 (v1 : Int) (v2 : Int) (v3 : Int) (vs0 : Int) (σ : tm_S) : tm_R :=
  tm_bd (fc_levelOf vs0 σ) fun u30 σ30 =>
  tm_gi (v3 + u30) <|
  tm_lt (v3 + u30) fun x34 =>
  fc_bodyOf_L35 tm_FU v1 v2 x34 vs0 σ30
theorem wc_bodyOf_J25 {p : Program} {l : Launch} {e : Env} {R : Room} {s : State} {m : MethodId} {args : Array Value} {below : List Frame} {meth : Method} {c : Code} {K : tm_K} (cx : tm_C p l R s m args meth c K cX1_bodyOf 5 RX1 "bodyOf" none 654 16261) (v1 : Int) (v2 : Int) (v3 : Int) (vs0 : Int) (σ : tm_S) (ls : Array Slot) (g1 : tm_in v1) (g2 : tm_in v2) (g3 : tm_in v3) (gs0 : tm_in vs0) (hl : tm_has 0 ls 5 [(0, tm_rv K 0), (1, tm_iv v1), (2, tm_iv v2), (3, tm_iv v3)]) : tm_J p l e R s m args below meth c K tm_xC 0 (fc_bodyOf_J25 v1 v2 v3 vs0 σ) σ (F0 m 25 ls [tm_iv vs0]) := by
  unfold fc_bodyOf_J25
  refine tm_istore (lv' := [(4, tm_iv vs0), (0, tm_rv K 0), (1, tm_iv v1), (2, tm_iv v2), (3, tm_iv v3)]) cx dX1_bodyOf_25 hl (by decide) (by decide) rfl (fun ls hl => ?_)
  refine tm_iload_n cx dX1_bodyOf_27 (tm_has_at hl 4 rfl) ?_
  refine tm_iload cx dX1_bodyOf_28 (tm_has_at hl 0 rfl) ?_
  refine tm_callS (n := 1) cx (cc_levelOf K l (tm_hst cx) vs0 gs0) (lw_S q808 q809 q95 q810) ⟨by decide +kernel, by decide +kernel, by decide +kernel⟩ rfl ⟨Nat.le_of_ble_eq_true rfl, Nat.le_of_ble_eq_true rfl⟩ rfl (Nat.le_of_ble_eq_true rfl) hl.1.1 dX1_bodyOf_30 (fun u30 σ30 q30 => ?_)
  show tm_J p l e R s m args below meth c K tm_xC 0 _ _ (F0 m 33 ls [tm_iv u30, tm_iv v3])
  refine tm_iadd cx dX1_bodyOf_33 (fun q33 => ?_)
  refine tm_lt_ q33 (fun x34 q34 => ?_)
  refine tm_istore_n (lv' := [(3, tm_iv x34), (4, tm_iv vs0), (0, tm_rv K 0), (1, tm_iv v1), (2, tm_iv v2)]) cx dX1_bodyOf_34 hl (by decide) (by decide) rfl (fun ls hl => ?_)
  exact wc_bodyOf_L35 cx tm_FU v1 v2 x34 vs0 _ _ g1 g2 q34 gs0 (tm_has_sub hl [2, 3, 4, 0, 1] rfl)
def fc_bodyOf (a1 : Int) (a2 : Int) (σ : tm_S) : tm_R :=
  if a1 = 0 then
    tm_bd (fc_need (tm_wf σ 129 125 0)) fun u22 σ22 =>
    fc_bodyOf_J25 a1 a2 1 u22 σ22
  else
    tm_bd (fc_needExpanded (fc_EX tm_DX) (tm_wf σ 129 125 0)) fun u15 σ15 =>
    fc_bodyOf_J25 a1 a2 1 u15 σ15
theorem tm_fits_X1_bodyOf (K : tm_K) (a1 : Int) (a2 : Int) : (lg_sl [tm_rv K 0, tm_iv a1, tm_iv a2]).length ≤ 3 := (tm_sl_r _ _ _ _ (tm_sl_i _ _ _ (tm_sl_i _ _ _ (tm_sl_n _))))
theorem cc_bodyOf (K : tm_K) (l : Launch) (hst : l.stackTraces = false) (a1 : Int) (g1 : tm_in a1) (a2 : Int) (g2 : tm_in a2) : tm_ct K tm_xC l yX1_bodyOf cX1_bodyOf 5 none 0 [tm_rv K 0, tm_iv a1, tm_iv a2] (fc_bodyOf a1 a2) 654 16261 := by
  refine tm_ct_of hst (by decide +kernel) (Nat.le_trans (tm_fits_X1_bodyOf K a1 a2) (Nat.le_of_ble_eq_true rfl)) ?_
  intro p e R s m args below meth c cx σ ls hl0
  have hl : tm_has 0 ls 5 [(0, tm_rv K 0), (1, tm_iv a1), (2, tm_iv a2)] := ⟨by
    have h9 := hl0
    simp only [tm_args_r, tm_args_i, tm_args_i, tm_args_n, Nat.zero_add, Nat.reduceAdd] at h9
    exact h9, by
    intro q hq
    simp only [List.mem_cons, List.not_mem_nil, or_false] at hq
    rcases hq with rfl | rfl | rfl
    · exact Or.inl (tm_rv_cat K 0)
    · exact Or.inl rfl
    · exact Or.inl rfl⟩
  clear hl0
  unfold fc_bodyOf
  refine tm_aload_n cx dX1_bodyOf_0 (tm_has_at hl 0 rfl) ?_
  refine tg_X1_68 cx dX1_bodyOf_1 ?_
  refine tm_iconst cx dX1_bodyOf_4 ?_
  refine tp_X1_265 cx (fun h => (tm_hC_125 h).1) (by decide) dX1_bodyOf_5 ?_
  refine tm_iconst cx dX1_bodyOf_8 ?_
  refine tm_istore_n (lv' := [(3, tm_iv 1), (0, tm_rv K 0), (1, tm_iv a1), (2, tm_iv a2)]) cx dX1_bodyOf_9 hl (by decide) (by decide) rfl (fun ls hl => ?_)
  refine tm_iload_n cx dX1_bodyOf_10 (tm_has_at hl 2 rfl) ?_
  refine tm_if_eq (tgt := 21) cx g1 dX1_bodyOf_11 (by decide) (fun c11 => ?_) (fun c11 => ?_)
  · refine tm_aload_n cx dX1_bodyOf_21 (tm_has_at hl 1 rfl) ?_
    refine tm_callV (n := 0) cx (cc_need K l (tm_hst cx)) (lw_V q686 q688 qs19 q95 q689) ⟨rfl, by decide +kernel, by decide +kernel, by decide +kernel⟩ rfl tm_cd_X1 (fun h => (tm_hC_0 h).1) ⟨Nat.le_of_ble_eq_true rfl, Nat.le_of_ble_eq_true rfl⟩ rfl (Nat.le_of_ble_eq_true rfl) hl.1.1 dX1_bodyOf_22 (fun u22 σ22 q22 => ?_)
    show tm_J p l e R s m args below meth c K tm_xC 0 _ _ (F0 m 25 ls [tm_iv u22])
    exact wc_bodyOf_J25 cx a1 a2 1 u22 _ _ g1 g2 (by decide) q22 (tm_has_sub hl [1, 2, 3, 0] rfl)
  · refine tm_aload_n cx dX1_bodyOf_14 (tm_has_at hl 1 rfl) ?_
    refine tm_callV (n := 0) cx (cc_needExpanded K l (tm_hst cx) (fc_EX tm_DX) (fun t ht => cc_EX K l (tm_hst cx) tm_DX t ht)) (lw_V q702 q704 qs23 q95 q705) ⟨rfl, by decide +kernel, by decide +kernel, by decide +kernel⟩ rfl tm_cd_X1 (fun h => (tm_hC_0 h).1) ⟨Nat.le_of_ble_eq_true rfl, Nat.le_of_ble_eq_true rfl⟩ rfl (Nat.le_of_ble_eq_true rfl) hl.1.1 dX1_bodyOf_15 (fun u15 σ15 q15 => ?_)
    show tm_J p l e R s m args below meth c K tm_xC 0 _ _ (F0 m 18 ls [tm_iv u15])
    refine tm_goto (tgt := 25) cx dX1_bodyOf_18 (by decide) ?_
    exact wc_bodyOf_J25 cx a1 a2 1 u15 _ _ g1 g2 (by decide) q15 (tm_has_sub hl [1, 2, 3, 0] rfl)
def fc_define_B87 (r87 : Int → Int → Int → tm_S → tm_R) (v2 : Int) (v4 : Int) (v5 : Int) (σ : tm_S) : tm_R :=
  if v5 < (tm_f σ 22 0) then
    tm_gx v5 60 <|
    tm_gk (tm_k σ (200 + v5)) 2 <|
    tm_gq σ (tm_f σ 64 (200 + v5)) <|
    tm_gq σ v2 <|
    if (tm_f σ 64 (200 + v5)) = v2 then
      tm_gx v5 60 <|
      tm_gi (v5 + 1) <|
      r87 v2 v4 (v5 + 1) (tm_wf σ 65 (200 + v5) v4)
    else
      tm_gi (v5 + 1) <|
      r87 v2 v4 (v5 + 1) σ
  else
    tm_gk (tm_k σ v2) 4 <|
    tm_rt 0 (tm_wf σ 195 v2 v4)
theorem wc_define_B87 {p : Program} {l : Launch} {e : Env} {R : Room} {s : State} {m : MethodId} {args : Array Value} {below : List Frame} {meth : Method} {c : Code} {K : tm_K} {r87 : Int → Int → Int → tm_S → tm_R} (cx : tm_C p l R s m args meth c K cX1_define 6 RX1 "define" none 655 16285) (h87 : ∀ (v2 : Int) (v4 : Int) (v5 : Int) (τ : tm_S) (ls : Array Slot), tm_in v2 → tm_in v4 → tm_in v5 → tm_has 0 ls 6 [(0, tm_rv K 0), (2, tm_rv K v2), (4, tm_rv K v4), (5, tm_iv v5)] → tm_J p l e R s m args below meth c K tm_xC 0 (r87 v2 v4 v5 τ) τ (F0 m 87 ls [])) (v2 : Int) (v4 : Int) (v5 : Int) (σ : tm_S) (ls : Array Slot) (g2 : tm_in v2) (g4 : tm_in v4) (g5 : tm_in v5) (hl : tm_has 0 ls 6 [(0, tm_rv K 0), (2, tm_rv K v2), (4, tm_rv K v4), (5, tm_iv v5)]) : tm_J p l e R s m args below meth c K tm_xC 0 (fc_define_B87 r87 v2 v4 v5 σ) σ (F0 m 87 ls []) := by
  unfold fc_define_B87
  refine tm_iload cx dX1_define_87 (tm_has_at hl 3 rfl) ?_
  refine tm_aload_n cx dX1_define_89 (tm_has_at hl 0 rfl) ?_
  refine tg_X1_139 cx dX1_define_90 (fun q90 => ?_)
  refine tm_icmp_ge (tgt := 128) cx g5 q90 dX1_define_93 (by decide) (fun c93 => ?_) (fun c93 => ?_)
  · refine tm_aload_n cx dX1_define_96 (tm_has_at hl 0 rfl) ?_
    refine tg_X1_53 cx dX1_define_97 ?_
    refine tm_iload cx dX1_define_100 (tm_has_at hl 3 rfl) ?_
    refine tm_aald cx (by decide) tm_hC_121 g5 dX1_define_102 (fun i102 q102 f102 => ?_)
    rw [tm_aC_121 f102 _ i102] at q102 ⊢
    refine tm_gk_ (fun k103 => ?_)
    refine tg_X1_364 cx (fun _ => k103) dX1_define_103 (fun q103 => ?_)
    refine tm_aload_n cx dX1_define_106 (tm_has_at hl 1 rfl) ?_
    refine tm_gq_ (fun r107x => ?_)
    refine tm_gq_ (fun r107y => ?_)
    refine tm_acmp_ne (tgt := 122) cx (fun _ => r107x) (fun _ => r107y) dX1_define_107 (by decide) (fun c107 => ?_) (fun c107 => ?_)
    · refine tm_aload_n cx dX1_define_110 (tm_has_at hl 0 rfl) ?_
      refine tg_X1_53 cx dX1_define_111 ?_
      refine tm_iload cx dX1_define_114 (tm_has_at hl 3 rfl) ?_
      refine tm_aald cx (by decide) tm_hC_121 g5 dX1_define_116 (fun i116 q116 f116 => ?_)
      rw [tm_aC_121 f116 _ i116] at q116 ⊢
      refine tm_aload cx dX1_define_117 (tm_has_at hl 2 rfl) ?_
      refine tp_X1_368 cx (fun _ => k103) g4 dX1_define_119 ?_
      refine tm_iinc (lv' := [(5, tm_iv (v5 + 1)), (0, tm_rv K 0), (2, tm_rv K v2), (4, tm_rv K v4)]) cx dX1_define_122 hl (j := 3) rfl (by decide) (by decide) rfl (fun q122 ls hl => ?_)
      refine tm_goto (tgt := 87) cx dX1_define_125 (by decide) ?_
      exact h87 v2 v4 (v5 + 1) _ _ g2 g4 q122 (tm_has_sub hl [1, 2, 3, 0] rfl)
    · refine tm_iinc (lv' := [(5, tm_iv (v5 + 1)), (0, tm_rv K 0), (2, tm_rv K v2), (4, tm_rv K v4)]) cx dX1_define_122 hl (j := 3) rfl (by decide) (by decide) rfl (fun q122 ls hl => ?_)
      refine tm_goto (tgt := 87) cx dX1_define_125 (by decide) ?_
      exact h87 v2 v4 (v5 + 1) _ _ g2 g4 q122 (tm_has_sub hl [1, 2, 3, 0] rfl)
  · refine tm_aload_n cx dX1_define_128 (tm_has_at hl 1 rfl) ?_
    refine tm_aload cx dX1_define_129 (tm_has_at hl 2 rfl) ?_
    refine tm_gk_ (fun k131 => ?_)
    refine tp_X1_114 cx (fun _ => k131) g4 dX1_define_131 ?_
    exact tm_vreturn cx dX1_define_134
def fc_define_L87 : Nat → Int → Int → Int → tm_S → tm_R
  | 0, _, _, _, _ => none
  | n + 1, v2, v4, v5, σ => fc_define_B87 (fc_define_L87 n) v2 v4 v5 σ
theorem wc_define_L87 {p : Program} {l : Launch} {e : Env} {R : Room} {s : State} {m : MethodId} {args : Array Value} {below : List Frame} {meth : Method} {c : Code} {K : tm_K} (cx : tm_C p l R s m args meth c K cX1_define 6 RX1 "define" none 655 16285) : ∀ (n : Nat) (v2 : Int) (v4 : Int) (v5 : Int) (σ : tm_S) (ls : Array Slot), tm_in v2 → tm_in v4 → tm_in v5 → tm_has 0 ls 6 [(0, tm_rv K 0), (2, tm_rv K v2), (4, tm_rv K v4), (5, tm_iv v5)] → tm_J p l e R s m args below meth c K tm_xC 0 (fc_define_L87 n v2 v4 v5 σ) σ (F0 m 87 ls []) := by
  intro n
  induction n with
  | zero => intros; exact tm_none
  | succ n ih =>
    intro v2 v4 v5 σ ls g2 g4 g5 hl
    exact wc_define_B87 (r87 := fc_define_L87 n) cx ih v2 v4 v5 σ ls g2 g4 g5 hl
def fc_define_J41 (v1 : Int) (v2 : Int) (v3 : Int) (σ : tm_S) : tm_R :=
  tm_gi ((tm_f σ 15 0) + 1) <|
  tm_gn (tm_wf σ 15 0 ((tm_f σ 15 0) + 1)) 3 <|
  tm_lt (1000 + (tm_c (tm_wf σ 15 0 ((tm_f σ 15 0) + 1)) : Int)) fun n51 =>
  tm_ls (tm_ne (tm_wf σ 15 0 ((tm_f σ 15 0) + 1)) 6 0 3) fun τ4 =>
  tm_gk (tm_k τ4 n51) 6 <|
  tm_bd (fc_X7_init n51 124 125 v3 τ4) fun u64 σ64 =>
  tm_gq σ64 v1 <|
  if v1 = 403 then
    fc_define_L87 tm_FU v2 n51 0 σ64
  else
    tm_bd (fc_change v2 n51 σ64) fun u80 σ80 =>
    tm_rt 0 σ80
theorem wc_define_J41 {p : Program} {l : Launch} {e : Env} {R : Room} {s : State} {m : MethodId} {args : Array Value} {below : List Frame} {meth : Method} {c : Code} {K : tm_K} (cx : tm_C p l R s m args meth c K cX1_define 6 RX1 "define" none 655 16285) (v1 : Int) (v2 : Int) (v3 : Int) (σ : tm_S) (ls : Array Slot) (g1 : tm_in v1) (g2 : tm_in v2) (g3 : tm_in v3) (hl : tm_has 0 ls 6 [(0, tm_rv K 0), (1, tm_rv K v1), (2, tm_rv K v2), (3, tm_iv v3)]) : tm_J p l e R s m args below meth c K tm_xC 0 (fc_define_J41 v1 v2 v3 σ) σ (F0 m 41 ls []) := by
  unfold fc_define_J41
  refine tm_aload_n cx dX1_define_41 (tm_has_at hl 0 rfl) ?_
  refine tm_dup_r cx dX1_define_42 ?_
  refine tg_X1_130 cx dX1_define_43 (fun q43 => ?_)
  refine tm_iconst cx dX1_define_46 ?_
  refine tm_iadd cx dX1_define_47 (fun q47 => ?_)
  refine tp_X1_130 cx q47 dX1_define_48 ?_
  refine tm_mk cx tm_cd_X7 tm_famC q886 q887 q119 (tm_df7 K) dX1_define_51 (fun q51 => ?_)
  refine tm_ltr_ q51 (fun n51 p51 => ?_)
  refine tm_ls_ (fun τ4 => ?_)
  refine tm_dup_r cx dX1_define_54 ?_
  refine tm_aload_n cx dX1_define_55 (tm_has_at hl 0 rfl) ?_
  refine tg_X1_64 cx dX1_define_56 ?_
  refine tm_aload_n cx dX1_define_59 (tm_has_at hl 0 rfl) ?_
  refine tg_X1_68 cx dX1_define_60 ?_
  refine tm_iload_n cx dX1_define_63 (tm_has_at hl 3 rfl) ?_
  refine tm_gk_ (fun k64 => ?_)
  refine tm_callI (n := 3) cx (cc_X7_init K l (tm_hst cx) n51 p51 124 (by decide) 125 (by decide) v3 g3) q890 q119 q888 q889 rfl ⟨by decide +kernel, by decide +kernel, by decide +kernel⟩ rfl (fun h => by rw [(fun _ => k64) h]; decide) ⟨Nat.le_of_ble_eq_true rfl, Nat.le_of_ble_eq_true rfl⟩ rfl (Nat.le_of_ble_eq_true rfl) hl.1.1 dX1_define_64 (fun u64 σ64 q64 => ?_)
  show tm_J p l e R s m args below meth c K tm_xC 0 _ _ (F0 m 67 ls [tm_rv K n51])
  refine tm_astore (lv' := [(4, tm_rv K n51), (0, tm_rv K 0), (1, tm_rv K v1), (2, tm_rv K v2), (3, tm_iv v3)]) cx dX1_define_67 hl (by decide) (by decide) rfl (fun ls hl => ?_)
  refine tm_aload_n cx dX1_define_69 (tm_has_at hl 2 rfl) ?_
  refine tm_getc cx (k := 3) (by decide) rfl (x := 403) rfl q909 dX1_define_70 ?_
  refine tm_gq_ (fun r73x => ?_)
  refine tm_acmp_eq (tgt := 84) cx (fun _ => r73x) (fun h => Or.inr (by rw [(tm_hC_403 h).1]; decide)) dX1_define_73 (by decide) (fun c73 => ?_) (fun c73 => ?_)
  · refine tm_iconst cx dX1_define_84 ?_
    refine tm_istore (lv' := [(5, tm_iv 0), (4, tm_rv K n51), (0, tm_rv K 0), (1, tm_rv K v1), (2, tm_rv K v2), (3, tm_iv v3)]) cx dX1_define_85 hl (by decide) (by decide) rfl (fun ls hl => ?_)
    exact wc_define_L87 cx tm_FU v2 n51 0 _ _ g2 p51 (by decide) (tm_has_sub hl [2, 4, 1, 0] rfl)
  · refine tm_aload_n cx dX1_define_76 (tm_has_at hl 1 rfl) ?_
    refine tm_aload_n cx dX1_define_77 (tm_has_at hl 3 rfl) ?_
    refine tm_aload cx dX1_define_78 (tm_has_at hl 0 rfl) ?_
    refine tm_callV (n := 2) cx (cc_change K l (tm_hst cx) v2 g2 n51 p51) (lw_V q711 q713 qs24 q95 q714) ⟨rfl, by decide +kernel, by decide +kernel, by decide +kernel⟩ rfl tm_cd_X1 (fun h => (tm_hC_0 h).1) ⟨Nat.le_of_ble_eq_true rfl, Nat.le_of_ble_eq_true rfl⟩ rfl (Nat.le_of_ble_eq_true rfl) hl.1.1 dX1_define_80 (fun u80 σ80 q80 => ?_)
    show tm_J p l e R s m args below meth c K tm_xC 0 _ _ (F0 m 83 ls [])
    exact tm_vreturn cx dX1_define_83
def fc_define_J23 (v1 : Int) (v2 : Int) (v3 : Int) (vs1 : Int) (σ : tm_S) : tm_R :=
  tm_bd (fc_bodyOf vs1 v3 σ) fun u24 σ24 =>
  if (tm_f σ24 15 0) = 60 then
    tm_bd (fc_fail 5 σ24) fun _ _ => none
  else
    fc_define_J41 v1 v2 v3 σ24
theorem wc_define_J23 {p : Program} {l : Launch} {e : Env} {R : Room} {s : State} {m : MethodId} {args : Array Value} {below : List Frame} {meth : Method} {c : Code} {K : tm_K} (cx : tm_C p l R s m args meth c K cX1_define 6 RX1 "define" none 655 16285) (v1 : Int) (v2 : Int) (v3 : Int) (vs1 : Int) (σ : tm_S) (ls : Array Slot) (g1 : tm_in v1) (g2 : tm_in v2) (g3 : tm_in v3) (gs1 : tm_in vs1) (hl : tm_has 0 ls 6 [(0, tm_rv K 0), (1, tm_rv K v1), (2, tm_rv K v2), (3, tm_iv v3)]) : tm_J p l e R s m args below meth c K tm_xC 0 (fc_define_J23 v1 v2 v3 vs1 σ) σ (F0 m 23 ls [tm_iv vs1, tm_rv K 0]) := by
  unfold fc_define_J23
  refine tm_iload_n cx dX1_define_23 (tm_has_at hl 3 rfl) ?_
  refine tm_callV (n := 2) cx (cc_bodyOf K l (tm_hst cx) vs1 gs1 v3 g3) (lw_V q878 q880 qs44 q95 q881) ⟨rfl, by decide +kernel, by decide +kernel, by decide +kernel⟩ rfl tm_cd_X1 (fun h => (tm_hC_0 h).1) ⟨Nat.le_of_ble_eq_true rfl, Nat.le_of_ble_eq_true rfl⟩ rfl (Nat.le_of_ble_eq_true rfl) hl.1.1 dX1_define_24 (fun u24 σ24 q24 => ?_)
  show tm_J p l e R s m args below meth c K tm_xC 0 _ _ (F0 m 27 ls [])
  refine tm_aload_n cx dX1_define_27 (tm_has_at hl 0 rfl) ?_
  refine tg_X1_130 cx dX1_define_28 (fun q28 => ?_)
  refine tm_bipush cx dX1_define_31 (by decide) ?_
  refine tm_icmp_ne (tgt := 41) cx q28 (by decide) dX1_define_33 (by decide) (fun c33 => ?_) (fun c33 => ?_)
  · refine tm_aload_n cx dX1_define_36 (tm_has_at hl 0 rfl) ?_
    refine tm_iconst cx dX1_define_37 ?_
    refine tm_callV (n := 1) cx (cc_fail K l (tm_hst cx) 5 (by decide)) (lw_V q580 q582 qs10 q95 q583) ⟨rfl, by decide +kernel, by decide +kernel, by decide +kernel⟩ rfl tm_cd_X1 (fun h => (tm_hC_0 h).1) ⟨Nat.le_of_ble_eq_true rfl, Nat.le_of_ble_eq_true rfl⟩ rfl (Nat.le_of_ble_eq_true rfl) hl.1.1 dX1_define_38 (fun _ _ _ => ?_)
    exact tm_none
  · exact wc_define_J41 cx v1 v2 v3 _ _ g1 g2 g3 (tm_has_sub hl [0, 1, 2, 3] rfl)
def fc_define (a1 : Int) (σ : tm_S) : tm_R :=
  tm_bd (fc_neededName σ) fun u1 σ1 =>
  tm_bd (fc_headOf σ1) fun u6 σ6 =>
  tm_gq σ6 a1 <|
  if a1 = 404 then
    fc_define_J23 a1 u1 u6 1 σ6
  else
    fc_define_J23 a1 u1 u6 0 σ6
theorem tm_fits_X1_define (K : tm_K) (a1 : Int) : (lg_sl [tm_rv K 0, tm_rv K a1]).length ≤ 2 := (tm_sl_r _ _ _ _ (tm_sl_r _ _ _ _ (tm_sl_n _)))
theorem cc_define (K : tm_K) (l : Launch) (hst : l.stackTraces = false) (a1 : Int) (g1 : tm_in a1) : tm_ct K tm_xC l yX1_define cX1_define 6 none 0 [tm_rv K 0, tm_rv K a1] (fc_define a1) 655 16285 := by
  refine tm_ct_of hst (by decide +kernel) (Nat.le_trans (tm_fits_X1_define K a1) (Nat.le_of_ble_eq_true rfl)) ?_
  intro p e R s m args below meth c cx σ ls hl0
  have hl : tm_has 0 ls 6 [(0, tm_rv K 0), (1, tm_rv K a1)] := ⟨by
    have h9 := hl0
    simp only [tm_args_r, tm_args_r, tm_args_n, Nat.zero_add, Nat.reduceAdd] at h9
    exact h9, by
    intro q hq
    simp only [List.mem_cons, List.not_mem_nil, or_false] at hq
    rcases hq with rfl | rfl
    · exact Or.inl (tm_rv_cat K 0)
    · exact Or.inl (tm_rv_cat K a1)⟩
  clear hl0
  unfold fc_define
  refine tm_aload_n cx dX1_define_0 (tm_has_at hl 0 rfl) ?_
  refine tm_callV (n := 0) cx (cc_neededName K l (tm_hst cx)) (lw_V q868 q870 qs42 q95 q871) ⟨rfl, by decide +kernel, by decide +kernel, by decide +kernel⟩ rfl tm_cd_X1 (fun h => (tm_hC_0 h).1) ⟨Nat.le_of_ble_eq_true rfl, Nat.le_of_ble_eq_true rfl⟩ rfl (Nat.le_of_ble_eq_true rfl) hl.1.1 dX1_define_1 (fun u1 σ1 q1 => ?_)
  show tm_J p l e R s m args below meth c K tm_xC 0 _ _ (F0 m 4 ls [tm_rv K u1])
  refine tm_astore_n (lv' := [(2, tm_rv K u1), (0, tm_rv K 0), (1, tm_rv K a1)]) cx dX1_define_4 hl (by decide) (by decide) rfl (fun ls hl => ?_)
  refine tm_aload_n cx dX1_define_5 (tm_has_at hl 1 rfl) ?_
  refine tm_callV (n := 0) cx (cc_headOf K l (tm_hst cx)) (lw_V q872 q874 qs43 q95 q875) ⟨rfl, by decide +kernel, by decide +kernel, by decide +kernel⟩ rfl tm_cd_X1 (fun h => (tm_hC_0 h).1) ⟨Nat.le_of_ble_eq_true rfl, Nat.le_of_ble_eq_true rfl⟩ rfl (Nat.le_of_ble_eq_true rfl) hl.1.1 dX1_define_6 (fun u6 σ6 q6 => ?_)
  show tm_J p l e R s m args below meth c K tm_xC 0 _ _ (F0 m 9 ls [tm_iv u6])
  refine tm_istore_n (lv' := [(3, tm_iv u6), (2, tm_rv K u1), (0, tm_rv K 0), (1, tm_rv K a1)]) cx dX1_define_9 hl (by decide) (by decide) rfl (fun ls hl => ?_)
  refine tm_aload_n cx dX1_define_10 (tm_has_at hl 2 rfl) ?_
  refine tm_aload_n cx dX1_define_11 (tm_has_at hl 3 rfl) ?_
  refine tm_getc cx (k := 4) (by decide) rfl (x := 404) rfl q876 dX1_define_12 ?_
  refine tm_gq_ (fun r15x => ?_)
  refine tm_acmp_ne (tgt := 22) cx (fun _ => r15x) (fun h => Or.inr (by rw [(tm_hC_404 h).1]; decide)) dX1_define_15 (by decide) (fun c15 => ?_) (fun c15 => ?_)
  · refine tm_iconst cx dX1_define_18 ?_
    refine tm_goto (tgt := 23) cx dX1_define_19 (by decide) ?_
    exact wc_define_J23 cx a1 u1 u6 1 _ _ g1 q1 q6 (by decide) (tm_has_sub hl [2, 3, 1, 0] rfl)
  · refine tm_iconst cx dX1_define_22 ?_
    exact wc_define_J23 cx a1 u1 u6 0 _ _ g1 q1 q6 (by decide) (tm_has_sub hl [2, 3, 1, 0] rfl)
def fc_perform_J32 (v3 : Int) (σ : tm_S) : tm_R :=
  if tm_k σ v3 = 39 then
    tm_gx (v3 - 400) 18 <|
    tm_lt (v3 - 400) fun x51 =>
    if x51 = 0 then
      tm_bd (fc_put 4096 σ) fun u112 σ112 =>
      tm_rt 0 σ112
    else
      if x51 = 2 then
        tm_bd (fc_define v3 σ) fun u121 σ121 =>
        tm_rt 0 σ121
      else
        if x51 = 3 then
          tm_bd (fc_define v3 σ) fun u121 σ121 =>
          tm_rt 0 σ121
        else
          if x51 = 4 then
            tm_bd (fc_define v3 σ) fun u121 σ121 =>
            tm_rt 0 σ121
          else
            if x51 = 5 then
              tm_bd (fc_let σ) fun u128 σ128 =>
              tm_rt 0 σ128
            else
              if x51 = 6 then
                tm_bd (fc_catcode σ) fun u135 σ135 =>
                tm_rt 0 σ135
              else
                if x51 = 10 then
                  tm_bd (fc_fail 1 σ) fun _ _ => none
                else
                  tm_rt 0 σ
  else
    tm_gm σ v3 <|
    tm_rt 0 σ
theorem wc_perform_J32 {p : Program} {l : Launch} {e : Env} {R : Room} {s : State} {m : MethodId} {args : Array Value} {below : List Frame} {meth : Method} {c : Code} {K : tm_K} (cx : tm_C p l R s m args meth c K cX1_perform 5 RX1 "perform" none 656 16310) (v3 : Int) (σ : tm_S) (ls : Array Slot) (g3 : tm_in v3) (hl : tm_has 0 ls 5 [(0, tm_rv K 0), (3, tm_rv K v3)]) : tm_J p l e R s m args below meth c K tm_xC 0 (fc_perform_J32 v3 σ) σ (F0 m 32 ls []) := by
  unfold fc_perform_J32
  refine tm_aload_n cx dX1_perform_32 (tm_has_at hl 1 rfl) ?_
  refine tm_fork (fun c33 => ?_) (fun c33 => ?_)
  · refine tm_instY cx (k := 39) (Or.inr (Or.inr ⟨rfl, rfl⟩)) c33 q734 dX1_perform_33 ?_
    refine tm_if_ne_f (tgt := 40) cx (by decide) (by decide) dX1_perform_36 (by decide) ?_
    refine tm_aload_n cx dX1_perform_40 (tm_has_at hl 1 rfl) ?_
    refine tm_castK cx c33 q734 dX1_perform_41 ?_
    refine tm_astore (lv' := [(4, tm_rv K v3), (0, tm_rv K 0), (3, tm_rv K v3)]) cx dX1_perform_44 hl (by decide) (by decide) rfl (fun ls hl => ?_)
    refine tm_aload cx dX1_perform_46 (tm_has_at hl 0 rfl) ?_
    refine tm_ordinal cx (tm_lwU q863 q677 q679 q680 q96 q681) ⟨by decide, by decide⟩ (Nat.le_of_ble_eq_true rfl) hl.1.1 dX1_perform_48 (fun o48 => ?_)
    refine tm_lt_ (tm_in18 o48) (fun x51 q51 => ?_)
    refine tm_fork (fun c51 => ?_) (fun c51_0 => ?_)
    · refine tm_swIn (tgt := 108) cx q51 dX1_perform_51 (by omega) (by rw [c51]; rfl) (by decide) ?_
      refine tm_aload_n cx dX1_perform_108 (tm_has_at hl 1 rfl) ?_
      refine tm_sipush cx dX1_perform_109 (by decide) ?_
      refine tm_callV (n := 1) cx (cc_put K l (tm_hst cx) 4096 (by decide)) (lw_V q859 q861 qs40 q95 q862) ⟨rfl, by decide +kernel, by decide +kernel, by decide +kernel⟩ rfl tm_cd_X1 (fun h => (tm_hC_0 h).1) ⟨Nat.le_of_ble_eq_true rfl, Nat.le_of_ble_eq_true rfl⟩ rfl (Nat.le_of_ble_eq_true rfl) hl.1.1 dX1_perform_112 (fun u112 σ112 q112 => ?_)
      show tm_J p l e R s m args below meth c K tm_xC 0 _ _ (F0 m 115 ls [])
      refine tm_goto (tgt := 149) cx dX1_perform_115 (by decide) ?_
      exact tm_vreturn cx dX1_perform_149
    · refine tm_fork (fun c51 => ?_) (fun c51_2 => ?_)
      · refine tm_swIn (tgt := 118) cx q51 dX1_perform_51 (by omega) (by rw [c51]; rfl) (by decide) ?_
        refine tm_aload_n cx dX1_perform_118 (tm_has_at hl 1 rfl) ?_
        refine tm_aload cx dX1_perform_119 (tm_has_at hl 0 rfl) ?_
        refine tm_callV (n := 1) cx (cc_define K l (tm_hst cx) v3 g3) (lw_V q864 q866 qs41 q95 q867) ⟨rfl, by decide +kernel, by decide +kernel, by decide +kernel⟩ rfl tm_cd_X1 (fun h => (tm_hC_0 h).1) ⟨Nat.le_of_ble_eq_true rfl, Nat.le_of_ble_eq_true rfl⟩ rfl (Nat.le_of_ble_eq_true rfl) hl.1.1 dX1_perform_121 (fun u121 σ121 q121 => ?_)
        show tm_J p l e R s m args below meth c K tm_xC 0 _ _ (F0 m 124 ls [])
        refine tm_goto (tgt := 149) cx dX1_perform_124 (by decide) ?_
        exact tm_vreturn cx dX1_perform_149
      · refine tm_fork (fun c51 => ?_) (fun c51_3 => ?_)
        · refine tm_swIn (tgt := 118) cx q51 dX1_perform_51 (by omega) (by rw [c51]; rfl) (by decide) ?_
          refine tm_aload_n cx dX1_perform_118 (tm_has_at hl 1 rfl) ?_
          refine tm_aload cx dX1_perform_119 (tm_has_at hl 0 rfl) ?_
          refine tm_callV (n := 1) cx (cc_define K l (tm_hst cx) v3 g3) (lw_V q864 q866 qs41 q95 q867) ⟨rfl, by decide +kernel, by decide +kernel, by decide +kernel⟩ rfl tm_cd_X1 (fun h => (tm_hC_0 h).1) ⟨Nat.le_of_ble_eq_true rfl, Nat.le_of_ble_eq_true rfl⟩ rfl (Nat.le_of_ble_eq_true rfl) hl.1.1 dX1_perform_121 (fun u121 σ121 q121 => ?_)
          show tm_J p l e R s m args below meth c K tm_xC 0 _ _ (F0 m 124 ls [])
          refine tm_goto (tgt := 149) cx dX1_perform_124 (by decide) ?_
          exact tm_vreturn cx dX1_perform_149
        · refine tm_fork (fun c51 => ?_) (fun c51_4 => ?_)
          · refine tm_swIn (tgt := 118) cx q51 dX1_perform_51 (by omega) (by rw [c51]; rfl) (by decide) ?_
            refine tm_aload_n cx dX1_perform_118 (tm_has_at hl 1 rfl) ?_
            refine tm_aload cx dX1_perform_119 (tm_has_at hl 0 rfl) ?_
            refine tm_callV (n := 1) cx (cc_define K l (tm_hst cx) v3 g3) (lw_V q864 q866 qs41 q95 q867) ⟨rfl, by decide +kernel, by decide +kernel, by decide +kernel⟩ rfl tm_cd_X1 (fun h => (tm_hC_0 h).1) ⟨Nat.le_of_ble_eq_true rfl, Nat.le_of_ble_eq_true rfl⟩ rfl (Nat.le_of_ble_eq_true rfl) hl.1.1 dX1_perform_121 (fun u121 σ121 q121 => ?_)
            show tm_J p l e R s m args below meth c K tm_xC 0 _ _ (F0 m 124 ls [])
            refine tm_goto (tgt := 149) cx dX1_perform_124 (by decide) ?_
            exact tm_vreturn cx dX1_perform_149
          · refine tm_fork (fun c51 => ?_) (fun c51_5 => ?_)
            · refine tm_swIn (tgt := 127) cx q51 dX1_perform_51 (by omega) (by rw [c51]; rfl) (by decide) ?_
              refine tm_aload_n cx dX1_perform_127 (tm_has_at hl 1 rfl) ?_
              refine tm_callV (n := 0) cx (cc_let K l (tm_hst cx)) (lw_V q911 q913 qs46 q95 q914) ⟨rfl, by decide +kernel, by decide +kernel, by decide +kernel⟩ rfl tm_cd_X1 (fun h => (tm_hC_0 h).1) ⟨Nat.le_of_ble_eq_true rfl, Nat.le_of_ble_eq_true rfl⟩ rfl (Nat.le_of_ble_eq_true rfl) hl.1.1 dX1_perform_128 (fun u128 σ128 q128 => ?_)
              show tm_J p l e R s m args below meth c K tm_xC 0 _ _ (F0 m 131 ls [])
              refine tm_goto (tgt := 149) cx dX1_perform_131 (by decide) ?_
              exact tm_vreturn cx dX1_perform_149
            · refine tm_fork (fun c51 => ?_) (fun c51_6 => ?_)
              · refine tm_swIn (tgt := 134) cx q51 dX1_perform_51 (by omega) (by rw [c51]; rfl) (by decide) ?_
                refine tm_aload_n cx dX1_perform_134 (tm_has_at hl 1 rfl) ?_
                refine tm_callV (n := 0) cx (cc_catcode K l (tm_hst cx)) (lw_V q925 q927 qs47 q95 q928) ⟨rfl, by decide +kernel, by decide +kernel, by decide +kernel⟩ rfl tm_cd_X1 (fun h => (tm_hC_0 h).1) ⟨Nat.le_of_ble_eq_true rfl, Nat.le_of_ble_eq_true rfl⟩ rfl (Nat.le_of_ble_eq_true rfl) hl.1.1 dX1_perform_135 (fun u135 σ135 q135 => ?_)
                show tm_J p l e R s m args below meth c K tm_xC 0 _ _ (F0 m 138 ls [])
                refine tm_goto (tgt := 149) cx dX1_perform_138 (by decide) ?_
                exact tm_vreturn cx dX1_perform_149
              · refine tm_fork (fun c51 => ?_) (fun c51_10 => ?_)
                · refine tm_swIn (tgt := 141) cx q51 dX1_perform_51 (by omega) (by rw [c51]; rfl) (by decide) ?_
                  refine tm_aload_n cx dX1_perform_141 (tm_has_at hl 1 rfl) ?_
                  refine tm_iconst cx dX1_perform_142 ?_
                  refine tm_callV (n := 1) cx (cc_fail K l (tm_hst cx) 1 (by decide)) (lw_V q580 q582 qs10 q95 q583) ⟨rfl, by decide +kernel, by decide +kernel, by decide +kernel⟩ rfl tm_cd_X1 (fun h => (tm_hC_0 h).1) ⟨Nat.le_of_ble_eq_true rfl, Nat.le_of_ble_eq_true rfl⟩ rfl (Nat.le_of_ble_eq_true rfl) hl.1.1 dX1_perform_143 (fun _ _ _ => ?_)
                  exact tm_none
                · refine tm_swOut (tgt := 149) cx q51 dX1_perform_51 (by
                      have h9 : x51 < 0 ∨ 10 < x51 ∨ x51 = 1 ∨ x51 = 7 ∨ x51 = 8 ∨ x51 = 9 := by omega
                      rcases h9 with h | h | h | h | h | h
                      · exact Or.inl h
                      · exact Or.inr (Or.inl h)
                      · rw [h]; exact Or.inr (Or.inr rfl)
                      · rw [h]; exact Or.inr (Or.inr rfl)
                      · rw [h]; exact Or.inr (Or.inr rfl)
                      · rw [h]; exact Or.inr (Or.inr rfl)) (by decide) ?_
                  exact tm_vreturn cx dX1_perform_149
  · refine tm_gm_ (fun m33 => ?_)
    refine tm_instN cx (k := 39) (Or.inr (Or.inr ⟨rfl, rfl⟩)) m33 c33 q734 dX1_perform_33 ?_
    refine tm_if_ne_t (tgt := 40) cx (by decide) (by decide) dX1_perform_36 (by decide) ?_
    exact tm_vreturn cx dX1_perform_39
def fc_perform (a1 : Int) (σ : tm_S) : tm_R :=
  tm_bd (fc_signOf a1 σ) fun u2 σ2 =>
  if u2 = (-1) then
    tm_bd (fc_meaningOf a1 σ2) fun u19 σ19 =>
    if u19 < 0 then
      tm_bd (fc_fail 2 σ19) fun _ _ => none
    else
      fc_perform_J32 u19 σ19
  else
    tm_bd (fc_place u2 σ2) fun u13 σ13 =>
    tm_rt 0 σ13
theorem tm_fits_X1_perform (K : tm_K) (a1 : Int) : (lg_sl [tm_rv K 0, tm_iv a1]).length ≤ 2 := (tm_sl_r _ _ _ _ (tm_sl_i _ _ _ (tm_sl_n _)))
theorem cc_perform (K : tm_K) (l : Launch) (hst : l.stackTraces = false) (a1 : Int) (g1 : tm_in a1) : tm_ct K tm_xC l yX1_perform cX1_perform 5 none 0 [tm_rv K 0, tm_iv a1] (fc_perform a1) 656 16310 := by
  refine tm_ct_of hst (by decide +kernel) (Nat.le_trans (tm_fits_X1_perform K a1) (Nat.le_of_ble_eq_true rfl)) ?_
  intro p e R s m args below meth c cx σ ls hl0
  have hl : tm_has 0 ls 5 [(0, tm_rv K 0), (1, tm_iv a1)] := ⟨by
    have h9 := hl0
    simp only [tm_args_r, tm_args_i, tm_args_n, Nat.zero_add, Nat.reduceAdd] at h9
    exact h9, by
    intro q hq
    simp only [List.mem_cons, List.not_mem_nil, or_false] at hq
    rcases hq with rfl | rfl
    · exact Or.inl (tm_rv_cat K 0)
    · exact Or.inl rfl⟩
  clear hl0
  unfold fc_perform
  refine tm_aload_n cx dX1_perform_0 (tm_has_at hl 0 rfl) ?_
  refine tm_iload_n cx dX1_perform_1 (tm_has_at hl 1 rfl) ?_
  refine tm_callV (n := 1) cx (cc_signOf K l (tm_hst cx) a1 g1) (lw_V q752 q754 qs32 q95 q755) ⟨rfl, by decide +kernel, by decide +kernel, by decide +kernel⟩ rfl tm_cd_X1 (fun h => (tm_hC_0 h).1) ⟨Nat.le_of_ble_eq_true rfl, Nat.le_of_ble_eq_true rfl⟩ rfl (Nat.le_of_ble_eq_true rfl) hl.1.1 dX1_perform_2 (fun u2 σ2 q2 => ?_)
  show tm_J p l e R s m args below meth c K tm_xC 0 _ _ (F0 m 5 ls [tm_iv u2])
  refine tm_istore_n (lv' := [(2, tm_iv u2), (0, tm_rv K 0), (1, tm_iv a1)]) cx dX1_perform_5 hl (by decide) (by decide) rfl (fun ls hl => ?_)
  refine tm_iload_n cx dX1_perform_6 (tm_has_at hl 0 rfl) ?_
  refine tm_iconst cx dX1_perform_7 ?_
  refine tm_icmp_eq (tgt := 17) cx q2 (by decide) dX1_perform_8 (by decide) (fun c8 => ?_) (fun c8 => ?_)
  · refine tm_aload_n cx dX1_perform_17 (tm_has_at hl 1 rfl) ?_
    refine tm_iload_n cx dX1_perform_18 (tm_has_at hl 2 rfl) ?_
    refine tm_callV (n := 1) cx (cc_meaningOf K l (tm_hst cx) a1 g1) (lw_V q607 q609 qs15 q95 q610) ⟨rfl, by decide +kernel, by decide +kernel, by decide +kernel⟩ rfl tm_cd_X1 (fun h => (tm_hC_0 h).1) ⟨Nat.le_of_ble_eq_true rfl, Nat.le_of_ble_eq_true rfl⟩ rfl (Nat.le_of_ble_eq_true rfl) hl.1.1 dX1_perform_19 (fun u19 σ19 q19 => ?_)
    show tm_J p l e R s m args below meth c K tm_xC 0 _ _ (F0 m 22 ls [tm_rv K u19])
    refine tm_astore_n (lv' := [(3, tm_rv K u19), (2, tm_iv u2), (0, tm_rv K 0), (1, tm_iv a1)]) cx dX1_perform_22 hl (by decide) (by decide) rfl (fun ls hl => ?_)
    refine tm_aload_n cx dX1_perform_23 (tm_has_at hl 0 rfl) ?_
    refine tm_ifnonnull (tgt := 32) cx dX1_perform_24 (by decide) (fun c24 => ?_) (fun c24 => ?_)
    · refine tm_aload_n cx dX1_perform_27 (tm_has_at hl 2 rfl) ?_
      refine tm_iconst cx dX1_perform_28 ?_
      refine tm_callV (n := 1) cx (cc_fail K l (tm_hst cx) 2 (by decide)) (lw_V q580 q582 qs10 q95 q583) ⟨rfl, by decide +kernel, by decide +kernel, by decide +kernel⟩ rfl tm_cd_X1 (fun h => (tm_hC_0 h).1) ⟨Nat.le_of_ble_eq_true rfl, Nat.le_of_ble_eq_true rfl⟩ rfl (Nat.le_of_ble_eq_true rfl) hl.1.1 dX1_perform_29 (fun _ _ _ => ?_)
      exact tm_none
    · exact wc_perform_J32 cx u19 _ _ q19 (tm_has_sub hl [2, 0] rfl)
  · refine tm_aload_n cx dX1_perform_11 (tm_has_at hl 1 rfl) ?_
    refine tm_iload_n cx dX1_perform_12 (tm_has_at hl 0 rfl) ?_
    refine tm_callV (n := 1) cx (cc_place K l (tm_hst cx) u2 q2) (lw_V q851 q853 qs38 q95 q854) ⟨rfl, by decide +kernel, by decide +kernel, by decide +kernel⟩ rfl tm_cd_X1 (fun h => (tm_hC_0 h).1) ⟨Nat.le_of_ble_eq_true rfl, Nat.le_of_ble_eq_true rfl⟩ rfl (Nat.le_of_ble_eq_true rfl) hl.1.1 dX1_perform_13 (fun u13 σ13 q13 => ?_)
    show tm_J p l e R s m args below meth c K tm_xC 0 _ _ (F0 m 16 ls [])
    exact tm_vreturn cx dX1_perform_16
def fc_step (σ : tm_S) : tm_R :=
  tm_gi ((tm_f (tm_wf (tm_wf σ 17 0 0) 18 0 0) 13 0) + 1) <|
  tm_ls (tm_wf (tm_wf (tm_wf σ 17 0 0) 18 0 0) 13 0 ((tm_f (tm_wf (tm_wf σ 17 0 0) 18 0 0) 13 0) + 1)) fun τ1 =>
  tm_bd (fc_get τ1) fun u21 σ21 =>
  if u21 = (-1) then
    tm_gi ((tm_f σ21 13 0) - 1) <|
    tm_rt 0 (tm_wf σ21 13 0 ((tm_f σ21 13 0) - 1))
  else
    tm_bd (fc_isExpandable u21 σ21) fun u44 σ44 =>
    if u44 = 0 then
      tm_bd (fc_perform u21 σ44) fun u60 σ60 =>
      tm_rt 1 σ60
    else
      tm_bd (fc_EX tm_DX u21 σ44) fun u52 σ52 =>
      tm_rt 1 σ52
theorem tm_fits_X1_step (K : tm_K) : (lg_sl [tm_rv K 0]).length ≤ 1 := (tm_sl_r _ _ _ _ (tm_sl_n _))
theorem cc_step (K : tm_K) (l : Launch) (hst : l.stackTraces = false) : tm_ct K tm_xC l yX1_step cX1_step 2 (some .boolean) 1 [tm_rv K 0] (fc_step) 657 16334 := by
  refine tm_ct_of hst (by decide +kernel) (Nat.le_trans (tm_fits_X1_step K) (Nat.le_of_ble_eq_true rfl)) ?_
  intro p e R s m args below meth c cx σ ls hl0
  have hl : tm_has 0 ls 2 [(0, tm_rv K 0)] := ⟨by
    have h9 := hl0
    simp only [tm_args_r, tm_args_n, Nat.zero_add, Nat.reduceAdd] at h9
    exact h9, by
    intro q hq
    simp only [List.mem_cons, List.not_mem_nil, or_false] at hq
    rcases hq with rfl
    · exact Or.inl (tm_rv_cat K 0)⟩
  clear hl0
  unfold fc_step
  refine tm_aload_n cx dX1_step_0 (tm_has_at hl 0 rfl) ?_
  refine tm_iconst cx dX1_step_1 ?_
  refine tp_X1_232 cx (by decide) dX1_step_2 ?_
  refine tm_aload_n cx dX1_step_5 (tm_has_at hl 0 rfl) ?_
  refine tm_iconst cx dX1_step_6 ?_
  refine tp_X1_235 cx (by decide) dX1_step_7 ?_
  refine tm_aload_n cx dX1_step_10 (tm_has_at hl 0 rfl) ?_
  refine tm_dup_r cx dX1_step_11 ?_
  refine tg_X1_124 cx dX1_step_12 (fun q12 => ?_)
  refine tm_iconst cx dX1_step_15 ?_
  refine tm_iadd cx dX1_step_16 (fun q16 => ?_)
  refine tp_X1_124 cx q16 dX1_step_17 ?_
  refine tm_ls_ (fun τ1 => ?_)
  refine tm_aload_n cx dX1_step_20 (tm_has_at hl 0 rfl) ?_
  refine tm_callV (n := 0) cx (cc_get K l (tm_hst cx)) (lw_V q568 q570 qs7 q95 q571) ⟨rfl, by decide +kernel, by decide +kernel, by decide +kernel⟩ rfl tm_cd_X1 (fun h => (tm_hC_0 h).1) ⟨Nat.le_of_ble_eq_true rfl, Nat.le_of_ble_eq_true rfl⟩ rfl (Nat.le_of_ble_eq_true rfl) hl.1.1 dX1_step_21 (fun u21 σ21 q21 => ?_)
  show tm_J p l e R s m args below meth c K tm_xC 1 _ _ (F0 m 24 ls [tm_iv u21])
  refine tm_istore_n (lv' := [(1, tm_iv u21), (0, tm_rv K 0)]) cx dX1_step_24 hl (by decide) (by decide) rfl (fun ls hl => ?_)
  refine tm_iload_n cx dX1_step_25 (tm_has_at hl 0 rfl) ?_
  refine tm_iconst cx dX1_step_26 ?_
  refine tm_icmp_ne (tgt := 42) cx q21 (by decide) dX1_step_27 (by decide) (fun c27 => ?_) (fun c27 => ?_)
  · refine tm_aload_n cx dX1_step_30 (tm_has_at hl 1 rfl) ?_
    refine tm_dup_r cx dX1_step_31 ?_
    refine tg_X1_124 cx dX1_step_32 (fun q32 => ?_)
    refine tm_iconst cx dX1_step_35 ?_
    refine tm_isub cx dX1_step_36 (fun q36 => ?_)
    refine tp_X1_124 cx q36 dX1_step_37 ?_
    refine tm_iconst cx dX1_step_40 ?_
    exact tm_zreturn cx (by decide) dX1_step_41
  · refine tm_aload_n cx dX1_step_42 (tm_has_at hl 1 rfl) ?_
    refine tm_iload_n cx dX1_step_43 (tm_has_at hl 0 rfl) ?_
    refine tm_callV (n := 1) cx (cc_isExpandable K l (tm_hst cx) u21 q21) (lw_V q603 q605 qs14 q95 q606) ⟨rfl, by decide +kernel, by decide +kernel, by decide +kernel⟩ rfl tm_cd_X1 (fun h => (tm_hC_0 h).1) ⟨Nat.le_of_ble_eq_true rfl, Nat.le_of_ble_eq_true rfl⟩ rfl (Nat.le_of_ble_eq_true rfl) hl.1.1 dX1_step_44 (fun u44 σ44 q44 => ?_)
    show tm_J p l e R s m args below meth c K tm_xC 1 _ _ (F0 m 47 ls [tm_iv u44])
    refine tm_if_eq (tgt := 58) cx q44 dX1_step_47 (by decide) (fun c47 => ?_) (fun c47 => ?_)
    · refine tm_aload_n cx dX1_step_58 (tm_has_at hl 1 rfl) ?_
      refine tm_iload_n cx dX1_step_59 (tm_has_at hl 0 rfl) ?_
      refine tm_callV (n := 1) cx (cc_perform K l (tm_hst cx) u21 q21) (lw_V q847 q849 qs37 q95 q850) ⟨rfl, by decide +kernel, by decide +kernel, by decide +kernel⟩ rfl tm_cd_X1 (fun h => (tm_hC_0 h).1) ⟨Nat.le_of_ble_eq_true rfl, Nat.le_of_ble_eq_true rfl⟩ rfl (Nat.le_of_ble_eq_true rfl) hl.1.1 dX1_step_60 (fun u60 σ60 q60 => ?_)
      show tm_J p l e R s m args below meth c K tm_xC 1 _ _ (F0 m 63 ls [])
      refine tm_iconst cx dX1_step_63 ?_
      exact tm_zreturn cx (by decide) dX1_step_64
    · refine tm_aload_n cx dX1_step_50 (tm_has_at hl 1 rfl) ?_
      refine tm_iload_n cx dX1_step_51 (tm_has_at hl 0 rfl) ?_
      refine tm_callV (n := 1) cx (cc_EX K l (tm_hst cx) tm_DX u21 q21) (lw_V q663 q665 qs17 q95 q666) ⟨rfl, by decide +kernel, by decide +kernel, by decide +kernel⟩ rfl tm_cd_X1 (fun h => (tm_hC_0 h).1) ⟨Nat.le_of_ble_eq_true rfl, Nat.le_of_ble_eq_true rfl⟩ rfl (Nat.le_of_ble_eq_true rfl) hl.1.1 dX1_step_52 (fun u52 σ52 q52 => ?_)
      show tm_J p l e R s m args below meth c K tm_xC 1 _ _ (F0 m 55 ls [])
      refine tm_goto (tgt := 63) cx dX1_step_55 (by decide) ?_
      refine tm_iconst cx dX1_step_63 ?_
      exact tm_zreturn cx (by decide) dX1_step_64
def fc_run_J12 (σ : tm_S) : tm_R :=
  tm_gn σ 6 (tm_th 1 σ)
theorem wc_run_J12 {p : Program} {l : Launch} {e : Env} {R : Room} {s : State} {m : MethodId} {args : Array Value} {below : List Frame} {meth : Method} {c : Code} {K : tm_K} (cx : tm_C p l R s m args meth c K cX1_run 3 RX1 "run" (some .int) 658 16355) (σ : tm_S) (ls : Array Slot) (hl : tm_has 0 ls 3 []) : tm_J p l e R s m args below meth c K tm_xC 1 (fc_run_J12 σ) σ (F0 m 12 ls []) := by
  unfold fc_run_J12
  exact tm_throw cx (e9 := 1) (names := tm_nx) (by decide +kernel) (by decide +kernel) q483 q117 (tm_at1 cx) tm_ag1 ⟨by decide, by decide⟩ (Nat.le_of_ble_eq_true rfl) hl.1.1 dX1_run_12 dX1_run_15 dX1_run_16 dX1_run_19
def fc_run_B37 (r37 : Int → Int → tm_S → tm_R) (v1 : Int) (v2 : Int) (σ : tm_S) : tm_R :=
  if v2 < v1 then
    tm_bd (fc_step σ) fun u43 σ43 =>
    if u43 = 0 then
      tm_rt 1 σ43
    else
      tm_gi (v2 + 1) <|
      r37 v1 (v2 + 1) σ43
  else
    tm_rt 0 σ
theorem wc_run_B37 {p : Program} {l : Launch} {e : Env} {R : Room} {s : State} {m : MethodId} {args : Array Value} {below : List Frame} {meth : Method} {c : Code} {K : tm_K} {r37 : Int → Int → tm_S → tm_R} (cx : tm_C p l R s m args meth c K cX1_run 3 RX1 "run" (some .int) 658 16355) (h37 : ∀ (v1 : Int) (v2 : Int) (τ : tm_S) (ls : Array Slot), tm_in v1 → tm_in v2 → tm_has 0 ls 3 [(0, tm_rv K 0), (1, tm_iv v1), (2, tm_iv v2)] → tm_J p l e R s m args below meth c K tm_xC 1 (r37 v1 v2 τ) τ (F0 m 37 ls [])) (v1 : Int) (v2 : Int) (σ : tm_S) (ls : Array Slot) (g1 : tm_in v1) (g2 : tm_in v2) (hl : tm_has 0 ls 3 [(0, tm_rv K 0), (1, tm_iv v1), (2, tm_iv v2)]) : tm_J p l e R s m args below meth c K tm_xC 1 (fc_run_B37 r37 v1 v2 σ) σ (F0 m 37 ls []) := by
  unfold fc_run_B37
  refine tm_iload_n cx dX1_run_37 (tm_has_at hl 2 rfl) ?_
  refine tm_iload_n cx dX1_run_38 (tm_has_at hl 1 rfl) ?_
  refine tm_icmp_ge (tgt := 57) cx g2 g1 dX1_run_39 (by decide) (fun c39 => ?_) (fun c39 => ?_)
  · refine tm_aload_n cx dX1_run_42 (tm_has_at hl 0 rfl) ?_
    refine tm_callV (n := 0) cx (cc_step K l (tm_hst cx)) (lw_V q564 q566 qs6 q95 q567) ⟨rfl, by decide +kernel, by decide +kernel, by decide +kernel⟩ rfl tm_cd_X1 (fun h => (tm_hC_0 h).1) ⟨Nat.le_of_ble_eq_true rfl, Nat.le_of_ble_eq_true rfl⟩ rfl (Nat.le_of_ble_eq_true rfl) hl.1.1 dX1_run_43 (fun u43 σ43 q43 => ?_)
    show tm_J p l e R s m args below meth c K tm_xC 1 _ _ (F0 m 46 ls [tm_iv u43])
    refine tm_if_ne (tgt := 51) cx q43 dX1_run_46 (by decide) (fun c46 => ?_) (fun c46 => ?_)
    · refine tm_iconst cx dX1_run_49 ?_
      exact tm_ireturn cx (by decide) dX1_run_50
    · refine tm_iinc (lv' := [(2, tm_iv (v2 + 1)), (0, tm_rv K 0), (1, tm_iv v1)]) cx dX1_run_51 hl (j := 2) rfl (by decide) (by decide) rfl (fun q51 ls hl => ?_)
      refine tm_goto (tgt := 37) cx dX1_run_54 (by decide) ?_
      exact h37 v1 (v2 + 1) _ _ g1 q51 (tm_has_sub hl [1, 2, 0] rfl)
  · refine tm_iconst cx dX1_run_57 ?_
    exact tm_ireturn cx (by decide) dX1_run_58
def fc_run_L37 : Nat → Int → Int → tm_S → tm_R
  | 0, _, _, _ => none
  | n + 1, v1, v2, σ => fc_run_B37 (fc_run_L37 n) v1 v2 σ
theorem wc_run_L37 {p : Program} {l : Launch} {e : Env} {R : Room} {s : State} {m : MethodId} {args : Array Value} {below : List Frame} {meth : Method} {c : Code} {K : tm_K} (cx : tm_C p l R s m args meth c K cX1_run 3 RX1 "run" (some .int) 658 16355) : ∀ (n : Nat) (v1 : Int) (v2 : Int) (σ : tm_S) (ls : Array Slot), tm_in v1 → tm_in v2 → tm_has 0 ls 3 [(0, tm_rv K 0), (1, tm_iv v1), (2, tm_iv v2)] → tm_J p l e R s m args below meth c K tm_xC 1 (fc_run_L37 n v1 v2 σ) σ (F0 m 37 ls []) := by
  intro n
  induction n with
  | zero => intros; exact tm_none
  | succ n ih =>
    intro v1 v2 σ ls g1 g2 hl
    exact wc_run_B37 (r37 := fc_run_L37 n) cx ih v1 v2 σ ls g1 g2 hl
def fc_run (a1 : Int) (σ : tm_S) : tm_R :=
  if a1 < 1 then
    fc_run_J12 σ
  else
    if 500 < a1 then
      fc_run_J12 σ
    else
      if 0 < (tm_f σ 16 0) then
        tm_gn σ 6 (tm_th 0 σ)
      else
        fc_run_L37 tm_FU a1 0 σ
theorem tm_fits_X1_run (K : tm_K) (a1 : Int) : (lg_sl [tm_rv K 0, tm_iv a1]).length ≤ 2 := (tm_sl_r _ _ _ _ (tm_sl_i _ _ _ (tm_sl_n _)))
theorem cc_run (K : tm_K) (l : Launch) (hst : l.stackTraces = false) (a1 : Int) (g1 : tm_in a1) : tm_ct K tm_xC l yX1_run cX1_run 3 (some .int) 1 [tm_rv K 0, tm_iv a1] (fc_run a1) 658 16355 := by
  refine tm_ct_of hst (by decide +kernel) (Nat.le_trans (tm_fits_X1_run K a1) (Nat.le_of_ble_eq_true rfl)) ?_
  intro p e R s m args below meth c cx σ ls hl0
  have hl : tm_has 0 ls 3 [(0, tm_rv K 0), (1, tm_iv a1)] := ⟨by
    have h9 := hl0
    simp only [tm_args_r, tm_args_i, tm_args_n, Nat.zero_add, Nat.reduceAdd] at h9
    exact h9, by
    intro q hq
    simp only [List.mem_cons, List.not_mem_nil, or_false] at hq
    rcases hq with rfl | rfl
    · exact Or.inl (tm_rv_cat K 0)
    · exact Or.inl rfl⟩
  clear hl0
  unfold fc_run
  refine tm_iload_n cx dX1_run_0 (tm_has_at hl 1 rfl) ?_
  refine tm_iconst cx dX1_run_1 ?_
  refine tm_icmp_lt (tgt := 12) cx g1 (by decide) dX1_run_2 (by decide) (fun c2 => ?_) (fun c2 => ?_)
  · exact wc_run_J12 cx _ _ (tm_has_sub hl [] rfl)
  · refine tm_iload_n cx dX1_run_5 (tm_has_at hl 1 rfl) ?_
    refine tm_sipush cx dX1_run_6 (by decide) ?_
    refine tm_icmp_le (tgt := 20) cx g1 (by decide) dX1_run_9 (by decide) (fun c9 => ?_) (fun c9 => ?_)
    · exact wc_run_J12 cx _ _ (tm_has_sub hl [] rfl)
    · refine tm_aload_n cx dX1_run_20 (tm_has_at hl 0 rfl) ?_
      refine tg_X1_133 cx dX1_run_21 (fun q21 => ?_)
      refine tm_if_le (tgt := 35) cx q21 dX1_run_24 (by decide) (fun c24 => ?_) (fun c24 => ?_)
      · exact tm_throw cx (e9 := 0) (names := tm_nx) (by decide +kernel) (by decide +kernel) q549 q118 (tm_at0 cx) tm_ag0 ⟨by decide, by decide⟩ (Nat.le_of_ble_eq_true rfl) hl.1.1 dX1_run_27 dX1_run_30 dX1_run_31 dX1_run_34
      · refine tm_iconst cx dX1_run_35 ?_
        refine tm_istore_n (lv' := [(2, tm_iv 0), (0, tm_rv K 0), (1, tm_iv a1)]) cx dX1_run_36 hl (by decide) (by decide) rfl (fun ls hl => ?_)
        exact wc_run_L37 cx tm_FU a1 0 _ _ g1 (by decide) (tm_has_sub hl [1, 2, 0] rfl)
