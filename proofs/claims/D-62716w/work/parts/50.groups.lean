/-! CHANGES MADE AND UNDONE -/
set_option maxRecDepth 100000
theorem tm_Si.mean {q : tm_Pm} {b e : Int} {σ τ : tm_S} {o r m : Int} (h : tm_Si q b e σ τ) (hk : 0 ≤ o ∧ o < tm_f τ 459 0) (hr : tm_MR (tm_f τ 459 0) (tm_f τ 471 0) σ τ r m) : tm_Si q b e (tm_wf σ 195 (tm_nr σ o) r) (tm_wa τ 115 o m) :=
  (tm_Si.mk (fl := h.fl) (sz := h.sz) (pl := h.pl) (st := h.st) (sp := h.sp) (gr := h.gr) (mc := h.mc) (ex := h.ex) (oc := h.oc) (wt := h.wt) (op := h.op) (cg := h.cg) (nn := h.nn) (dp := h.dp) (md := h.md) (bc := h.bc) (bz := h.bz) (tx := h.tx) (ca := h.ca) (pe := h.pe) (ou := h.ou) (cd := h.cd) (lo := h.lo) (ns := h.ns.mean hk hr) (cs := h.cs.mean _ o r m) (fx := h.fx) (kp := h.kp.wf 195 _ r (Or.inl (by decide)) (by decide)) (kt := h.kt.wa 115 o m (Or.inl (by decide))))
theorem tm_Si.cat {q : tm_Pm} {b e : Int} {σ τ : tm_S} {c v : Int} (h : tm_Si q b e σ τ) (hv : 0 ≤ v ∧ v ≤ 15) : tm_Si q b e (tm_wa σ 104 c v) (tm_wa τ 108 c v) := by
  have hE := h.ns.e0.1
  refine (tm_Si.mk (fl := h.fl) (sz := h.sz) (pl := h.pl) (st := h.st) (sp := h.sp) (gr := h.gr) (mc := h.mc) (ex := h.ex) (oc := h.oc) (wt := h.wt) (op := h.op) (cg := h.cg) (nn := h.nn) (dp := h.dp) (md := h.md) (bc := h.bc) (bz := h.bz) (tx := h.tx) (ca := fun i i0 i1 => ?_) (pe := h.pe) (ou := h.ou) (cd := h.cd) (lo := h.lo) (ns := h.ns.wa 104 _ _ (by decide)) (cs := h.cs.wa 104 _ _ (by decide) hE) (fx := h.fx) (kp := h.kp.wa 104 _ _ (by decide) hE (fun j j0 j1 => by omega)) (kt := h.kt))
  (simp only [tm_f_wf, tm_f_wa, tm_a_wf, tm_a_wa, tm_n_wf, tm_n_wa, tm_k_wf, tm_k_wa, tm_c_wf, tm_c_wa, tm_z_wf, tm_z_wa, tm_u_wf, tm_u_wa, tm_v_wf, tm_v_wa, tm_lt_e, tm_ls_e, tm_bd_rt, tm_bd_th, Nat.reduceEqDiff, Int.reduceEq, Int.reduceNeg, false_and, and_false, true_and, and_true, and_self, if_false, if_true, reduceIte, ite_true, ite_false, reduceCtorEq])
  by_cases hi : i = c
  · rw [if_pos hi, if_pos hi]
    exact ⟨rfl, hv⟩
  · rw [if_neg hi, if_neg hi]
    exact h.ca i i0 i1
theorem tm_Fc.tk {σ τ σ' τ' : tm_S} (h : tm_Fc σ τ σ' τ') (M : Int) : tm_Tk M τ τ' := fun j _ _ => ⟨h.b 124 j (by decide) (by decide) (by decide) (by decide) (by decide), h.b 126 j (by decide) (by decide) (by decide) (by decide) (by decide), h.b 128 j (by decide) (by decide) (by decide) (by decide) (by decide), fun i _ _ => h.b 125 _ (by decide) (by decide) (by decide) (by decide) (by decide), fun i _ _ => h.b 127 _ (by decide) (by decide) (by decide) (by decide) (by decide)⟩
theorem sm_change {q : tm_Pm} {b : Int} {σ τ : tm_S} {o r m : Int} (h : tm_Si q b 0 σ τ) (hk : 0 ≤ o ∧ o < tm_f τ 459 0) (hr : tm_MR (tm_f τ 459 0) (tm_f τ 471 0) σ τ r m) :
    tm_RR (fun _ σ' _ τ' => tm_Si q b 0 σ' τ' ∧ tm_Fc σ τ σ' τ') (tm_Dv q) (fc_change (tm_nr σ o) r σ) (fm_change o m τ) := by
  have hnn := h.nn
  unfold fc_change
  rcases sm_keep m h (Or.inl ⟨hk.1, hk.2, rfl, rfl⟩ : tm_Of (tm_f τ 459 0) σ (tm_nr σ o) 0 o) with ⟨σ', τ', e1, e2, h', fc, kh, nr⟩ | ⟨σ', τ', e1, e2, d⟩
  · have en : tm_f τ' 459 0 = tm_f τ 459 0 := fc.g 459 (by decide)
    have em : tm_f τ' 471 0 = tm_f τ 471 0 := fc.g 471 (by decide)
    have hna := h'.ns.nm o hk.1 (by omega)
    rw [e1, e2, tm_bd_rt, ← nr o, tm_gk_t hna.kd]
    unfold fm_change_J155
    rw [if_pos (by omega), tm_gx_t (by omega)]
    have hr0 := hna.r0
    refine tm_RRrt ⟨h'.mean (by omega) (hr.go (by omega) (by omega) kh (fc.tk _)), tm_Fc.mk (fun k p k1 k2 k3 => ?_) fc.a fc.g (fun a i a1 a2 a3 a4 a5 => ?_)⟩
    · rw [tm_f_wf, if_neg (by omega)]
      exact fc.f k p k1 k2 k3
    · rw [tm_a_wa, if_neg (fun h9 => a2 h9.1)]
      exact fc.b a i a1 a2 a3 a4 a5
  · rw [e1, e2, tm_bd_th]
    exact tm_RRth d
/-- a category is set -/
theorem sm_setcat {q : tm_Pm} {b : Int} {σ τ : tm_S} {c v : Int} (h : tm_Si q b 0 σ τ) (hc : 0 ≤ c ∧ c < 128) (hv : 0 ≤ v ∧ v ≤ 15) :
    tm_RR (fun _ σ' _ τ' => tm_Si q b 0 σ' τ') (tm_Dv q) (fc_catcode_J141 c v σ) (fm_change (200 + c) v τ) := by
  unfold fc_catcode_J141
  rcases sm_keep v h (Or.inr ⟨by omega, by omega, rfl, by omega⟩ : tm_Of (tm_f τ 459 0) σ (-1) c (200 + c)) with ⟨σ', τ', e1, e2, h', fc, kh, nr⟩ | ⟨σ', τ', e1, e2, d⟩
  · rw [e1, e2, tm_bd_rt]
    unfold fm_change_J155
    rw [if_neg (by omega), show 200 + c - 200 = c by omega]
    (repeat (first | refine tm_RRgi (by (first | omega | assumption)) ?_ | refine tm_RRgx (by (first | omega | assumption)) ?_ | refine tm_RRgb (by (first | omega | assumption)) ?_ | refine tm_RRgs (by (first | omega | assumption)) ?_ | refine tm_RRgz (by (first | omega | assumption)) ?_ | refine tm_RRgk (by (first | omega | assumption)) ?_ | refine tm_RRgn (by (first | omega | assumption)) ?_ | refine tm_RRgiR (by (first | omega | assumption)) ?_ | refine tm_RRgxR (by (first | omega | assumption)) ?_ | refine tm_RRgzR (by (first | omega | assumption)) ?_ | refine tm_RRt (by (first | omega | assumption)) ?_ | refine tm_RRf (by (first | omega | assumption)) ?_ | refine tm_RRtR (by (first | omega | assumption)) ?_ | refine tm_RRfR (by (first | omega | assumption)) ?_))
    exact tm_RRrt (h'.cat hv)
  · rw [e1, e2, tm_bd_th]
    exact tm_RRth d
theorem tm_Si.pop {q : tm_Pm} {b e : Int} {σ τ : tm_S} (h : tm_Si q b e σ τ) (hC : 0 < tm_f τ 467 0) : tm_Si q b e (tm_wf σ 22 0 (tm_f τ 467 0 - 1)) (tm_wf τ 467 0 (tm_f τ 467 0 - 1)) := by
  have hcg := h.cg
  have hcs := h.cs
  refine (tm_Si.mk (fl := h.fl) (sz := h.sz) (pl := h.pl) (st := h.st) (sp := h.sp) (gr := h.gr) (mc := h.mc) (ex := h.ex) (oc := h.oc) (wt := h.wt) (op := h.op) (cg := by (simp only [tm_f_wf, tm_f_wa, tm_a_wf, tm_a_wa, tm_n_wf, tm_n_wa, tm_k_wf, tm_k_wa, tm_c_wf, tm_c_wa, tm_z_wf, tm_z_wa, tm_u_wf, tm_u_wa, tm_v_wf, tm_v_wa, tm_lt_e, tm_ls_e, tm_bd_rt, tm_bd_th, Nat.reduceEqDiff, Int.reduceEq, Int.reduceNeg, false_and, and_false, true_and, and_true, and_self, if_false, if_true, reduceIte, ite_true, ite_false, reduceCtorEq]); omega) (nn := h.nn) (dp := h.dp) (md := h.md) (bc := h.bc) (bz := h.bz) (tx := h.tx) (ca := h.ca) (pe := h.pe) (ou := h.ou) (cd := h.cd) (lo := h.lo) (ns := h.ns) (cs := ?_) (fx := h.fx) (kp := h.kp) (kt := h.kt))
  exact tm_Cs.mk (fun i i0 i1 => hcs.gr i i0 (Int.lt_trans i1 (by (simp only [tm_f_wf, tm_f_wa, tm_a_wf, tm_a_wa, tm_n_wf, tm_n_wa, tm_k_wf, tm_k_wa, tm_c_wf, tm_c_wa, tm_z_wf, tm_z_wa, tm_u_wf, tm_u_wa, tm_v_wf, tm_v_wa, tm_lt_e, tm_ls_e, tm_bd_rt, tm_bd_th, Nat.reduceEqDiff, Int.reduceEq, Int.reduceNeg, false_and, and_false, true_and, and_true, and_self, if_false, if_true, reduceIte, ite_true, ite_false, reduceCtorEq]); omega))) (fun i j i0 i1 i2 => hcs.up i j i0 i1 (Int.lt_trans i2 (by (simp only [tm_f_wf, tm_f_wa, tm_a_wf, tm_a_wa, tm_n_wf, tm_n_wa, tm_k_wf, tm_k_wa, tm_c_wf, tm_c_wa, tm_z_wf, tm_z_wa, tm_u_wf, tm_u_wa, tm_v_wf, tm_v_wa, tm_lt_e, tm_ls_e, tm_bd_rt, tm_bd_th, Nat.reduceEqDiff, Int.reduceEq, Int.reduceNeg, false_and, and_false, true_and, and_true, and_self, if_false, if_true, reduceIte, ite_true, ite_false, reduceCtorEq]); omega))) (fun i i0 i1 => hcs.of i i0 (Int.lt_trans i1 (by (simp only [tm_f_wf, tm_f_wa, tm_a_wf, tm_a_wa, tm_n_wf, tm_n_wa, tm_k_wf, tm_k_wa, tm_c_wf, tm_c_wa, tm_z_wf, tm_z_wa, tm_u_wf, tm_u_wa, tm_v_wf, tm_v_wa, tm_lt_e, tm_ls_e, tm_bd_rt, tm_bd_th, Nat.reduceEqDiff, Int.reduceEq, Int.reduceNeg, false_and, and_false, true_and, and_true, and_self, if_false, if_true, reduceIte, ite_true, ite_false, reduceCtorEq]); omega)))
theorem tm_undo_loop {q : tm_Pm} {b : Int} : ∀ (f g : Nat) (σ τ : tm_S), tm_Si q b 0 σ τ → 1 ≤ tm_f τ 466 0 → tm_f τ 467 0 < (f : Int) → tm_f τ 467 0 < (g : Int) →
    ∃ σ' τ' : tm_S, fc_undo_L0 f σ = tm_rt 0 σ' ∧ fm_closeGroup_L14 g τ = tm_rt 0 (tm_wf τ' 466 0 (tm_f τ' 466 0 - 1)) ∧ tm_f τ' 466 0 = tm_f τ 466 0 ∧ tm_Si q b 0 σ' τ' ∧ ∀ i : Int, 0 ≤ i → i < tm_f τ' 467 0 → tm_a τ' 120 i ≤ tm_f τ 466 0 - 1 := by
  intro f
  induction f with
  | zero => intro g σ τ h h1 h2; have := h.cg; exact absurd h2 (by omega)
  | succ f ih =>
    intro g σ τ h h1 h2 h3
    have hcg := h.cg
    have hgr := h.gr
    have hnn := h.nn
    cases g with
    | zero => exact absurd h3 (by omega)
    | succ g =>
    show ∃ σ' τ' : tm_S, fc_undo_B0 (fc_undo_L0 f) σ = _ ∧ fm_closeGroup_B14 (fm_closeGroup_L14 g) τ = _ ∧ _
    unfold fc_undo_B0 fm_closeGroup_B14
    (simp only [tm_f_wf, tm_f_wa, tm_a_wf, tm_a_wa, tm_n_wf, tm_n_wa, tm_k_wf, tm_k_wa, tm_c_wf, tm_c_wa, tm_z_wf, tm_z_wa, tm_u_wf, tm_u_wa, tm_v_wf, tm_v_wa, tm_lt_e, tm_ls_e, tm_bd_rt, tm_bd_th, Nat.reduceEqDiff, Int.reduceEq, Int.reduceNeg, false_and, and_false, true_and, and_true, and_self, if_false, if_true, reduceIte, ite_true, ite_false, reduceCtorEq])
    rw [hcg.1, hgr.1]
    by_cases hC : 0 < tm_f τ 467 0
    · have hkk := h.fx.ch (tm_f τ 467 0 - 1) (by omega) (by omega)
      have hg := h.cs.gr (tm_f τ 467 0 - 1) (by omega) (by omega)
      rw [if_pos hC, if_pos hC, tm_gi_t (by omega), tm_gx_t (by omega), tm_gk_t hkk, tm_gi_t (by omega), tm_gx_t (by omega), hg.1]
      by_cases hgg : tm_a τ 120 (tm_f τ 467 0 - 1) = tm_f τ 466 0
      · have hp := h.pop hC
        have ho := h.cs.of (tm_f τ 467 0 - 1) (by omega) (by omega)
        rw [if_pos hgg, if_pos hgg, tm_gk_t hkk]
        rcases ho with ⟨c1, c2, c3, c4, c5⟩ | ⟨c1, c2, c3, c4, c5, c6, c7⟩
        · have hna := h.ns.nm _ c1 c2
          have hr0 := hna.r0
          have hm := hp.mean (o := tm_a τ 121 (tm_f τ 467 0 - 1)) ⟨c1, c2⟩ (tm_MR.wf c5 22 0 (tm_f τ 467 0 - 1) (Or.inl (by decide)))
          obtain ⟨σ', τ', i1, i2, i3, i4, i5⟩ := ih g _ _ hm h1 (by (simp only [tm_f_wf, tm_f_wa, tm_a_wf, tm_a_wa, tm_n_wf, tm_n_wa, tm_k_wf, tm_k_wa, tm_c_wf, tm_c_wa, tm_z_wf, tm_z_wa, tm_u_wf, tm_u_wa, tm_v_wf, tm_v_wa, tm_lt_e, tm_ls_e, tm_bd_rt, tm_bd_th, Nat.reduceEqDiff, Int.reduceEq, Int.reduceNeg, false_and, and_false, true_and, and_true, and_self, if_false, if_true, reduceIte, ite_true, ite_false, reduceCtorEq]); omega) (by (simp only [tm_f_wf, tm_f_wa, tm_a_wf, tm_a_wa, tm_n_wf, tm_n_wa, tm_k_wf, tm_k_wa, tm_c_wf, tm_c_wa, tm_z_wf, tm_z_wa, tm_u_wf, tm_u_wa, tm_v_wf, tm_v_wa, tm_lt_e, tm_ls_e, tm_bd_rt, tm_bd_th, Nat.reduceEqDiff, Int.reduceEq, Int.reduceNeg, false_and, and_false, true_and, and_true, and_self, if_false, if_true, reduceIte, ite_true, ite_false, reduceCtorEq]); omega)
          refine ⟨σ', τ', ?_, ?_, i3, i4, i5⟩
          · rw [c3]
            try simp only [hkk, hna.kd, tm_gi_t (show -2147483648 ≤ tm_f τ 467 0 - 1 ∧ tm_f τ 467 0 - 1 ≤ 2147483647 by omega), tm_gx_t (show 0 ≤ tm_f τ 467 0 - 1 ∧ tm_f τ 467 0 - 1 < 60 by omega), tm_gk_t]
            rw [if_neg (by omega)]
            exact i1
          · try simp only [tm_gi_t (show -2147483648 ≤ tm_f τ 467 0 - 1 ∧ tm_f τ 467 0 - 1 ≤ 2147483647 by omega), tm_gx_t (show 0 ≤ tm_f τ 467 0 - 1 ∧ tm_f τ 467 0 - 1 < 60 by omega)]
            rw [if_pos (by omega), tm_gx_t (by omega)]
            exact i2
        · have hm := hp.cat (c := tm_a τ 121 (tm_f τ 467 0 - 1) - 200) (v := tm_a τ 122 (tm_f τ 467 0 - 1)) ⟨c6, c7⟩
          obtain ⟨σ', τ', i1, i2, i3, i4, i5⟩ := ih g _ _ hm h1 (by (simp only [tm_f_wf, tm_f_wa, tm_a_wf, tm_a_wa, tm_n_wf, tm_n_wa, tm_k_wf, tm_k_wa, tm_c_wf, tm_c_wa, tm_z_wf, tm_z_wa, tm_u_wf, tm_u_wa, tm_v_wf, tm_v_wa, tm_lt_e, tm_ls_e, tm_bd_rt, tm_bd_th, Nat.reduceEqDiff, Int.reduceEq, Int.reduceNeg, false_and, and_false, true_and, and_true, and_self, if_false, if_true, reduceIte, ite_true, ite_false, reduceCtorEq]); omega) (by (simp only [tm_f_wf, tm_f_wa, tm_a_wf, tm_a_wa, tm_n_wf, tm_n_wa, tm_k_wf, tm_k_wa, tm_c_wf, tm_c_wa, tm_z_wf, tm_z_wa, tm_u_wf, tm_u_wa, tm_v_wf, tm_v_wa, tm_lt_e, tm_ls_e, tm_bd_rt, tm_bd_th, Nat.reduceEqDiff, Int.reduceEq, Int.reduceNeg, false_and, and_false, true_and, and_true, and_self, if_false, if_true, reduceIte, ite_true, ite_false, reduceCtorEq]); omega)
          refine ⟨σ', τ', ?_, ?_, i3, i4, i5⟩
          · rw [c3, c4, c5]
            try simp only [hkk, tm_gi_t (show -2147483648 ≤ tm_f τ 467 0 - 1 ∧ tm_f τ 467 0 - 1 ≤ 2147483647 by omega), tm_gx_t (show 0 ≤ tm_f τ 467 0 - 1 ∧ tm_f τ 467 0 - 1 < 60 by omega), tm_gk_t]
            rw [if_pos (by decide), tm_gb_t (by omega), tm_gx_t (by omega), tm_gb_t (by omega)]
            exact i1
          · try simp only [tm_gi_t (show -2147483648 ≤ tm_f τ 467 0 - 1 ∧ tm_f τ 467 0 - 1 ≤ 2147483647 by omega), tm_gx_t (show 0 ≤ tm_f τ 467 0 - 1 ∧ tm_f τ 467 0 - 1 < 60 by omega)]
            rw [if_neg (by omega), tm_gi_t (by omega), tm_gx_t (by omega)]
            exact i2
      · rw [if_neg hgg, if_neg hgg]
        refine ⟨σ, τ, rfl, by rw [tm_gx_t (by omega), tm_gi_t (by omega), tm_gi_t (by omega)], rfl, h, fun i i0 i1 => ?_⟩
        have u := h.cs.up i (tm_f τ 467 0 - 1) i0 (by omega) (by omega)
        omega
    · rw [if_neg hC, if_neg hC]
      exact ⟨σ, τ, rfl, by rw [tm_gi_t (by omega)], rfl, h, fun i i0 i1 => absurd i1 (by omega)⟩
/-- a group is closed -/
theorem sm_closeGroup {q : tm_Pm} {b : Int} {σ τ : tm_S} (h : tm_Si q b 0 σ τ) :
    tm_RR (fun _ σ' _ τ' => tm_Si q b 0 σ' τ') (tm_Dv q) (if tm_f σ 14 0 = 0 then tm_bd (fc_fail 1 σ) fun _ _ => none else fc_place_J55 σ) (fm_closeGroup τ) := by
  have hgr := h.gr
  have hcg := h.cg
  unfold fm_closeGroup
  rw [hgr.1]
  by_cases hg : tm_f τ 466 0 = 0
  · rw [if_pos hg, if_pos hg]
    exact tm_RRfail h (by decide) (fun σ' τ' hd => ⟨_, _, rfl, hd⟩)
  · rw [if_neg hg, if_neg hg]
    have hFU : tm_f τ 467 0 < ((tm_FU : Nat) : Int) := by unfold tm_FU; omega
    obtain ⟨σ', τ', e1, e2, e3, h', h2⟩ := tm_undo_loop tm_FU tm_FU σ τ h (by omega) hFU hFU
    unfold fc_place_J55 fc_undo
    have hgr' := h'.gr
    rw [e1, e2, tm_bd_rt, hgr'.1, tm_gi_t (by omega)]
    refine tm_RRrt ?_
    have hcs := h'.cs
    refine (tm_Si.mk (fl := h'.fl) (sz := h'.sz) (pl := h'.pl) (st := h'.st) (sp := h'.sp) (gr := by (simp only [tm_f_wf, tm_f_wa, tm_a_wf, tm_a_wa, tm_n_wf, tm_n_wa, tm_k_wf, tm_k_wa, tm_c_wf, tm_c_wa, tm_z_wf, tm_z_wa, tm_u_wf, tm_u_wa, tm_v_wf, tm_v_wa, tm_lt_e, tm_ls_e, tm_bd_rt, tm_bd_th, Nat.reduceEqDiff, Int.reduceEq, Int.reduceNeg, false_and, and_false, true_and, and_true, and_self, if_false, if_true, reduceIte, ite_true, ite_false, reduceCtorEq]); omega) (mc := h'.mc) (ex := h'.ex) (oc := h'.oc) (wt := h'.wt) (op := h'.op) (cg := h'.cg) (nn := h'.nn) (dp := h'.dp) (md := h'.md) (bc := h'.bc) (bz := h'.bz) (tx := h'.tx) (ca := h'.ca) (pe := h'.pe) (ou := h'.ou) (cd := h'.cd) (lo := h'.lo) (ns := h'.ns) (cs := ?_) (fx := h'.fx) (kp := h'.kp) (kt := h'.kt))
    refine tm_Cs.mk (fun i i0 i1 => ⟨(hcs.gr i i0 i1).1, (hcs.gr i i0 i1).2.1, ?_⟩) hcs.up hcs.of
    have := h2 i i0 i1
    (simp only [tm_f_wf, tm_f_wa, tm_a_wf, tm_a_wa, tm_n_wf, tm_n_wa, tm_k_wf, tm_k_wa, tm_c_wf, tm_c_wa, tm_z_wf, tm_z_wa, tm_u_wf, tm_u_wa, tm_v_wf, tm_v_wa, tm_lt_e, tm_ls_e, tm_bd_rt, tm_bd_th, Nat.reduceEqDiff, Int.reduceEq, Int.reduceNeg, false_and, and_false, true_and, and_true, and_self, if_false, if_true, reduceIte, ite_true, ite_false, reduceCtorEq])
    omega
/-- a token goes out -/
theorem sm_put {q : tm_Pm} {b y : Int} {σ τ : tm_S} (h : tm_Si q b 0 σ τ) (hy : 0 ≤ y ∧ y ≤ 4096) : tm_RR (fun _ σ' _ τ' => tm_Si q b 0 σ' τ') (tm_Dv q) (fc_put y σ) (fm_send y τ) := by
  have hoc := h.oc
  have hE := h.ns.e0.1
  unfold fc_put fm_send fc_put_J15
  (simp only [tm_f_wf, tm_f_wa, tm_a_wf, tm_a_wa, tm_n_wf, tm_n_wa, tm_k_wf, tm_k_wa, tm_c_wf, tm_c_wa, tm_z_wf, tm_z_wa, tm_u_wf, tm_u_wa, tm_v_wf, tm_v_wa, tm_lt_e, tm_ls_e, tm_bd_rt, tm_bd_th, Nat.reduceEqDiff, Int.reduceEq, Int.reduceNeg, false_and, and_false, true_and, and_true, and_self, if_false, if_true, reduceIte, ite_true, ite_false, reduceCtorEq])
  rw [hoc.1]
  by_cases ho : tm_f τ 485 0 = 200
  · (repeat (first | refine tm_RRgi (by (first | omega | assumption)) ?_ | refine tm_RRgx (by (first | omega | assumption)) ?_ | refine tm_RRgb (by (first | omega | assumption)) ?_ | refine tm_RRgs (by (first | omega | assumption)) ?_ | refine tm_RRgz (by (first | omega | assumption)) ?_ | refine tm_RRgk (by (first | omega | assumption)) ?_ | refine tm_RRgn (by (first | omega | assumption)) ?_ | refine tm_RRgiR (by (first | omega | assumption)) ?_ | refine tm_RRgxR (by (first | omega | assumption)) ?_ | refine tm_RRgzR (by (first | omega | assumption)) ?_ | refine tm_RRt (by (first | omega | assumption)) ?_ | refine tm_RRf (by (first | omega | assumption)) ?_ | refine tm_RRtR (by (first | omega | assumption)) ?_ | refine tm_RRfR (by (first | omega | assumption)) ?_))
    exact tm_RRfail h (by decide) (fun σ' τ' hd => ⟨_, _, rfl, hd⟩)
  · (repeat (first | refine tm_RRgi (by (first | omega | assumption)) ?_ | refine tm_RRgx (by (first | omega | assumption)) ?_ | refine tm_RRgb (by (first | omega | assumption)) ?_ | refine tm_RRgs (by (first | omega | assumption)) ?_ | refine tm_RRgz (by (first | omega | assumption)) ?_ | refine tm_RRgk (by (first | omega | assumption)) ?_ | refine tm_RRgn (by (first | omega | assumption)) ?_ | refine tm_RRgiR (by (first | omega | assumption)) ?_ | refine tm_RRgxR (by (first | omega | assumption)) ?_ | refine tm_RRgzR (by (first | omega | assumption)) ?_ | refine tm_RRt (by (first | omega | assumption)) ?_ | refine tm_RRf (by (first | omega | assumption)) ?_ | refine tm_RRtR (by (first | omega | assumption)) ?_ | refine tm_RRfR (by (first | omega | assumption)) ?_))
    refine tm_RRrt (tm_Si.mk (fl := h.fl) (sz := h.sz) (pl := h.pl) (st := h.st) (sp := h.sp) (gr := h.gr) (mc := h.mc) (ex := h.ex) (oc := by (simp only [tm_f_wf, tm_f_wa, tm_a_wf, tm_a_wa, tm_n_wf, tm_n_wa, tm_k_wf, tm_k_wa, tm_c_wf, tm_c_wa, tm_z_wf, tm_z_wa, tm_u_wf, tm_u_wa, tm_v_wf, tm_v_wa, tm_lt_e, tm_ls_e, tm_bd_rt, tm_bd_th, Nat.reduceEqDiff, Int.reduceEq, Int.reduceNeg, false_and, and_false, true_and, and_true, and_self, if_false, if_true, reduceIte, ite_true, ite_false, reduceCtorEq]); omega) (wt := h.wt) (op := h.op) (cg := h.cg) (nn := h.nn) (dp := h.dp) (md := h.md) (bc := h.bc) (bz := h.bz) (tx := h.tx) (ca := h.ca) (pe := h.pe) (ou := fun i i0 i1 => ?_) (cd := h.cd) (lo := h.lo) (ns := h.ns.wa 111 _ _ (by decide)) (cs := h.cs.wa 111 _ _ (by decide) hE) (fx := h.fx) (kp := h.kp.wa 111 _ _ (by decide) hE (fun j j0 j1 => by omega)) (kt := h.kt))
    have i1 : i < tm_f τ 485 0 + 1 := i1
    (simp only [tm_f_wf, tm_f_wa, tm_a_wf, tm_a_wa, tm_n_wf, tm_n_wa, tm_k_wf, tm_k_wa, tm_c_wf, tm_c_wa, tm_z_wf, tm_z_wa, tm_u_wf, tm_u_wa, tm_v_wf, tm_v_wa, tm_lt_e, tm_ls_e, tm_bd_rt, tm_bd_th, Nat.reduceEqDiff, Int.reduceEq, Int.reduceNeg, false_and, and_false, true_and, and_true, and_self, if_false, if_true, reduceIte, ite_true, ite_false, reduceCtorEq])
    by_cases hi : i = tm_f τ 485 0
    · rw [if_pos hi, if_pos hi]
    · rw [if_neg hi, if_neg hi]
      exact h.ou i i0 (by omega)
