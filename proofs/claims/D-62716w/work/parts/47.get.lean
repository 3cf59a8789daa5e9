/-! TOKENS -/
set_option maxRecDepth 100000
theorem tm_TR.rng {N x y : Int} (h : tm_TR N x y) (hN : 0 ≤ N ∧ N ≤ 118) : 0 ≤ x ∧ x < 4400 ∧ 0 ≤ y ∧ y < 12406 := by
  rcases h with ⟨h1, h2, h3, -⟩ | h | h <;> omega
theorem sm_get {q : tm_Pm} {b : Int} {σ τ : tm_S} (h : tm_Si q b 0 σ τ) : tm_RR (tm_Pg q b σ τ) (tm_Dg q) (fc_get σ) (fm_get τ) := by
  have hwt := h.wt
  have hfl := h.fl
  have hpl := h.pl
  unfold fc_get fm_get
  (simp only [tm_f_wf, tm_f_wa, tm_a_wf, tm_a_wa, tm_n_wf, tm_n_wa, tm_k_wf, tm_k_wa, tm_c_wf, tm_c_wa, tm_z_wf, tm_z_wa, tm_u_wf, tm_u_wa, tm_v_wf, tm_v_wa, tm_lt_e, tm_ls_e, tm_bd_rt, tm_bd_th, Nat.reduceEqDiff, Int.reduceEq, Int.reduceNeg, false_and, and_false, true_and, and_true, and_self, if_false, if_true, reduceIte, ite_true, ite_false, reduceCtorEq])
  rw [hfl.2, hwt.1]
  by_cases hw : tm_f τ 457 0 = 0
  · (repeat (first | refine tm_RRgi (by (first | omega | assumption)) ?_ | refine tm_RRgx (by (first | omega | assumption)) ?_ | refine tm_RRgb (by (first | omega | assumption)) ?_ | refine tm_RRgs (by (first | omega | assumption)) ?_ | refine tm_RRgz (by (first | omega | assumption)) ?_ | refine tm_RRgk (by (first | omega | assumption)) ?_ | refine tm_RRgn (by (first | omega | assumption)) ?_ | refine tm_RRgiR (by (first | omega | assumption)) ?_ | refine tm_RRgxR (by (first | omega | assumption)) ?_ | refine tm_RRgzR (by (first | omega | assumption)) ?_ | refine tm_RRt (by (first | omega | assumption)) ?_ | refine tm_RRf (by (first | omega | assumption)) ?_ | refine tm_RRtR (by (first | omega | assumption)) ?_ | refine tm_RRfR (by (first | omega | assumption)) ?_))
    refine tm_RRbd (sm_read h) (fun x σ' y τ' ⟨p1, p2, p3, p4, p5⟩ => ?_) (fun σ' w' τ' ⟨d1, d2⟩ => ⟨_, _, rfl, d1, d2⟩)
    have hs : tm_f τ' 449 0 = tm_f τ 449 0 := p2.g 449 (by decide) (by decide) (by decide) (by decide) (by decide)
    refine tm_RRrt ⟨p1, p2, by omega, by unfold tm_mu; omega, ?_⟩
    rcases p5 with p5 | ⟨p5, p6⟩
    · exact Or.inl p5
    · exact Or.inr ⟨p5, by unfold tm_mu; omega⟩
  · (repeat (first | refine tm_RRgi (by (first | omega | assumption)) ?_ | refine tm_RRgx (by (first | omega | assumption)) ?_ | refine tm_RRgb (by (first | omega | assumption)) ?_ | refine tm_RRgs (by (first | omega | assumption)) ?_ | refine tm_RRgz (by (first | omega | assumption)) ?_ | refine tm_RRgk (by (first | omega | assumption)) ?_ | refine tm_RRgn (by (first | omega | assumption)) ?_ | refine tm_RRgiR (by (first | omega | assumption)) ?_ | refine tm_RRgxR (by (first | omega | assumption)) ?_ | refine tm_RRgzR (by (first | omega | assumption)) ?_ | refine tm_RRt (by (first | omega | assumption)) ?_ | refine tm_RRf (by (first | omega | assumption)) ?_ | refine tm_RRtR (by (first | omega | assumption)) ?_ | refine tm_RRfR (by (first | omega | assumption)) ?_))
    have hpe := h.pe (tm_f τ 457 0 - 1) (by omega) (by omega)
    refine tm_RRrt ⟨(tm_Si.mk (fl := h.fl) (sz := h.sz) (pl := h.pl) (st := h.st) (sp := h.sp) (gr := h.gr) (mc := h.mc) (ex := h.ex) (oc := h.oc) (wt := by (simp only [tm_f_wf, tm_f_wa, tm_a_wf, tm_a_wa, tm_n_wf, tm_n_wa, tm_k_wf, tm_k_wa, tm_c_wf, tm_c_wa, tm_z_wf, tm_z_wa, tm_u_wf, tm_u_wa, tm_v_wf, tm_v_wa, tm_lt_e, tm_ls_e, tm_bd_rt, tm_bd_th, Nat.reduceEqDiff, Int.reduceEq, Int.reduceNeg, false_and, and_false, true_and, and_true, and_self, if_false, if_true, reduceIte, ite_true, ite_false, reduceCtorEq]); omega) (op := h.op) (cg := h.cg) (nn := h.nn) (dp := h.dp) (md := h.md) (bc := h.bc) (bz := h.bz) (tx := h.tx) (ca := h.ca) (pe := fun i i0 i1 => h.pe i i0 (Int.lt_trans i1 (by (simp only [tm_f_wf, tm_f_wa, tm_a_wf, tm_a_wa, tm_n_wf, tm_n_wa, tm_k_wf, tm_k_wa, tm_c_wf, tm_c_wa, tm_z_wf, tm_z_wa, tm_u_wf, tm_u_wa, tm_v_wf, tm_v_wa, tm_lt_e, tm_ls_e, tm_bd_rt, tm_bd_th, Nat.reduceEqDiff, Int.reduceEq, Int.reduceNeg, false_and, and_false, true_and, and_true, and_self, if_false, if_true, reduceIte, ite_true, ite_false, reduceCtorEq]); omega))) (ou := h.ou) (cd := h.cd) (lo := h.lo) (ns := h.ns) (cs := h.cs) (fx := h.fx) (kp := h.kp) (kt := h.kt)), tm_Fg.wf 10 457 _ _ (by decide) (by decide), by (simp only [tm_f_wf, tm_f_wa, tm_a_wf, tm_a_wa, tm_n_wf, tm_n_wa, tm_k_wf, tm_k_wa, tm_c_wf, tm_c_wa, tm_z_wf, tm_z_wa, tm_u_wf, tm_u_wa, tm_v_wf, tm_v_wa, tm_lt_e, tm_ls_e, tm_bd_rt, tm_bd_th, Nat.reduceEqDiff, Int.reduceEq, Int.reduceNeg, false_and, and_false, true_and, and_true, and_self, if_false, if_true, reduceIte, ite_true, ite_false, reduceCtorEq]); omega, by unfold tm_mu; (simp only [tm_f_wf, tm_f_wa, tm_a_wf, tm_a_wa, tm_n_wf, tm_n_wa, tm_k_wf, tm_k_wa, tm_c_wf, tm_c_wa, tm_z_wf, tm_z_wa, tm_u_wf, tm_u_wa, tm_v_wf, tm_v_wa, tm_lt_e, tm_ls_e, tm_bd_rt, tm_bd_th, Nat.reduceEqDiff, Int.reduceEq, Int.reduceNeg, false_and, and_false, true_and, and_true, and_self, if_false, if_true, reduceIte, ite_true, ite_false, reduceCtorEq]); omega, Or.inr ⟨hpe, by unfold tm_mu; (simp only [tm_f_wf, tm_f_wa, tm_a_wf, tm_a_wa, tm_n_wf, tm_n_wa, tm_k_wf, tm_k_wa, tm_c_wf, tm_c_wa, tm_z_wf, tm_z_wa, tm_u_wf, tm_u_wa, tm_v_wf, tm_v_wa, tm_lt_e, tm_ls_e, tm_bd_rt, tm_bd_th, Nat.reduceEqDiff, Int.reduceEq, Int.reduceNeg, false_and, and_false, true_and, and_true, and_self, if_false, if_true, reduceIte, ite_true, ite_false, reduceCtorEq]); omega⟩⟩
def tm_Pn (q : tm_Pm) (b : Int) (σ τ : tm_S) (x : Int) (σ' : tm_S) (y : Int) (τ' : tm_S) : Prop :=
  tm_Si q b 0 σ' τ' ∧ tm_Fg σ τ σ' τ' ∧ tm_f τ' 457 0 < 300 ∧ tm_TR (tm_f τ' 459 0) x y ∧ tm_mu τ' < tm_mu τ
theorem sm_need {q : tm_Pm} {b : Int} {σ τ : tm_S} (h : tm_Si q b 0 σ τ) : tm_RR (tm_Pn q b σ τ) (tm_Dg q) (fc_need σ) (fm_need τ) := by
  unfold fc_need fm_need
  refine tm_RRbd (sm_get h) (fun x σ' y τ' ⟨p1, p2, p3, p4, p5⟩ => ?_) (fun σ' w' τ' ⟨d1, d2⟩ => ?_)
  · have hn := p1.nn
    rcases p5 with ⟨rfl, rfl⟩ | ⟨p5, p6⟩
    · rw [if_pos rfl, if_pos rfl]
      exact tm_RRfail p1 (by decide) (fun σ' τ' hd => ⟨_, _, rfl, rfl, hd⟩)
    · have hr := p5.rng (by omega)
      rw [if_neg (by omega), if_neg (by omega)]
      exact tm_RRrt ⟨p1, p2, p3, p5, p6⟩
  · subst d1
    have hfl := d2.fl
    rw [if_pos rfl]
    unfold fm_stop
    rw [if_neg (by omega), tm_wf_self, tm_bd_rt]
    exact ⟨_, _, rfl, rfl, d2⟩
/-- put back -/
def tm_Pb (q : tm_Pm) (b : Int) (σ τ : tm_S) (_ : Int) (σ' : tm_S) (_ : Int) (τ' : tm_S) : Prop :=
  tm_Si q b 0 σ' τ' ∧ tm_Fg σ τ σ' τ' ∧ tm_f τ' 457 0 = tm_f τ 457 0 + 1
def tm_Dv (q : tm_Pm) (σ' : tm_S) (_ : Int) (τ' : tm_S) : Prop := tm_De q σ' τ'
theorem sm_back {q : tm_Pm} {b x y : Int} {σ τ : tm_S} (h : tm_Si q b 0 σ τ) (ht : tm_TR (tm_f τ 459 0) x y) : tm_RR (tm_Pb q b σ τ) (tm_Dv q) (fc_back x σ) (fm_putBack y τ) := by
  have hwt := h.wt
  have hnn := h.nn
  have hr := ht.rng (by omega)
  unfold fc_back fm_putBack
  rw [hwt.1]
  by_cases hw : tm_f τ 457 0 = 300
  · (repeat (first | refine tm_RRgi (by (first | omega | assumption)) ?_ | refine tm_RRgx (by (first | omega | assumption)) ?_ | refine tm_RRgb (by (first | omega | assumption)) ?_ | refine tm_RRgs (by (first | omega | assumption)) ?_ | refine tm_RRgz (by (first | omega | assumption)) ?_ | refine tm_RRgk (by (first | omega | assumption)) ?_ | refine tm_RRgn (by (first | omega | assumption)) ?_ | refine tm_RRgiR (by (first | omega | assumption)) ?_ | refine tm_RRgxR (by (first | omega | assumption)) ?_ | refine tm_RRgzR (by (first | omega | assumption)) ?_ | refine tm_RRt (by (first | omega | assumption)) ?_ | refine tm_RRf (by (first | omega | assumption)) ?_ | refine tm_RRtR (by (first | omega | assumption)) ?_ | refine tm_RRfR (by (first | omega | assumption)) ?_))
    exact tm_RRfail h (by decide) (fun σ' τ' hd => ⟨_, _, rfl, hd⟩)
  · unfold fc_back_J15
    (simp only [tm_f_wf, tm_f_wa, tm_a_wf, tm_a_wa, tm_n_wf, tm_n_wa, tm_k_wf, tm_k_wa, tm_c_wf, tm_c_wa, tm_z_wf, tm_z_wa, tm_u_wf, tm_u_wa, tm_v_wf, tm_v_wa, tm_lt_e, tm_ls_e, tm_bd_rt, tm_bd_th, Nat.reduceEqDiff, Int.reduceEq, Int.reduceNeg, false_and, and_false, true_and, and_true, and_self, if_false, if_true, reduceIte, ite_true, ite_false, reduceCtorEq])
    rw [hwt.1]
    (repeat (first | refine tm_RRgi (by (first | omega | assumption)) ?_ | refine tm_RRgx (by (first | omega | assumption)) ?_ | refine tm_RRgb (by (first | omega | assumption)) ?_ | refine tm_RRgs (by (first | omega | assumption)) ?_ | refine tm_RRgz (by (first | omega | assumption)) ?_ | refine tm_RRgk (by (first | omega | assumption)) ?_ | refine tm_RRgn (by (first | omega | assumption)) ?_ | refine tm_RRgiR (by (first | omega | assumption)) ?_ | refine tm_RRgxR (by (first | omega | assumption)) ?_ | refine tm_RRgzR (by (first | omega | assumption)) ?_ | refine tm_RRt (by (first | omega | assumption)) ?_ | refine tm_RRf (by (first | omega | assumption)) ?_ | refine tm_RRtR (by (first | omega | assumption)) ?_ | refine tm_RRfR (by (first | omega | assumption)) ?_))
    have hE := h.ns.e0.1
    refine tm_RRrt ⟨(tm_Si.mk (fl := h.fl) (sz := h.sz) (pl := h.pl) (st := h.st) (sp := h.sp) (gr := h.gr) (mc := h.mc) (ex := h.ex) (oc := h.oc) (wt := by (simp only [tm_f_wf, tm_f_wa, tm_a_wf, tm_a_wa, tm_n_wf, tm_n_wa, tm_k_wf, tm_k_wa, tm_c_wf, tm_c_wa, tm_z_wf, tm_z_wa, tm_u_wf, tm_u_wa, tm_v_wf, tm_v_wa, tm_lt_e, tm_ls_e, tm_bd_rt, tm_bd_th, Nat.reduceEqDiff, Int.reduceEq, Int.reduceNeg, false_and, and_false, true_and, and_true, and_self, if_false, if_true, reduceIte, ite_true, ite_false, reduceCtorEq]); omega) (op := h.op) (cg := h.cg) (nn := h.nn) (dp := h.dp) (md := h.md) (bc := h.bc) (bz := h.bz) (tx := h.tx) (ca := h.ca) (pe := fun i i0 i1 => ?_) (ou := h.ou) (cd := h.cd) (lo := h.lo) (ns := h.ns.wa 109 _ _ (by decide)) (cs := h.cs.wa 109 _ _ (by decide) hE) (fx := h.fx) (kp := h.kp.wa 109 _ _ (by decide) hE (fun j j0 j1 => by omega)) (kt := h.kt)), ?_, rfl⟩
    · (simp only [tm_f_wf, tm_f_wa, tm_a_wf, tm_a_wa, tm_n_wf, tm_n_wa, tm_k_wf, tm_k_wa, tm_c_wf, tm_c_wa, tm_z_wf, tm_z_wa, tm_u_wf, tm_u_wa, tm_v_wf, tm_v_wa, tm_lt_e, tm_ls_e, tm_bd_rt, tm_bd_th, Nat.reduceEqDiff, Int.reduceEq, Int.reduceNeg, false_and, and_false, true_and, and_true, and_self, if_false, if_true, reduceIte, ite_true, ite_false, reduceCtorEq])
      have i1 : i < tm_f τ 457 0 + 1 := i1
      by_cases hi : i = tm_f τ 457 0
      · rw [if_pos hi, if_pos hi]
        exact ht
      · rw [if_neg hi, if_neg hi]
        exact h.pe i i0 (by omega)
    · refine tm_Fg.mk (fun k r k1 k2 k3 => ?_) (fun a i a1 a2 a9 => ?_) (fun k k1 k2 k3 k4 k5 => ?_) (fun a i a8 a1 a2 a3 a4 a5 => ?_) (Int.le_refl _)
      · rw [tm_f_wf, if_neg (by omega), tm_f_wa]
      · rw [tm_a_wf, tm_a_wa, if_neg (fun h9 => a9 h9.1)]
      · rw [tm_f_wf, if_neg (fun h9 => k3 h9.1), tm_f_wa]
      · rw [tm_a_wf, tm_a_wa, if_neg (fun h9 => a8 h9.1)]
/-! MEANINGS -/
/-- what a token means, in the component -/
def tm_mc (σ : tm_S) (x : Int) : Int := if x < 4096 then -1 else if x % 2 = 1 then 401 else tm_f σ 195 (tm_nr σ ((x - 4096) / 2))
/-- and in the model -/
def tm_mm (τ : tm_S) (y : Int) : Int := if y < 4096 then 1000 + y else if 8192 ≤ y ∧ y < 16384 then 2 else tm_a τ 115 (y - 4096)
theorem fc_nameOf_e {q : tm_Pm} {b e x : Int} {σ τ : tm_S} (h : tm_Si q b e σ τ) (hx : 4096 ≤ x ∧ (x - 4096) / 2 < tm_f τ 459 0) : fc_nameOf x σ = tm_rt (tm_nr σ ((x - 4096) / 2)) σ := by
  have hnn := h.nn
  have hna := h.ns.nm ((x - 4096) / 2) (by omega) hx.2
  unfold fc_nameOf
  rw [tm_gi_t (by omega), tm_J3_get h.ns h.fx.ls hnn.1 ⟨by omega, hx.2⟩, tm_bd_rt, tm_gk_t hna.kd]
theorem fc_meaningOf_e {q : tm_Pm} {b e x y : Int} {σ τ : tm_S} (h : tm_Si q b e σ τ) (ht : tm_TR (tm_f τ 459 0) x y) : fc_meaningOf x σ = tm_rt (tm_mc σ x) σ := by
  have hnn := h.nn
  unfold fc_meaningOf tm_mc
  by_cases h1 : x < 4096
  · rw [if_pos h1, if_pos h1]
  · rw [if_neg h1, if_neg h1]
    by_cases h2 : x % 2 = 1
    · rw [if_pos h2, if_pos h2]
    · have h3 : (x - 4096) / 2 < tm_f τ 459 0 := by
        rcases ht with ⟨a1, a2, a3, -⟩ | a | a <;> omega
      have hna := h.ns.nm ((x - 4096) / 2) (by omega) h3
      rw [if_neg h2, if_neg h2, fc_nameOf_e h ⟨by omega, h3⟩, tm_bd_rt, tm_gk_t hna.kd]
theorem fm_meaningOf_e {N x y : Int} {τ : tm_S} (hN : 0 ≤ N ∧ N ≤ 118) (ht : tm_TR N x y) : fm_meaningOf y τ = tm_rt (tm_mm τ y) τ := by
  have hr := ht.rng hN
  unfold fm_meaningOf tm_mm
  by_cases h1 : y < 4096
  · rw [if_pos h1, if_pos h1, tm_gi_t (by omega)]
  · rw [if_neg h1, if_neg h1, fm_isMarked_e, tm_bd_rt]
    by_cases h2 : 8192 ≤ y ∧ y < 16384
    · rw [if_pos h2, if_pos h2, if_neg (by decide)]
    · have h3 : y - 4096 < N := by
        rcases ht with ⟨a1, a2, a3, -⟩ | a | a <;> omega
      rw [if_neg h2, if_neg h2, if_pos rfl, tm_gi_t (by omega), tm_gx_t (by omega)]
theorem tm_TM {q : tm_Pm} {b e x y : Int} {σ τ : tm_S} (h : tm_Si q b e σ τ) (ht : tm_TR (tm_f τ 459 0) x y) : (tm_tc y ∧ x = y ∧ tm_mc σ x = -1 ∧ tm_mm τ y = 1000 + y) ∨ (4096 ≤ y ∧ 4096 ≤ x ∧ tm_MR (tm_f τ 459 0) (tm_f τ 471 0) σ τ (tm_mc σ x) (tm_mm τ y)) := by
  have hnn := h.nn
  unfold tm_mc tm_mm
  rcases ht with ⟨a1, a2⟩ | ⟨a1, a2, a3⟩ | ⟨a1, a2, a3⟩
  · have a3 := a2
    obtain ⟨a4, a5, -⟩ := a3
    exact Or.inl ⟨a2, a1, by rw [if_pos (by omega)], by rw [if_pos a5]⟩
  · refine Or.inr ⟨a1, by omega, ?_⟩
    rw [if_neg (by omega), if_neg (by omega), if_neg (by omega), if_neg (by omega), show (x - 4096) / 2 = y - 4096 by omega]
    exact (h.ns.nm (y - 4096) (by omega) (by omega)).me
  · refine Or.inr ⟨by omega, by omega, ?_⟩
    rw [if_neg (by omega), if_pos (by omega), if_neg (by omega), if_pos (by omega)]
    exact Or.inr (Or.inl (by omega))
/-- that is expanded -/
def tm_xp (m : Int) : Prop := m = 8 ∨ m = 9 ∨ m = 10 ∨ (12 ≤ m ∧ m ≤ 18) ∨ 6000 ≤ m
theorem fc_opens_e {q : tm_Pm} {b e r : Int} {σ τ : tm_S} (h : tm_Si q b e σ τ) (hr : 400 ≤ r ∧ r < 418) : fc_X2_opens r σ = tm_rt (if 412 ≤ r ∧ r < 416 then 1 else 0) σ := by
  have hk := h.fx.cm r hr.1 hr.2
  have hq : r = -1 ∨ tm_k σ r ≠ 0 := Or.inr (by rw [hk]; decide)
  unfold fc_X2_opens
  rw [tm_gq_t hq, tm_gq_t hq, tm_gq_t hq, tm_gq_t hq]
  (repeat' split) <;> first | rfl | (exfalso; omega)
theorem fc_X2_isExpandable_e {q : tm_Pm} {b e m : Int} {σ τ : tm_S} (h : tm_Si q b e σ τ) (hm : 1 ≤ m ∧ m ≤ 18) : (tm_xp m → fc_X2_isExpandable (399 + m) σ = tm_rt 1 σ) ∧ (¬ tm_xp m → fc_X2_isExpandable (399 + m) σ = tm_rt 0 σ) := by
  have hk := h.fx.cm (399 + m) (by omega) (by omega)
  have hq : (399 + m) = -1 ∨ tm_k σ (399 + m) ≠ 0 := Or.inr (by rw [hk]; decide)
  unfold fc_X2_isExpandable tm_xp
  rw [tm_gk_t hk, fc_opens_e h (by omega), tm_bd_rt, tm_gq_t hq, tm_gq_t hq, tm_gq_t hq, tm_gq_t hq, tm_gq_t hq, tm_gq_t hq]
  constructor <;> intro h9 <;> (repeat' split) <;> first | rfl | (exfalso; omega)
theorem sm_isExpandable {q : tm_Pm} {b e x y : Int} {σ τ : tm_S} (h : tm_Si q b e σ τ) (ht : tm_TR (tm_f τ 459 0) x y) : (tm_xp (tm_mm τ y) ∧ 4096 ≤ y ∧ fc_isExpandable x σ = tm_rt 1 σ ∧ fm_isExpandable y τ = tm_rt 1 τ) ∨ (¬ tm_xp (tm_mm τ y) ∧ fc_isExpandable x σ = tm_rt 0 σ ∧ fm_isExpandable y τ = tm_rt 0 τ) ∨ (y < 4096 ∧ fc_isExpandable x σ = tm_rt 0 σ ∧ fm_isExpandable y τ = tm_rt 0 τ) := by
  have hnn := h.nn
  unfold fc_isExpandable fm_isExpandable
  rw [fc_meaningOf_e h ht, fm_meaningOf_e (by omega) ht, tm_bd_rt, tm_bd_rt]
  have hM : (tm_xp (tm_mm τ y) → (if tm_mm τ y < 6000 then (if tm_mm τ y = 8 then tm_rt 1 τ else if tm_mm τ y = 9 then tm_rt 1 τ else if tm_mm τ y = 10 then tm_rt 1 τ else if tm_mm τ y < 12 then tm_rt 0 τ else if 18 < tm_mm τ y then tm_rt 0 τ else tm_rt 1 τ) else tm_rt 1 τ) = tm_rt 1 τ) ∧ (¬ tm_xp (tm_mm τ y) → (if tm_mm τ y < 6000 then (if tm_mm τ y = 8 then tm_rt 1 τ else if tm_mm τ y = 9 then tm_rt 1 τ else if tm_mm τ y = 10 then tm_rt 1 τ else if tm_mm τ y < 12 then tm_rt 0 τ else if 18 < tm_mm τ y then tm_rt 0 τ else tm_rt 1 τ) else tm_rt 1 τ) = tm_rt 0 τ) := by
    unfold tm_xp
    constructor <;> intro h9 <;> (repeat' split) <;> first | rfl | (exfalso; omega)
  rcases tm_TM h ht with ⟨a1, a2, a3, a4⟩ | ⟨a1, a2, a3⟩
  · have a5 := a1
    obtain ⟨a6, a7, -⟩ := a5
    rw [a3, if_pos (by decide)]
    refine Or.inr (Or.inr ⟨a7, rfl, hM.2 ?_⟩)
    rw [a4]
    unfold tm_xp
    omega
  · by_cases hx : tm_xp (tm_mm τ y)
    · refine Or.inl ⟨hx, a1, ?_, hM.1 hx⟩
      rcases a3 with a3 | a3 | ⟨c0, c1, c2, c3, c4⟩ | ⟨c0, c1, c2, c3, c4, c5⟩
      · unfold tm_xp at hx
        omega
      · rw [a3.2.2, if_neg (by omega), h.fx.cm (399 + tm_mm τ y) (by omega) (by omega)]
        unfold tm_m3
        rw [if_pos rfl, (fc_X2_isExpandable_e h ⟨a3.1, a3.2.1⟩).1 hx, tm_bd_rt, if_neg (by decide)]
      · have c5 := c3.2.1
        have c6 := c3.1
        unfold tm_xp at hx
        omega
      · rw [if_neg (by omega), c2]
        unfold tm_m3 fc_X7_isExpandable
        rw [if_neg (by decide), if_neg (by decide), if_pos rfl, tm_bd_rt, if_neg (by decide)]
    · refine Or.inr (Or.inl ⟨hx, ?_, hM.2 hx⟩)
      rcases a3 with a3 | a3 | ⟨c0, c1, c2, c3, c4⟩ | ⟨c0, c1, c2, c3, c4, c5⟩
      · rw [a3.1, if_pos (by decide)]
      · rw [a3.2.2, if_neg (by omega), h.fx.cm (399 + tm_mm τ y) (by omega) (by omega)]
        unfold tm_m3
        rw [if_pos rfl, (fc_X2_isExpandable_e h ⟨a3.1, a3.2.1⟩).2 hx, tm_bd_rt, if_pos rfl]
      · rw [if_neg (by omega), c2]
        unfold tm_m3 fc_X8_isExpandable
        rw [if_neg (by decide), if_pos rfl, tm_bd_rt, if_pos rfl]
      · unfold tm_xp at hx
        omega
/-- the character that a token means -/
theorem fc_signOf_e {q : tm_Pm} {b e x y : Int} {σ τ : tm_S} (h : tm_Si q b e σ τ) (ht : tm_TR (tm_f τ 459 0) x y) : fc_signOf x σ = tm_rt (if 1000 ≤ tm_mm τ y ∧ tm_mm τ y < 6000 then tm_mm τ y - 1000 else -1) σ ∧ (1000 ≤ tm_mm τ y ∧ tm_mm τ y < 6000 → tm_tc (tm_mm τ y - 1000)) := by
  have hnn := h.nn
  unfold fc_signOf
  rw [fc_isCharacter_e, tm_bd_rt]
  rcases tm_TM h ht with ⟨a1, a2, a3, a4⟩ | ⟨a1, a2, a3⟩
  · have a5 := a1
    obtain ⟨a6, a7, -⟩ := a5
    rw [if_pos (show 0 ≤ x ∧ x < 4096 by omega), if_neg (by decide), if_pos (by omega), a4]
    refine ⟨by rw [a2]; congr 1; omega, fun _ => ?_⟩
    rw [show 1000 + y - 1000 = y by omega]
    exact a1
  · rw [if_neg (show ¬ (0 ≤ x ∧ x < 4096) by omega), if_pos rfl, fc_meaningOf_e h ht, tm_bd_rt]
    rcases a3 with a3 | a3 | ⟨c0, c1, c2, c3, c4⟩ | ⟨c0, c1, c2, c3, c4, c5⟩
    · rw [if_neg (show ¬ (1000 ≤ tm_mm τ y ∧ tm_mm τ y < 6000) by omega)]
      refine ⟨?_, fun h9 => by omega⟩
      by_cases h5 : tm_k σ (tm_mc σ x) = 5
      · rw [a3.1, h.fx.nu] at h5
        exact absurd h5 (by decide)
      · rw [if_neg h5, tm_gm_t (Or.inl (by omega))]
    · have hk := h.fx.cm (tm_mc σ x) (by omega) (by omega)
      rw [if_neg (show ¬ (1000 ≤ tm_mm τ y ∧ tm_mm τ y < 6000) by omega), hk, if_neg (by decide), tm_gm_t (Or.inr (Or.inr (Or.inr hk)))]
      exact ⟨rfl, fun h9 => by omega⟩
    · have c5 := c3.2.1
      have c6 := c3.1
      rw [if_pos c2, if_pos (show 1000 ≤ tm_mm τ y ∧ tm_mm τ y < 6000 by omega)]
      refine ⟨by congr 1; omega, fun _ => ?_⟩
      rw [show tm_mm τ y - 1000 = tm_f σ 256 (tm_mc σ x) by omega]
      exact c3
    · rw [if_neg (show ¬ (1000 ≤ tm_mm τ y ∧ tm_mm τ y < 6000) by omega), c2, if_neg (by decide), tm_gm_t (Or.inr (Or.inr (Or.inl c2)))]
      exact ⟨rfl, fun h9 => by omega⟩
/-! TOKENS WITHOUT THEIR MARK -/
def tm_pc (x : Int) : Int := if x < 4096 then x else x - x % 2
def tm_pm (y : Int) : Int := if 8192 ≤ y ∧ y < 16384 then y - 8192 else y
theorem tm_TR.plain {N x y : Int} (h : tm_TR N x y) (hN : 0 ≤ N ∧ N ≤ 118) : tm_PR N 0 (tm_pc x) (tm_pm y) ∧ tm_pm y < 4214 ∧ tm_TR N (tm_pc x) (tm_pm y) := by
  unfold tm_pc tm_pm
  rcases h with ⟨a1, a2⟩ | a | a
  · have a3 := a2
    obtain ⟨a4, a5, -⟩ := a3
    rw [if_pos (by omega), if_neg (by omega)]
    exact ⟨Or.inl ⟨a1, a2⟩, by omega, Or.inl ⟨a1, a2⟩⟩
  · rw [if_neg (by omega), if_neg (by omega)]
    exact ⟨Or.inr (Or.inl (by omega)), by omega, Or.inr (Or.inl (by omega))⟩
  · rw [if_neg (by omega), if_pos (by omega)]
    exact ⟨Or.inr (Or.inl (by omega)), by omega, Or.inr (Or.inl (by omega))⟩
theorem tm_PR.inj {N p x y x' y' : Int} (h : tm_PR N p x y) (h' : tm_PR N p x' y') (hN : 0 ≤ N ∧ N ≤ 118) : x = x' ↔ y = y' := by
  rcases h with ⟨a1, a2, a3, -⟩ | a | a <;> rcases h' with ⟨b1, b2, b3, -⟩ | b | b <;> omega
theorem tm_PR.rng {N p x y : Int} (h : tm_PR N p x y) (hN : 0 ≤ N ∧ N ≤ 118) (hp : 0 ≤ p ∧ p ≤ 4) : -4 ≤ x ∧ x < 4400 ∧ 0 ≤ y ∧ y ≤ 16388 ∧ (x < 0 ↔ 16384 ≤ y) := by
  rcases h with ⟨a1, a2, a3, -⟩ | a | a <;> omega
