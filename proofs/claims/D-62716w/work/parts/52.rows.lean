set_option maxRecDepth 100000
/-- a token that must come there, one that may come here -/
theorem tm_RRget {q : tm_Pm} {b : Int} {σ τ : tm_S} {P : Int → tm_S → Int → tm_S → Prop} {D : tm_S → Int → tm_S → Prop} {k k' : Int → tm_S → tm_R} (h : tm_Si q b 0 σ τ) (h1 : ∀ x σ' y τ', tm_Pn q b σ τ x σ' y τ' → tm_RR P D (k x σ') (k' y τ')) (hk : ∀ τ1 τ2, fm_stop 3 τ1 = tm_rt (-1) τ2 → ∃ w τ'', k' (-1) τ1 = tm_rt w τ'' ∧ ∀ σ', tm_De q σ' τ2 → D σ' w τ'') : tm_RR P D (tm_bd (fc_need σ) k) (tm_bd (fm_get τ) k') := by
  unfold fc_need
  rcases sm_get h with ⟨x, σ1, y, τ1, e1, e2, p1, p2, p3, p4, p5⟩ | ⟨σ1, w, τ1, e1, e2, d1, d2⟩
  · rw [e1, e2, tm_bd_rt, tm_bd_rt]
    have hn := p1.nn
    rcases p5 with ⟨rfl, rfl⟩ | ⟨p5, p6⟩
    · rw [if_pos rfl, p1.fail, tm_bd_th, tm_bd_th]
      obtain ⟨w, τ2, e3, hd⟩ := hk τ1 _ (tm_stop_0 p1.fl.2 3)
      rw [e3]
      exact tm_RRth (hd _ (p1.die (by decide)))
    · have hr := p5.rng (by omega)
      rw [if_neg (by omega), tm_bd_rt]
      exact h1 x σ1 y τ1 ⟨p1, p2, p3, p5, p6⟩
  · rw [e1, e2, tm_bd_th, tm_bd_th, tm_bd_rt]
    subst d1
    have hfl := d2.fl
    obtain ⟨w, τ2, e3, hd⟩ := hk τ1 τ1 (by unfold fm_stop; rw [if_neg (by omega), tm_wf_self])
    rw [e3]
    exact tm_RRth (hd _ d2)
/-- argument a, as it stands in both -/
def tm_Ar (N : Int) (σ τ : tm_S) (a : Int) : Prop :=
  (tm_f σ 129 (130 + a) = tm_a τ 140 a ∧ 0 ≤ tm_a τ 140 a ∧ tm_a τ 140 a ≤ 40) ∧
  (∀ i : Int, 0 ≤ i → i < tm_a τ 140 a → tm_PR N 0 (tm_a σ (150 + a) i) (tm_a τ 139 (42 * a + i)))
theorem tm_Ar.mk {N : Int} {σ τ : tm_S} {a : Int} (n : tm_f σ 129 (130 + a) = tm_a τ 140 a ∧ 0 ≤ tm_a τ 140 a ∧ tm_a τ 140 a ≤ 40) (t : ∀ i : Int, 0 ≤ i → i < tm_a τ 140 a → tm_PR N 0 (tm_a σ (150 + a) i) (tm_a τ 139 (42 * a + i))) : tm_Ar N σ τ a := ⟨n, t⟩
theorem tm_Ar.n {N : Int} {σ τ : tm_S} {a : Int} (h : tm_Ar N σ τ a) : tm_f σ 129 (130 + a) = tm_a τ 140 a ∧ 0 ≤ tm_a τ 140 a ∧ tm_a τ 140 a ≤ 40 := h.1
theorem tm_Ar.t {N : Int} {σ τ : tm_S} {a : Int} (h : tm_Ar N σ τ a) : ∀ i : Int, 0 ≤ i → i < tm_a τ 140 a → tm_PR N 0 (tm_a σ (150 + a) i) (tm_a τ 139 (42 * a + i)) := h.2
/-- what the getting of argument a leaves alone -/
def tm_Fr (a : Int) (σ τ σ' τ' : tm_S) : Prop :=
  (∀ r : Int, 0 < r → r < 1000 → r ≠ 106 → r ≠ 130 + a → tm_f σ' 129 r = tm_f σ 129 r) ∧
  (∀ r i : Int, 144 ≤ r → r < 160 → r ≠ 150 + a → tm_a σ' r i = tm_a σ r i) ∧
  (∀ k i : Int, 124 ≤ k → k ≤ 128 → tm_a τ' k i = tm_a τ k i) ∧
  (tm_f τ' 471 0 = tm_f τ 471 0) ∧
  (tm_f τ' 455 0 = tm_f τ 455 0) ∧
  (∀ i : Int, i < 42 * a ∨ 42 * a + 42 ≤ i → tm_a τ' 139 i = tm_a τ 139 i) ∧
  (∀ i : Int, i ≠ a → tm_a τ' 140 i = tm_a τ 140 i) ∧
  (tm_f τ 459 0 ≤ tm_f τ' 459 0)
theorem tm_Fr.mk {a : Int} {σ τ σ' τ' : tm_S} (f : ∀ r : Int, 0 < r → r < 1000 → r ≠ 106 → r ≠ 130 + a → tm_f σ' 129 r = tm_f σ 129 r) (w : ∀ r i : Int, 144 ≤ r → r < 160 → r ≠ 150 + a → tm_a σ' r i = tm_a σ r i) (t : ∀ k i : Int, 124 ≤ k → k ≤ 128 → tm_a τ' k i = tm_a τ k i) (m : tm_f τ' 471 0 = tm_f τ 471 0) (x : tm_f τ' 455 0 = tm_f τ 455 0) (b : ∀ i : Int, i < 42 * a ∨ 42 * a + 42 ≤ i → tm_a τ' 139 i = tm_a τ 139 i) (c : ∀ i : Int, i ≠ a → tm_a τ' 140 i = tm_a τ 140 i) (n : tm_f τ 459 0 ≤ tm_f τ' 459 0) : tm_Fr a σ τ σ' τ' := ⟨f, w, t, m, x, b, c, n⟩
theorem tm_Fr.f {a : Int} {σ τ σ' τ' : tm_S} (h : tm_Fr a σ τ σ' τ') : ∀ r : Int, 0 < r → r < 1000 → r ≠ 106 → r ≠ 130 + a → tm_f σ' 129 r = tm_f σ 129 r := h.1
theorem tm_Fr.w {a : Int} {σ τ σ' τ' : tm_S} (h : tm_Fr a σ τ σ' τ') : ∀ r i : Int, 144 ≤ r → r < 160 → r ≠ 150 + a → tm_a σ' r i = tm_a σ r i := h.2.1
theorem tm_Fr.t {a : Int} {σ τ σ' τ' : tm_S} (h : tm_Fr a σ τ σ' τ') : ∀ k i : Int, 124 ≤ k → k ≤ 128 → tm_a τ' k i = tm_a τ k i := h.2.2.1
theorem tm_Fr.m {a : Int} {σ τ σ' τ' : tm_S} (h : tm_Fr a σ τ σ' τ') : tm_f τ' 471 0 = tm_f τ 471 0 := h.2.2.2.1
theorem tm_Fr.x {a : Int} {σ τ σ' τ' : tm_S} (h : tm_Fr a σ τ σ' τ') : tm_f τ' 455 0 = tm_f τ 455 0 := h.2.2.2.2.1
theorem tm_Fr.b {a : Int} {σ τ σ' τ' : tm_S} (h : tm_Fr a σ τ σ' τ') : ∀ i : Int, i < 42 * a ∨ 42 * a + 42 ≤ i → tm_a τ' 139 i = tm_a τ 139 i := h.2.2.2.2.2.1
theorem tm_Fr.c {a : Int} {σ τ σ' τ' : tm_S} (h : tm_Fr a σ τ σ' τ') : ∀ i : Int, i ≠ a → tm_a τ' 140 i = tm_a τ 140 i := h.2.2.2.2.2.2.1
theorem tm_Fr.n {a : Int} {σ τ σ' τ' : tm_S} (h : tm_Fr a σ τ σ' τ') : tm_f τ 459 0 ≤ tm_f τ' 459 0 := h.2.2.2.2.2.2.2
theorem tm_Fr.tr {a : Int} {σ τ σ1 τ1 σ2 τ2 : tm_S} (h : tm_Fr a σ τ σ1 τ1) (g : tm_Fr a σ1 τ1 σ2 τ2) : tm_Fr a σ τ σ2 τ2 :=
  tm_Fr.mk (fun r h1 h2 h3 h4 => (g.f r h1 h2 h3 h4).trans (h.f r h1 h2 h3 h4)) (fun r i h1 h2 h3 => (g.w r i h1 h2 h3).trans (h.w r i h1 h2 h3)) (fun k i h1 h2 => (g.t k i h1 h2).trans (h.t k i h1 h2)) (g.m.trans h.m) (g.x.trans h.x) (fun i hi => (g.b i hi).trans (h.b i hi)) (fun i hi => (g.c i hi).trans (h.c i hi)) (Int.le_trans h.n g.n)
theorem tm_Fr.rf (a : Int) (σ τ : tm_S) : tm_Fr a σ τ σ τ := ⟨fun _ _ _ _ _ => rfl, fun _ _ _ _ _ => rfl, fun _ _ _ _ => rfl, rfl, rfl, fun _ _ => rfl, fun _ _ => rfl, Int.le_refl _⟩
theorem tm_Fg.fr {σ τ σ' τ' : tm_S} (h : tm_Fg σ τ σ' τ') (a : Int) : tm_Fr a σ τ σ' τ' :=
  tm_Fr.mk (fun r h1 h2 h3 _ => h.f 129 r h2 h3 (by omega)) (fun r i h1 h2 _ => h.a r i (by omega) (by omega) (by omega)) (fun k i h1 h2 => h.b k i (by omega) (by omega) (by omega) (by omega) (by omega) (by omega)) (h.g 471 (by decide) (by decide) (by decide) (by decide) (by decide)) (h.g 455 (by decide) (by decide) (by decide) (by decide) (by decide)) (fun i _ => h.b 139 i (by decide) (by decide) (by decide) (by decide) (by decide) (by decide)) (fun i _ => h.b 140 i (by decide) (by decide) (by decide) (by decide) (by decide) (by decide)) h.n
theorem tm_Ar.fg {N N' : Int} {σ τ σ' τ' : tm_S} {a : Int} (h : tm_Ar N σ τ a) (g : tm_Fg σ τ σ' τ') (ha : 0 ≤ a ∧ a < 4) (hN : N ≤ N') : tm_Ar N' σ' τ' a := by
  have e1 : ∀ i, tm_a τ' 139 i = tm_a τ 139 i := fun i => g.b 139 i (by decide) (by decide) (by decide) (by decide) (by decide) (by decide)
  have e2 : ∀ i, tm_a τ' 140 i = tm_a τ 140 i := fun i => g.b 140 i (by decide) (by decide) (by decide) (by decide) (by decide) (by decide)
  refine tm_Ar.mk ?_ (fun i i0 i1 => ?_)
  · rw [g.f 129 (130 + a) (by omega) (by omega) (by omega), e2]
    exact h.n
  · rw [e2] at i1
    rw [g.a (150 + a) i (by omega) (by omega) (by omega), e1]
    exact (h.t i i0 i1).up hN (Int.le_refl _)
theorem tm_PR.tr {N x y : Int} (h : tm_PR N 0 x y) : tm_TR N x y ∧ y < 4096 + 4096 ∨ N > 4000 := by
  rcases h with h | h | h
  · exact Or.inl ⟨Or.inl h, by have := h.2.2.1; omega⟩
  · by_cases hN : N > 4000
    · exact Or.inr hN
    · exact Or.inl ⟨Or.inr (Or.inl h), by omega⟩
  · omega
/-- one more token -/
theorem sm_add {q : tm_Pm} {b x y a : Int} {σ τ : tm_S} (h : tm_Si q b 0 σ τ) (ha : 0 ≤ a ∧ a < 4) (ar : tm_Ar (tm_f τ 459 0) σ τ a) (hn : tm_a τ 140 a < 40) (ht : tm_TR (tm_f τ 459 0) x y) :
    ∃ σ' τ' : tm_S, fc_X3_add (130 + a) x 40 σ = tm_rt 1 σ' ∧ fm_add a (tm_pm y) τ = tm_rt 0 τ' ∧ tm_Si q b 0 σ' τ' ∧ tm_Ar (tm_f τ' 459 0) σ' τ' a ∧ tm_Fr a σ τ σ' τ' ∧ tm_a τ' 140 a = tm_a τ 140 a + 1 ∧ tm_mu τ' = tm_mu τ ∧ tm_f τ' 459 0 = tm_f τ 459 0 ∧ (∀ i : Int, 0 ≤ i → i < tm_a τ 140 a → tm_a τ' 139 (42 * a + i) = tm_a τ 139 (42 * a + i)) ∧ tm_a τ' 139 (42 * a + tm_a τ 140 a) = tm_pm y := by
  have hnn := h.nn
  obtain ⟨r1, r2, r3, r4⟩ := h.fx.rw (130 + a) (by omega)
  have e20 : 130 + a + 20 = 150 + a := by omega
  rw [e20] at r2 r3 r4
  have hpl := ht.plain (by omega)
  have hrg := hpl.2.2.rng (by omega)
  have an := ar.n
  have hE := h.ns.e0.1
  have epc : (if x < 4096 then x else x - x % 2) = tm_pc x := rfl
  unfold fc_X3_add fm_add
  rw [tm_gk_t r1, an.1, if_neg (by omega), fc_plain_e, tm_bd_rt, epc]
  (simp only [tm_f_wf, tm_f_wa, tm_a_wf, tm_a_wa, tm_n_wf, tm_n_wa, tm_k_wf, tm_k_wa, tm_c_wf, tm_c_wa, tm_z_wf, tm_z_wa, tm_u_wf, tm_u_wa, tm_v_wf, tm_v_wa, tm_lt_e, tm_ls_e, tm_bd_rt, tm_bd_th, Nat.reduceEqDiff, Int.reduceEq, Int.reduceNeg, false_and, and_false, true_and, and_true, and_self, if_false, if_true, reduceIte, ite_true, ite_false, reduceCtorEq])
  rw [r2, tm_gs_t (by omega), tm_gk_t r3, tm_gx_t (by omega), tm_gs_t (by omega), tm_gk_t r1, an.1, tm_gi_t (by omega), tm_gi_t (by omega), tm_gx_t (by omega), tm_gi_t (by omega), tm_gx_t (by omega), tm_gx_t (by omega), tm_gi_t (by omega), tm_gx_t (by omega)]
  have hw := h.wa (150 + a) (tm_a τ 140 a) (tm_pc x) (by omega) (fun j j0 j1 => by omega)
  refine ⟨_, _, rfl, rfl, (tm_Si.mk (fl := hw.fl) (sz := hw.sz) (pl := hw.pl) (st := hw.st) (sp := hw.sp) (gr := hw.gr) (mc := hw.mc) (ex := hw.ex) (oc := hw.oc) (wt := hw.wt) (op := hw.op) (cg := hw.cg) (nn := hw.nn) (dp := hw.dp) (md := hw.md) (bc := hw.bc) (bz := hw.bz) (tx := hw.tx) (ca := hw.ca) (pe := hw.pe) (ou := hw.ou) (cd := hw.cd) (lo := hw.lo) (ns := hw.ns) (cs := hw.cs) (fx := hw.fx) (kp := hw.kp) (kt := hw.kt)), tm_Ar.mk ?_ (fun i i0 i1 => ?_), tm_Fr.mk (fun r h1 h2 h3 h4 => ?_) (fun r i h1 h2 h3 => ?_) (fun k i h1 h2 => ?_) rfl rfl (fun i hi => ?_) (fun i hi => ?_) (Int.le_refl _), ?_, rfl, rfl, fun i i0 i1 => ?_, ?_⟩
  · (simp only [tm_f_wf, tm_f_wa, tm_a_wf, tm_a_wa, tm_n_wf, tm_n_wa, tm_k_wf, tm_k_wa, tm_c_wf, tm_c_wa, tm_z_wf, tm_z_wa, tm_u_wf, tm_u_wa, tm_v_wf, tm_v_wa, tm_lt_e, tm_ls_e, tm_bd_rt, tm_bd_th, Nat.reduceEqDiff, Int.reduceEq, Int.reduceNeg, false_and, and_false, true_and, and_true, and_self, if_false, if_true, reduceIte, ite_true, ite_false, reduceCtorEq])
    omega
  · (simp only [tm_f_wf, tm_f_wa, tm_a_wf, tm_a_wa, tm_n_wf, tm_n_wa, tm_k_wf, tm_k_wa, tm_c_wf, tm_c_wa, tm_z_wf, tm_z_wa, tm_u_wf, tm_u_wa, tm_v_wf, tm_v_wa, tm_lt_e, tm_ls_e, tm_bd_rt, tm_bd_th, Nat.reduceEqDiff, Int.reduceEq, Int.reduceNeg, false_and, and_false, true_and, and_true, and_self, if_false, if_true, reduceIte, ite_true, ite_false, reduceCtorEq])
    rw [tm_a_wa, if_pos ⟨rfl, rfl⟩] at i1
    by_cases hi : i = tm_a τ 140 a
    · rw [if_pos hi, if_pos (by omega)]
      exact hpl.1
    · rw [if_neg hi, if_neg (by omega)]
      exact ar.t i i0 (by omega)
  · rw [tm_f_wf, if_neg (by omega), tm_f_wa]
  · rw [tm_a_wf, tm_a_wa, if_neg (by omega)]
  · rw [tm_a_wa, if_neg (by omega), tm_a_wa, if_neg (by omega)]
  · rw [tm_a_wa, if_neg (by omega), tm_a_wa, if_neg (by omega)]
  · rw [tm_a_wa, if_neg (by omega), tm_a_wa, if_neg (by omega)]
  · (simp only [tm_f_wf, tm_f_wa, tm_a_wf, tm_a_wa, tm_n_wf, tm_n_wa, tm_k_wf, tm_k_wa, tm_c_wf, tm_c_wa, tm_z_wf, tm_z_wa, tm_u_wf, tm_u_wa, tm_v_wf, tm_v_wa, tm_lt_e, tm_ls_e, tm_bd_rt, tm_bd_th, Nat.reduceEqDiff, Int.reduceEq, Int.reduceNeg, false_and, and_false, true_and, and_true, and_self, if_false, if_true, reduceIte, ite_true, ite_false, reduceCtorEq])
  · rw [tm_a_wa, if_neg (by omega), tm_a_wa, if_neg (by omega)]
  · (simp only [tm_f_wf, tm_f_wa, tm_a_wf, tm_a_wa, tm_n_wf, tm_n_wa, tm_k_wf, tm_k_wa, tm_c_wf, tm_c_wa, tm_z_wf, tm_z_wa, tm_u_wf, tm_u_wa, tm_v_wf, tm_v_wa, tm_lt_e, tm_ls_e, tm_bd_rt, tm_bd_th, Nat.reduceEqDiff, Int.reduceEq, Int.reduceNeg, false_and, and_false, true_and, and_true, and_self, if_false, if_true, reduceIte, ite_true, ite_false, reduceCtorEq])
