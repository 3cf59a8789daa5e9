set_option maxRecDepth 100000
theorem tm_lev_pm {N x y : Int} (h : tm_TR N x y) (hN : N ≤ 118) : tm_lev (tm_pm y) = tm_lev y := by
  rcases h with ⟨a1, a2, a3, -⟩ | a | a
  · unfold tm_pm
    rw [if_neg (by omega)]
  · unfold tm_lev tm_pm
    (repeat' split) <;> first | rfl | (exfalso; omega)
  · unfold tm_lev tm_pm
    (repeat' split) <;> first | rfl | (exfalso; omega)
/-- the model's way to a level -/
theorem tm_lev_if (y : Int) : (if 0 ≤ y ∧ y < 4096 ∧ y / 256 = 1 then (1 : Int) else 0) = (if tm_lev y = 1 then 1 else 0) ∧ (if 0 ≤ y ∧ y < 4096 ∧ y / 256 = 2 then (1 : Int) else 0) = (if tm_lev y = -1 then 1 else 0) ∧ (tm_lev y = 1 ∨ tm_lev y = 0 ∨ tm_lev y = -1) := by
  unfold tm_lev
  refine ⟨?_, ?_, ?_⟩ <;> (repeat' split) <;> omega
/-- an argument's getting has come to its end -/
def tm_Pu (q : tm_Pm) (b a : Int) (σ τ : tm_S) (_ : Int) (σ' : tm_S) (_ : Int) (τ' : tm_S) : Prop :=
  tm_Si q b 0 σ' τ' ∧ tm_Ar (tm_f τ' 459 0) σ' τ' a ∧ tm_Fr a σ τ σ' τ'
theorem fm_piece_end {m p0 p1 n dep : Int} {τ1 τ2 : tm_S} (h : fm_stop 3 τ1 = tm_rt (-1) τ2) : fm_piece (-1) n m p0 p1 dep τ1 = tm_rt (-1) τ2 := by
  unfold fm_piece
  rw [if_pos rfl, h, tm_bd_rt]
theorem tm_undel_loop {q : tm_Pm} {b a m : Int} {σ τ : tm_S} (ha : 0 ≤ a ∧ a < 4) (hm : 0 ≤ m ∧ m < 60) : ∀ (f g : Nat) (lv got : Int) (σ1 τ1 : tm_S), tm_Si q b 0 σ1 τ1 → tm_Ar (tm_f τ1 459 0) σ1 τ1 a → tm_Fr a σ τ σ1 τ1 → (0 ≤ lv ∧ lv ≤ got) → 1 ≤ got ∧ got ≤ 41 → (0 < lv → tm_a τ1 140 a ≤ got - 1 ∧ got ≤ 40) → 42 - got < (f : Int) → 42 - got < (g : Int) → tm_RR (tm_Pu q b a σ τ) (tm_Dv q) (fc_undelimited_L68 f (130 + a) lv got σ1) (fm_plainArgument_L65 g a m lv (got + 1) τ1) := by
  intro f
  induction f with
  | zero => intro g lv got σ1 τ1 _ _ _ _ _ _ h1; exact absurd h1 (by omega)
  | succ f ih =>
    intro g lv got σ1 τ1 h ar fr hlv hgot hsz h1 h2
    cases g with
    | zero => exact absurd h2 (by omega)
    | succ g =>
    show tm_RR _ _ (fc_undelimited_B68 (fc_undelimited_L68 f) (130 + a) lv got σ1) (fm_plainArgument_B65 (fm_plainArgument_L65 g) a m lv (got + 1) τ1)
    unfold fc_undelimited_B68 fm_plainArgument_B65 fm_plainArgument_J125
    by_cases hl : 0 < lv
    · obtain ⟨hs1, hs2⟩ := hsz hl
      rw [if_pos hl, if_pos hl]
      unfold fc_argued
      have assoc : ∀ k : Int → tm_S → tm_R, tm_bd (tm_bd (fc_need σ1) fun u1 σ1 => if got = 40 then tm_bd (fc_fail 5 σ1) fun _ _ => none else fc_argued_L23 tm_FU (-1) 0 u1 0 0 σ1) k = tm_bd (fc_need σ1) fun u1 σ1 => tm_bd (if got = 40 then tm_bd (fc_fail 5 σ1) fun _ _ => none else fc_argued_L23 tm_FU (-1) 0 u1 0 0 σ1) k := by
        intro k
        cases fc_need σ1 with
        | none => rfl
        | some z => obtain ⟨z1, z2⟩ := z; cases z1 <;> rfl
      rw [assoc]
      refine tm_RRget h (fun x σ2 y τ2 ⟨p1, p2, p3, p4, p5⟩ => ?_) (fun τ2 τ3 e3 => ⟨0, τ3, by rw [fm_piece_end e3, tm_bd_rt, if_pos rfl], fun σ' d => d⟩)
      have hn2 := p1.nn
      have ar2 := ar.fg p2 ha p2.n
      have fr2 := fr.tr (p2.fr a)
      have hsz2 : tm_a τ2 140 a = tm_a τ1 140 a := p2.b 140 a (by decide) (by decide) (by decide) (by decide) (by decide) (by decide)
      rcases sm_piece (dep := lv) (T := -1) (m := m) (p0 := 0) (p1 := 0) p1 p4 ⟨by omega, hs2⟩ (by decide) hm (fun h9 => absurd h9 (by decide)) with ⟨σ3, τ3, e1, e2, d⟩ | ⟨g40, e1, ⟨c1, c2, -⟩ | ⟨c1, e2⟩⟩
      · rw [e1, e2, tm_bd_th, tm_bd_rt, if_pos rfl]
        exact tm_RRth d
      · omega
      · have hpl := p4.plain (by omega)
        have hpr := hpl.2.2.rng (by omega)
        obtain ⟨l1, l2, l3⟩ := tm_lev_if (tm_pm y)
        rw [e1, e2, tm_bd_rt, tm_bd_rt, if_neg (by omega), fc_levelOf_e, tm_bd_rt, fm_isCharacter_e, tm_bd_rt, l1, tm_lev_TR p4]
        rw [tm_lev_pm p4 (by omega)] at l1 l2 l3 ⊢
        -- both go on with the same level
        have hM : (if (if tm_lev y = 1 then (1 : Int) else 0) = 0 then tm_bd (fm_isCharacter (tm_pm y) 2 τ2) fun u114 σ114 => if u114 = 0 then tm_gi (lv + 0) <| tm_lt (lv + 0) fun x126 => if 0 < x126 then tm_bd (fm_add a (tm_pm y) σ114) fun u137 σ137 => tm_gi ((got + 1) + 1) <| fm_plainArgument_L65 g a m x126 ((got + 1) + 1) σ137 else tm_gi ((got + 1) + 1) <| fm_plainArgument_L65 g a m x126 ((got + 1) + 1) σ114 else tm_gi (lv + -1) <| tm_lt (lv + -1) fun x126 => if 0 < x126 then tm_bd (fm_add a (tm_pm y) σ114) fun u137 σ137 => tm_gi ((got + 1) + 1) <| fm_plainArgument_L65 g a m x126 ((got + 1) + 1) σ137 else tm_gi ((got + 1) + 1) <| fm_plainArgument_L65 g a m x126 ((got + 1) + 1) σ114 else tm_gi (lv + 1) <| tm_lt (lv + 1) fun x126 => if 0 < x126 then tm_bd (fm_add a (tm_pm y) τ2) fun u137 σ137 => tm_gi ((got + 1) + 1) <| fm_plainArgument_L65 g a m x126 ((got + 1) + 1) σ137 else tm_gi ((got + 1) + 1) <| fm_plainArgument_L65 g a m x126 ((got + 1) + 1) τ2) = (if 0 < lv + tm_lev y then tm_bd (fm_add a (tm_pm y) τ2) fun u137 σ137 => fm_plainArgument_L65 g a m (lv + tm_lev y) ((got + 1) + 1) σ137 else fm_plainArgument_L65 g a m (lv + tm_lev y) ((got + 1) + 1) τ2) := by
          have hgi : ∀ X : tm_R, tm_gi ((got + 1) + 1) X = X := fun X => tm_gi_t (by omega)
          simp only [hgi, tm_lt_e]
          rw [fm_isCharacter_e, tm_bd_rt, l2]
          rcases l3 with l3 | l3 | l3
          · simp only [l3, Int.reduceEq, Int.reduceNeg, if_true, if_false, reduceIte, reduceCtorEq]
            rw [tm_gi_t (by omega)]
          · simp only [l3, Int.reduceEq, Int.reduceNeg, if_true, if_false, reduceIte, reduceCtorEq]
            rw [tm_gi_t (by omega)]
          · simp only [l3, Int.reduceEq, Int.reduceNeg, if_true, if_false, reduceIte, reduceCtorEq]
            rw [tm_gi_t (by omega)]
        refine Eq.mpr (congrArg (fun z => tm_RR _ _ _ z) hM) ?_
        rw [tm_gi_t (by omega), tm_lt_e]
        by_cases h0 : 0 < lv + tm_lev y
        · rw [if_pos h0, if_pos h0]
          obtain ⟨r1, -⟩ := p1.fx.rw (130 + a) (by omega)
          obtain ⟨σ3, τ3, a1, a2, a3, a4, a5, a6, -⟩ := sm_add p1 ha ar2 (by omega) p4
          rw [tm_gk_t r1, a1, a2, tm_bd_rt, tm_bd_rt, tm_gi_t (by omega)]
          exact ih g (lv + tm_lev y) (got + 1) σ3 τ3 a3 a4 (fr2.tr a5) (by omega) (by omega) (fun _ => by omega) (by omega) (by omega)
        · rw [if_neg h0, if_neg h0, tm_gi_t (by omega)]
          exact ih g (lv + tm_lev y) (got + 1) σ2 τ2 p1 ar2 fr2 (by omega) (by omega) (fun h9 => absurd h9 h0) (by omega) (by omega)
    · rw [if_neg hl, if_neg hl]
      exact tm_RRrt ⟨h, ar, fr⟩

/-- put back and taken again -/
theorem tm_again {q : tm_Pm} {b x y : Int} {σ τ : tm_S} (h : tm_Si q b 0 σ τ) (hw : tm_f τ 457 0 < 300) (ht : tm_TR (tm_f τ 459 0) x y) : ∃ σ' : tm_S, tm_Si q b 0 σ' τ ∧ tm_Fg σ τ σ' τ ∧ ∀ k : Int → tm_S → tm_R, (tm_bd (fc_back x σ) fun _ σ27 => tm_bd (fc_argued 0 (-1) 0 0 σ27) k) = tm_bd (if (0 : Int) = 40 then tm_bd (fc_fail 5 σ') fun _ _ => none else fc_argued_L23 tm_FU (-1) 0 x 0 0 σ') k := by
  have hwt := h.wt
  have hnn := h.nn
  have hr := ht.rng (by omega)
  have hE := h.ns.e0.1
  refine ⟨tm_wf (tm_wf (tm_wa σ 109 (tm_f τ 457 0) x) 10 0 (tm_f τ 457 0 + 1)) 10 0 (tm_f τ 457 0), ?_, ?_, fun k => ?_⟩
  · refine (tm_Si.mk (fl := h.fl) (sz := h.sz) (pl := h.pl) (st := h.st) (sp := h.sp) (gr := h.gr) (mc := h.mc) (ex := h.ex) (oc := h.oc) (wt := by (simp only [tm_f_wf, tm_f_wa, tm_a_wf, tm_a_wa, tm_n_wf, tm_n_wa, tm_k_wf, tm_k_wa, tm_c_wf, tm_c_wa, tm_z_wf, tm_z_wa, tm_u_wf, tm_u_wa, tm_v_wf, tm_v_wa, tm_lt_e, tm_ls_e, tm_bd_rt, tm_bd_th, Nat.reduceEqDiff, Int.reduceEq, Int.reduceNeg, false_and, and_false, true_and, and_true, and_self, if_false, if_true, reduceIte, ite_true, ite_false, reduceCtorEq]); omega) (op := h.op) (cg := h.cg) (nn := h.nn) (dp := h.dp) (md := h.md) (bc := h.bc) (bz := h.bz) (tx := h.tx) (ca := h.ca) (pe := fun i i0 i1 => ?_) (ou := h.ou) (cd := h.cd) (lo := h.lo) (ns := h.ns.wa 109 _ _ (by decide)) (cs := h.cs.wa 109 _ _ (by decide) hE) (fx := h.fx) (kp := h.kp.wa 109 _ _ (by decide) hE (fun j j0 j1 => by omega)) (kt := h.kt))
    (simp only [tm_f_wf, tm_f_wa, tm_a_wf, tm_a_wa, tm_n_wf, tm_n_wa, tm_k_wf, tm_k_wa, tm_c_wf, tm_c_wa, tm_z_wf, tm_z_wa, tm_u_wf, tm_u_wa, tm_v_wf, tm_v_wa, tm_lt_e, tm_ls_e, tm_bd_rt, tm_bd_th, Nat.reduceEqDiff, Int.reduceEq, Int.reduceNeg, false_and, and_false, true_and, and_true, and_self, if_false, if_true, reduceIte, ite_true, ite_false, reduceCtorEq])
    rw [if_neg (by omega)]
    exact h.pe i i0 i1
  · refine tm_Fg.mk (fun k r k1 k2 k3 => ?_) (fun a i a1 a2 a9 => ?_) (fun k k1 k2 k3 k4 k5 => rfl) (fun a i a8 a1 a2 a3 a4 a5 => rfl) (Int.le_refl _)
    · rw [tm_f_wf, if_neg (by omega), tm_f_wf, if_neg (by omega), tm_f_wa]
    · rw [tm_a_wf, tm_a_wf, tm_a_wa, if_neg (fun h9 => a9 h9.1)]
  · unfold fc_back fc_back_J15 fc_argued fc_need fc_get
    rw [hwt.1, if_neg (by omega)]
    (simp only [tm_f_wf, tm_f_wa, tm_a_wf, tm_a_wa, tm_n_wf, tm_n_wa, tm_k_wf, tm_k_wa, tm_c_wf, tm_c_wa, tm_z_wf, tm_z_wa, tm_u_wf, tm_u_wa, tm_v_wf, tm_v_wa, tm_lt_e, tm_ls_e, tm_bd_rt, tm_bd_th, Nat.reduceEqDiff, Int.reduceEq, Int.reduceNeg, false_and, and_false, true_and, and_true, and_self, if_false, if_true, reduceIte, ite_true, ite_false, reduceCtorEq])
    rw [hwt.1, tm_gs_t (by omega), tm_gx_t (by omega), tm_gs_t (by omega), tm_gi_t (by omega), tm_bd_rt]
    (simp only [tm_f_wf, tm_f_wa, tm_a_wf, tm_a_wa, tm_n_wf, tm_n_wa, tm_k_wf, tm_k_wa, tm_c_wf, tm_c_wa, tm_z_wf, tm_z_wa, tm_u_wf, tm_u_wa, tm_v_wf, tm_v_wa, tm_lt_e, tm_ls_e, tm_bd_rt, tm_bd_th, Nat.reduceEqDiff, Int.reduceEq, Int.reduceNeg, false_and, and_false, true_and, and_true, and_self, if_false, if_true, reduceIte, ite_true, ite_false, reduceCtorEq])
    rw [if_neg (by omega), tm_gi_t (by omega), show tm_f τ 457 0 + 1 - 1 = tm_f τ 457 0 by omega, tm_gx_t (by omega), tm_bd_rt, if_pos rfl, if_neg (by omega), tm_bd_rt]
theorem sm_undelimited {q : tm_Pm} {b a m : Int} {σ τ : tm_S} (h : tm_Si q b 0 σ τ) (ha : 0 ≤ a ∧ a < 4) (hm : 0 ≤ m ∧ m < 60) (hz : tm_a τ 140 a = 0) : tm_RR (tm_Pu q b a σ τ) (tm_Dv q) (fc_undelimited (130 + a) σ) (fm_plainArgument a m τ) := by
  obtain ⟨r1, -⟩ := h.fx.rw (130 + a) (by omega)
  have h0 : tm_Si q b 0 (tm_wf σ 129 (130 + a) 0) τ := (tm_Si.mk (fl := h.fl) (sz := h.sz) (pl := h.pl) (st := h.st) (sp := h.sp) (gr := h.gr) (mc := h.mc) (ex := h.ex) (oc := h.oc) (wt := h.wt) (op := h.op) (cg := h.cg) (nn := h.nn) (dp := h.dp) (md := h.md) (bc := h.bc) (bz := h.bz) (tx := h.tx) (ca := h.ca) (pe := h.pe) (ou := h.ou) (cd := h.cd) (lo := h.lo) (ns := h.ns) (cs := h.cs) (fx := h.fx) (kp := h.kp) (kt := h.kt))
  have f0 : tm_Fr a σ τ (tm_wf σ 129 (130 + a) 0) τ := tm_Fr.mk (fun r h1 h2 h3 h4 => by rw [tm_f_wf, if_neg (by omega)]) (fun _ _ _ _ _ => rfl) (fun _ _ _ _ => rfl) rfl rfl (fun _ _ => rfl) (fun _ _ => rfl) (Int.le_refl _)
  have a0 : tm_Ar (tm_f τ 459 0) (tm_wf σ 129 (130 + a) 0) τ a := tm_Ar.mk (by (simp only [tm_f_wf, tm_f_wa, tm_a_wf, tm_a_wa, tm_n_wf, tm_n_wa, tm_k_wf, tm_k_wa, tm_c_wf, tm_c_wa, tm_z_wf, tm_z_wa, tm_u_wf, tm_u_wa, tm_v_wf, tm_v_wa, tm_lt_e, tm_ls_e, tm_bd_rt, tm_bd_th, Nat.reduceEqDiff, Int.reduceEq, Int.reduceNeg, false_and, and_false, true_and, and_true, and_self, if_false, if_true, reduceIte, ite_true, ite_false, reduceCtorEq]); omega) (fun i i0 i1 => by omega)
  -- a token's behind the blanks
  have loop : ∀ (f g : Nat) (x y : Int) (σ1 τ1 : tm_S), tm_Si q b 0 σ1 τ1 → tm_Ar (tm_f τ1 459 0) σ1 τ1 a → tm_a τ1 140 a = 0 → tm_Fr a σ τ σ1 τ1 → tm_f τ1 457 0 < 300 → tm_TR (tm_f τ1 459 0) x y → tm_mu τ1 < (f : Int) → tm_mu τ1 + 1 < (g : Int) → tm_RR (tm_Pu q b a σ τ) (tm_Dv q) (fc_undelimited_L10 f (130 + a) x σ1) (fm_plainArgument_L5 g a m y τ1) := by
    intro f
    induction f with
    | zero =>
      intro g x y σ1 τ1 h _ _ _ _ _ h1
      have := h.wt
      have := h.pl
      unfold tm_mu at h1
      exact absurd h1 (by omega)
    | succ f ih =>
      intro g x y σ1 τ1 h ar hz fr hw ht h1 h2
      have hwt := h.wt
      have hpl := h.pl
      have hnn := h.nn
      have hr := ht.rng (by omega)
      have hpm := ht.plain (by omega)
      have hpr := hpm.2.2.rng (by omega)
      cases g with
      | zero => unfold tm_mu at h2; exact absurd h2 (by omega)
      | succ g =>
      show tm_RR _ _ (fc_undelimited_B10 (fc_undelimited_L10 f) (130 + a) x σ1) (fm_plainArgument_B5 (fm_plainArgument_L5 g) a m y τ1)
      unfold fc_undelimited_B10 fm_plainArgument_B5
      have e8 : (if 8192 ≤ y ∧ y < 16384 then y - 8192 else y) = tm_pm y := rfl
      rw [fm_plain_e, tm_bd_rt, e8]
      by_cases hx : x = 2592
      · have hy : tm_pm y = 2592 := by
          unfold tm_pm
          rcases ht with ⟨b1, -⟩ | b1 | b1
          · rw [if_neg (by omega)]; omega
          · omega
          · omega
        rw [if_pos hx, if_pos hy]
        refine tm_RRget h (fun x2 σ2 y2 τ2 ⟨p1, p2, p3, p4, p5⟩ => ?_) (fun τ2 τ3 e3 => ?_)
        · exact ih g x2 y2 σ2 τ2 p1 (ar.fg p2 ha p2.n) ((p2.b 140 a (by decide) (by decide) (by decide) (by decide) (by decide) (by decide)).trans hz) (fr.tr (p2.fr a)) p3 p4 (by omega) (by omega)
        · cases g with
          | zero => unfold tm_mu at h2; exact absurd h2 (by omega)
          | succ g =>
          refine ⟨0, τ3, ?_, fun σ' d => d⟩
          show fm_plainArgument_B5 (fm_plainArgument_L5 g) a m (-1) τ2 = _
          unfold fm_plainArgument_B5
          rw [fm_plain_e, tm_bd_rt, if_neg (by decide), fm_piece_end e3, tm_bd_rt, if_pos rfl]
      · have hy : ¬ tm_pm y = 2592 := by
          unfold tm_pm
          rcases ht with ⟨b1, -⟩ | b1 | b1
          · rw [if_neg (by omega)]; omega
          · rw [if_neg (by omega)]; omega
          · rw [if_pos (by omega)]; omega
        rw [if_neg hx, if_neg hy]
        obtain ⟨σ2, g1, g2, g3⟩ := tm_again h hw ht
        have ar2 := ar.fg g2 ha (Int.le_refl _)
        have fr2 := fr.tr (g2.fr a)
        rw [g3]
        rcases sm_piece (got := 0) (dep := 0) (T := -1) (m := m) (p0 := 0) (p1 := 0) g1 ht (by decide) (by decide) hm (fun h9 => absurd h9 (by decide)) with ⟨σ3, τ3, e1, e2, d⟩ | ⟨-, e1, ⟨c1, c2, e2⟩ | ⟨c1, e2⟩⟩
        · have e2 : fm_piece y 1 m 0 0 0 τ1 = tm_rt (-1) τ3 := e2
          rw [e1, e2, tm_bd_th, tm_bd_rt, if_pos rfl]
          exact tm_RRth d
        · have e2 : fm_piece y 1 m 0 0 0 τ1 = tm_rt (-1) (tm_wf τ1 453 0 1) := e2
          rw [e1, e2, tm_bd_rt, tm_bd_rt, if_pos rfl, fc_levelOf_e, tm_bd_rt, tm_lev_TR ht, c1, if_pos (by decide), g1.fail, tm_bd_th]
          exact tm_RRth (g1.die (by decide))
        · have e2 : fm_piece y 1 m 0 0 0 τ1 = tm_rt (tm_pm y) τ1 := e2
          obtain ⟨l1, l2, l3⟩ := tm_lev_if (tm_pm y)
          rw [e1, e2, tm_bd_rt, tm_bd_rt, if_neg (by omega), fc_levelOf_e, tm_bd_rt, tm_lev_TR ht, fm_isCharacter_e, tm_bd_rt, l1]
          rw [tm_lev_pm ht (by omega)] at l1 l2 l3 ⊢
          unfold fc_undelimited_J53
          obtain ⟨r1, -⟩ := g1.fx.rw (130 + a) (by omega)
          rcases l3 with l3 | l3 | l3
          · rw [l3, if_neg (by decide), if_neg (by decide), if_pos rfl, if_neg (by decide)]
            exact tm_undel_loop ha hm tm_FU tm_FU 1 1 σ2 τ1 g1 ar2 fr2 (by decide) (by decide) (fun _ => by omega) (by unfold tm_FU; omega) (by unfold tm_FU; omega)
          · obtain ⟨σ3, τ3, a1, a2, a3, a4, a5, a6, -⟩ := sm_add g1 ha ar2 (by omega) ht
            rw [l3]
            simp only [Int.reduceEq, Int.reduceLT, Int.reduceNeg, if_true, if_false, reduceIte]
            rw [tm_gk_t r1, a1, a2, tm_bd_rt, tm_bd_rt]
            show tm_RR _ _ (fc_undelimited_B68 (fc_undelimited_L68 99999) (130 + a) 0 1 σ3) _
            unfold fc_undelimited_B68
            rw [if_neg (by decide)]
            exact tm_RRrt ⟨a3, a4, fr2.tr a5⟩
          · exact absurd ⟨l3, rfl⟩ c1
  unfold fc_undelimited fm_plainArgument
  rw [tm_gk_t r1]
  refine tm_RRget h0 (fun x2 σ2 y2 τ2 ⟨p1, p2, p3, p4, p5⟩ => ?_) (fun τ2 τ3 e3 => ?_)
  · have hsz := p1.sz
    have hpl := p1.pl
    have hmu : tm_mu τ2 < ((tm_FU : Nat) : Int) := by unfold tm_FU tm_mu; omega
    have hmu2 : tm_mu τ2 + 1 < ((tm_FU : Nat) : Int) := by unfold tm_FU tm_mu; omega
    exact loop tm_FU tm_FU x2 y2 σ2 τ2 p1 (a0.fg p2 ha p2.n) ((p2.b 140 a (by decide) (by decide) (by decide) (by decide) (by decide) (by decide)).trans hz) (f0.tr (p2.fr a)) p3 p4 hmu hmu2
  · refine ⟨0, τ3, ?_, fun σ' d => d⟩
    show fm_plainArgument_B5 (fm_plainArgument_L5 99999) a m (-1) τ2 = _
    unfold fm_plainArgument_B5
    rw [fm_plain_e, tm_bd_rt, if_neg (by decide), fm_piece_end e3, tm_bd_rt, if_pos rfl]
