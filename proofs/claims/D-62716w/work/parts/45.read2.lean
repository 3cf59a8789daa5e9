set_option maxRecDepth 100000
theorem fm_say_e (c : Int) {τ : tm_S} (h : 0 ≤ tm_f τ 464 0 ∧ tm_f τ 464 0 < 12) : fm_say c τ = tm_rt 0 (tm_wf (tm_wa τ 117 (tm_f τ 464 0) c) 464 0 (tm_f τ 464 0 + 1)) := by
  unfold fm_say
  (simp only [tm_f_wf, tm_f_wa, tm_a_wf, tm_a_wa, tm_n_wf, tm_n_wa, tm_k_wf, tm_k_wa, tm_c_wf, tm_c_wa, tm_z_wf, tm_z_wa, tm_u_wf, tm_u_wa, tm_v_wf, tm_v_wa, tm_lt_e, tm_ls_e, tm_bd_rt, tm_bd_th, Nat.reduceEqDiff, Int.reduceEq, Int.reduceNeg, false_and, and_false, true_and, and_true, and_self, if_false, if_true, reduceIte, ite_true, ite_false, reduceCtorEq])
  rw [if_pos h.2, tm_gx_t h, tm_gi_t (by omega)]
/-- a fault while the model's state lags behind -/
theorem tm_De.lag {q : tm_Pm} {σ τ : tm_S} {s : Int} (h : tm_De q σ (tm_wf τ 452 0 s)) : tm_De q σ τ :=
  tm_De.mk (fl := h.fl) (sz := h.sz) (pl := h.pl) (sp := h.sp) (gr := h.gr) (mc := h.mc) (oc := h.oc) (op := h.op) (nn := h.nn) (md := h.md) (tx := h.tx) (ca := h.ca) (ou := h.ou) (ns := h.ns) (fx := h.fx) (kt := h.kt)
theorem tm_RRfailS {q : tm_Pm} {b e s : Int} {σ τ : tm_S} {P : Int → tm_S → Int → tm_S → Prop} {D : tm_S → Int → tm_S → Prop} {k k' : Int → tm_S → tm_R} (h : tm_Si q b 0 σ (tm_wf τ 452 0 s)) (he : 1 ≤ e ∧ e ≤ 8) (hk : ∀ σ' τ', tm_De q σ' τ' → ∃ w τ'', k' (-1) τ' = tm_rt w τ'' ∧ D σ' w τ'') : tm_RR P D (tm_bd (fc_fail e σ) k) (tm_bd (fm_stop e τ) k') := by
  have h0 : tm_f τ 453 0 = 0 := h.fl.2
  rw [h.fail, tm_stop_0 h0, tm_bd_th, tm_bd_rt]
  have h1 := h.die he
  rw [tm_wf_comm τ 452 453 0 0 s e (by decide)] at h1
  obtain ⟨w, τ'', e1, h2⟩ := hk _ _ h1.lag
  rw [e1]
  exact tm_RRth h2
def tm_Pe (q : tm_Pm) (b : Int) (σ τ : tm_S) (x : Int) (σ' : tm_S) (y : Int) (τ' : tm_S) : Prop :=
  tm_Si q b 0 σ' τ' ∧ tm_Fg σ τ σ' τ' ∧ tm_f τ' 457 0 = tm_f τ 457 0 ∧ tm_f τ 451 0 ≤ tm_f τ' 451 0 ∧ tm_TR (tm_f τ' 459 0) x y
theorem tm_Fg.ex {σ τ σ1 σ' τ1 τ' : tm_S} (h : tm_Fg σ τ σ1 τ1) (x : tm_Ex σ1 σ') (t : tm_Tx τ1 τ') : tm_Fg σ τ σ' τ' := by
  have hn := h.n
  have tn := t.n
  exact tm_Fg.mk (fun k r h1 h2 h3 => (x.f k r (Or.inl ⟨h1, h2⟩)).trans (h.f k r h1 h2 h3)) (fun a i h1 h2 h3 => (x.a a i h1).trans (h.a a i h1 h2 h3)) (fun k h1 h2 h3 h4 h5 => (t.f k h4 h5).trans (h.g k h1 h2 h3 h4 h5)) (fun a i h0 h1 h2 h3 h4 h5 => (t.a a i h1 h2 h3 h4 h5).trans (h.b a i h0 h1 h2 h3 h4 h5)) (by omega)
/-- a name's letters from the second on -/
theorem tm_escape_loop {q : tm_Pm} {b k0 w s : Int} {σ τ : tm_S} (hw : (k0 = 11 ∧ w = 1 ∧ s = 2) ∨ (k0 = 10 ∧ w = 0 ∧ s = 2) ∨ (k0 ≠ 11 ∧ k0 ≠ 10 ∧ w = 0 ∧ s = 1)) : ∀ (f g : Nat) (n : Int) (σ1 τ1 : tm_S), tm_Si q b 0 σ1 (tm_wf τ1 452 0 s) → tm_Sp σ1 τ1 107 n → tm_Fg σ τ σ1 τ1 → tm_f τ1 457 0 = tm_f τ 457 0 → tm_f τ 451 0 ≤ tm_f τ1 451 0 → tm_f τ1 449 0 - tm_f τ1 451 0 < (f : Int) → tm_f τ1 449 0 - tm_f τ1 451 0 < (g : Int) → tm_RR (tm_Pe q b σ τ) (tm_Dg q) (fc_escape_L75 f n w σ1) (fm_readName_L60 g k0 τ1) := by
  intro f
  induction f with
  | zero => intro g n σ1 τ1 h _ _ _ _ h1; have h9 : tm_f τ1 451 0 ≤ tm_f τ1 449 0 := h.pl.2.2; exact absurd h1 (by omega)
  | succ f ih =>
    intro g n σ1 τ1 h hs hg hw0 hat h1 h2
    have hpl : tm_f σ1 2 0 = tm_f τ1 451 0 ∧ 0 ≤ tm_f τ1 451 0 ∧ tm_f τ1 451 0 ≤ tm_f τ1 449 0 := h.pl
    have hsz : tm_f σ1 1 0 = tm_f τ1 449 0 ∧ 0 ≤ tm_f τ1 449 0 ∧ tm_f τ1 449 0 ≤ 160 := h.sz
    cases g with
    | zero => exact absurd h2 (by omega)
    | succ g =>
    have hs9 := hs
    obtain ⟨s1, s2, s3, s4⟩ := hs9
    show tm_RR _ _ (fc_escape_B75 (fc_escape_L75 f) n w σ1) (fm_readName_B60 (fm_readName_L60 g) k0 τ1)
    have hend : tm_RR (tm_Pe q b σ τ) (tm_Dg q) (fc_escape_J157 n σ1) (fm_readName_J134 k0 τ1) := by
      have e9 : fm_readName_J134 k0 τ1 = fm_readName_J152 s τ1 := by
        unfold fm_readName_J134
        rcases hw with ⟨a1, a2, a3⟩ | ⟨a1, a2, a3⟩ | ⟨a1, a2, a3, a4⟩
        · rw [if_pos a1, a3]
        · rw [if_neg (by omega), if_pos a1, a3]
        · rw [if_neg a1, if_neg a2, a4]
      rw [e9]
      unfold fc_escape_J157 fm_readName_J152
      have hlt := h.fx.lt
      refine tm_RRbd (sm_known h ⟨hlt.1, by omega, by decide⟩ hs (Or.inl rfl)) (fun x σ' y τ' ⟨p1, p2, p3, p4, p5, p6⟩ => ?_) (fun σ' w' τ' ⟨d1, d2⟩ => ⟨_, _, rfl, d1, d2⟩)
      have g1 : tm_Fg σ τ σ1 (tm_wf τ1 452 0 s) := tm_Fg.mk hg.f hg.a (fun k k1 k2 k3 k4 k5 => by rw [tm_f_wf, if_neg (fun h9 => k2 h9.1)]; exact hg.g k k1 k2 k3 k4 k5) hg.b hg.n
      refine tm_RRrt ⟨p1, g1.ex p2 p3, (p3.f 457 (by decide) (by decide)).trans hw0, ?_, Or.inr (Or.inl ⟨p4, p5, p6⟩)⟩
      rw [p3.f 451 (by decide) (by decide)]
      exact hat
    unfold fc_escape_B75 fm_readName_B60
    rw [hpl.1, hsz.1]
    by_cases hp : tm_f τ1 451 0 < tm_f τ1 449 0
    · rw [if_pos hp, if_neg (by omega)]
      by_cases hk : k0 = 11
      · have hw1 : w = 1 := by omega
        have htx : tm_a σ1 100 (tm_f τ1 451 0) = tm_a τ1 102 (tm_f τ1 451 0) ∧ tm_ch (tm_a τ1 102 (tm_f τ1 451 0)) := h.tx _ hpl.2.1 hp
        have hch := htx.2
        unfold tm_ch at hch
        have hca : tm_a σ1 104 (tm_a τ1 102 (tm_f τ1 451 0)) = tm_a τ1 108 (tm_a τ1 102 (tm_f τ1 451 0)) ∧ _ ∧ _ := h.ca (tm_a τ1 102 (tm_f τ1 451 0)) (by omega) (by omega)
        rw [if_neg (by omega), if_pos hk, if_pos hp, tm_gx_t (by omega), tm_gx_t (by omega), tm_gx_t (by omega), tm_gx_t (by omega), htx.1, hca.1]
        by_cases h11 : tm_a τ1 108 (tm_a τ1 102 (tm_f τ1 451 0)) = 11
        · rw [if_pos h11, if_pos h11, tm_gx_t (by omega), fm_say_e _ (by omega), tm_bd_rt]
          unfold fc_escape_J113 fc_escape_J134
          (simp only [tm_f_wf, tm_f_wa, tm_a_wf, tm_a_wa, tm_n_wf, tm_n_wa, tm_k_wf, tm_k_wa, tm_c_wf, tm_c_wa, tm_z_wf, tm_z_wa, tm_u_wf, tm_u_wa, tm_v_wf, tm_v_wa, tm_lt_e, tm_ls_e, tm_bd_rt, tm_bd_th, Nat.reduceEqDiff, Int.reduceEq, Int.reduceNeg, false_and, and_false, true_and, and_true, and_self, if_false, if_true, reduceIte, ite_true, ite_false, reduceCtorEq])
          rw [hpl.1, s1]
          (repeat (first | refine tm_RRgi (by (first | omega | assumption)) ?_ | refine tm_RRgx (by (first | omega | assumption)) ?_ | refine tm_RRgb (by (first | omega | assumption)) ?_ | refine tm_RRgs (by (first | omega | assumption)) ?_ | refine tm_RRgz (by (first | omega | assumption)) ?_ | refine tm_RRgk (by (first | omega | assumption)) ?_ | refine tm_RRgn (by (first | omega | assumption)) ?_ | refine tm_RRgiR (by (first | omega | assumption)) ?_ | refine tm_RRgxR (by (first | omega | assumption)) ?_ | refine tm_RRgzR (by (first | omega | assumption)) ?_ | refine tm_RRt (by (first | omega | assumption)) ?_ | refine tm_RRf (by (first | omega | assumption)) ?_ | refine tm_RRtR (by (first | omega | assumption)) ?_ | refine tm_RRfR (by (first | omega | assumption)) ?_))
          have h3 : tm_Si q b 0 (tm_wf σ1 2 0 (tm_f τ1 451 0 + 1)) (tm_wf (tm_wf (tm_wf (tm_wa τ1 117 n (tm_a τ1 102 (tm_f τ1 451 0))) 464 0 (n + 1)) 451 0 (tm_f τ1 451 0 + 1)) 452 0 s) := (tm_Si.mk (fl := h.fl) (sz := h.sz) (pl := by (simp only [tm_f_wf, tm_f_wa, tm_a_wf, tm_a_wa, tm_n_wf, tm_n_wa, tm_k_wf, tm_k_wa, tm_c_wf, tm_c_wa, tm_z_wf, tm_z_wa, tm_u_wf, tm_u_wa, tm_v_wf, tm_v_wa, tm_lt_e, tm_ls_e, tm_bd_rt, tm_bd_th, Nat.reduceEqDiff, Int.reduceEq, Int.reduceNeg, false_and, and_false, true_and, and_true, and_self, if_false, if_true, reduceIte, ite_true, ite_false, reduceCtorEq]); omega) (st := h.st) (sp := h.sp) (gr := h.gr) (mc := h.mc) (ex := h.ex) (oc := h.oc) (wt := h.wt) (op := h.op) (cg := h.cg) (nn := h.nn) (dp := h.dp) (md := h.md) (bc := h.bc) (bz := h.bz) (tx := h.tx) (ca := h.ca) (pe := h.pe) (ou := h.ou) (cd := h.cd) (lo := h.lo) (ns := h.ns) (cs := h.cs) (fx := h.fx) (kp := h.kp) (kt := h.kt))
          by_cases hn : n = 11
          · (repeat (first | refine tm_RRgi (by (first | omega | assumption)) ?_ | refine tm_RRgx (by (first | omega | assumption)) ?_ | refine tm_RRgb (by (first | omega | assumption)) ?_ | refine tm_RRgs (by (first | omega | assumption)) ?_ | refine tm_RRgz (by (first | omega | assumption)) ?_ | refine tm_RRgk (by (first | omega | assumption)) ?_ | refine tm_RRgn (by (first | omega | assumption)) ?_ | refine tm_RRgiR (by (first | omega | assumption)) ?_ | refine tm_RRgxR (by (first | omega | assumption)) ?_ | refine tm_RRgzR (by (first | omega | assumption)) ?_ | refine tm_RRt (by (first | omega | assumption)) ?_ | refine tm_RRf (by (first | omega | assumption)) ?_ | refine tm_RRtR (by (first | omega | assumption)) ?_ | refine tm_RRfR (by (first | omega | assumption)) ?_))
            exact tm_RRfailS h3 (by decide) (fun σ' τ' hd => ⟨_, _, rfl, rfl, hd⟩)
          · (repeat (first | refine tm_RRgi (by (first | omega | assumption)) ?_ | refine tm_RRgx (by (first | omega | assumption)) ?_ | refine tm_RRgb (by (first | omega | assumption)) ?_ | refine tm_RRgs (by (first | omega | assumption)) ?_ | refine tm_RRgz (by (first | omega | assumption)) ?_ | refine tm_RRgk (by (first | omega | assumption)) ?_ | refine tm_RRgn (by (first | omega | assumption)) ?_ | refine tm_RRgiR (by (first | omega | assumption)) ?_ | refine tm_RRgxR (by (first | omega | assumption)) ?_ | refine tm_RRgzR (by (first | omega | assumption)) ?_ | refine tm_RRt (by (first | omega | assumption)) ?_ | refine tm_RRf (by (first | omega | assumption)) ?_ | refine tm_RRtR (by (first | omega | assumption)) ?_ | refine tm_RRfR (by (first | omega | assumption)) ?_))
            rw [show tm_f τ1 451 0 + 1 - 1 = tm_f τ1 451 0 by omega, htx.1]
            (repeat (first | refine tm_RRgi (by (first | omega | assumption)) ?_ | refine tm_RRgx (by (first | omega | assumption)) ?_ | refine tm_RRgb (by (first | omega | assumption)) ?_ | refine tm_RRgs (by (first | omega | assumption)) ?_ | refine tm_RRgz (by (first | omega | assumption)) ?_ | refine tm_RRgk (by (first | omega | assumption)) ?_ | refine tm_RRgn (by (first | omega | assumption)) ?_ | refine tm_RRgiR (by (first | omega | assumption)) ?_ | refine tm_RRgxR (by (first | omega | assumption)) ?_ | refine tm_RRgzR (by (first | omega | assumption)) ?_ | refine tm_RRt (by (first | omega | assumption)) ?_ | refine tm_RRf (by (first | omega | assumption)) ?_ | refine tm_RRtR (by (first | omega | assumption)) ?_ | refine tm_RRfR (by (first | omega | assumption)) ?_))
            refine ih g (n + 1) _ _ (h3.wa 107 n _ (by decide) (fun j j0 j1 => by omega)) ⟨rfl, by omega, by omega, fun i i0 i1 => ?_⟩ ?_ hw0 ?_ ?_ ?_
            · (simp only [tm_f_wf, tm_f_wa, tm_a_wf, tm_a_wa, tm_n_wf, tm_n_wa, tm_k_wf, tm_k_wa, tm_c_wf, tm_c_wa, tm_z_wf, tm_z_wa, tm_u_wf, tm_u_wa, tm_v_wf, tm_v_wa, tm_lt_e, tm_ls_e, tm_bd_rt, tm_bd_th, Nat.reduceEqDiff, Int.reduceEq, Int.reduceNeg, false_and, and_false, true_and, and_true, and_self, if_false, if_true, reduceIte, ite_true, ite_false, reduceCtorEq])
              by_cases hi : i = n
              · rw [if_pos hi, if_pos hi]
                exact ⟨rfl, htx.2⟩
              · rw [if_neg hi, if_neg hi]
                exact s4 i i0 (by omega)
            · refine hg.tr (tm_Fg.mk (fun k r k1 k2 k3 => ?_) (fun a i a1 a2 a9 => ?_) (fun k k1 k2 k3 k4 k5 => ?_) (fun a i a8 a1 a2 a3 a4 a5 => ?_) (Int.le_refl _))
              · rw [tm_f_wa, tm_f_wf, if_neg (by omega)]
              · rw [tm_a_wa, if_neg (fun h9 => a2 h9.1), tm_a_wf]
              · rw [tm_f_wf, if_neg (fun h9 => k1 h9.1), tm_f_wf, if_neg (fun h9 => k5 h9.1), tm_f_wa]
              · rw [tm_a_wf, tm_a_wf, tm_a_wa, if_neg (fun h9 => a5 h9.1)]
            · (simp only [tm_f_wf, tm_f_wa, tm_a_wf, tm_a_wa, tm_n_wf, tm_n_wa, tm_k_wf, tm_k_wa, tm_c_wf, tm_c_wa, tm_z_wf, tm_z_wa, tm_u_wf, tm_u_wa, tm_v_wf, tm_v_wa, tm_lt_e, tm_ls_e, tm_bd_rt, tm_bd_th, Nat.reduceEqDiff, Int.reduceEq, Int.reduceNeg, false_and, and_false, true_and, and_true, and_self, if_false, if_true, reduceIte, ite_true, ite_false, reduceCtorEq]); omega
            · (simp only [tm_f_wf, tm_f_wa, tm_a_wf, tm_a_wa, tm_n_wf, tm_n_wa, tm_k_wf, tm_k_wa, tm_c_wf, tm_c_wa, tm_z_wf, tm_z_wa, tm_u_wf, tm_u_wa, tm_v_wf, tm_v_wa, tm_lt_e, tm_ls_e, tm_bd_rt, tm_bd_th, Nat.reduceEqDiff, Int.reduceEq, Int.reduceNeg, false_and, and_false, true_and, and_true, and_self, if_false, if_true, reduceIte, ite_true, ite_false, reduceCtorEq]); omega
            · (simp only [tm_f_wf, tm_f_wa, tm_a_wf, tm_a_wa, tm_n_wf, tm_n_wa, tm_k_wf, tm_k_wa, tm_c_wf, tm_c_wa, tm_z_wf, tm_z_wa, tm_u_wf, tm_u_wa, tm_v_wf, tm_v_wa, tm_lt_e, tm_ls_e, tm_bd_rt, tm_bd_th, Nat.reduceEqDiff, Int.reduceEq, Int.reduceNeg, false_and, and_false, true_and, and_true, and_self, if_false, if_true, reduceIte, ite_true, ite_false, reduceCtorEq]); omega
        · rw [if_neg h11, if_neg h11]
          exact hend
      · have hw1 : w = 0 := by omega
        rw [if_pos hw1, if_neg hk]
        exact hend
    · rw [if_neg hp]
      by_cases hk : k0 = 11
      · rw [if_pos hk, if_neg hp]
        exact hend
      · rw [if_neg hk]
        exact hend
/-- a name behind an escape -/
theorem sm_escape {q : tm_Pm} {b : Int} {σ τ : tm_S} (h : tm_Si q b 0 σ τ) : tm_RR (tm_Pe q b σ τ) (tm_Dg q) (fc_escape σ) (fm_readName τ) := by
  have hpl := h.pl
  have hsz := h.sz
  unfold fc_escape fm_readName
  rw [hpl.1, hsz.1]
  by_cases hp : tm_f τ 451 0 = tm_f τ 449 0
  · rw [if_pos hp, if_pos hp]
    exact tm_RRfail h (by decide) (fun σ' τ' hd => ⟨_, _, rfl, rfl, hd⟩)
  · rw [if_neg hp, if_neg hp]
    have htx := h.tx _ hpl.2.1 (by omega)
    have hch := htx.2
    unfold tm_ch at hch
    have hca := h.ca (tm_a τ 102 (tm_f τ 451 0)) (by omega) (by omega)
    have hx : ∃ (k0 w s : Int), k0 = tm_a τ 108 (tm_a τ 102 (tm_f τ 451 0)) ∧ ((k0 = 11 ∧ w = 1 ∧ s = 2) ∨ (k0 = 10 ∧ w = 0 ∧ s = 2) ∨ (k0 ≠ 11 ∧ k0 ≠ 10 ∧ w = 0 ∧ s = 1)) ∧ fc_escape_J16 σ = fc_escape_L75 tm_FU 0 w (tm_wf σ 3 0 s) := by
      unfold fc_escape_J16 fc_escape_J42
      rw [hpl.1, tm_gx_t (by omega), tm_gx_t (by omega), htx.1, hca.1]
      by_cases h11 : tm_a τ 108 (tm_a τ 102 (tm_f τ 451 0)) = 11
      · rw [if_pos h11, if_neg (by decide)]
        exact ⟨_, 1, 2, rfl, Or.inl ⟨h11, rfl, rfl⟩, rfl⟩
      · rw [if_neg h11, if_pos rfl, tm_gx_t (by omega), tm_gx_t (by omega)]
        by_cases h10 : tm_a τ 108 (tm_a τ 102 (tm_f τ 451 0)) = 10
        · rw [if_pos h10]
          exact ⟨_, 0, 2, rfl, Or.inr (Or.inl ⟨h10, rfl, rfl⟩), rfl⟩
        · rw [if_neg h10]
          exact ⟨_, 0, 1, rfl, Or.inr (Or.inr ⟨h11, h10, rfl, rfl⟩), rfl⟩
    obtain ⟨k0, w, s, hk0, hw, e1⟩ := hx
    rw [e1]
    (simp only [tm_f_wf, tm_f_wa, tm_a_wf, tm_a_wa, tm_n_wf, tm_n_wa, tm_k_wf, tm_k_wa, tm_c_wf, tm_c_wa, tm_z_wf, tm_z_wa, tm_u_wf, tm_u_wa, tm_v_wf, tm_v_wa, tm_lt_e, tm_ls_e, tm_bd_rt, tm_bd_th, Nat.reduceEqDiff, Int.reduceEq, Int.reduceNeg, false_and, and_false, true_and, and_true, and_self, if_false, if_true, reduceIte, ite_true, ite_false, reduceCtorEq])
    rw [tm_gx_t (by omega), fm_say_e _ (by (simp only [tm_f_wf, tm_f_wa, tm_a_wf, tm_a_wa, tm_n_wf, tm_n_wa, tm_k_wf, tm_k_wa, tm_c_wf, tm_c_wa, tm_z_wf, tm_z_wa, tm_u_wf, tm_u_wa, tm_v_wf, tm_v_wa, tm_lt_e, tm_ls_e, tm_bd_rt, tm_bd_th, Nat.reduceEqDiff, Int.reduceEq, Int.reduceNeg, false_and, and_false, true_and, and_true, and_self, if_false, if_true, reduceIte, ite_true, ite_false, reduceCtorEq]); decide), tm_bd_rt]
    (simp only [tm_f_wf, tm_f_wa, tm_a_wf, tm_a_wa, tm_n_wf, tm_n_wa, tm_k_wf, tm_k_wa, tm_c_wf, tm_c_wa, tm_z_wf, tm_z_wa, tm_u_wf, tm_u_wa, tm_v_wf, tm_v_wa, tm_lt_e, tm_ls_e, tm_bd_rt, tm_bd_th, Nat.reduceEqDiff, Int.reduceEq, Int.reduceNeg, false_and, and_false, true_and, and_true, and_self, if_false, if_true, reduceIte, ite_true, ite_false, reduceCtorEq])
    rw [tm_gx_t (by omega), tm_gx_t (by omega), tm_gi_t (by omega), ← hk0]
    show tm_RR _ _ (fc_escape_B75 (fc_escape_L75 99999) 0 w (tm_wf σ 3 0 s)) _
    unfold fc_escape_B75 fc_escape_J113 fc_escape_J134
    (simp only [tm_f_wf, tm_f_wa, tm_a_wf, tm_a_wa, tm_n_wf, tm_n_wa, tm_k_wf, tm_k_wa, tm_c_wf, tm_c_wa, tm_z_wf, tm_z_wa, tm_u_wf, tm_u_wa, tm_v_wf, tm_v_wa, tm_lt_e, tm_ls_e, tm_bd_rt, tm_bd_th, Nat.reduceEqDiff, Int.reduceEq, Int.reduceNeg, false_and, and_false, true_and, and_true, and_self, if_false, if_true, reduceIte, ite_true, ite_false, reduceCtorEq])
    rw [hpl.1, hsz.1, if_pos (by omega), tm_gi_t (by omega), tm_gi_t (by omega), show tm_f τ 451 0 + 1 - 1 = tm_f τ 451 0 by omega, tm_gx_t (by omega), tm_gx_t (by decide), htx.1, tm_gb_t (by omega), tm_gi_t (by decide)]
    have h3 : tm_Si q b 0 (tm_wf (tm_wf σ 3 0 s) 2 0 (tm_f τ 451 0 + 1)) (tm_wf (tm_wf (tm_wf (tm_wa (tm_wf τ 464 0 0) 117 0 (tm_a τ 102 (tm_f τ 451 0))) 464 0 (0 + 1)) 451 0 (tm_f τ 451 0 + 1)) 452 0 s) := (tm_Si.mk (fl := h.fl) (sz := h.sz) (pl := by (simp only [tm_f_wf, tm_f_wa, tm_a_wf, tm_a_wa, tm_n_wf, tm_n_wa, tm_k_wf, tm_k_wa, tm_c_wf, tm_c_wa, tm_z_wf, tm_z_wa, tm_u_wf, tm_u_wa, tm_v_wf, tm_v_wa, tm_lt_e, tm_ls_e, tm_bd_rt, tm_bd_th, Nat.reduceEqDiff, Int.reduceEq, Int.reduceNeg, false_and, and_false, true_and, and_true, and_self, if_false, if_true, reduceIte, ite_true, ite_false, reduceCtorEq]); omega) (st := by (simp only [tm_f_wf, tm_f_wa, tm_a_wf, tm_a_wa, tm_n_wf, tm_n_wa, tm_k_wf, tm_k_wa, tm_c_wf, tm_c_wa, tm_z_wf, tm_z_wa, tm_u_wf, tm_u_wa, tm_v_wf, tm_v_wa, tm_lt_e, tm_ls_e, tm_bd_rt, tm_bd_th, Nat.reduceEqDiff, Int.reduceEq, Int.reduceNeg, false_and, and_false, true_and, and_true, and_self, if_false, if_true, reduceIte, ite_true, ite_false, reduceCtorEq]); omega) (sp := h.sp) (gr := h.gr) (mc := h.mc) (ex := h.ex) (oc := h.oc) (wt := h.wt) (op := h.op) (cg := h.cg) (nn := h.nn) (dp := h.dp) (md := h.md) (bc := h.bc) (bz := h.bz) (tx := h.tx) (ca := h.ca) (pe := h.pe) (ou := h.ou) (cd := h.cd) (lo := h.lo) (ns := h.ns) (cs := h.cs) (fx := h.fx) (kp := h.kp) (kt := h.kt))
    refine tm_escape_loop hw 99999 tm_FU (0 + 1) _ _ (h3.wa 107 0 _ (by decide) (fun j j0 j1 => by omega)) ⟨rfl, by decide, by decide, fun i i0 i1 => ?_⟩ ?_ rfl ?_ ?_ ?_
    · have hi : i = 0 := by omega
      subst hi
      exact ⟨rfl, htx.2⟩
    · refine tm_Fg.mk (fun k r k1 k2 k3 => ?_) (fun a i a1 a2 a9 => ?_) (fun k k1 k2 k3 k4 k5 => ?_) (fun a i a8 a1 a2 a3 a4 a5 => ?_) (Int.le_refl _)
      · rw [tm_f_wa, tm_f_wf, if_neg (by omega), tm_f_wf, if_neg (by omega)]
      · rw [tm_a_wa, if_neg (fun h9 => a2 h9.1), tm_a_wf, tm_a_wf]
      · rw [tm_f_wf, if_neg (fun h9 => k1 h9.1), tm_f_wf, if_neg (fun h9 => k5 h9.1), tm_f_wa, tm_f_wf, if_neg (fun h9 => k5 h9.1)]
      · rw [tm_a_wf, tm_a_wf, tm_a_wa, if_neg (fun h9 => a5 h9.1), tm_a_wf]
    · (simp only [tm_f_wf, tm_f_wa, tm_a_wf, tm_a_wa, tm_n_wf, tm_n_wa, tm_k_wf, tm_k_wa, tm_c_wf, tm_c_wa, tm_z_wf, tm_z_wa, tm_u_wf, tm_u_wa, tm_v_wf, tm_v_wa, tm_lt_e, tm_ls_e, tm_bd_rt, tm_bd_th, Nat.reduceEqDiff, Int.reduceEq, Int.reduceNeg, false_and, and_false, true_and, and_true, and_self, if_false, if_true, reduceIte, ite_true, ite_false, reduceCtorEq]); omega
    · (simp only [tm_f_wf, tm_f_wa, tm_a_wf, tm_a_wa, tm_n_wf, tm_n_wa, tm_k_wf, tm_k_wa, tm_c_wf, tm_c_wa, tm_z_wf, tm_z_wa, tm_u_wf, tm_u_wa, tm_v_wf, tm_v_wa, tm_lt_e, tm_ls_e, tm_bd_rt, tm_bd_th, Nat.reduceEqDiff, Int.reduceEq, Int.reduceNeg, false_and, and_false, true_and, and_true, and_self, if_false, if_true, reduceIte, ite_true, ite_false, reduceCtorEq]); omega
    · unfold tm_FU; (simp only [tm_f_wf, tm_f_wa, tm_a_wf, tm_a_wa, tm_n_wf, tm_n_wa, tm_k_wf, tm_k_wa, tm_c_wf, tm_c_wa, tm_z_wf, tm_z_wa, tm_u_wf, tm_u_wa, tm_v_wf, tm_v_wa, tm_lt_e, tm_ls_e, tm_bd_rt, tm_bd_th, Nat.reduceEqDiff, Int.reduceEq, Int.reduceNeg, false_and, and_false, true_and, and_true, and_self, if_false, if_true, reduceIte, ite_true, ite_false, reduceCtorEq]); omega
