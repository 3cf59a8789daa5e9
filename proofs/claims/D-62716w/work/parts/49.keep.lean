set_option maxRecDepth 100000
theorem tm_Fc.rf (σ τ : tm_S) : tm_Fc σ τ σ τ := ⟨fun _ _ _ _ _ => rfl, fun _ _ _ _ => rfl, fun _ _ => rfl, fun _ _ _ _ _ _ _ => rfl⟩
/-- one more change is kept -/
theorem tm_Si.kept {q : tm_Pm} {b : Int} {σ τ : tm_S} {r c o m0 w0 cat : Int} (h : tm_Si q b 0 σ τ) (ho : tm_Of (tm_f τ 459 0) σ r c o) (hg : 1 ≤ tm_f τ 466 0) (hC : tm_f τ 467 0 < 60)
    (hm : (o < 200 ∧ tm_MR (tm_f τ 459 0) (tm_f τ 471 0) σ τ m0 w0) ∨ (200 ≤ o ∧ cat = w0 ∧ 0 ≤ w0 ∧ w0 ≤ 15)) :
    tm_Si q b 0 (tm_wf (tm_wf (tm_wf (tm_wf (tm_wf (tm_wf σ 64 (200 + tm_f τ 467 0) r) 65 (200 + tm_f τ 467 0) m0) 66 (200 + tm_f τ 467 0) c) 67 (200 + tm_f τ 467 0) cat) 68 (200 + tm_f τ 467 0) (tm_f τ 466 0)) 22 0 (tm_f τ 467 0 + 1)) (tm_wf (tm_wa (tm_wa (tm_wa τ 120 (tm_f τ 467 0) (tm_f τ 466 0)) 121 (tm_f τ 467 0) o) 122 (tm_f τ 467 0) w0) 467 0 (tm_f τ 467 0 + 1)) := by
  have hcg := h.cg
  have hcs := h.cs
  have hok := tm_Of.k h ho
  refine (tm_Si.mk (fl := h.fl) (sz := h.sz) (pl := h.pl) (st := h.st) (sp := h.sp) (gr := h.gr) (mc := h.mc) (ex := h.ex) (oc := h.oc) (wt := h.wt) (op := h.op) (cg := by (simp only [tm_f_wf, tm_f_wa, tm_a_wf, tm_a_wa, tm_n_wf, tm_n_wa, tm_k_wf, tm_k_wa, tm_c_wf, tm_c_wa, tm_z_wf, tm_z_wa, tm_u_wf, tm_u_wa, tm_v_wf, tm_v_wa, tm_lt_e, tm_ls_e, tm_bd_rt, tm_bd_th, Nat.reduceEqDiff, Int.reduceEq, Int.reduceNeg, false_and, and_false, true_and, and_true, and_self, if_false, if_true, reduceIte, ite_true, ite_false, reduceCtorEq]); omega) (nn := h.nn) (dp := h.dp) (md := h.md) (bc := h.bc) (bz := h.bz) (tx := h.tx) (ca := h.ca) (pe := h.pe) (ou := h.ou) (cd := h.cd) (lo := h.lo) (ns := h.ns) (cs := ?_) (fx := h.fx) (kp := h.kp) (kt := h.kt))
  generalize hC9 : tm_f τ 467 0 = C at *
  generalize hG9 : tm_f τ 466 0 = G at *
  have kt : tm_Tk (tm_f τ 471 0) τ (tm_wf (tm_wa (tm_wa (tm_wa τ 120 C G) 121 C o) 122 C w0) 467 0 (C + 1)) := (((tm_Tk.rf _ τ).wa 120 C G (by decide)).wa 121 C o (by decide)).wa 122 C w0 (by decide)
  have kh : tm_Kh σ (tm_wf (tm_wf (tm_wf (tm_wf (tm_wf (tm_wf σ 64 (200 + C) r) 65 (200 + C) m0) 66 (200 + C) c) 67 (200 + C) cat) 68 (200 + C) G) 22 0 (C + 1)) := ((((((tm_Kh.rf σ).wf 64 _ _ (Or.inl (by decide))).wf 65 _ _ (Or.inl (by decide))).wf 66 _ _ (Or.inl (by decide))).wf 67 _ _ (Or.inl (by decide))).wf 68 _ _ (Or.inl (by decide))).wf 22 _ _ (Or.inl (by decide))
  show tm_Cs (tm_f τ 459 0) (tm_f τ 471 0) (C + 1) (tm_f τ 466 0) _ _
  rw [hG9]
  refine tm_Cs.mk (fun i i0 i1 => ?_) (fun i j i0 i1 i2 => ?_) (fun i i0 i1 => ?_)
  · (simp only [tm_f_wf, tm_f_wa, tm_a_wf, tm_a_wa, tm_n_wf, tm_n_wa, tm_k_wf, tm_k_wa, tm_c_wf, tm_c_wa, tm_z_wf, tm_z_wa, tm_u_wf, tm_u_wa, tm_v_wf, tm_v_wa, tm_lt_e, tm_ls_e, tm_bd_rt, tm_bd_th, Nat.reduceEqDiff, Int.reduceEq, Int.reduceNeg, false_and, and_false, true_and, and_true, and_self, if_false, if_true, reduceIte, ite_true, ite_false, reduceCtorEq])
    by_cases hi : i = C
    · subst hi
      rw [if_pos rfl, if_pos rfl]
      exact ⟨rfl, hg, Int.le_refl _⟩
    · rw [if_neg (by omega), if_neg hi]
      exact hcs.gr i i0 (by omega)
  · (simp only [tm_f_wf, tm_f_wa, tm_a_wf, tm_a_wa, tm_n_wf, tm_n_wa, tm_k_wf, tm_k_wa, tm_c_wf, tm_c_wa, tm_z_wf, tm_z_wa, tm_u_wf, tm_u_wa, tm_v_wf, tm_v_wa, tm_lt_e, tm_ls_e, tm_bd_rt, tm_bd_th, Nat.reduceEqDiff, Int.reduceEq, Int.reduceNeg, false_and, and_false, true_and, and_true, and_self, if_false, if_true, reduceIte, ite_true, ite_false, reduceCtorEq])
    by_cases hj : j = C
    · rw [if_pos hj]
      by_cases hi : i = C
      · rw [if_pos hi]
        exact Int.le_refl _
      · rw [if_neg hi]
        exact (hcs.gr i i0 (by omega)).2.2
    · rw [if_neg hj, if_neg (by omega)]
      exact hcs.up i j i0 i1 (by omega)
  · unfold tm_Ch
    (simp only [tm_f_wf, tm_f_wa, tm_a_wf, tm_a_wa, tm_n_wf, tm_n_wa, tm_k_wf, tm_k_wa, tm_c_wf, tm_c_wa, tm_z_wf, tm_z_wa, tm_u_wf, tm_u_wa, tm_v_wf, tm_v_wa, tm_lt_e, tm_ls_e, tm_bd_rt, tm_bd_th, Nat.reduceEqDiff, Int.reduceEq, Int.reduceNeg, false_and, and_false, true_and, and_true, and_self, if_false, if_true, reduceIte, ite_true, ite_false, reduceCtorEq])
    by_cases hi : i = C
    · subst hi
      rw [if_pos rfl, if_pos rfl, if_pos rfl, if_pos rfl, if_pos rfl, if_pos rfl]
      rcases ho with ⟨a1, a2, a3, a4⟩ | ⟨a1, a2, a3, a4⟩
      · rcases hm with ⟨b1, b2⟩ | b
        · exact Or.inl ⟨a1, a2, a3, a4, b2.go (Int.le_refl _) (Int.le_refl _) kh kt⟩
        · have := h.nn
          omega
      · rcases hm with ⟨b1, b2⟩ | ⟨b1, b2, b3, b4⟩
        · omega
        · exact Or.inr ⟨a1, a2, a3, a4, b2, b3, b4⟩
    · rw [if_neg (by omega), if_neg (by omega), if_neg (by omega), if_neg (by omega), if_neg (by omega), if_neg (by omega)]
      rcases hcs.of i i0 (by omega) with ⟨c1, c2, c3, c4, c5⟩ | c9
      · exact Or.inl ⟨c1, c2, c3, c4, c5.go (Int.le_refl _) (Int.le_refl _) kh kt⟩
      · exact Or.inr c9
theorem sm_keep {q : tm_Pm} {b : Int} {σ τ : tm_S} {r c o : Int} (m : Int) (h : tm_Si q b 0 σ τ) (ho : tm_Of (tm_f τ 459 0) σ r c o) :
    (∃ σ' τ' : tm_S, fc_keep r c σ = tm_rt 0 σ' ∧ fm_change o m τ = fm_change_J155 o m τ' ∧ tm_Si q b 0 σ' τ' ∧ tm_Fc σ τ σ' τ' ∧ tm_Kh σ σ' ∧ (∀ k : Int, tm_nr σ' k = tm_nr σ k)) ∨ ∃ σ' τ' : tm_S, fc_keep r c σ = tm_th 0 σ' ∧ fm_change o m τ = tm_rt 0 τ' ∧ tm_De q σ' τ' := by
  have hcg := h.cg
  have hgr := h.gr
  have hnn := h.nn
  have hok := tm_Of.k h ho
  have hFU : tm_f τ 467 0 - 0 < ((tm_FU : Nat) : Int) := by unfold tm_FU; omega
  have hFU2 : tm_f τ 467 0 - 1 + 1 < ((tm_FU : Nat) : Int) := by unfold tm_FU; omega
  unfold fc_keep fm_change
  rw [hgr.1]
  by_cases hg : tm_f τ 466 0 = 0
  · rw [if_pos hg, if_pos hg]
    obtain ⟨w, w1, w2, w3⟩ := tm_change_loop (τ := τ) (o := o) (m := m) hcg.2 tm_FU 1 0 (by omega) hFU (Or.inr rfl)
    have hw : w = 1 := w2.mpr (Or.inl rfl)
    subst hw
    rw [w3]
    unfold fm_change_B16
    rw [if_neg (Int.lt_irrefl _), if_neg (by decide)]
    exact Or.inl ⟨σ, τ, rfl, rfl, h, tm_Fc.rf σ τ, tm_Kh.rf σ, fun _ => rfl⟩
  · rw [if_neg hg, if_neg hg, hcg.1, tm_gi_t (by omega), tm_lt_e]
    obtain ⟨w, w1, w2, w3⟩ := tm_change_loop (τ := τ) (o := o) (m := m) hcg.2 tm_FU 0 0 (by omega) hFU (Or.inl rfl)
    obtain ⟨l1, l2⟩ := tm_keep_loop h ho tm_FU (tm_f τ 467 0 - 1) (by omega) hFU2
    rw [w3]
    unfold fm_change_B16
    rw [if_neg (Int.lt_irrefl _)]
    by_cases hex : ∃ j : Int, 0 ≤ j ∧ j < tm_f τ 467 0 ∧ tm_a τ 120 j = tm_f τ 466 0 ∧ tm_a τ 121 j = o
    · have hw : w = 1 := w2.mpr (Or.inr hex)
      rw [if_neg (by omega)]
      obtain ⟨j, j0, j1, j2⟩ := hex
      rw [l1 ⟨j, j0, by omega, j2⟩]
      exact Or.inl ⟨σ, τ, rfl, rfl, h, tm_Fc.rf σ τ, tm_Kh.rf σ, fun _ => rfl⟩
    · have hw : w = 0 := by
        rcases w1 with w1 | w1
        · exact w1
        · rcases w2.mp w1 with h9 | h9
          · exact absurd h9 (by decide)
          · exact absurd h9 hex
      rw [if_pos hw, l2 (fun ⟨j, j0, j1, j2⟩ => hex ⟨j, j0, by omega, j2⟩)]
      unfold fc_keep_J68
      rw [hcg.1]
      by_cases h60 : tm_f τ 467 0 = 60
      · rw [if_pos h60, if_pos h60, h.fail, tm_bd_th, tm_stop_0 h.fl.2, tm_bd_rt]
        exact Or.inr ⟨_, _, rfl, rfl, h.die (by decide)⟩
      · rw [if_neg h60, if_neg h60]
        unfold fc_keep_J82
        have hch := h.fx.ch (tm_f τ 467 0) hcg.2.1 (by omega)
        rw [hcg.1, tm_gx_t (by omega), tm_lt_e, tm_gk_t hch]
        have hfc : ∀ m0 cat w0 : Int, tm_Fc σ τ (tm_wf (tm_wf (tm_wf (tm_wf (tm_wf (tm_wf σ 64 (200 + tm_f τ 467 0) r) 65 (200 + tm_f τ 467 0) m0) 66 (200 + tm_f τ 467 0) c) 67 (200 + tm_f τ 467 0) cat) 68 (200 + tm_f τ 467 0) (tm_f τ 466 0)) 22 0 (tm_f τ 467 0 + 1)) (tm_wf (tm_wa (tm_wa (tm_wa τ 120 (tm_f τ 467 0) (tm_f τ 466 0)) 121 (tm_f τ 467 0) o) 122 (tm_f τ 467 0) w0) 467 0 (tm_f τ 467 0 + 1)) := by
          intro m0 cat w0
          refine tm_Fc.mk (fun k p k1 k2 k3 => ?_) (fun a i a1 a2 => rfl) (fun k k1 => ?_) (fun a i a1 a2 a3 a4 a5 => ?_)
          · rw [tm_f_wf, if_neg (by omega), tm_f_wf, if_neg (by omega), tm_f_wf, if_neg (by omega), tm_f_wf, if_neg (by omega), tm_f_wf, if_neg (by omega), tm_f_wf, if_neg (by omega)]
          · rw [tm_f_wf, if_neg (fun h9 => k1 h9.1)]
            rfl
          · rw [tm_a_wf, tm_a_wa, if_neg (fun h9 => a5 h9.1), tm_a_wa, if_neg (fun h9 => a4 h9.1), tm_a_wa, if_neg (fun h9 => a3 h9.1)]
        have hkh : ∀ m0 cat : Int, tm_Kh σ (tm_wf (tm_wf (tm_wf (tm_wf (tm_wf (tm_wf σ 64 (200 + tm_f τ 467 0) r) 65 (200 + tm_f τ 467 0) m0) 66 (200 + tm_f τ 467 0) c) 67 (200 + tm_f τ 467 0) cat) 68 (200 + tm_f τ 467 0) (tm_f τ 466 0)) 22 0 (tm_f τ 467 0 + 1)) := fun m0 cat => ((((((tm_Kh.rf σ).wf 64 _ _ (Or.inl (by decide))).wf 65 _ _ (Or.inl (by decide))).wf 66 _ _ (Or.inl (by decide))).wf 67 _ _ (Or.inl (by decide))).wf 68 _ _ (Or.inl (by decide))).wf 22 _ _ (Or.inl (by decide))
        have hca := h.ca c hok.2.1 hok.2.2.1
        unfold fc_keep_J110 fm_change_J144
        (simp only [tm_f_wf, tm_f_wa, tm_a_wf, tm_a_wa, tm_n_wf, tm_n_wa, tm_k_wf, tm_k_wa, tm_c_wf, tm_c_wa, tm_z_wf, tm_z_wa, tm_u_wf, tm_u_wa, tm_v_wf, tm_v_wa, tm_lt_e, tm_ls_e, tm_bd_rt, tm_bd_th, Nat.reduceEqDiff, Int.reduceEq, Int.reduceNeg, false_and, and_false, true_and, and_true, and_self, if_false, if_true, reduceIte, ite_true, ite_false, reduceCtorEq])
        rw [tm_gk_t hch, tm_gx_t (by omega), tm_gx_t (by omega), tm_gx_t (by omega)]
        rcases ho with ⟨a1, a2, a3, a4⟩ | ⟨a1, a2, a3, a4⟩
        · have hna := h.ns.nm o a1 a2
          have hr0 := hna.r0
          have ho : tm_Of (tm_f τ 459 0) σ r c o := Or.inl ⟨a1, a2, a3, a4⟩
          rw [if_neg (by omega), a3, tm_gk_t hna.kd, if_pos (by omega), tm_gx_t (by omega), tm_gx_t (by omega), hcg.1, hgr.1, tm_gi_t (by omega)]
          rw [← a3]
          simp only [tm_gk_t hch]
          refine Or.inl ⟨_, _, rfl, ?_, h.kept (w0 := tm_a τ 115 o) ho (by omega) (by omega) (Or.inl ⟨by omega, ?_⟩), hfc _ _ _, hkh _ _, fun _ => rfl⟩
          · first | rfl | (rw [tm_gx_t (by omega)]; rfl) | (rw [tm_gx_t (by omega), tm_gi_t (by omega)])
          · rw [a3]
            exact hna.me
        · have ho : tm_Of (tm_f τ 459 0) σ r c o := Or.inr ⟨a1, a2, a3, a4⟩
          have hco := h.ca (o - 200) (by omega) (by omega)
          rw [if_pos (by omega), if_neg (by omega), tm_gx_t (by omega), tm_gi_t (by omega), tm_gx_t (by omega), hcg.1, hgr.1, tm_gi_t (by omega)]
          simp only [tm_gk_t hch]
          refine Or.inl ⟨_, _, rfl, ?_, h.kept (w0 := tm_a τ 108 (o - 200)) ho (by omega) (by omega) (Or.inr ⟨a1, ?_, hco.2.1, hco.2.2⟩), hfc _ _ _, hkh _ _, fun _ => rfl⟩
          · first | rfl | (rw [tm_gx_t (by omega)]; rfl) | (rw [tm_gx_t (by omega), tm_gi_t (by omega)])
          · rw [a4]
            exact hco.1
