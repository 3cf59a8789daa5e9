set_option maxRecDepth 100000
theorem tm_Ma.row {N M : Int} {σ τ : tm_S} {r j p : Int} (h : tm_Ma N σ τ r j) (i : Int) (i0 : 0 ≤ i) (i1 : i < tm_a τ 126 j) (_ : M = p) : tm_PR N 4 (tm_a σ (tm_f σ 321 r) i) (tm_a τ 127 (41 * j + i)) := (h.b3 i i0 i1).up (Int.le_refl _) h.p.2.2
theorem sm_meansSame {q : tm_Pm} {b x y x2 y2 : Int} {σ τ : tm_S} (h : tm_Si q b 0 σ τ) (t1 : tm_TR (tm_f τ 459 0) x y) (t2 : tm_TR (tm_f τ 459 0) x2 y2) : ∃ w : Int, (w = 0 ∨ w = 1) ∧ fc_meansSame x x2 σ = tm_rt w σ ∧ fm_alike (tm_mm τ y) (tm_mm τ y2) τ = tm_rt w τ := by
  have hnn := h.nn
  have hmc := h.mc
  obtain ⟨s1, -⟩ := fc_signOf_e h t1
  obtain ⟨s2, -⟩ := fc_signOf_e h t2
  have d1 := tm_TM h t1
  have d2 := tm_TM h t2
  unfold fc_meansSame fc_meansSame_J24
  rw [s1, tm_bd_rt, s2, tm_bd_rt]
  by_cases g1 : 1000 ≤ tm_mm τ y ∧ tm_mm τ y < 6000
  · rw [if_pos g1, if_neg (show ¬ tm_mm τ y - 1000 = -1 by omega)]
    unfold fm_alike
    by_cases he : tm_mm τ y = tm_mm τ y2
    · rw [if_pos he, if_pos (show 1000 ≤ tm_mm τ y2 ∧ tm_mm τ y2 < 6000 by omega), if_pos (show tm_mm τ y - 1000 = tm_mm τ y2 - 1000 by omega)]
      exact ⟨1, Or.inr rfl, rfl, rfl⟩
    · rw [if_neg he, if_pos g1.2]
      by_cases g2 : 1000 ≤ tm_mm τ y2 ∧ tm_mm τ y2 < 6000
      · rw [if_pos g2, if_neg (show ¬ tm_mm τ y - 1000 = tm_mm τ y2 - 1000 by omega)]
        exact ⟨0, Or.inl rfl, rfl, rfl⟩
      · rw [if_neg g2, if_neg (show ¬ tm_mm τ y - 1000 = -1 by omega)]
        exact ⟨0, Or.inl rfl, rfl, rfl⟩
  · rw [if_neg g1, if_pos (show (-1 : Int) = -1 from rfl)]
    by_cases g2 : 1000 ≤ tm_mm τ y2 ∧ tm_mm τ y2 < 6000
    · rw [if_pos g2, if_neg (show ¬ tm_mm τ y2 - 1000 = -1 by omega), if_neg (show ¬ (-1 : Int) = tm_mm τ y2 - 1000 by omega)]
      unfold fm_alike
      rw [if_neg (show ¬ tm_mm τ y = tm_mm τ y2 by omega)]
      refine ⟨0, Or.inl rfl, rfl, ?_⟩
      by_cases g3 : tm_mm τ y < 6000
      · rw [if_pos g3]
      · rw [if_neg g3, if_pos g2.2]
    · rw [if_neg g2, if_pos (show (-1 : Int) = -1 from rfl)]
      sorry
