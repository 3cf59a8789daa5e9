set_option maxRecDepth 100000
theorem tm_Ma.row {N M : Int} {σ τ : tm_S} {r j p : Int} (h : tm_Ma N σ τ r j) (i : Int) (i0 : 0 ≤ i) (i1 : i < tm_a τ 126 j) (_ : M = p) : tm_PR N 4 (tm_a σ (tm_f σ 321 r) i) (tm_a τ 127 (41 * j + i)) := (h.b3 i i0 i1).up (Int.le_refl _) h.p.2.2
theorem sm_meansSame {q : tm_Pm} {b x y x2 y2 : Int} {σ τ : tm_S} (h : tm_Si q b 0 σ τ) (t1 : tm_TR (tm_f τ 459 0) x y) (t2 : tm_TR (tm_f τ 459 0) x2 y2) : ∃ w : Int, (w = 0 ∨ w = 1) ∧ fc_meansSame x x2 σ = tm_rt w σ ∧ fm_alike (tm_mm τ y) (tm_mm τ y2) τ = tm_rt w τ := by
  have hnn := h.nn
  have hmc := h.mc
  obtain ⟨s1, -⟩ := fc_signOf_e h t1
  obtain ⟨s2, -⟩ := fc_signOf_e h t2
  have d1 := tm_TM h t1
  have d2 := tm_TM h t2
  unfold fc_meansSame fc_meansSame_J24
  rw [s1, tm_bd_rt, s2, tm_bd_rt]
  by_cases g1 : 1000 ≤ tm_mm τ y ∧ tm_mm τ y < 6000
  · rw [if_pos g1, if_neg (show ¬ tm_mm τ y - 1000 = -1 by omega)]
    unfold fm_alike
    by_cases he : tm_mm τ y = tm_mm τ y2
    · rw [if_pos he, if_pos (show 1000 ≤ tm_mm τ y2 ∧ tm_mm τ y2 < 6000 by omega), if_pos (show tm_mm τ y - 1000 = tm_mm τ y2 - 1000 by omega)]
      exact ⟨1, Or.inr rfl, rfl, rfl⟩
    · rw [if_neg he, if_pos g1.2]
      by_cases g2 : 1000 ≤ tm_mm τ y2 ∧ tm_mm τ y2 < 6000
      · rw [if_pos g2, if_neg (show ¬ tm_mm τ y - 1000 = tm_mm τ y2 - 1000 by omega)]
        exact ⟨0, Or.inl rfl, rfl, rfl⟩
      · rw [if_neg g2, if_neg (show ¬ tm_mm τ y - 1000 = -1 by omega)]
        exact ⟨0, Or.inl rfl, rfl, rfl⟩
  · rw [if_neg g1, if_pos (show (-1 : Int) = -1 from rfl)]
    by_cases g2 : 1000 ≤ tm_mm τ y2 ∧ tm_mm τ y2 < 6000
    · rw [if_pos g2, if_neg (show ¬ tm_mm τ y2 - 1000 = -1 by omega), if_neg (show ¬ (-1 : Int) = tm_mm τ y2 - 1000 by omega)]
      unfold fm_alike
      rw [if_neg (show ¬ tm_mm τ y = tm_mm τ y2 by omega)]
      refine ⟨0, Or.inl rfl, rfl, ?_⟩
      by_cases g3 : tm_mm τ y < 6000
      · rw [if_pos g3]
      · rw [if_neg g3, if_pos g2.2]
    · rw [if_neg g2, if_pos (show (-1 : Int) = -1 from rfl)]
      rcases d1 with ⟨a1, a2, a3, a4⟩ | ⟨a1, a2, m1⟩
      · have := a1.1
        have := a1.2.1
        omega
      rcases d2 with ⟨b1, b2, b3, b4⟩ | ⟨b1, b2, m2⟩
      · have := b1.1
        have := b1.2.1
        omega
      rw [fc_meaningOf_e h t1, tm_bd_rt, fc_meaningOf_e h t2]
      simp only [tm_bd_rt]
      rw [fc_meaningOf_e h t2, tm_bd_rt]
      -- what the second one is
      have hr2 : (tm_mc σ x2 = -1 ∧ tm_mm τ y2 = 0) ∨ (400 ≤ tm_mc σ x2 ∧ tm_mc σ x2 < 418 ∧ tm_mm τ y2 = tm_mc σ x2 - 399) ∨ (1000 ≤ tm_mc σ x2 ∧ tm_k σ (tm_mc σ x2) = 6 ∧ 6000 ≤ tm_mm τ y2 ∧ tm_mm τ y2 < 6000 + tm_f τ 471 0 ∧ tm_Ma (tm_f τ 459 0) σ τ (tm_mc σ x2) (tm_mm τ y2 - 6000)) := by
        rcases m2 with c | c | ⟨c0, c1, c2, c3, c4⟩ | ⟨c0, c1, c2, c3, c4, c5⟩
        · exact Or.inl c
        · exact Or.inr (Or.inl (by omega))
        · have := c3.1
          have := c3.2.1
          omega
        · exact Or.inr (Or.inr ⟨c0, c2, c3, c4, c5⟩)
      have ne0 : ∀ m9 : Int, m9 < 6000 → m9 ≠ tm_mm τ y2 → fm_alike m9 (tm_mm τ y2) τ = tm_rt 0 τ := by
        intro m9 h8 h9
        unfold fm_alike
        rw [if_neg h9, if_pos h8]
      have eq1 : fm_alike (tm_mm τ y2) (tm_mm τ y2) τ = tm_rt 1 τ := by
        unfold fm_alike
        rw [if_pos rfl]
      have q2 : tm_mc σ x2 = -1 ∨ tm_k σ (tm_mc σ x2) ≠ 0 := by
        rcases hr2 with c | c | c
        · exact Or.inl c.1
        · exact Or.inr (by rw [h.fx.cm _ c.1 c.2.1]; decide)
        · exact Or.inr (by rw [c.2.1]; decide)
      rcases m1 with ⟨c0, c1⟩ | ⟨c0, c1, c2⟩ | ⟨c0, c1, c2, c3, c4⟩ | ⟨c0, c1, c2, c3, c4, c5⟩
      · rw [c0, c1, if_pos (show (-1 : Int) < 0 by decide)]
        by_cases hz : tm_mc σ x2 < 0
        · have e2 : tm_mm τ y2 = 0 := by omega
          rw [if_pos hz, ← e2, eq1]
          exact ⟨1, Or.inr rfl, rfl, rfl⟩
        · rw [if_neg hz, ne0 0 (by decide) (by omega)]
          exact ⟨0, Or.inl rfl, rfl, rfl⟩
      · have k1 := h.fx.cm (tm_mc σ x) (by omega) (by omega)
        have q1 : tm_mc σ x = -1 ∨ tm_k σ (tm_mc σ x) ≠ 0 := Or.inr (by rw [k1]; decide)
        rw [if_neg (show ¬ tm_mc σ x < 0 by omega)]
        by_cases hz : tm_mc σ x2 < 0
        · rw [if_pos hz, ne0 _ (by omega) (by omega)]
          exact ⟨0, Or.inl rfl, rfl, rfl⟩
        · rw [if_neg hz, k1]
          unfold tm_m3 fc_X2_isLike
          rw [if_pos rfl, tm_gq_t q1, tm_gq_t q2]
          by_cases he : tm_mc σ x = tm_mc σ x2
          · have e2 : tm_mm τ y = tm_mm τ y2 := by omega
            rw [if_pos he, tm_bd_rt, if_neg (by decide), e2, eq1]
            exact ⟨1, Or.inr rfl, rfl, rfl⟩
          · rw [if_neg he, tm_bd_rt, if_pos rfl, ne0 _ (by omega) (by omega)]
            exact ⟨0, Or.inl rfl, rfl, rfl⟩
      · have := c3.1
        have := c3.2.1
        omega
      · have neM : tm_mm τ y2 < 6000 → fm_alike (tm_mm τ y) (tm_mm τ y2) τ = tm_rt 0 τ := by
          intro h9
          unfold fm_alike
          rw [if_neg (show ¬ tm_mm τ y = tm_mm τ y2 by omega), if_neg (show ¬ tm_mm τ y < 6000 by omega), if_pos h9]
        rw [if_neg (show ¬ tm_mc σ x < 0 by omega), c2]
        unfold tm_m3 fc_X7_isLike
        rcases hr2 with ⟨e0, e1⟩ | ⟨e0, e1, e2⟩ | ⟨e0, e1, e2, e3, e4⟩
        · rw [if_pos (show tm_mc σ x2 < 0 by omega), neM (by omega)]
          exact ⟨0, Or.inl rfl, rfl, rfl⟩
        · have k2 := h.fx.cm (tm_mc σ x2) e0 e1
          rw [if_neg (show ¬ tm_mc σ x2 < 0 by omega), if_neg (show ¬ (6 : Nat) = 39 by decide), if_neg (show ¬ (6 : Nat) = 5 by decide), if_pos (show (6 : Nat) = 6 from rfl), if_neg (show ¬ tm_k σ (tm_mc σ x2) = 6 by rw [k2]; decide), tm_gm_t (Or.inr (Or.inr (Or.inr k2))), tm_bd_rt, if_pos rfl, neM (by omega)]
          exact ⟨0, Or.inl rfl, rfl, rfl⟩
        · have f1 := c5.t2
          have f2 := e4.t2
          have f3 := c5.b2
          have f4 := e4.b2
          obtain ⟨u1, u2⟩ := fc_alike_e e4.t1 c5.t1 (by omega)
          obtain ⟨w1, w2⟩ := fc_alike_e e4.b1 c5.b1 (by omega)
          obtain ⟨z1, z2⟩ := fm_alike_e (τ := τ) (m := tm_mm τ y) (n := tm_mm τ y2) (by omega) (by omega) f3.2 f1.2
          have hT : (tm_n σ (tm_f σ 320 (tm_mc σ x2)) = tm_n σ (tm_f σ 320 (tm_mc σ x)) ∧ ∀ i : Int, 0 ≤ i → i < tm_n σ (tm_f σ 320 (tm_mc σ x2)) → tm_a σ (tm_f σ 320 (tm_mc σ x2)) i = tm_a σ (tm_f σ 320 (tm_mc σ x)) i) ↔ (tm_a τ 124 (tm_mm τ y - 6000) = tm_a τ 124 (tm_mm τ y2 - 6000) ∧ ∀ i : Int, 0 ≤ i → i < tm_a τ 124 (tm_mm τ y - 6000) → tm_a τ 125 (13 * (tm_mm τ y - 6000) + i) = tm_a τ 125 (13 * (tm_mm τ y2 - 6000) + i)) := by
            constructor
            · rintro ⟨g8, g9⟩
              refine ⟨by omega, fun i i0 i1 => ?_⟩
              exact ((tm_PR.inj (c5.t3 i i0 (by omega)).1 (e4.t3 i i0 (by omega)).1 (by omega)).mp (g9 i i0 (by omega)).symm)
            · rintro ⟨g8, g9⟩
              refine ⟨by omega, fun i i0 i1 => ?_⟩
              exact ((tm_PR.inj (c5.t3 i i0 (by omega)).1 (e4.t3 i i0 (by omega)).1 (by omega)).mpr (g9 i i0 (by omega))).symm
          have hB : (tm_n σ (tm_f σ 321 (tm_mc σ x2)) = tm_n σ (tm_f σ 321 (tm_mc σ x)) ∧ ∀ i : Int, 0 ≤ i → i < tm_n σ (tm_f σ 321 (tm_mc σ x2)) → tm_a σ (tm_f σ 321 (tm_mc σ x2)) i = tm_a σ (tm_f σ 321 (tm_mc σ x)) i) ↔ (tm_a τ 126 (tm_mm τ y - 6000) = tm_a τ 126 (tm_mm τ y2 - 6000) ∧ ∀ i : Int, 0 ≤ i → i < tm_a τ 126 (tm_mm τ y - 6000) → tm_a τ 127 (41 * (tm_mm τ y - 6000) + i) = tm_a τ 127 (41 * (tm_mm τ y2 - 6000) + i)) := by
            constructor
            · rintro ⟨g8, g9⟩
              refine ⟨by omega, fun i i0 i1 => ?_⟩
              exact ((tm_PR.inj (c5.row (M := 0) (p := 0) i i0 (by omega) rfl) (e4.row (M := 0) (p := 0) i i0 (by omega) rfl) (by omega)).mp (g9 i i0 (by omega)).symm)
            · rintro ⟨g8, g9⟩
              refine ⟨by omega, fun i i0 i1 => ?_⟩
              exact ((tm_PR.inj (c5.row (M := 0) (p := 0) i i0 (by omega) rfl) (e4.row (M := 0) (p := 0) i i0 (by omega) rfl) (by omega)).mpr (g9 i i0 (by omega))).symm
          rw [if_neg (show ¬ tm_mc σ x2 < 0 by omega), if_neg (show ¬ (6 : Nat) = 39 by decide), if_neg (show ¬ (6 : Nat) = 5 by decide), if_pos (show (6 : Nat) = 6 from rfl), if_pos e1, tm_gk_t c2]
          by_cases hTT : (tm_n σ (tm_f σ 320 (tm_mc σ x2)) = tm_n σ (tm_f σ 320 (tm_mc σ x)) ∧ ∀ i : Int, 0 ≤ i → i < tm_n σ (tm_f σ 320 (tm_mc σ x2)) → tm_a σ (tm_f σ 320 (tm_mc σ x2)) i = tm_a σ (tm_f σ 320 (tm_mc σ x)) i)
          · rw [u1 hTT, tm_bd_rt, if_neg (show ¬ (1 : Int) = 0 by decide), tm_gk_t e1, tm_gk_t c2]
            by_cases hBB : (tm_n σ (tm_f σ 321 (tm_mc σ x2)) = tm_n σ (tm_f σ 321 (tm_mc σ x)) ∧ ∀ i : Int, 0 ≤ i → i < tm_n σ (tm_f σ 321 (tm_mc σ x2)) → tm_a σ (tm_f σ 321 (tm_mc σ x2)) i = tm_a σ (tm_f σ 321 (tm_mc σ x)) i)
            · rw [w1 hBB, tm_bd_rt, if_neg (show ¬ (1 : Int) = 0 by decide), tm_bd_rt, if_neg (show ¬ (1 : Int) = 0 by decide), z1 ⟨(hT.mp hTT).1, (hB.mp hBB).1, (hT.mp hTT).2, (hB.mp hBB).2⟩]
              exact ⟨1, Or.inr rfl, rfl, rfl⟩
            · rw [w2 hBB, tm_bd_rt, if_pos rfl, tm_bd_rt, if_pos rfl, z2 (fun h9 => hBB (hB.mpr ⟨h9.2.1, h9.2.2.2⟩))]
              exact ⟨0, Or.inl rfl, rfl, rfl⟩
          · rw [u2 hTT, tm_bd_rt, if_pos rfl, tm_bd_rt, if_pos rfl, z2 (fun h9 => hTT (hT.mpr ⟨h9.1, h9.2.2.1⟩))]
            exact ⟨0, Or.inl rfl, rfl, rfl⟩
