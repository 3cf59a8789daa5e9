set_option maxRecDepth 100000
/-- two rows of tokens are the same -/
theorem fc_alike_e {σ : tm_S} {u v : Int} (hu : tm_k σ u = 21) (hv : tm_k σ v = 21) (hn : 0 ≤ tm_n σ u ∧ tm_n σ u ≤ 100) : ((tm_n σ u = tm_n σ v ∧ ∀ i : Int, 0 ≤ i → i < tm_n σ u → tm_a σ u i = tm_a σ v i) → fc_X7_alike u v σ = tm_rt 1 σ) ∧ (¬(tm_n σ u = tm_n σ v ∧ ∀ i : Int, 0 ≤ i → i < tm_n σ u → tm_a σ u i = tm_a σ v i) → fc_X7_alike u v σ = tm_rt 0 σ) := by
  have loop : ∀ (f : Nat) (w i : Int), (0 ≤ i ∧ i ≤ tm_n σ u) → tm_n σ u - i < (f : Int) → (w = 0 ∨ w = 1) → (w = 1 → tm_n σ u = tm_n σ v) →
      ((w = 1 ∧ ∀ j : Int, i ≤ j → j < tm_n σ u → tm_a σ u j = tm_a σ v j) → fc_X7_alike_L15 f u v w i σ = tm_rt 1 σ) ∧ (¬(w = 1 ∧ ∀ j : Int, i ≤ j → j < tm_n σ u → tm_a σ u j = tm_a σ v j) → fc_X7_alike_L15 f u v w i σ = tm_rt 0 σ) := by
    intro f
    induction f with
    | zero => intro w i h0 h1; exact absurd h1 (by omega)
    | succ f ih =>
      intro w i h0 h1 h2 h3
      show (_ → fc_X7_alike_B15 (fc_X7_alike_L15 f) u v w i σ = _) ∧ (_ → fc_X7_alike_B15 (fc_X7_alike_L15 f) u v w i σ = _)
      unfold fc_X7_alike_B15
      rw [tm_gk_t hu]
      by_cases hi : i < tm_n σ u
      · rw [if_pos hi]
        rcases h2 with rfl | rfl
        · rw [if_pos rfl, tm_gz_t (Or.inl rfl)]
          exact ⟨fun h9 => absurd h9.1 (by decide), fun _ => rfl⟩
        · have hl := h3 rfl
          rw [if_neg (show ¬ (1 : Int) = 0 by decide), tm_gx_t (show 0 ≤ i ∧ i < tm_n σ u by omega), tm_gk_t hv, tm_gx_t (show 0 ≤ i ∧ i < tm_n σ v by omega)]
          by_cases hq : tm_a σ u i = tm_a σ v i
          · rw [if_pos hq, tm_gi_t (by omega)]
            obtain ⟨i1, i2⟩ := ih 1 (i + 1) (by omega) (by omega) (Or.inr rfl) h3
            refine ⟨fun h9 => i1 ⟨rfl, fun j j0 j1 => h9.2 j (by omega) j1⟩, fun h9 => i2 fun h8 => h9 ⟨rfl, fun j j0 j1 => ?_⟩⟩
            by_cases hj : j = i
            · rw [hj]; exact hq
            · exact h8.2 j (by omega) j1
          · rw [if_neg hq, tm_gi_t (by omega)]
            obtain ⟨i1, i2⟩ := ih 0 (i + 1) (by omega) (by omega) (Or.inl rfl) (fun h9 => absurd h9 (by decide))
            exact ⟨fun h9 => absurd (h9.2 i (Int.le_refl _) hi) hq, fun _ => i2 fun h8 => absurd h8.1 (by decide)⟩
      · rw [if_neg hi]
        rcases h2 with rfl | rfl
        · rw [tm_gz_t (Or.inl rfl)]
          exact ⟨fun h9 => absurd h9.1 (by decide), fun _ => rfl⟩
        · rw [tm_gz_t (Or.inr rfl)]
          exact ⟨fun _ => rfl, fun h9 => absurd ⟨rfl, fun j j0 j1 => absurd j1 (by omega)⟩ h9⟩
  have hFU : tm_n σ u - 0 < ((tm_FU : Nat) : Int) := by unfold tm_FU; omega
  unfold fc_X7_alike
  rw [tm_gk_t hu, tm_gk_t hv]
  by_cases hl : tm_n σ u = tm_n σ v
  · rw [if_pos hl]
    obtain ⟨i1, i2⟩ := loop tm_FU 1 0 (by omega) hFU (Or.inr rfl) (fun _ => hl)
    exact ⟨fun h9 => i1 ⟨rfl, h9.2⟩, fun h9 => i2 fun h8 => h9 ⟨hl, h8.2⟩⟩
  · rw [if_neg hl]
    obtain ⟨i1, i2⟩ := loop tm_FU 0 0 (by omega) hFU (Or.inl rfl) (fun h9 => absurd h9 (by decide))
    exact ⟨fun h9 => absurd h9.1 hl, fun _ => i2 fun h8 => absurd h8.1 (by decide)⟩
