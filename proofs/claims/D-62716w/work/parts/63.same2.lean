set_option maxRecDepth 100000
/-- two macros in the model's tables are the same -/
def tm_Eq (τ : tm_S) (a b : Int) : Prop := tm_a τ 124 a = tm_a τ 124 b ∧ tm_a τ 126 a = tm_a τ 126 b ∧ (∀ i : Int, 0 ≤ i → i < tm_a τ 124 a → tm_a τ 125 (13 * a + i) = tm_a τ 125 (13 * b + i)) ∧ ∀ i : Int, 0 ≤ i → i < tm_a τ 126 a → tm_a τ 127 (41 * a + i) = tm_a τ 127 (41 * b + i)
theorem fm_alike_body {τ : tm_S} {a b : Int} (ha : 0 ≤ a ∧ a < 60) (hb : 0 ≤ b ∧ b < 60) (hn : 0 ≤ tm_a τ 126 a ∧ tm_a τ 126 a ≤ 40) : ∀ (f : Nat) (w i : Int), (0 ≤ i ∧ i ≤ tm_a τ 126 a) → tm_a τ 126 a - i < (f : Int) → (w = 0 ∨ w = 1) →
    ((w = 1 ∧ ∀ j : Int, i ≤ j → j < tm_a τ 126 a → tm_a τ 127 (41 * a + j) = tm_a τ 127 (41 * b + j)) → fm_alike_L138 f a b w i τ = tm_rt 1 τ) ∧ (¬(w = 1 ∧ ∀ j : Int, i ≤ j → j < tm_a τ 126 a → tm_a τ 127 (41 * a + j) = tm_a τ 127 (41 * b + j)) → fm_alike_L138 f a b w i τ = tm_rt 0 τ) := by
  intro f
  induction f with
  | zero => intro w i h0 h1; exact absurd h1 (by omega)
  | succ f ih =>
    intro w i h0 h1 h2
    show (_ → fm_alike_B138 (fm_alike_L138 f) a b w i τ = _) ∧ (_ → fm_alike_B138 (fm_alike_L138 f) a b w i τ = _)
    unfold fm_alike_B138
    rw [tm_gx_t (show 0 ≤ a ∧ a < 61 by omega)]
    by_cases hi : i < tm_a τ 126 a
    · rw [if_pos hi]
      rcases h2 with rfl | rfl
      · rw [if_pos rfl, tm_gz_t (Or.inl rfl)]
        exact ⟨fun h9 => absurd h9.1 (by decide), fun _ => rfl⟩
      · rw [if_neg (show ¬ (1 : Int) = 0 by decide), tm_gi_t (show -2147483648 ≤ 41 * a ∧ 41 * a ≤ 2147483647 by omega), tm_gi_t (show -2147483648 ≤ 41 * a + i ∧ 41 * a + i ≤ 2147483647 by omega), tm_gx_t (show 0 ≤ 41 * a + i ∧ 41 * a + i < 2500 by omega), tm_gi_t (show -2147483648 ≤ 41 * b ∧ 41 * b ≤ 2147483647 by omega), tm_gi_t (show -2147483648 ≤ 41 * b + i ∧ 41 * b + i ≤ 2147483647 by omega), tm_gx_t (show 0 ≤ 41 * b + i ∧ 41 * b + i < 2500 by omega)]
        by_cases hq : tm_a τ 127 (41 * a + i) = tm_a τ 127 (41 * b + i)
        · rw [if_pos hq, tm_gi_t (by omega)]
          obtain ⟨i1, i2⟩ := ih 1 (i + 1) (by omega) (by omega) (Or.inr rfl)
          refine ⟨fun h9 => i1 ⟨rfl, fun j j0 j1 => h9.2 j (by omega) j1⟩, fun h9 => i2 fun h8 => h9 ⟨rfl, fun j j0 j1 => ?_⟩⟩
          by_cases hj : j = i
          · rw [hj]; exact hq
          · exact h8.2 j (by omega) j1
        · rw [if_neg hq, tm_gi_t (by omega)]
          obtain ⟨i1, i2⟩ := ih 0 (i + 1) (by omega) (by omega) (Or.inl rfl)
          exact ⟨fun h9 => absurd (h9.2 i (Int.le_refl _) hi) hq, fun _ => i2 fun h8 => absurd h8.1 (by decide)⟩
    · rw [if_neg hi]
      rcases h2 with rfl | rfl
      · rw [tm_gz_t (Or.inl rfl)]
        exact ⟨fun h9 => absurd h9.1 (by decide), fun _ => rfl⟩
      · rw [tm_gz_t (Or.inr rfl)]
        exact ⟨fun _ => rfl, fun h9 => absurd ⟨rfl, fun j j0 j1 => absurd j1 (by omega)⟩ h9⟩
theorem fm_alike_text {τ : tm_S} {a b : Int} (ha : 0 ≤ a ∧ a < 60) (hb : 0 ≤ b ∧ b < 60) (hn : 0 ≤ tm_a τ 126 a ∧ tm_a τ 126 a ≤ 40) (ht : 0 ≤ tm_a τ 124 a ∧ tm_a τ 124 a ≤ 12) : ∀ (f : Nat) (w i : Int), (0 ≤ i ∧ i ≤ tm_a τ 124 a) → tm_a τ 124 a - i < (f : Int) → (w = 0 ∨ w = 1) →
    ((w = 1 ∧ (∀ j : Int, i ≤ j → j < tm_a τ 124 a → tm_a τ 125 (13 * a + j) = tm_a τ 125 (13 * b + j)) ∧ ∀ j : Int, 0 ≤ j → j < tm_a τ 126 a → tm_a τ 127 (41 * a + j) = tm_a τ 127 (41 * b + j)) → fm_alike_L78 f a b w i τ = tm_rt 1 τ) ∧ (¬(w = 1 ∧ (∀ j : Int, i ≤ j → j < tm_a τ 124 a → tm_a τ 125 (13 * a + j) = tm_a τ 125 (13 * b + j)) ∧ ∀ j : Int, 0 ≤ j → j < tm_a τ 126 a → tm_a τ 127 (41 * a + j) = tm_a τ 127 (41 * b + j)) → fm_alike_L78 f a b w i τ = tm_rt 0 τ) := by
  have hFU : tm_a τ 126 a - 0 < ((tm_FU : Nat) : Int) := by unfold tm_FU; omega
  intro f
  induction f with
  | zero => intro w i h0 h1; exact absurd h1 (by omega)
  | succ f ih =>
    intro w i h0 h1 h2
    show (_ → fm_alike_B78 (fm_alike_L78 f) a b w i τ = _) ∧ (_ → fm_alike_B78 (fm_alike_L78 f) a b w i τ = _)
    unfold fm_alike_B78
    rw [tm_gx_t (show 0 ≤ a ∧ a < 61 by omega)]
    by_cases hi : i < tm_a τ 124 a
    · rw [if_pos hi]
      rcases h2 with rfl | rfl
      · rw [if_pos rfl]
        exact ⟨fun h9 => absurd h9.1 (by decide), fun _ => (fm_alike_body ha hb hn tm_FU 0 0 (by omega) hFU (Or.inl rfl)).2 (fun h8 => absurd h8.1 (by decide))⟩
      · rw [if_neg (show ¬ (1 : Int) = 0 by decide), tm_gi_t (show -2147483648 ≤ 13 * a ∧ 13 * a ≤ 2147483647 by omega), tm_gi_t (show -2147483648 ≤ 13 * a + i ∧ 13 * a + i ≤ 2147483647 by omega), tm_gx_t (show 0 ≤ 13 * a + i ∧ 13 * a + i < 800 by omega), tm_gi_t (show -2147483648 ≤ 13 * b ∧ 13 * b ≤ 2147483647 by omega), tm_gi_t (show -2147483648 ≤ 13 * b + i ∧ 13 * b + i ≤ 2147483647 by omega), tm_gx_t (show 0 ≤ 13 * b + i ∧ 13 * b + i < 800 by omega)]
        by_cases hq : tm_a τ 125 (13 * a + i) = tm_a τ 125 (13 * b + i)
        · rw [if_pos hq, tm_gi_t (by omega)]
          obtain ⟨i1, i2⟩ := ih 1 (i + 1) (by omega) (by omega) (Or.inr rfl)
          refine ⟨fun h9 => i1 ⟨rfl, fun j j0 j1 => h9.2.1 j (by omega) j1, h9.2.2⟩, fun h9 => i2 fun h8 => h9 ⟨rfl, fun j j0 j1 => ?_, h8.2.2⟩⟩
          by_cases hj : j = i
          · rw [hj]; exact hq
          · exact h8.2.1 j (by omega) j1
        · rw [if_neg hq, tm_gi_t (by omega)]
          obtain ⟨i1, i2⟩ := ih 0 (i + 1) (by omega) (by omega) (Or.inl rfl)
          exact ⟨fun h9 => absurd (h9.2.1 i (Int.le_refl _) hi) hq, fun _ => i2 fun h8 => absurd h8.1 (by decide)⟩
    · rw [if_neg hi]
      obtain ⟨b1, b2⟩ := fm_alike_body ha hb hn tm_FU w 0 (by omega) hFU h2
      exact ⟨fun h9 => b1 ⟨h9.1, h9.2.2⟩, fun h9 => b2 fun h8 => h9 ⟨h8.1, fun j j0 j1 => absurd j1 (by omega), h8.2⟩⟩
theorem fm_alike_e {τ : tm_S} {m n : Int} (hm : 6000 ≤ m ∧ m < 6060) (hn : 6000 ≤ n ∧ n < 6060) (h1 : 0 ≤ tm_a τ 126 (m - 6000) ∧ tm_a τ 126 (m - 6000) ≤ 40) (h2 : 0 ≤ tm_a τ 124 (m - 6000) ∧ tm_a τ 124 (m - 6000) ≤ 12) : (tm_Eq τ (m - 6000) (n - 6000) → fm_alike m n τ = tm_rt 1 τ) ∧ (¬ tm_Eq τ (m - 6000) (n - 6000) → fm_alike m n τ = tm_rt 0 τ) := by
  unfold fm_alike
  by_cases he : m = n
  · rw [if_pos he]
    refine ⟨fun _ => rfl, fun h9 => absurd ?_ h9⟩
    rw [he]
    exact ⟨rfl, rfl, fun _ _ _ => rfl, fun _ _ _ => rfl⟩
  · have hFU : tm_a τ 124 (m - 6000) - 0 < ((tm_FU : Nat) : Int) := by unfold tm_FU; omega
    rw [if_neg he, if_neg (show ¬ m < 6000 by omega), if_neg (show ¬ n < 6000 by omega), tm_gi_t (show -2147483648 ≤ m - 6000 ∧ m - 6000 ≤ 2147483647 by omega), tm_lt_e, tm_gi_t (show -2147483648 ≤ n - 6000 ∧ n - 6000 ≤ 2147483647 by omega), tm_lt_e, tm_gx_t (show 0 ≤ m - 6000 ∧ m - 6000 < 61 by omega), tm_gx_t (show 0 ≤ n - 6000 ∧ n - 6000 < 61 by omega)]
    obtain ⟨z1, z2⟩ := fm_alike_text (τ := τ) (a := m - 6000) (b := n - 6000) (by omega) (by omega) h1 h2 tm_FU 0 0 (by omega) hFU (Or.inl rfl)
    obtain ⟨o1, o2⟩ := fm_alike_text (τ := τ) (a := m - 6000) (b := n - 6000) (by omega) (by omega) h1 h2 tm_FU 1 0 (by omega) hFU (Or.inr rfl)
    have z := z2 (fun h9 => absurd h9.1 (by decide))
    by_cases ht : tm_a τ 124 (m - 6000) = tm_a τ 124 (n - 6000)
    · rw [if_pos ht, tm_gx_t (show 0 ≤ m - 6000 ∧ m - 6000 < 61 by omega), tm_gx_t (show 0 ≤ n - 6000 ∧ n - 6000 < 61 by omega)]
      by_cases hb : tm_a τ 126 (m - 6000) = tm_a τ 126 (n - 6000)
      · rw [if_pos hb]
        exact ⟨fun h9 => o1 ⟨rfl, h9.2.2.1, h9.2.2.2⟩, fun h9 => o2 fun h8 => h9 ⟨ht, hb, h8.2.1, h8.2.2⟩⟩
      · rw [if_neg hb]
        exact ⟨fun h9 => absurd h9.2.1 hb, fun _ => z⟩
    · rw [if_neg ht]
      exact ⟨fun h9 => absurd h9.1 ht, fun _ => z⟩
