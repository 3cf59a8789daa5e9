set_option maxRecDepth 100000
/-- the row's end is that piece of the text -/
def tm_En (τ : tm_S) (a m p0 n k : Int) : Prop := ∀ j : Int, k ≤ j → j < n → tm_a τ 139 (42 * a + (tm_a τ 140 a - n + j)) = tm_a τ 125 (13 * m + (p0 + j))
theorem tm_ends {q : tm_Pm} {b a m T p0 p1 : Int} {σ τ : tm_S} (h : tm_Si q b 0 σ τ) (ha : 0 ≤ a ∧ a < 4) (hm : 0 ≤ m ∧ m < 60) (hp : 0 ≤ p0 ∧ p0 ≤ p1 ∧ p1 ≤ 12) (ar : tm_Ar (tm_f τ 459 0) σ τ a)
    (hT : tm_k σ T = 21 ∧ p1 ≤ tm_n σ T ∧ ∀ i : Int, p0 ≤ i → i < p1 → tm_PR (tm_f τ 459 0) 0 (tm_a σ T i) (tm_a τ 125 (13 * m + i))) :
    ((p1 - p0 ≤ tm_a τ 140 a ∧ tm_En τ a m p0 (p1 - p0) 0) → fc_X3_endsWith (130 + a) T p0 p1 σ = tm_rt 1 σ ∧ fm_isBehind a m p0 p1 τ = tm_rt 1 τ) ∧
    (¬(p1 - p0 ≤ tm_a τ 140 a ∧ tm_En τ a m p0 (p1 - p0) 0) → fc_X3_endsWith (130 + a) T p0 p1 σ = tm_rt 0 σ ∧ fm_isBehind a m p0 p1 τ = tm_rt 0 τ) := by
  have hnn := h.nn
  obtain ⟨r1, r2, r3, r4⟩ := h.fx.rw (130 + a) (by omega)
  have e20 : 130 + a + 20 = 150 + a := by omega
  rw [e20] at r2 r3 r4
  have an := ar.n
  generalize hn : p1 - p0 = n at *
  have loop : ∀ (f g : Nat) (v k : Int), (0 ≤ k ∧ k ≤ n) → n - k < (f : Int) → n - k < (g : Int) → (v = 0 ∨ v = 1) → (v = 1 → n ≤ tm_a τ 140 a) →
      ((v = 1 ∧ tm_En τ a m p0 n k) → fc_X3_endsWith_L24 f (130 + a) T p0 n v k σ = tm_rt 1 σ ∧ fm_isBehind_L27 g a m p0 n v k τ = tm_rt 1 τ) ∧
      (¬(v = 1 ∧ tm_En τ a m p0 n k) → fc_X3_endsWith_L24 f (130 + a) T p0 n v k σ = tm_rt 0 σ ∧ fm_isBehind_L27 g a m p0 n v k τ = tm_rt 0 τ) := by
    intro f
    induction f with
    | zero => intro g v k h0 h1; exact absurd h1 (by omega)
    | succ f ih =>
      intro g v k h0 h1 h2 h3 h4
      cases g with
      | zero => exact absurd h2 (by omega)
      | succ g =>
      show (_ → fc_X3_endsWith_B24 (fc_X3_endsWith_L24 f) (130 + a) T p0 n v k σ = _ ∧ fm_isBehind_B27 (fm_isBehind_L27 g) a m p0 n v k τ = _) ∧ (_ → fc_X3_endsWith_B24 (fc_X3_endsWith_L24 f) (130 + a) T p0 n v k σ = _ ∧ fm_isBehind_B27 (fm_isBehind_L27 g) a m p0 n v k τ = _)
      unfold fc_X3_endsWith_B24 fm_isBehind_B27
      by_cases hk : k < n
      · rw [if_pos hk, if_pos hk]
        rcases h3 with rfl | rfl
        · rw [if_pos rfl, if_pos rfl, tm_gz_t (Or.inl rfl), tm_gz_t (Or.inl rfl)]
          exact ⟨fun h9 => absurd h9.1 (by decide), fun _ => ⟨rfl, rfl⟩⟩
        · have hsz := h4 rfl
          obtain ⟨t1, t2, t3⟩ := hT
          have ht := t3 (p0 + k) (by omega) (by omega)
          have hr := ar.t (tm_a τ 140 a - n + k) (by omega) (by omega)
          have hinj := tm_PR.inj hr ht (by omega)
          rw [if_neg (show ¬ (1 : Int) = 0 by decide), if_neg (show ¬ (1 : Int) = 0 by decide), tm_gk_t r1, an.1, tm_gi_t (by omega), tm_gi_t (by omega), r2, tm_gk_t r3, tm_gx_t (by omega), tm_gi_t (by omega), tm_gk_t t1, tm_gx_t (by omega)]
          have hM : ∀ A B : tm_R, (tm_gi (42 * a) <| tm_gx a 4 <| tm_gi ((42 * a) + (tm_a τ 140 a)) <| tm_gi (((42 * a) + (tm_a τ 140 a)) - n) <| tm_gi ((((42 * a) + (tm_a τ 140 a)) - n) + k) <| tm_gx ((((42 * a) + (tm_a τ 140 a)) - n) + k) 168 <| tm_gi (13 * m) <| tm_gi ((13 * m) + p0) <| tm_gi (((13 * m) + p0) + k) <| tm_gx (((13 * m) + p0) + k) 800 <| if (tm_a τ 139 ((((42 * a) + (tm_a τ 140 a)) - n) + k)) = (tm_a τ 125 (((13 * m) + p0) + k)) then A else B) = if tm_a τ 139 (42 * a + (tm_a τ 140 a - n + k)) = tm_a τ 125 (13 * m + (p0 + k)) then A else B := by
            intro A B
            rw [tm_gi_t (by omega), tm_gx_t (by omega), tm_gi_t (by omega), tm_gi_t (by omega), tm_gi_t (by omega), tm_gx_t (by omega), tm_gi_t (by omega), tm_gi_t (by omega), tm_gi_t (by omega), tm_gx_t (by omega), show 42 * a + tm_a τ 140 a - n + k = 42 * a + (tm_a τ 140 a - n + k) by omega, show 13 * m + p0 + k = 13 * m + (p0 + k) by omega]
          rw [hM]
          have gi1 : ∀ X : tm_R, tm_gi (k + 1) X = X := fun X => tm_gi_t (by omega)
          simp only [gi1]
          by_cases hq : tm_a τ 139 (42 * a + (tm_a τ 140 a - n + k)) = tm_a τ 125 (13 * m + (p0 + k))
          · rw [if_pos (hinj.mpr hq), if_pos hq]
            obtain ⟨i1, i2⟩ := ih g 1 (k + 1) (by omega) (by omega) (by omega) (Or.inr rfl) h4
            refine ⟨fun h9 => i1 ⟨rfl, fun j j0 j1 => h9.2 j (by omega) j1⟩, fun h9 => i2 fun h8 => h9 ⟨trivial, fun j j0 j1 => ?_⟩⟩
            by_cases hj : j = k
            · rw [hj]; exact hq
            · exact h8.2 j (by omega) j1
          · rw [if_neg (fun h9 => hq (hinj.mp h9)), if_neg hq]
            obtain ⟨i1, i2⟩ := ih g 0 (k + 1) (by omega) (by omega) (by omega) (Or.inl rfl) (fun h9 => absurd h9 (by decide))
            exact ⟨fun h9 => absurd (h9.2 k (Int.le_refl _) hk) hq, fun _ => i2 fun h8 => absurd h8.1 (by decide)⟩
      · rw [if_neg hk, if_neg hk]
        rcases h3 with rfl | rfl
        · rw [tm_gz_t (Or.inl rfl), tm_gz_t (Or.inl rfl)]
          exact ⟨fun h9 => absurd h9.1 (by decide), fun _ => ⟨rfl, rfl⟩⟩
        · rw [tm_gz_t (Or.inr rfl), tm_gz_t (Or.inr rfl)]
          exact ⟨fun _ => ⟨rfl, rfl⟩, fun h9 => absurd ⟨rfl, fun j j0 j1 => absurd j1 (by omega)⟩ h9⟩
  have hFU : n - 0 < ((tm_FU : Nat) : Int) := by unfold tm_FU; omega
  unfold fc_X3_endsWith fm_isBehind
  rw [hn, tm_gi_t (by omega), tm_gi_t (by omega), tm_lt_e, tm_lt_e, tm_gk_t r1, tm_gx_t (by omega), an.1]
  by_cases hs : tm_a τ 140 a < n
  · rw [if_pos hs, if_pos hs]
    obtain ⟨i1, i2⟩ := loop tm_FU tm_FU 0 0 (by omega) hFU hFU (Or.inl rfl) (fun h9 => absurd h9 (by decide))
    exact ⟨fun h9 => absurd h9.1 (by omega), fun _ => i2 fun h8 => absurd h8.1 (by decide)⟩
  · rw [if_neg hs, if_neg hs]
    obtain ⟨i1, i2⟩ := loop tm_FU tm_FU 1 0 (by omega) hFU hFU (Or.inr rfl) (fun _ => by omega)
    exact ⟨fun h9 => i1 ⟨rfl, h9.2⟩, fun h9 => i2 fun h8 => h9 ⟨by omega, h8.2⟩⟩
