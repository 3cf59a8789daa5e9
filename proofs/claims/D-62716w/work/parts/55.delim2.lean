set_option maxRecDepth 100000
/-- the level behind the first n tokens of argument a -/
def tm_LV (τ : tm_S) (a : Int) : Nat → Int
  | 0 => 0
  | n + 1 => tm_LV τ a n + tm_lev (tm_a τ 139 (42 * a + (n : Int)))
theorem tm_LV_eq {τ τ' : tm_S} {a : Int} : ∀ n : Nat, (∀ i : Int, 0 ≤ i → i < (n : Int) → tm_a τ' 139 (42 * a + i) = tm_a τ 139 (42 * a + i)) → tm_LV τ' a n = tm_LV τ a n := by
  intro n
  induction n with
  | zero => intro _; rfl
  | succ n ih =>
    intro h
    show tm_LV τ' a n + tm_lev _ = tm_LV τ a n + tm_lev _
    rw [ih (fun i i0 i1 => h i i0 (by omega)), h (n : Int) (by omega) (by omega)]
theorem tm_lev_in (y : Int) : -1 ≤ tm_lev y ∧ tm_lev y ≤ 1 := by
  unfold tm_lev
  (repeat' split) <;> omega
/-- tokens that are no braces don't change the level -/
theorem tm_LV_flat {τ : tm_S} {a : Int} (s : Nat) : ∀ n : Nat, (∀ i : Int, (s : Int) ≤ i → i < (s + n : Nat) → tm_lev (tm_a τ 139 (42 * a + i)) = 0) → tm_LV τ a (s + n) = tm_LV τ a s := by
  intro n
  induction n with
  | zero => intro _; rfl
  | succ n ih =>
    intro h
    show tm_LV τ a (s + n) + tm_lev (tm_a τ 139 (42 * a + ((s + n : Nat) : Int))) = _
    rw [ih (fun i i0 i1 => h i i0 (by omega)), h _ (by omega) (by omega)]
    omega
/-- whether it is one group -/
theorem tm_isGroup {q : tm_Pm} {b a : Int} {σ τ : tm_S} (h : tm_Si q b 0 σ τ) (ha : 0 ≤ a ∧ a < 4) (ar : tm_Ar (tm_f τ 459 0) σ τ a) (hp : ∀ k : Nat, (k : Int) ≤ tm_a τ 140 a → 0 ≤ tm_LV τ a k) :
    ∀ (f g : Nat) (k : Nat), (k : Int) ≤ tm_a τ 140 a → 1 ≤ k → 0 < tm_LV τ a k → (∃ j : Nat, k ≤ j ∧ (j : Int) ≤ tm_a τ 140 a ∧ tm_LV τ a j = 0) → tm_a τ 140 a - k < (f : Int) → tm_a τ 140 a - k < (g : Int) →
      (fc_X3_isGroup_L4 f (130 + a) (tm_LV τ a k) (k : Int) σ = tm_rt 1 σ ∧ 2 ≤ tm_a τ 140 a ∧ fm_longArgument_L162 g a (tm_a τ 140 a) (k : Int) (tm_LV τ a k) τ = fm_longArgument_L226 tm_FU a (tm_a τ 140 a) 1 τ) ∨
      (fc_X3_isGroup_L4 f (130 + a) (tm_LV τ a k) (k : Int) σ = tm_rt 0 σ ∧ fm_longArgument_L162 g a (tm_a τ 140 a) (k : Int) (tm_LV τ a k) τ = tm_rt 0 τ) := by
  have hnn := h.nn
  obtain ⟨r1, r2, r3, r4⟩ := h.fx.rw (130 + a) (by omega)
  have e20 : 130 + a + 20 = 150 + a := by omega
  rw [e20] at r2 r3 r4
  have an := ar.n
  intro f
  induction f with
  | zero => intro g k h0 _ _ _ h1; exact absurd h1 (by omega)
  | succ f ih =>
    intro g k h0 hk1 hlv ⟨j, j0, j1, j2⟩ h1 h2
    cases g with
    | zero => exact absurd h2 (by omega)
    | succ g =>
    have hks : (k : Int) < tm_a τ 140 a := by
      by_cases hkj : k = j
      · rw [hkj] at hlv; omega
      · omega
    show (fc_X3_isGroup_B4 (fc_X3_isGroup_L4 f) (130 + a) (tm_LV τ a k) (k : Int) σ = _ ∧ _ ∧ fm_longArgument_B162 (fm_longArgument_L162 g) a (tm_a τ 140 a) (k : Int) (tm_LV τ a k) τ = _) ∨ (fc_X3_isGroup_B4 (fc_X3_isGroup_L4 f) (130 + a) (tm_LV τ a k) (k : Int) σ = _ ∧ fm_longArgument_B162 (fm_longArgument_L162 g) a (tm_a τ 140 a) (k : Int) (tm_LV τ a k) τ = _)
    unfold fc_X3_isGroup_B4 fm_longArgument_B162 fm_longArgument_J205
    have ht := ar.t (k : Int) (by omega) hks
    have hlv2 : tm_lev (tm_a σ (150 + a) (k : Int)) = tm_lev (tm_a τ 139 (42 * a + (k : Int))) := by
      rcases ht with ⟨c1, -⟩ | c | c
      · rw [c1]
      · unfold tm_lev; (repeat' split) <;> first | rfl | (exfalso; omega)
      · omega
    have hnx : tm_LV τ a (k + 1) = tm_LV τ a k + tm_lev (tm_a τ 139 (42 * a + (k : Int))) := rfl
    have hin := tm_lev_in (tm_a τ 139 (42 * a + (k : Int)))
    have hpk := hp (k + 1) (by omega)
    -- levels are small
    have hsm : ∀ n : Nat, tm_LV τ a n ≤ (n : Int) := by
      intro n
      induction n with
      | zero => exact Int.le_refl _
      | succ n ih2 =>
        have := tm_lev_in (tm_a τ 139 (42 * a + (n : Int)))
        show tm_LV τ a n + _ ≤ _
        omega
    have hs1 := hsm (k + 1)
    obtain ⟨l1, l2, l3⟩ := tm_lev_if (tm_a τ 139 (42 * a + (k : Int)))
    rw [tm_gk_t r1, an.1, if_pos hks, r2, tm_gk_t r3, tm_gx_t (by omega), fc_levelOf_e, tm_bd_rt, hlv2, ← hnx, tm_gi_t (by omega), tm_lt_e]
    have hM : (tm_gi (42 * a) <| tm_gi ((42 * a) + (k : Int)) <| tm_gx ((42 * a) + (k : Int)) 168 <| tm_lt (tm_a τ 139 ((42 * a) + (k : Int))) fun x174 => tm_bd (fm_isCharacter x174 1 τ) fun u181 σ181 => if u181 = 0 then tm_bd (fm_isCharacter x174 2 σ181) fun u194 σ194 => if u194 = 0 then tm_gi (tm_LV τ a k + 0) <| tm_lt (tm_LV τ a k + 0) fun x206 => tm_gi ((k : Int) + 1) <| if 0 < x206 then fm_longArgument_L162 g a (tm_a τ 140 a) ((k : Int) + 1) x206 σ194 else if ((k : Int) + 1) = tm_a τ 140 a then fm_longArgument_L226 tm_FU a (tm_a τ 140 a) 1 σ194 else tm_rt 0 σ194 else tm_gi (tm_LV τ a k + -1) <| tm_lt (tm_LV τ a k + -1) fun x206 => tm_gi ((k : Int) + 1) <| if 0 < x206 then fm_longArgument_L162 g a (tm_a τ 140 a) ((k : Int) + 1) x206 σ194 else if ((k : Int) + 1) = tm_a τ 140 a then fm_longArgument_L226 tm_FU a (tm_a τ 140 a) 1 σ194 else tm_rt 0 σ194 else tm_gi (tm_LV τ a k + 1) <| tm_lt (tm_LV τ a k + 1) fun x206 => tm_gi ((k : Int) + 1) <| if 0 < x206 then fm_longArgument_L162 g a (tm_a τ 140 a) ((k : Int) + 1) x206 σ181 else if ((k : Int) + 1) = tm_a τ 140 a then fm_longArgument_L226 tm_FU a (tm_a τ 140 a) 1 σ181 else tm_rt 0 σ181) =
        if 0 < tm_LV τ a (k + 1) then fm_longArgument_L162 g a (tm_a τ 140 a) ((k : Int) + 1) (tm_LV τ a (k + 1)) τ else if ((k : Int) + 1) = tm_a τ 140 a then fm_longArgument_L226 tm_FU a (tm_a τ 140 a) 1 τ else tm_rt 0 τ := by
      have gi1 : ∀ X : tm_R, tm_gi ((k : Int) + 1) X = X := fun X => tm_gi_t (by omega)
      simp only [gi1, tm_lt_e]
      rw [tm_gi_t (by omega), tm_gi_t (by omega), tm_gx_t (by omega), fm_isCharacter_e, tm_bd_rt, l1, hnx]
      rw [fm_isCharacter_e, tm_bd_rt, l2]
      rcases l3 with l3 | l3 | l3
      · simp only [l3, Int.reduceEq, Int.reduceNeg, if_true, if_false, reduceIte, reduceCtorEq]
        rw [tm_gi_t (by omega)]
      · simp only [l3, Int.reduceEq, Int.reduceNeg, if_true, if_false, reduceIte, reduceCtorEq]
        rw [tm_gi_t (by omega)]
      · simp only [l3, Int.reduceEq, Int.reduceNeg, if_true, if_false, reduceIte, reduceCtorEq]
        rw [tm_gi_t (by omega)]
    rw [hM]
    by_cases hz : tm_LV τ a (k + 1) = 0
    · rw [if_pos hz, if_pos (by omega), tm_gk_t r1, tm_gi_t (by omega), if_neg (show ¬ 0 < tm_LV τ a (k + 1) by omega)]
      by_cases he : (k : Int) + 1 = tm_a τ 140 a
      · rw [if_pos (by omega), if_pos he]
        exact Or.inl ⟨rfl, by omega, rfl⟩
      · rw [if_neg (by omega), if_neg he]
        exact Or.inr ⟨rfl, rfl⟩
    · rw [if_neg hz, if_pos (show 0 < tm_LV τ a (k + 1) by omega), tm_gi_t (by omega)]
      have hkj : k + 1 ≤ j := by
        by_cases hkj : k = j
        · rw [hkj] at hlv; omega
        · omega
      exact ih g (k + 1) (by omega) (by omega) (by omega) ⟨j, hkj, j1, j2⟩ (by omega) (by omega)
