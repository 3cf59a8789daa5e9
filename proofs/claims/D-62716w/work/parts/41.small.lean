/-! SMALL FUNCTIONS -/
set_option maxRecDepth 100000
theorem fc_isSign_t {x : Int} (h : tm_ch x) (σ : tm_S) : fc_isSign x σ = tm_rt 1 σ := by
  unfold tm_ch at h
  unfold fc_isSign fc_isSign_J12
  (repeat' split) <;> first | rfl | (exfalso; omega)
theorem fc_isSign_f {x : Int} (h : ¬ tm_ch x) (σ : tm_S) : fc_isSign x σ = tm_rt 0 σ := by
  unfold tm_ch at h
  unfold fc_isSign fc_isSign_J12
  (repeat' split) <;> first | rfl | (exfalso; omega)
theorem fm_isCode_t {x : Int} (h : tm_ch x) (σ : tm_S) : fm_isCode x σ = tm_rt 1 σ := by
  unfold tm_ch at h
  unfold fm_isCode
  (repeat' split) <;> first | rfl | (exfalso; omega)
theorem fm_isCode_f {x : Int} (h : ¬ tm_ch x) (σ : tm_S) : fm_isCode x σ = tm_rt 0 σ := by
  unfold tm_ch at h
  unfold fm_isCode
  (repeat' split) <;> first | rfl | (exfalso; omega)
theorem fc_isCharacter_e (x : Int) (σ : tm_S) : fc_isCharacter x σ = tm_rt (if 0 ≤ x ∧ x < 4096 then 1 else 0) σ := by
  unfold fc_isCharacter
  (repeat' split) <;> first | rfl | (exfalso; omega)
theorem fc_isOf_e (x c : Int) (σ : tm_S) : fc_isOf x c σ = tm_rt (if 0 ≤ x ∧ x < 4096 ∧ x / 256 = c then 1 else 0) σ := by
  unfold fc_isOf
  rw [fc_isCharacter_e, tm_bd_rt]
  (repeat' split) <;> first | rfl | (exfalso; omega)
/-- a brace's level -/
def tm_lev (x : Int) : Int := if 256 ≤ x ∧ x < 512 then 1 else if 512 ≤ x ∧ x < 768 then -1 else 0
theorem fc_levelOf_e (x : Int) (σ : tm_S) : fc_levelOf x σ = tm_rt (tm_lev x) σ := by
  unfold fc_levelOf tm_lev
  rw [fc_isOf_e, tm_bd_rt, fc_isOf_e, tm_bd_rt]
  (repeat' split) <;> first | rfl | (exfalso; omega)
theorem fc_plain_e (x : Int) (σ : tm_S) : fc_plain x σ = tm_rt (if x < 4096 then x else x - x % 2) σ := by
  unfold fc_plain
  (repeat' split) <;> first | rfl | (exfalso; omega)
theorem fc_told_e {x : Int} (h : tm_ch x) (σ : tm_S) : fc_told x σ = tm_rt (if x = 32 then 2592 else x + 3072) σ := by
  unfold tm_ch at h
  unfold fc_told
  (repeat' split) <;> first | rfl | (exfalso; omega) | (rw [tm_gi_t (by omega)])
theorem fm_other_e {x : Int} (h : tm_ch x) (σ : tm_S) : fm_other x σ = tm_rt (if x = 32 then 2592 else x + 3072) σ := by
  unfold tm_ch at h
  unfold fm_other
  (repeat' split) <;> first | rfl | (exfalso; omega) | (rw [tm_gi_t (by omega)])
theorem fc_isDigit_e (x : Int) (σ : tm_S) : fc_isDigit x σ = tm_rt (if 3120 ≤ x ∧ x < 3130 then 1 else 0) σ := by
  unfold fc_isDigit
  rw [fc_isOf_e, tm_bd_rt]
  (repeat' split) <;> first | rfl | (exfalso; omega)
theorem fm_isName_e (y : Int) (σ : tm_S) : fm_isName y σ = tm_rt (if 4096 ≤ y ∧ y < 16384 then 1 else 0) σ := by
  unfold fm_isName
  (repeat' split) <;> first | rfl | (exfalso; omega)
theorem fm_isMarked_e (y : Int) (σ : tm_S) : fm_isMarked y σ = tm_rt (if 8192 ≤ y ∧ y < 16384 then 1 else 0) σ := by
  unfold fm_isMarked
  rw [fm_isName_e, tm_bd_rt]
  (repeat' split) <;> first | rfl | (exfalso; omega)
theorem fm_plain_e (y : Int) (σ : tm_S) : fm_plain y σ = tm_rt (if 8192 ≤ y ∧ y < 16384 then y - 8192 else y) σ := by
  unfold fm_plain
  rw [fm_isMarked_e, tm_bd_rt]
  (repeat' split) <;> first | rfl | (exfalso; omega) | (rw [tm_gi_t (by omega)])
theorem fm_isCharacter_e (y c : Int) (σ : tm_S) : fm_isCharacter y c σ = tm_rt (if 0 ≤ y ∧ y < 4096 ∧ y / 256 = c then 1 else 0) σ := by
  unfold fm_isCharacter
  (repeat' split) <;> first | rfl | (exfalso; omega)
theorem fm_digit_e (y : Int) (σ : tm_S) : fm_digit y σ = tm_rt (if 3120 ≤ y ∧ y < 3130 then y - 3120 else -1) σ := by
  unfold fm_digit
  rw [fm_isCharacter_e, tm_bd_rt]
  (repeat' split) <;> first | rfl | (exfalso; omega) | (rw [tm_gi_t (by omega)]; congr 1; omega)
/-! FAULTS -/
section SMF
variable {q : tm_Pm} {b e : Int} {σ τ : tm_S} {P : Int → tm_S → Int → tm_S → Prop} {D : tm_S → Int → tm_S → Prop} {k k' : Int → tm_S → tm_R}
theorem tm_Si.fail (h : tm_Si q b 0 σ τ) (e : Int) : fc_fail e σ = tm_th 0 (tm_wf σ 16 0 e) := by
  unfold fc_fail
  have h1 := h.bc
  have h2 := h.bz
  have h3 := h.nn
  have h4 := h.mc
  have h5 := h.sp
  rw [tm_gn_t ⟨by (simp only [tm_f_wf, tm_f_wa, tm_a_wf, tm_a_wa, tm_n_wf, tm_n_wa, tm_k_wf, tm_k_wa, tm_c_wf, tm_c_wa, tm_z_wf, tm_z_wa, tm_u_wf, tm_u_wa, tm_v_wf, tm_v_wa, tm_lt_e, tm_ls_e, tm_bd_rt, tm_bd_th, Nat.reduceEqDiff, Int.reduceEq, Int.reduceNeg, false_and, and_false, true_and, and_true, and_self, if_false, if_true, reduceIte, ite_true, ite_false, reduceCtorEq]); omega, by (simp only [tm_f_wf, tm_f_wa, tm_a_wf, tm_a_wa, tm_n_wf, tm_n_wa, tm_k_wf, tm_k_wa, tm_c_wf, tm_c_wa, tm_z_wf, tm_z_wa, tm_u_wf, tm_u_wa, tm_v_wf, tm_v_wa, tm_lt_e, tm_ls_e, tm_bd_rt, tm_bd_th, Nat.reduceEqDiff, Int.reduceEq, Int.reduceNeg, false_and, and_false, true_and, and_true, and_self, if_false, if_true, reduceIte, ite_true, ite_false, reduceCtorEq]); omega⟩]
theorem tm_stop_0 (h : tm_f τ 453 0 = 0) (e : Int) : fm_stop e τ = tm_rt (-1) (tm_wf τ 453 0 e) := by
  unfold fm_stop
  rw [if_pos h]
theorem tm_RRfail (h : tm_Si q b 0 σ τ) (he : 1 ≤ e ∧ e ≤ 8) (hk : ∀ σ' τ', tm_De q σ' τ' → ∃ w τ'', k' (-1) τ' = tm_rt w τ'' ∧ D σ' w τ'') : tm_RR P D (tm_bd (fc_fail e σ) k) (tm_bd (fm_stop e τ) k') := by
  rw [h.fail, tm_stop_0 h.fl.2, tm_bd_th, tm_bd_rt]
  obtain ⟨w, τ'', e1, h1⟩ := hk _ _ (h.die he)
  rw [e1]
  exact tm_RRth h1
end SMF
/-! NAMES -/
/-- what is spelled: in the component's array a, n signs; in the model's own row -/
def tm_Sp (σ τ : tm_S) (a n : Int) : Prop := tm_f τ 464 0 = n ∧ 1 ≤ n ∧ n ≤ 11 ∧ ∀ i : Int, 0 ≤ i → i < n → tm_a σ a i = tm_a τ 117 i ∧ tm_ch (tm_a τ 117 i)
/-- the model's name k is the one that is spelled -/
def tm_Nq (τ : tm_S) (k n v i : Int) : Prop := tm_a τ 113 k = n ∧ tm_a τ 114 k = v ∧ ∀ j : Int, i ≤ j → j < n → tm_a τ 112 (11 * k + j) = tm_a τ 117 j
theorem fm_known_in (r2 : Int → Int → tm_S → tm_R) (v1 k : Int) (τ : tm_S) (hk : 0 ≤ k ∧ k < 120) (hn : tm_f τ 464 0 ≤ 11) : ∀ (n : Nat) (v3 i : Int), (0 ≤ i ∧ i ≤ tm_f τ 464 0) → tm_f τ 464 0 - i < (n : Int) → (v3 = 0 ∨ v3 = 1) →
    ((v3 = 1 ∧ ∀ j : Int, i ≤ j → j < tm_f τ 464 0 → tm_a τ 112 (11 * k + j) = tm_a τ 117 j) → fm_known_L42 r2 n v1 k v3 i τ = tm_rt k τ) ∧
    (¬(v3 = 1 ∧ ∀ j : Int, i ≤ j → j < tm_f τ 464 0 → tm_a τ 112 (11 * k + j) = tm_a τ 117 j) → fm_known_L42 r2 n v1 k v3 i τ = r2 v1 (k + 1) τ) := by
  intro n
  induction n with
  | zero =>
    intro v3 i h0 h1 h2
    exact absurd h1 (by omega)
  | succ n ih =>
    intro v3 i h0 h1 h2
    show (_ → fm_known_B42 r2 (fm_known_L42 r2 n) v1 k v3 i τ = _) ∧ (_ → fm_known_B42 r2 (fm_known_L42 r2 n) v1 k v3 i τ = _)
    unfold fm_known_B42 fm_known_J89
    by_cases hi : i < tm_f τ 464 0
    · rw [if_pos hi]
      rcases h2 with h2 | h2
      · subst h2
        rw [if_pos rfl, if_pos rfl, tm_gi_t (by omega)]
        exact ⟨fun h => absurd h.1 (by decide), fun _ => rfl⟩
      · subst h2
        rw [if_neg (by decide), tm_gi_t (by omega), tm_gi_t (by omega), tm_gx_t (by omega), tm_gx_t (by omega)]
        by_cases hq : tm_a τ 112 (11 * k + i) = tm_a τ 117 i
        · rw [if_pos hq, tm_gi_t (by omega)]
          obtain ⟨g1, g2⟩ := ih 1 (i + 1) (by omega) (by omega) (Or.inr rfl)
          refine ⟨fun h => g1 ⟨rfl, fun j h3 h4 => h.2 j (by omega) h4⟩, fun h => g2 fun h3 => h ⟨rfl, fun j h5 h6 => ?_⟩⟩
          by_cases hj : j = i
          · rw [hj]; exact hq
          · exact h3.2 j (by omega) h6
        · rw [if_neg hq, tm_gi_t (by omega)]
          obtain ⟨g1, g2⟩ := ih 0 (i + 1) (by omega) (by omega) (Or.inl rfl)
          exact ⟨fun h => absurd (h.2 i (Int.le_refl i) hi) hq, fun h => g2 fun h3 => absurd h3.1 (by decide)⟩
    · rw [if_neg hi]
      rcases h2 with h2 | h2
      · subst h2
        rw [if_pos rfl, tm_gi_t (by omega)]
        exact ⟨fun h => absurd h.1 (by decide), fun _ => rfl⟩
      · subst h2
        rw [if_neg (by decide)]
        exact ⟨fun _ => rfl, fun h => absurd ⟨rfl, fun j h3 h4 => absurd h4 (by omega)⟩ h⟩
theorem tm_J3_get {N M : Int} {σ τ : tm_S} (h : tm_Ns N M σ τ) (h6 : tm_k σ 106 = 7) (hn : tm_f σ 386 106 = N) {k : Int} (hk : 0 ≤ k ∧ k < N) : fc_J3_get 106 k σ = tm_rt (tm_nr σ k) σ := by
  have h1 := h.e1
  have h2 := h.e2
  unfold fc_J3_get fc_J11_checkIndex fc_J6_checkIndex fc_J3_elementData
  rw [tm_gk_t h6, hn, if_neg (show ¬ k < 0 by omega), if_pos hk.2, tm_bd_rt, tm_bd_rt, tm_gk_t h6, tm_gk_t h6, tm_gk_t h1, tm_gx_t ⟨hk.1, by omega⟩]
  rfl
theorem tm_J3_size {σ : tm_S} (h6 : tm_k σ 106 = 7) : fc_J3_size 106 σ = tm_rt (tm_f σ 386 106) σ := by
  unfold fc_J3_size
  rw [tm_gk_t h6]
theorem tm_X5_is {N M : Int} {σ τ : tm_S} {r k a n v : Int} (h : tm_Na N M σ τ r k) (ha : tm_k σ a = 20 ∧ n ≤ tm_n σ a) (hs : ∀ i : Int, 0 ≤ i → i < n → tm_a σ a i = tm_a τ 117 i) (hn : 0 ≤ n ∧ n ≤ 11) : ((tm_Nq τ k n v 0) → fc_X5_is r a n v σ = tm_rt 1 σ) ∧ (¬ tm_Nq τ k n v 0 → fc_X5_is r a n v σ = tm_rt 0 σ) := by
  have hl2 := h.l2
  have loop : ∀ (f : Nat) (v4 i : Int), (0 ≤ i ∧ i ≤ n) → n - i < (f : Int) → (v4 = 0 ∨ v4 = 1) → (v4 = 1 → tm_a τ 113 k = n) →
      ((v4 = 1 ∧ ∀ j : Int, i ≤ j → j < n → tm_a τ 112 (11 * k + j) = tm_a τ 117 j) → fc_X5_is_L27 f r a n v4 i σ = tm_rt 1 σ) ∧
      (¬(v4 = 1 ∧ ∀ j : Int, i ≤ j → j < n → tm_a τ 112 (11 * k + j) = tm_a τ 117 j) → fc_X5_is_L27 f r a n v4 i σ = tm_rt 0 σ) := by
    intro f
    induction f with
    | zero => intro v4 i h0 h1 h2 h3; exact absurd h1 (by omega)
    | succ f ih =>
      intro v4 i h0 h1 h2 h3
      show (_ → fc_X5_is_B27 (fc_X5_is_L27 f) r a n v4 i σ = _) ∧ (_ → fc_X5_is_B27 (fc_X5_is_L27 f) r a n v4 i σ = _)
      unfold fc_X5_is_B27
      by_cases hi : i < n
      · rw [if_pos hi]
        rcases h2 with h2 | h2
        · subst h2
          rw [if_pos rfl, tm_gz_t (Or.inl rfl)]
          exact ⟨fun h => absurd h.1 (by decide), fun _ => rfl⟩
        · subst h2
          have hk := h3 rfl
          have hl3 := (h.l3 i h0.1 (by omega)).1
          rw [if_neg (by decide), tm_gk_t h.kd, tm_gk_t h.l1, tm_gx_t ⟨h0.1, by omega⟩, tm_gk_t ha.1, tm_gx_t ⟨h0.1, by omega⟩, hl3, hs i h0.1 hi]
          by_cases hq : tm_a τ 112 (11 * k + i) = tm_a τ 117 i
          · rw [if_pos hq, tm_gi_t (by omega)]
            obtain ⟨g1, g2⟩ := ih 1 (i + 1) (by omega) (by omega) (Or.inr rfl) (fun _ => hk)
            refine ⟨fun h => g1 ⟨rfl, fun j h3 h4 => h.2 j (by omega) h4⟩, fun h => g2 fun h3 => h ⟨rfl, fun j h5 h6 => ?_⟩⟩
            by_cases hj : j = i
            · rw [hj]; exact hq
            · exact h3.2 j (by omega) h6
          · rw [if_neg hq, tm_gi_t (by omega)]
            obtain ⟨g1, g2⟩ := ih 0 (i + 1) (by omega) (by omega) (Or.inl rfl) (fun h => absurd h (by decide))
            exact ⟨fun h => absurd (h.2 i (Int.le_refl i) hi) hq, fun h => g2 fun h3 => absurd h3.1 (by decide)⟩
      · rw [if_neg hi]
        rcases h2 with h2 | h2
        · subst h2
          rw [tm_gz_t (Or.inl rfl)]
          exact ⟨fun h => absurd h.1 (by decide), fun _ => rfl⟩
        · subst h2
          rw [tm_gz_t (Or.inr rfl)]
          exact ⟨fun _ => rfl, fun h => absurd ⟨rfl, fun j h3 h4 => absurd h4 (by omega)⟩ h⟩
  unfold fc_X5_is
  rw [tm_gk_t h.kd, tm_gk_t h.l1, hl2.1, h.ac.1]
  have hFU : n - 0 < ((tm_FU : Nat) : Int) := by unfold tm_FU; omega
  by_cases h1 : n = tm_a τ 113 k
  · rw [if_pos h1]
    by_cases h2 : tm_a τ 114 k = v
    · rw [if_pos h2]
      obtain ⟨g1, g2⟩ := loop tm_FU 1 0 (by omega) hFU (Or.inr rfl) (fun _ => h1.symm)
      exact ⟨fun h => g1 ⟨rfl, h.2.2⟩, fun h => g2 fun h3 => h ⟨h1.symm, h2, h3.2⟩⟩
    · rw [if_neg h2]
      obtain ⟨g1, g2⟩ := loop tm_FU 0 0 (by omega) hFU (Or.inl rfl) (fun h => absurd h (by decide))
      exact ⟨fun h => absurd h.2.1 h2, fun h => g2 fun h3 => absurd h3.1 (by decide)⟩
  · rw [if_neg h1]
    obtain ⟨g1, g2⟩ := loop tm_FU 0 0 (by omega) hFU (Or.inl rfl) (fun h => absurd h (by decide))
    exact ⟨fun h => absurd h.1.symm h1, fun h => g2 fun h3 => absurd h3.1 (by decide)⟩
/-- the name that is spelled, looked for on both sides -/
theorem tm_find {N M : Int} {σ τ : tm_S} (h : tm_Ns N M σ τ) (h6 : tm_k σ 106 = 7) (hn : tm_f σ 386 106 = N) (hm : tm_f τ 459 0 = N) (hN : 0 ≤ N ∧ N ≤ 118) {a n v : Int} (ha : tm_k σ a = 20 ∧ n ≤ tm_n σ a) (hs : tm_Sp σ τ a n) :
    (∃ k : Int, 0 ≤ k ∧ k < N ∧ fc_find a n v σ = tm_rt (tm_nr σ k) σ ∧ fm_known v τ = tm_rt k τ) ∨ (fc_find a n v σ = tm_rt (-1) σ ∧ fm_known v τ = tm_rt (-1) τ) := by
  obtain ⟨s1, s2, s3, s4⟩ := hs
  have loop : ∀ (f g : Nat) (k : Int), 0 ≤ k → k ≤ N → N - k < (f : Int) → N - k < (g : Int) →
      (∃ k' : Int, 0 ≤ k' ∧ k' < N ∧ fc_find_L3 f a n v k σ = tm_rt (tm_nr σ k') σ ∧ fm_known_L2 g v k τ = tm_rt k' τ) ∨ (fc_find_L3 f a n v k σ = tm_rt (-1) σ ∧ fm_known_L2 g v k τ = tm_rt (-1) τ) := by
    intro f
    induction f with
    | zero => intro g k h0 h1 h2; exact absurd h2 (by omega)
    | succ f ih =>
      intro g k h0 h1 h2 h3
      cases g with
      | zero => exact absurd h3 (by omega)
      | succ g =>
        show (∃ k' : Int, 0 ≤ k' ∧ k' < N ∧ fc_find_B3 (fc_find_L3 f) a n v k σ = tm_rt (tm_nr σ k') σ ∧ fm_known_B2 (fm_known_L2 g) v k τ = tm_rt k' τ) ∨ (fc_find_B3 (fc_find_L3 f) a n v k σ = tm_rt (-1) σ ∧ fm_known_B2 (fm_known_L2 g) v k τ = tm_rt (-1) τ)
        unfold fc_find_B3 fm_known_B2
        rw [tm_J3_size h6, tm_bd_rt, hn, hm]
        by_cases hk : k < N
        · have hna := h.nm k h0 hk
          have hget := tm_J3_get h h6 hn ⟨h0, hk⟩
          obtain ⟨i1, i2⟩ := tm_X5_is (v := v) hna ha (fun i g1 g2 => (s4 i g1 g2).1) ⟨by omega, s3⟩
          rw [if_pos hk, if_pos hk, hget, tm_bd_rt, tm_gk_t hna.kd, tm_gx_t ⟨h0, by omega⟩, s1, tm_gx_t ⟨h0, by omega⟩]
          have hFU : tm_f τ 464 0 - 0 < ((tm_FU : Nat) : Int) := by unfold tm_FU; omega
          by_cases hq : tm_Nq τ k n v 0
          · rw [i1 hq, tm_bd_rt, if_neg (by decide), hget, tm_bd_rt, tm_gk_t hna.kd, if_pos hq.1, if_pos hq.2.1]
            refine Or.inl ⟨k, h0, hk, rfl, ?_⟩
            exact (fm_known_in (fm_known_L2 g) v k τ ⟨h0, by omega⟩ (by omega) tm_FU 1 0 (by omega) hFU (Or.inr rfl)).1 ⟨rfl, by rw [s1]; exact hq.2.2⟩
          · rw [i2 hq, tm_bd_rt, if_pos rfl, tm_gi_t (by omega)]
            have e9 : (if tm_a τ 113 k = n then (if tm_a τ 114 k = v then fm_known_L42 (fm_known_L2 g) tm_FU v k 1 0 τ else fm_known_L42 (fm_known_L2 g) tm_FU v k 0 0 τ) else fm_known_L42 (fm_known_L2 g) tm_FU v k 0 0 τ) = fm_known_L2 g v (k + 1) τ := by
              have z0 := (fm_known_in (fm_known_L2 g) v k τ ⟨h0, by omega⟩ (by omega) tm_FU 0 0 (by omega) hFU (Or.inl rfl)).2 (fun h => absurd h.1 (by decide))
              by_cases g1 : tm_a τ 113 k = n
              · rw [if_pos g1]
                by_cases g2 : tm_a τ 114 k = v
                · rw [if_pos g2]
                  exact (fm_known_in (fm_known_L2 g) v k τ ⟨h0, by omega⟩ (by omega) tm_FU 1 0 (by omega) hFU (Or.inr rfl)).2 (fun h => hq ⟨g1, g2, by rw [s1] at h; exact h.2⟩)
                · rw [if_neg g2]; exact z0
              · rw [if_neg g1]; exact z0
            rw [e9]
            exact ih g (k + 1) (by omega) (by omega) (by omega) (by omega)
        · rw [if_neg hk, if_neg hk]
          exact Or.inr ⟨rfl, rfl⟩
  have hFU : N - 0 < ((tm_FU : Nat) : Int) := by unfold tm_FU; omega
  unfold fc_find fm_known
  exact loop tm_FU tm_FU 0 (Int.le_refl 0) hN.1 hFU hFU
