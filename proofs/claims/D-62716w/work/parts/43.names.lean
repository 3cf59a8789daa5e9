/-! NAMES THAT ARE MADE -/
set_option maxRecDepth 100000
/-- nothing but an array is written -/
def tm_Aw (r : Int) (σ σ' : tm_S) : Prop :=
  (∀ (k : Nat) (q : Int), tm_f σ' k q = tm_f σ k q) ∧
  (∀ b j : Int, b ≠ r → tm_a σ' b j = tm_a σ b j) ∧
  (∀ b : Int, tm_n σ' b = tm_n σ b) ∧
  (∀ b : Int, tm_k σ' b = tm_k σ b) ∧
  (tm_c σ' = tm_c σ ∧ tm_z σ' = tm_z σ ∧ tm_u σ' = tm_u σ ∧ tm_v σ' = tm_v σ)
theorem tm_Aw.mk {r : Int} {σ σ' : tm_S} (f : ∀ (k : Nat) (q : Int), tm_f σ' k q = tm_f σ k q) (a : ∀ b j : Int, b ≠ r → tm_a σ' b j = tm_a σ b j) (n : ∀ b : Int, tm_n σ' b = tm_n σ b) (k : ∀ b : Int, tm_k σ' b = tm_k σ b) (c : tm_c σ' = tm_c σ ∧ tm_z σ' = tm_z σ ∧ tm_u σ' = tm_u σ ∧ tm_v σ' = tm_v σ) : tm_Aw r σ σ' := ⟨f, a, n, k, c⟩
theorem tm_Aw.f {r : Int} {σ σ' : tm_S} (h : tm_Aw r σ σ') : ∀ (k : Nat) (q : Int), tm_f σ' k q = tm_f σ k q := h.1
theorem tm_Aw.a {r : Int} {σ σ' : tm_S} (h : tm_Aw r σ σ') : ∀ b j : Int, b ≠ r → tm_a σ' b j = tm_a σ b j := h.2.1
theorem tm_Aw.n {r : Int} {σ σ' : tm_S} (h : tm_Aw r σ σ') : ∀ b : Int, tm_n σ' b = tm_n σ b := h.2.2.1
theorem tm_Aw.k {r : Int} {σ σ' : tm_S} (h : tm_Aw r σ σ') : ∀ b : Int, tm_k σ' b = tm_k σ b := h.2.2.2.1
theorem tm_Aw.c {r : Int} {σ σ' : tm_S} (h : tm_Aw r σ σ') : tm_c σ' = tm_c σ ∧ tm_z σ' = tm_z σ ∧ tm_u σ' = tm_u σ ∧ tm_v σ' = tm_v σ := h.2.2.2.2
theorem tm_Aw.rf (r : Int) (σ : tm_S) : tm_Aw r σ σ := ⟨fun _ _ => rfl, fun _ _ _ => rfl, fun _ => rfl, fun _ => rfl, rfl, rfl, rfl, rfl⟩
theorem tm_Aw.tr {r : Int} {σ0 σ1 σ2 : tm_S} (h : tm_Aw r σ0 σ1) (g : tm_Aw r σ1 σ2) : tm_Aw r σ0 σ2 :=
  tm_Aw.mk (fun k q => (g.f k q).trans (h.f k q)) (fun b j hb => (g.a b j hb).trans (h.a b j hb)) (fun b => (g.n b).trans (h.n b)) (fun b => (g.k b).trans (h.k b)) ⟨g.c.1.trans h.c.1, g.c.2.1.trans h.c.2.1, g.c.2.2.1.trans h.c.2.2.1, g.c.2.2.2.trans h.c.2.2.2⟩
theorem tm_Aw.wa (σ : tm_S) (r i v : Int) : tm_Aw r σ (tm_wa σ r i v) := tm_Aw.mk (fun _ _ => rfl) (fun b j hb => by rw [tm_a_wa, if_neg (fun h => hb h.1)]) (fun _ => rfl) (fun _ => rfl) ⟨rfl, rfl, rfl, rfl⟩
theorem tm_Ex.aw {σ0 σ1 σ2 : tm_S} {r : Int} (h : tm_Ex σ0 σ1) (g : tm_Aw r σ1 σ2) (hr : 1000 + (tm_c σ0 : Int) ≤ r) : tm_Ex σ0 σ2 := by
  have kh := h.kh
  refine tm_Ex.mk (tm_Kh.mk (by have := kh.c; have := g.c; omega) (fun q hq => ?_) (fun q q0 q1 => ?_) (fun q i q0 q1 q2 => ?_)) (fun k q hq => ?_) (fun b j hb => ?_) ?_
  · rw [g.k, g.n]; exact kh.k q hq
  · simp only [g.f]; exact kh.f q q0 q1
  · rw [g.a q i (by omega)]; exact kh.a q i q0 q1 q2
  · rw [g.f]; exact h.f k q hq
  · rw [g.a b j (by omega)]; exact h.a b j hb
  · rw [g.c.2.2.1, g.c.2.2.2]; exact h.u
theorem tm_J3_add {N M r : Int} {σ τ : tm_S} (h : tm_Ns N M σ τ) (hf : tm_k σ 106 = 7) (hn : tm_f σ 386 106 = N) (hN : 18 ≤ N ∧ N ≤ 117) (hr : tm_k σ r = 4 ∧ 1000 ≤ r ∧ r < 1000 + (tm_c σ : Int)) (md : 0 ≤ tm_f σ 384 106 ∧ tm_f σ 384 106 ≤ 2000000) (hc : tm_c σ + 1 ≤ tm_u σ ∧ tm_z σ + 200 ≤ tm_v σ) :
    ∃ σ' : tm_S, fc_J3_add 106 r σ = tm_rt 1 σ' ∧ tm_Ex σ σ' ∧ tm_c σ' ≤ tm_c σ + 1 ∧ tm_z σ' ≤ tm_z σ + 200 ∧ tm_f σ' 384 106 = tm_f σ 384 106 + 1 ∧ tm_f σ' 386 106 = N + 1 ∧ (∀ (k : Nat) (p : Int), p ≠ 106 → p < 1000 + (tm_c σ : Int) → tm_f σ' k p = tm_f σ k p) ∧
      (1000 ≤ tm_f σ' 385 106 ∧ tm_f σ' 385 106 < 1000 + (tm_c σ' : Int) ∧ tm_k σ' (tm_f σ' 385 106) = 25 ∧ N + 1 ≤ tm_n σ' (tm_f σ' 385 106) ∧ tm_n σ' (tm_f σ' 385 106) ≤ 200) ∧ (∀ j : Int, 0 ≤ j → j < N → tm_nr σ' j = tm_nr σ j) ∧ tm_nr σ' N = r := by
  have e0 := h.e0
  have e1 := h.e1
  have e2 := h.e2
  unfold fc_J3_add fc_J3_add_2
  rw [tm_gk_t hf, tm_gi_t (by omega)]
  (simp only [tm_f_wf, tm_f_wa, tm_a_wf, tm_a_wa, tm_n_wf, tm_n_wa, tm_k_wf, tm_k_wa, tm_c_wf, tm_c_wa, tm_z_wf, tm_z_wa, tm_u_wf, tm_u_wa, tm_v_wf, tm_v_wa, tm_lt_e, tm_ls_e, tm_bd_rt, tm_bd_th, Nat.reduceEqDiff, Int.reduceEq, Int.reduceNeg, false_and, and_false, true_and, and_true, and_self, if_false, if_true, reduceIte, ite_true, ite_false, reduceCtorEq])
  rw [tm_gk_t hf, if_neg (by omega), tm_gk_t e1, hn]
  generalize hE : tm_f σ 385 106 = E at e0 e1 e2 ⊢
  by_cases hfull : N = tm_n σ E
  · rw [if_pos hfull, tm_gk_t hf]
    unfold fc_J3_grow fc_J3_grow_2 fc_J3_grow_2_J20 fc_J8_newLength fc_J10_copyOf
    (simp only [tm_f_wf, tm_f_wa, tm_a_wf, tm_a_wa, tm_n_wf, tm_n_wa, tm_k_wf, tm_k_wa, tm_c_wf, tm_c_wa, tm_z_wf, tm_z_wa, tm_u_wf, tm_u_wa, tm_v_wf, tm_v_wa, tm_lt_e, tm_ls_e, tm_bd_rt, tm_bd_th, Nat.reduceEqDiff, Int.reduceEq, Int.reduceNeg, false_and, and_false, true_and, and_true, and_self, if_false, if_true, reduceIte, ite_true, ite_false, reduceCtorEq])
    rw [hn, hE, tm_gk_t hf, tm_gi_t (by omega), tm_gk_t hf, if_neg (by omega), tm_gk_t e1, if_pos (by omega), tm_gi_t (by omega)]
    have hmax : 1 ≤ tm_max (N + 1 - tm_n σ E) (tm_n σ E / 2) ∧ tm_max (N + 1 - tm_n σ E) (tm_n σ E / 2) ≤ 60 := by unfold tm_max; split <;> omega
    generalize tm_max (N + 1 - tm_n σ E) (tm_n σ E / 2) = mx at hmax
    rw [tm_gi_t (by omega), if_pos (by omega), if_neg (by omega), tm_bd_rt]
    (simp only [tm_f_wf, tm_f_wa, tm_a_wf, tm_a_wa, tm_n_wf, tm_n_wa, tm_k_wf, tm_k_wa, tm_c_wf, tm_c_wa, tm_z_wf, tm_z_wa, tm_u_wf, tm_u_wa, tm_v_wf, tm_v_wa, tm_lt_e, tm_ls_e, tm_bd_rt, tm_bd_th, Nat.reduceEqDiff, Int.reduceEq, Int.reduceNeg, false_and, and_false, true_and, and_true, and_self, if_false, if_true, reduceIte, ite_true, ite_false, reduceCtorEq])
    rw [tm_gk_t hf, hE, tm_gk_t e1, tm_gx_t (by omega)]
    unfold tm_gp
    rw [if_pos ⟨by omega, by
      rw [List.all_eq_true]
      intro j hj
      rw [List.mem_range] at hj
      have hna := h.nm (j : Int) (by omega) (by omega)
      unfold tm_nr at hna
      rw [hE] at hna
      simp only [tm_a_wf, tm_k_wf, hna.kd, decide_true, Bool.or_true]⟩]
    rw [tm_gn_t ⟨by (simp only [tm_f_wf, tm_f_wa, tm_a_wf, tm_a_wa, tm_n_wf, tm_n_wa, tm_k_wf, tm_k_wa, tm_c_wf, tm_c_wa, tm_z_wf, tm_z_wa, tm_u_wf, tm_u_wa, tm_v_wf, tm_v_wa, tm_lt_e, tm_ls_e, tm_bd_rt, tm_bd_th, Nat.reduceEqDiff, Int.reduceEq, Int.reduceNeg, false_and, and_false, true_and, and_true, and_self, if_false, if_true, reduceIte, ite_true, ite_false, reduceCtorEq]); omega, by (simp only [tm_f_wf, tm_f_wa, tm_a_wf, tm_a_wa, tm_n_wf, tm_n_wa, tm_k_wf, tm_k_wa, tm_c_wf, tm_c_wa, tm_z_wf, tm_z_wa, tm_u_wf, tm_u_wa, tm_v_wf, tm_v_wa, tm_lt_e, tm_ls_e, tm_bd_rt, tm_bd_th, Nat.reduceEqDiff, Int.reduceEq, Int.reduceNeg, false_and, and_false, true_and, and_true, and_self, if_false, if_true, reduceIte, ite_true, ite_false, reduceCtorEq]); omega⟩]
    (simp only [tm_f_wf, tm_f_wa, tm_a_wf, tm_a_wa, tm_n_wf, tm_n_wa, tm_k_wf, tm_k_wa, tm_c_wf, tm_c_wa, tm_z_wf, tm_z_wa, tm_u_wf, tm_u_wa, tm_v_wf, tm_v_wa, tm_lt_e, tm_ls_e, tm_bd_rt, tm_bd_th, Nat.reduceEqDiff, Int.reduceEq, Int.reduceNeg, false_and, and_false, true_and, and_true, and_self, if_false, if_true, reduceIte, ite_true, ite_false, reduceCtorEq])
    have hfr : ∀ q : Int, q < 1000 + (tm_c σ : Int) → tm_k (tm_cp (tm_ne (tm_wf σ 384 106 (tm_f σ 384 106 + 1)) 25 (tm_n σ E + mx) (Int.toNat (tm_n σ E + mx))) (1000 + (tm_c σ : Int)) E (tm_n σ E)) q = tm_k σ q := fun q hq => by
      show (if q = 1000 + (tm_c σ : Int) then 25 else tm_k σ q) = _
      rw [if_neg (by omega)]
    rw [tm_gk_t (by rw [hfr 106 (by omega)]; exact hf)]
    unfold fc_J3_add_2_J11
    (simp only [tm_f_wf, tm_f_wa, tm_a_wf, tm_a_wa, tm_n_wf, tm_n_wa, tm_k_wf, tm_k_wa, tm_c_wf, tm_c_wa, tm_z_wf, tm_z_wa, tm_u_wf, tm_u_wa, tm_v_wf, tm_v_wa, tm_lt_e, tm_ls_e, tm_bd_rt, tm_bd_th, Nat.reduceEqDiff, Int.reduceEq, Int.reduceNeg, false_and, and_false, true_and, and_true, and_self, if_false, if_true, reduceIte, ite_true, ite_false, reduceCtorEq])
    have hk25 : tm_k (tm_cp (tm_ne (tm_wf σ 384 106 (tm_f σ 384 106 + 1)) 25 (tm_n σ E + mx) (Int.toNat (tm_n σ E + mx))) (1000 + (tm_c σ : Int)) E (tm_n σ E)) (1000 + (tm_c σ : Int)) = 25 := by
      show (if (1000 + (tm_c σ : Int)) = 1000 + (tm_c σ : Int) then 25 else _) = _
      rw [if_pos rfl]
    have hn25 : tm_n (tm_cp (tm_ne (tm_wf σ 384 106 (tm_f σ 384 106 + 1)) 25 (tm_n σ E + mx) (Int.toNat (tm_n σ E + mx))) (1000 + (tm_c σ : Int)) E (tm_n σ E)) (1000 + (tm_c σ : Int)) = tm_n σ E + mx := by
      show (if (1000 + (tm_c σ : Int)) = 1000 + (tm_c σ : Int) then _ else _) = _
      rw [if_pos rfl]
    rw [tm_gk_t hk25, tm_gk_t (by rw [hfr r hr.2.2]; exact hr.1), hn25, tm_gx_t (by omega), tm_gi_t (by omega), tm_gk_t (by rw [hfr 106 (by omega)]; exact hf)]
    have hf9 : ∀ (k : Nat) (p : Int), p ≠ 106 → p < 1000 + (tm_c σ : Int) → tm_f (tm_cp (tm_ne (tm_wf σ 384 106 (tm_f σ 384 106 + 1)) 25 (tm_n σ E + mx) (Int.toNat (tm_n σ E + mx))) (1000 + (tm_c σ : Int)) E (tm_n σ E)) k p = tm_f σ k p := fun k p h1 h2 => by
      show (if p = 1000 + (tm_c σ : Int) then _ else if k = 384 ∧ p = 106 then _ else tm_f σ k p) = _
      rw [if_neg (by omega), if_neg (by omega)]
    refine ⟨_, rfl, ?_, ?_, ?_, ?_, ?_, ?_, ?_, ?_, ?_⟩
    · exact (((((((tm_Ex.rf σ).wf 384 106 _ (Or.inr ⟨rfl, by decide⟩)).ne 25 _ _).cp _ E _ (Int.le_refl _)).wf 385 106 _ (Or.inr ⟨rfl, by decide⟩)).wa _ N r (Or.inl (Int.le_refl _))).wf 386 106 _ (Or.inr ⟨rfl, by decide⟩))
    · exact Nat.le_refl _
    · show tm_z σ + Int.toNat (tm_n σ E + mx) ≤ _
      omega
    · show (if (106 : Int) = 1000 + (tm_c σ : Int) then _ else _) = _
      rw [if_neg (by omega)]
      rfl
    · rfl
    · intro k p h1 h2
      rw [tm_f_wf, if_neg (fun h9 => h1 h9.2), tm_f_wa, tm_f_wf, if_neg (fun h9 => h1 h9.2)]
      exact hf9 k p h1 h2
    · refine ⟨?_, ?_, ?_, ?_, ?_⟩
      · show (1000 : Int) ≤ 1000 + (tm_c σ : Int)
        omega
      · show 1000 + (tm_c σ : Int) < 1000 + ((tm_c σ + 1 : Nat) : Int)
        omega
      · exact hk25
      · have h9 : N + 1 ≤ tm_n σ E + mx := by omega
        rw [← hn25] at h9
        exact h9
      · have h9 : tm_n σ E + mx ≤ 200 := by omega
        rw [← hn25] at h9
        exact h9
    · intro j j0 j1
      unfold tm_nr
      rw [hE]
      show (if 1000 + (tm_c σ : Int) = 1000 + (tm_c σ : Int) ∧ j = N then r else if 1000 + (tm_c σ : Int) = 1000 + (tm_c σ : Int) ∧ 0 ≤ j ∧ j < tm_n σ E then (if E = 1000 + (tm_c σ : Int) then _ else tm_a σ E j) else _) = _
      rw [if_neg (by omega), if_pos ⟨rfl, j0, by omega⟩, if_neg (by omega)]
    · show (if 1000 + (tm_c σ : Int) = 1000 + (tm_c σ : Int) ∧ N = N then r else _) = _
      rw [if_pos ⟨rfl, rfl⟩]
  · rw [if_neg hfull]
    unfold fc_J3_add_2_J11
    (simp only [tm_f_wf, tm_f_wa, tm_a_wf, tm_a_wa, tm_n_wf, tm_n_wa, tm_k_wf, tm_k_wa, tm_c_wf, tm_c_wa, tm_z_wf, tm_z_wa, tm_u_wf, tm_u_wa, tm_v_wf, tm_v_wa, tm_lt_e, tm_ls_e, tm_bd_rt, tm_bd_th, Nat.reduceEqDiff, Int.reduceEq, Int.reduceNeg, false_and, and_false, true_and, and_true, and_self, if_false, if_true, reduceIte, ite_true, ite_false, reduceCtorEq])
    rw [tm_gk_t e1, tm_gk_t hr.1, tm_gx_t (by omega), tm_gi_t (by omega), tm_gk_t hf, tm_bd_rt]
    refine ⟨_, rfl, ?_, ?_, ?_, ?_, ?_, ?_, ?_, ?_, ?_⟩
    · exact (((tm_Ex.rf σ).wf 384 106 _ (Or.inr ⟨rfl, by decide⟩)).wa E N r (Or.inr ⟨e0.1, by rw [e1]; decide⟩)).wf 386 106 _ (Or.inr ⟨rfl, by decide⟩)
    · exact Nat.le_succ _
    · exact Nat.le_add_right _ _
    · rfl
    · rfl
    · intro k p h1 h2
      rw [tm_f_wf, if_neg (fun h9 => h1 h9.2), tm_f_wa, tm_f_wf, if_neg (fun h9 => h1 h9.2)]
    · show 1000 ≤ tm_f σ 385 106 ∧ tm_f σ 385 106 < 1000 + (tm_c σ : Int) ∧ tm_k σ (tm_f σ 385 106) = 25 ∧ N + 1 ≤ tm_n σ (tm_f σ 385 106) ∧ tm_n σ (tm_f σ 385 106) ≤ 200
      rw [hE]
      exact ⟨e0.1, e0.2, e1, by omega, e2.2⟩
    · intro j j0 j1
      show (if tm_f σ 385 106 = E ∧ j = N then r else tm_a σ (tm_f σ 385 106) j) = _
      rw [if_neg (by omega)]
      rfl
    · show (if tm_f σ 385 106 = E ∧ N = N then r else _) = _
      rw [if_pos ⟨hE, rfl⟩]

/-- the component's copy of the letters -/
theorem tm_known_loop (a n v r : Int) : ∀ (f : Nat) (i : Int) (σ : tm_S), (0 ≤ i ∧ i ≤ n) → n - i < (f : Int) → n ≤ 1000 → tm_k σ a = 20 ∧ n ≤ tm_n σ a → tm_k σ r = 20 ∧ n ≤ tm_n σ r → a ≠ r → (∀ j : Int, 0 ≤ j → j < n → tm_ch (tm_a σ a j)) →
    ∃ σ' : tm_S, fc_known_L51 f a n v r i σ = (tm_gn σ' 4 <| tm_lt (1000 + (tm_c σ' : Int)) fun n72 => tm_ls (tm_ne σ' 4 0 4) fun τ4 => tm_bd (fc_J3_size 106 τ4) fun u83 σ83 => tm_gk (tm_k σ83 n72) 4 <| tm_bd (fc_X5_init n72 r v u83 σ83) fun u86 σ86 => tm_bd (fc_J3_add 106 n72 σ86) fun u97 σ97 => tm_bd (fc_tokenOf n72 σ97) fun u103 σ103 => tm_rt u103 σ103) ∧ tm_Aw r σ σ' ∧ ∀ j : Int, 0 ≤ j → j < n → tm_a σ' r j = if i ≤ j then tm_a σ a j else tm_a σ r j := by
  intro f
  induction f with
  | zero => intro i σ h0 h1; exact absurd h1 (by omega)
  | succ f ih =>
    intro i σ h0 h1 h2 h3 h4 h5 h6
    show ∃ σ' : tm_S, fc_known_B51 (fc_known_L51 f) a n v r i σ = _ ∧ _
    unfold fc_known_B51
    by_cases hi : i < n
    · have hch := h6 i h0.1 hi
      unfold tm_ch at hch
      rw [if_pos hi, tm_gk_t h3.1, tm_gx_t (by omega), tm_gk_t h4.1, tm_gx_t (by omega), tm_gb_t (by omega), tm_gi_t (by omega)]
      have hr : ∀ b j : Int, b ≠ r → tm_a (tm_wa σ r i (tm_a σ a i)) b j = tm_a σ b j := (tm_Aw.wa σ r i _).a
      obtain ⟨σ', e1, e2, e3⟩ := ih (i + 1) (tm_wa σ r i (tm_a σ a i)) (by omega) (by omega) h2 h3 h4 h5 (fun j j0 j1 => by rw [hr a j h5]; exact h6 j j0 j1)
      refine ⟨σ', e1, (tm_Aw.wa σ r i _).tr e2, fun j j0 j1 => ?_⟩
      rw [e3 j j0 j1, hr a j h5, tm_a_wa]
      by_cases hj : j = i
      · subst hj
        rw [if_neg (by omega), if_pos ⟨rfl, rfl⟩, if_pos (Int.le_refl _)]
      · by_cases hj2 : i ≤ j
        · rw [if_pos (by omega), if_pos hj2]
        · rw [if_neg (by omega), if_neg (fun h => hj h.2), if_neg hj2]
    · rw [if_neg hi]
      exact ⟨σ, rfl, tm_Aw.rf r σ, fun j j0 j1 => by rw [if_neg (by omega)]⟩
/-- and the model's -/
theorem fm_named_loop (N : Int) (hN : 18 ≤ N ∧ N ≤ 117) : ∀ (f : Nat) (i : Int) (τ : tm_S), (0 ≤ i ∧ i ≤ tm_f τ 464 0) → tm_f τ 464 0 - i < (f : Int) → tm_f τ 464 0 ≤ 11 → tm_f τ 459 0 = N →
    ∃ τ' : tm_S, fm_named_L66 f i τ = tm_rt (4096 + N) τ' ∧ (∀ k : Nat, k ≠ 459 → tm_f τ' k 0 = tm_f τ k 0) ∧ tm_f τ' 459 0 = N + 1 ∧ (∀ a j : Int, a ≠ 112 → tm_a τ' a j = tm_a τ a j) ∧ ∀ j : Int, tm_a τ' 112 j = if 11 * N + i ≤ j ∧ j < 11 * N + tm_f τ 464 0 then tm_a τ 117 (j - 11 * N) else tm_a τ 112 j := by
  intro f
  induction f with
  | zero => intro i τ h0 h1; exact absurd h1 (by omega)
  | succ f ih =>
    intro i τ h0 h1 h2 h3
    show ∃ τ' : tm_S, fm_named_B66 (fm_named_L66 f) i τ = _ ∧ _
    unfold fm_named_B66
    by_cases hi : i < tm_f τ 464 0
    · rw [if_pos hi, h3, tm_gi_t (by omega), tm_gi_t (by omega), tm_gx_t (by omega), tm_gx_t (by omega), tm_gi_t (by omega)]
      obtain ⟨τ', e1, e2, e3, e4, e5⟩ := ih (i + 1) (tm_wa τ 112 (11 * N + i) (tm_a τ 117 i)) (by (simp only [tm_f_wf, tm_f_wa, tm_a_wf, tm_a_wa, tm_n_wf, tm_n_wa, tm_k_wf, tm_k_wa, tm_c_wf, tm_c_wa, tm_z_wf, tm_z_wa, tm_u_wf, tm_u_wa, tm_v_wf, tm_v_wa, tm_lt_e, tm_ls_e, tm_bd_rt, tm_bd_th, Nat.reduceEqDiff, Int.reduceEq, Int.reduceNeg, false_and, and_false, true_and, and_true, and_self, if_false, if_true, reduceIte, ite_true, ite_false, reduceCtorEq]); omega) (by (simp only [tm_f_wf, tm_f_wa, tm_a_wf, tm_a_wa, tm_n_wf, tm_n_wa, tm_k_wf, tm_k_wa, tm_c_wf, tm_c_wa, tm_z_wf, tm_z_wa, tm_u_wf, tm_u_wa, tm_v_wf, tm_v_wa, tm_lt_e, tm_ls_e, tm_bd_rt, tm_bd_th, Nat.reduceEqDiff, Int.reduceEq, Int.reduceNeg, false_and, and_false, true_and, and_true, and_self, if_false, if_true, reduceIte, ite_true, ite_false, reduceCtorEq]); omega) h2 h3
      refine ⟨τ', e1, fun k hk => (e2 k hk).trans rfl, e3, fun a j ha => (e4 a j ha).trans (by rw [tm_a_wa, if_neg (fun h => ha h.1)]), fun j => ?_⟩
      rw [e5 j]
      (simp only [tm_f_wf, tm_f_wa, tm_a_wf, tm_a_wa, tm_n_wf, tm_n_wa, tm_k_wf, tm_k_wa, tm_c_wf, tm_c_wa, tm_z_wf, tm_z_wa, tm_u_wf, tm_u_wa, tm_v_wf, tm_v_wa, tm_lt_e, tm_ls_e, tm_bd_rt, tm_bd_th, Nat.reduceEqDiff, Int.reduceEq, Int.reduceNeg, false_and, and_false, true_and, and_true, and_self, if_false, if_true, reduceIte, ite_true, ite_false, reduceCtorEq])
      by_cases hj : j = 11 * N + i
      · subst hj
        rw [if_neg (by omega), if_pos rfl, if_pos (by omega)]
        congr 1
        omega
      · by_cases hj2 : 11 * N + i ≤ j ∧ j < 11 * N + tm_f τ 464 0
        · rw [if_pos (by omega), if_pos hj2]
        · rw [if_neg (by omega), if_neg hj, if_neg hj2]
    · rw [if_neg hi]
      (simp only [tm_f_wf, tm_f_wa, tm_a_wf, tm_a_wa, tm_n_wf, tm_n_wa, tm_k_wf, tm_k_wa, tm_c_wf, tm_c_wa, tm_z_wf, tm_z_wa, tm_u_wf, tm_u_wa, tm_v_wf, tm_v_wa, tm_lt_e, tm_ls_e, tm_bd_rt, tm_bd_th, Nat.reduceEqDiff, Int.reduceEq, Int.reduceNeg, false_and, and_false, true_and, and_true, and_self, if_false, if_true, reduceIte, ite_true, ite_false, reduceCtorEq])
      rw [h3, tm_gi_t (by omega), tm_gi_t (by omega), tm_gi_t (by omega), show 4096 + (N + 1) - 1 = 4096 + N by omega]
      refine ⟨_, rfl, fun k hk => ?_, rfl, fun a j _ => rfl, fun j => ?_⟩
      · rw [tm_f_wf, if_neg (fun h => hk h.1)]
      · rw [if_neg (by omega)]
        rfl

theorem tm_Ex.tr {σ0 σ1 σ2 : tm_S} (h : tm_Ex σ0 σ1) (g : tm_Ex σ1 σ2) : tm_Ex σ0 σ2 := by
  have hc := h.kh.c
  refine tm_Ex.mk (h.kh.tr g.kh) (fun k r hr => ?_) (fun a i ha => (g.a a i ha).trans (h.a a i ha)) ⟨g.u.1.trans h.u.1, g.u.2.trans h.u.2⟩
  exact (g.f k r (by omega)).trans (h.f k r hr)
/-- the names so far, after new things are made -/
theorem tm_Na.ex {N N' M M' : Int} {σ σ' τ τ' : tm_S} {r k : Int} (h : tm_Na N M σ τ r k) (hN : N ≤ N') (hM : M ≤ M') (x : tm_Ex σ σ') (kt : tm_Tk M τ τ') (h3 : tm_a τ' 113 k = tm_a τ 113 k) (h4 : tm_a τ' 114 k = tm_a τ 114 k) (h5 : tm_a τ' 115 k = tm_a τ 115 k) (hl : ∀ i : Int, 0 ≤ i → i < tm_a τ 113 k → tm_a τ' 112 (11 * k + i) = tm_a τ 112 (11 * k + i)) : tm_Na N' M' σ' τ' r k := by
  have r0 := h.r0
  refine h.go hN hM x.kh kt ?_ h3 h4 hl
  rw [x.f 195 r (Or.inr ⟨rfl, r0.2⟩), h5]
  exact h.me.go hN hM x.kh kt
theorem tm_Ns.ex {N M M' : Int} {σ σ' τ τ' : tm_S} (h : tm_Ns N M σ τ) (hM : M ≤ M') (x : tm_Ex σ σ') (kt : tm_Tk M τ τ') (hE : tm_f σ' 385 106 = tm_f σ 385 106) (hl : ∀ j : Int, 0 ≤ j → j < N → tm_a σ' (tm_f σ 385 106) j = tm_a σ (tm_f σ 385 106) j) (hr : ∀ a i : Int, 112 ≤ a → a ≤ 115 → tm_a τ' a i = tm_a τ a i) : tm_Ns N M' σ' τ' := by
  have e0 := h.e0
  have hk := x.kh.k _ e0.2
  have hc := x.kh.c
  refine tm_Ns.mk (by rw [hE]; omega) (by rw [hE, hk.1]; exact h.e1) (by rw [hE, hk.2]; exact h.e2) (fun k k0 k1 => ?_)
  have e9 : tm_nr σ' k = tm_nr σ k := by
    unfold tm_nr
    rw [hE]
    exact hl k k0 k1
  rw [e9]
  exact (h.nm k k0 k1).ex (Int.le_refl _) hM x kt (hr 113 k (by decide) (by decide)) (hr 114 k (by decide) (by decide)) (hr 115 k (by decide) (by decide)) (fun i _ _ => hr 112 _ (by decide) (by decide))
theorem sm_known {q : tm_Pm} {b : Int} {σ τ : tm_S} {a n v : Int} (h : tm_Si q b 0 σ τ) (ha : tm_k σ a = 20 ∧ n ≤ tm_n σ a ∧ a < 1000) (hs : tm_Sp σ τ a n) (hv : v = 0 ∨ v = 1) :
    tm_RR (fun x σ' y τ' => tm_Si q b 0 σ' τ' ∧ tm_Ex σ σ' ∧ tm_Tx τ τ' ∧ 4096 ≤ y ∧ y < 4096 + tm_f τ' 459 0 ∧ x = 2 * y - 4096) (fun σ' w τ' => w = -1 ∧ tm_De q σ' τ') (fc_known a n v σ) (fm_named v τ) := by
  have hnn := h.nn
  have hls := h.fx.ls
  have hmd := h.md
  have hbc := h.bc
  have hbz := h.bz
  have hsp := h.sp
  have hmc := h.mc
  have hs9 := hs
  obtain ⟨s1, s2, s3, s4⟩ := hs9
  unfold fc_known fm_named
  rcases tm_find (v := v) h.ns hls hnn.1 rfl (by omega) ⟨ha.1, ha.2.1⟩ hs with ⟨k, k0, k1, e1, e2⟩ | ⟨e1, e2⟩
  · have hna := h.ns.nm k k0 k1
    have hr0 := hna.r0
    rw [e1, e2, tm_bd_rt, tm_bd_rt, if_neg (by omega), if_neg (by omega)]
    unfold fc_tokenOf
    rw [tm_gk_t hna.kd, hna.nu, tm_gi_t (by omega), tm_gi_t (by omega), tm_bd_rt, tm_gi_t (by omega)]
    exact tm_RRrt ⟨h, tm_Ex.rf σ, tm_Tx.rf τ, by omega, by omega, by omega⟩
  · rw [e1, e2, tm_bd_rt, tm_bd_rt, if_pos (by decide), if_pos (by decide), tm_J3_size hls, tm_bd_rt, tm_gi_t (by decide), hnn.1]
    by_cases hN : tm_f τ 459 0 = 118
    · rw [if_pos (by omega), if_pos hN]
      exact tm_RRfail h (by decide) (fun σ' τ' hd => ⟨_, _, rfl, rfl, hd⟩)
    · rw [if_neg (by omega), if_neg hN]
      unfold fc_known_J43
      rw [tm_gx_t (by omega), tm_gn_t ⟨by omega, by omega⟩, tm_lt_e, tm_ls_e]
      generalize hN9 : tm_f τ 459 0 = N at *
      -- the model
      have hm : ∃ τ' : tm_S, (tm_gx N 120 <| tm_gx (tm_f (tm_wa τ 113 N (tm_f τ 464 0)) 459 0) 120 <| tm_gz v <| tm_gx (tm_f (tm_wa (tm_wa τ 113 N (tm_f τ 464 0)) 114 (tm_f (tm_wa τ 113 N (tm_f τ 464 0)) 459 0) v) 459 0) 120 <| tm_ls (tm_wa (tm_wa (tm_wa τ 113 N (tm_f τ 464 0)) 114 (tm_f (tm_wa τ 113 N (tm_f τ 464 0)) 459 0) v) 115 (tm_f (tm_wa (tm_wa τ 113 N (tm_f τ 464 0)) 114 (tm_f (tm_wa τ 113 N (tm_f τ 464 0)) 459 0) v) 459 0) 0) fun τ3 => fm_named_L66 tm_FU 0 τ3) = tm_rt (4096 + N) τ' ∧ tm_Tx τ τ' ∧ tm_f τ' 459 0 = N + 1 ∧ tm_a τ' 113 N = n ∧ tm_a τ' 114 N = v ∧ tm_a τ' 115 N = 0 ∧ (∀ i : Int, 0 ≤ i → i < n → tm_a τ' 112 (11 * N + i) = tm_a τ 117 i) ∧ ∀ k : Int, 0 ≤ k → k < N → tm_a τ' 113 k = tm_a τ 113 k ∧ tm_a τ' 114 k = tm_a τ 114 k ∧ tm_a τ' 115 k = tm_a τ 115 k ∧ ∀ i : Int, 0 ≤ i → i < 11 → tm_a τ' 112 (11 * k + i) = tm_a τ 112 (11 * k + i) := by
        (simp only [tm_f_wf, tm_f_wa, tm_a_wf, tm_a_wa, tm_n_wf, tm_n_wa, tm_k_wf, tm_k_wa, tm_c_wf, tm_c_wa, tm_z_wf, tm_z_wa, tm_u_wf, tm_u_wa, tm_v_wf, tm_v_wa, tm_lt_e, tm_ls_e, tm_bd_rt, tm_bd_th, Nat.reduceEqDiff, Int.reduceEq, Int.reduceNeg, false_and, and_false, true_and, and_true, and_self, if_false, if_true, reduceIte, ite_true, ite_false, reduceCtorEq])
        rw [hN9, tm_gx_t (by omega), tm_gx_t (by omega), tm_gz_t hv, tm_gx_t (by omega)]
        obtain ⟨τ', m1, m2, m3, m4, m5⟩ := fm_named_loop N (by omega) tm_FU 0 (tm_wa (tm_wa (tm_wa τ 113 N (tm_f τ 464 0)) 114 N v) 115 N 0) (by (simp only [tm_f_wf, tm_f_wa, tm_a_wf, tm_a_wa, tm_n_wf, tm_n_wa, tm_k_wf, tm_k_wa, tm_c_wf, tm_c_wa, tm_z_wf, tm_z_wa, tm_u_wf, tm_u_wa, tm_v_wf, tm_v_wa, tm_lt_e, tm_ls_e, tm_bd_rt, tm_bd_th, Nat.reduceEqDiff, Int.reduceEq, Int.reduceNeg, false_and, and_false, true_and, and_true, and_self, if_false, if_true, reduceIte, ite_true, ite_false, reduceCtorEq]); omega) (by unfold tm_FU; (simp only [tm_f_wf, tm_f_wa, tm_a_wf, tm_a_wa, tm_n_wf, tm_n_wa, tm_k_wf, tm_k_wa, tm_c_wf, tm_c_wa, tm_z_wf, tm_z_wa, tm_u_wf, tm_u_wa, tm_v_wf, tm_v_wa, tm_lt_e, tm_ls_e, tm_bd_rt, tm_bd_th, Nat.reduceEqDiff, Int.reduceEq, Int.reduceNeg, false_and, and_false, true_and, and_true, and_self, if_false, if_true, reduceIte, ite_true, ite_false, reduceCtorEq]); omega) (by (simp only [tm_f_wf, tm_f_wa, tm_a_wf, tm_a_wa, tm_n_wf, tm_n_wa, tm_k_wf, tm_k_wa, tm_c_wf, tm_c_wa, tm_z_wf, tm_z_wa, tm_u_wf, tm_u_wa, tm_v_wf, tm_v_wa, tm_lt_e, tm_ls_e, tm_bd_rt, tm_bd_th, Nat.reduceEqDiff, Int.reduceEq, Int.reduceNeg, false_and, and_false, true_and, and_true, and_self, if_false, if_true, reduceIte, ite_true, ite_false, reduceCtorEq]); omega) (by (simp only [tm_f_wf, tm_f_wa, tm_a_wf, tm_a_wa, tm_n_wf, tm_n_wa, tm_k_wf, tm_k_wa, tm_c_wf, tm_c_wa, tm_z_wf, tm_z_wa, tm_u_wf, tm_u_wa, tm_v_wf, tm_v_wa, tm_lt_e, tm_ls_e, tm_bd_rt, tm_bd_th, Nat.reduceEqDiff, Int.reduceEq, Int.reduceNeg, false_and, and_false, true_and, and_true, and_self, if_false, if_true, reduceIte, ite_true, ite_false, reduceCtorEq]); exact hN9)
        refine ⟨τ', m1, tm_Tx.mk (fun k k1 k2 => m2 k k1) (by omega) (fun a i a2 a3 a4 a5 a7 => ?_), m3, ?_, ?_, ?_, ?_, ?_⟩
        · rw [m4 a i a2, tm_a_wa, if_neg (fun h => a5 h.1), tm_a_wa, if_neg (fun h => a4 h.1), tm_a_wa, if_neg (fun h => a3 h.1)]
        · rw [m4 113 N (by decide)]
          (simp only [tm_f_wf, tm_f_wa, tm_a_wf, tm_a_wa, tm_n_wf, tm_n_wa, tm_k_wf, tm_k_wa, tm_c_wf, tm_c_wa, tm_z_wf, tm_z_wa, tm_u_wf, tm_u_wa, tm_v_wf, tm_v_wa, tm_lt_e, tm_ls_e, tm_bd_rt, tm_bd_th, Nat.reduceEqDiff, Int.reduceEq, Int.reduceNeg, false_and, and_false, true_and, and_true, and_self, if_false, if_true, reduceIte, ite_true, ite_false, reduceCtorEq])
          exact s1
        · rw [m4 114 N (by decide)]
          (simp only [tm_f_wf, tm_f_wa, tm_a_wf, tm_a_wa, tm_n_wf, tm_n_wa, tm_k_wf, tm_k_wa, tm_c_wf, tm_c_wa, tm_z_wf, tm_z_wa, tm_u_wf, tm_u_wa, tm_v_wf, tm_v_wa, tm_lt_e, tm_ls_e, tm_bd_rt, tm_bd_th, Nat.reduceEqDiff, Int.reduceEq, Int.reduceNeg, false_and, and_false, true_and, and_true, and_self, if_false, if_true, reduceIte, ite_true, ite_false, reduceCtorEq])
        · rw [m4 115 N (by decide)]
          (simp only [tm_f_wf, tm_f_wa, tm_a_wf, tm_a_wa, tm_n_wf, tm_n_wa, tm_k_wf, tm_k_wa, tm_c_wf, tm_c_wa, tm_z_wf, tm_z_wa, tm_u_wf, tm_u_wa, tm_v_wf, tm_v_wa, tm_lt_e, tm_ls_e, tm_bd_rt, tm_bd_th, Nat.reduceEqDiff, Int.reduceEq, Int.reduceNeg, false_and, and_false, true_and, and_true, and_self, if_false, if_true, reduceIte, ite_true, ite_false, reduceCtorEq])
        · intro i i0 i1
          rw [m5]
          (simp only [tm_f_wf, tm_f_wa, tm_a_wf, tm_a_wa, tm_n_wf, tm_n_wa, tm_k_wf, tm_k_wa, tm_c_wf, tm_c_wa, tm_z_wf, tm_z_wa, tm_u_wf, tm_u_wa, tm_v_wf, tm_v_wa, tm_lt_e, tm_ls_e, tm_bd_rt, tm_bd_th, Nat.reduceEqDiff, Int.reduceEq, Int.reduceNeg, false_and, and_false, true_and, and_true, and_self, if_false, if_true, reduceIte, ite_true, ite_false, reduceCtorEq])
          rw [if_pos (by omega)]
          congr 1
          omega
        · intro k k0 k1
          refine ⟨?_, ?_, ?_, fun i i0 i1 => ?_⟩
          · rw [m4 113 k (by decide)]
            (simp only [tm_f_wf, tm_f_wa, tm_a_wf, tm_a_wa, tm_n_wf, tm_n_wa, tm_k_wf, tm_k_wa, tm_c_wf, tm_c_wa, tm_z_wf, tm_z_wa, tm_u_wf, tm_u_wa, tm_v_wf, tm_v_wa, tm_lt_e, tm_ls_e, tm_bd_rt, tm_bd_th, Nat.reduceEqDiff, Int.reduceEq, Int.reduceNeg, false_and, and_false, true_and, and_true, and_self, if_false, if_true, reduceIte, ite_true, ite_false, reduceCtorEq])
            rw [if_neg (by omega)]
          · rw [m4 114 k (by decide)]
            (simp only [tm_f_wf, tm_f_wa, tm_a_wf, tm_a_wa, tm_n_wf, tm_n_wa, tm_k_wf, tm_k_wa, tm_c_wf, tm_c_wa, tm_z_wf, tm_z_wa, tm_u_wf, tm_u_wa, tm_v_wf, tm_v_wa, tm_lt_e, tm_ls_e, tm_bd_rt, tm_bd_th, Nat.reduceEqDiff, Int.reduceEq, Int.reduceNeg, false_and, and_false, true_and, and_true, and_self, if_false, if_true, reduceIte, ite_true, ite_false, reduceCtorEq])
            rw [if_neg (by omega)]
          · rw [m4 115 k (by decide)]
            (simp only [tm_f_wf, tm_f_wa, tm_a_wf, tm_a_wa, tm_n_wf, tm_n_wa, tm_k_wf, tm_k_wa, tm_c_wf, tm_c_wa, tm_z_wf, tm_z_wa, tm_u_wf, tm_u_wa, tm_v_wf, tm_v_wa, tm_lt_e, tm_ls_e, tm_bd_rt, tm_bd_th, Nat.reduceEqDiff, Int.reduceEq, Int.reduceNeg, false_and, and_false, true_and, and_true, and_self, if_false, if_true, reduceIte, ite_true, ite_false, reduceCtorEq])
            rw [if_neg (by omega)]
          · rw [m5]
            (simp only [tm_f_wf, tm_f_wa, tm_a_wf, tm_a_wa, tm_n_wf, tm_n_wa, tm_k_wf, tm_k_wa, tm_c_wf, tm_c_wa, tm_z_wf, tm_z_wa, tm_u_wf, tm_u_wa, tm_v_wf, tm_v_wa, tm_lt_e, tm_ls_e, tm_bd_rt, tm_bd_th, Nat.reduceEqDiff, Int.reduceEq, Int.reduceNeg, false_and, and_false, true_and, and_true, and_self, if_false, if_true, reduceIte, ite_true, ite_false, reduceCtorEq])
            rw [if_neg (by omega)]
      obtain ⟨τ', m1, tx, m3, m4, m5, m6, m7, m8⟩ := hm
      rw [m1]
      clear m1
      -- the component
      have hc0 : tm_c (tm_ne σ 20 n (Int.toNat n)) = tm_c σ + 1 := rfl
      obtain ⟨σ1, f1, f2, f3⟩ := tm_known_loop a n v (1000 + (tm_c σ : Int)) tm_FU 0 (tm_ne σ 20 n (Int.toNat n)) (by omega) (by unfold tm_FU; omega) (by omega) (by rw [tm_k_ne, tm_n_ne, if_neg (by omega), if_neg (by omega)]; exact ⟨ha.1, ha.2.1⟩) (by rw [tm_k_ne, tm_n_ne, if_pos rfl, if_pos rfl]; exact ⟨rfl, Int.le_refl _⟩) (by omega) (fun j j0 j1 => by rw [tm_a_ne, if_neg (by omega), (s4 j j0 j1).1]; exact (s4 j j0 j1).2)
      rw [f1]
      clear f1
      have fc := f2.c
      rw [tm_c_ne, tm_z_ne, tm_u_ne, tm_v_ne] at fc
      rw [tm_gn_t ⟨by omega, by omega⟩, tm_lt_e, tm_ls_e]
      have k106 : tm_k (tm_ne σ1 4 0 4) 106 = 7 := by
        rw [tm_k_ne, if_neg (by omega), f2.k, tm_k_ne, if_neg (by omega)]
        exact hls
      have kn : tm_k (tm_ne σ1 4 0 4) (1000 + (tm_c σ1 : Int)) = 4 := by rw [tm_k_ne, if_pos rfl]
      have n106 : tm_f (tm_ne σ1 4 0 4) 386 106 = N := by
        rw [tm_f_ne, if_neg (by omega), f2.f, tm_f_ne, if_neg (by omega)]
        exact hnn.1
      rw [tm_J3_size k106, tm_bd_rt, tm_gk_t kn, n106]
      unfold fc_X5_init
      (simp only [tm_f_wf, tm_f_wa, tm_a_wf, tm_a_wa, tm_n_wf, tm_n_wa, tm_k_wf, tm_k_wa, tm_c_wf, tm_c_wa, tm_z_wf, tm_z_wa, tm_u_wf, tm_u_wa, tm_v_wf, tm_v_wa, tm_lt_e, tm_ls_e, tm_bd_rt, tm_bd_th, Nat.reduceEqDiff, Int.reduceEq, Int.reduceNeg, false_and, and_false, true_and, and_true, and_self, if_false, if_true, reduceIte, ite_true, ite_false, reduceCtorEq])
      rw [tm_gk_t kn, tm_gk_t kn, tm_gz_t hv, tm_gk_t kn, tm_bd_rt]
      have x1 : tm_Ex σ (tm_wf (tm_wf (tm_wf (tm_ne σ1 4 0 4) 192 (1000 + (tm_c σ1 : Int)) (1000 + (tm_c σ : Int))) 193 (1000 + (tm_c σ1 : Int)) v) 194 (1000 + (tm_c σ1 : Int)) N) := (((((((tm_Ex.rf σ).ne 20 n (Int.toNat n)).aw f2 (Int.le_refl _)).ne 4 0 4).wf 192 _ _ (Or.inl (by omega))).wf 193 _ _ (Or.inl (by omega))).wf 194 _ _ (Or.inl (by omega)))
      have g192 : tm_f (tm_wf (tm_wf (tm_wf (tm_ne σ1 4 0 4) 192 (1000 + (tm_c σ1 : Int)) (1000 + (tm_c σ : Int))) 193 (1000 + (tm_c σ1 : Int)) v) 194 (1000 + (tm_c σ1 : Int)) N) 192 (1000 + (tm_c σ1 : Int)) = 1000 + (tm_c σ : Int) := by (simp only [tm_f_wf, tm_f_wa, tm_a_wf, tm_a_wa, tm_n_wf, tm_n_wa, tm_k_wf, tm_k_wa, tm_c_wf, tm_c_wa, tm_z_wf, tm_z_wa, tm_u_wf, tm_u_wa, tm_v_wf, tm_v_wa, tm_lt_e, tm_ls_e, tm_bd_rt, tm_bd_th, Nat.reduceEqDiff, Int.reduceEq, Int.reduceNeg, false_and, and_false, true_and, and_true, and_self, if_false, if_true, reduceIte, ite_true, ite_false, reduceCtorEq])
      have g193 : tm_f (tm_wf (tm_wf (tm_wf (tm_ne σ1 4 0 4) 192 (1000 + (tm_c σ1 : Int)) (1000 + (tm_c σ : Int))) 193 (1000 + (tm_c σ1 : Int)) v) 194 (1000 + (tm_c σ1 : Int)) N) 193 (1000 + (tm_c σ1 : Int)) = v := by (simp only [tm_f_wf, tm_f_wa, tm_a_wf, tm_a_wa, tm_n_wf, tm_n_wa, tm_k_wf, tm_k_wa, tm_c_wf, tm_c_wa, tm_z_wf, tm_z_wa, tm_u_wf, tm_u_wa, tm_v_wf, tm_v_wa, tm_lt_e, tm_ls_e, tm_bd_rt, tm_bd_th, Nat.reduceEqDiff, Int.reduceEq, Int.reduceNeg, false_and, and_false, true_and, and_true, and_self, if_false, if_true, reduceIte, ite_true, ite_false, reduceCtorEq])
      have g194 : tm_f (tm_wf (tm_wf (tm_wf (tm_ne σ1 4 0 4) 192 (1000 + (tm_c σ1 : Int)) (1000 + (tm_c σ : Int))) 193 (1000 + (tm_c σ1 : Int)) v) 194 (1000 + (tm_c σ1 : Int)) N) 194 (1000 + (tm_c σ1 : Int)) = N := by (simp only [tm_f_wf, tm_f_wa, tm_a_wf, tm_a_wa, tm_n_wf, tm_n_wa, tm_k_wf, tm_k_wa, tm_c_wf, tm_c_wa, tm_z_wf, tm_z_wa, tm_u_wf, tm_u_wa, tm_v_wf, tm_v_wa, tm_lt_e, tm_ls_e, tm_bd_rt, tm_bd_th, Nat.reduceEqDiff, Int.reduceEq, Int.reduceNeg, false_and, and_false, true_and, and_true, and_self, if_false, if_true, reduceIte, ite_true, ite_false, reduceCtorEq])
      have g195 : tm_f (tm_wf (tm_wf (tm_wf (tm_ne σ1 4 0 4) 192 (1000 + (tm_c σ1 : Int)) (1000 + (tm_c σ : Int))) 193 (1000 + (tm_c σ1 : Int)) v) 194 (1000 + (tm_c σ1 : Int)) N) 195 (1000 + (tm_c σ1 : Int)) = -1 := by
        (simp only [tm_f_wf, tm_f_wa, tm_a_wf, tm_a_wa, tm_n_wf, tm_n_wa, tm_k_wf, tm_k_wa, tm_c_wf, tm_c_wa, tm_z_wf, tm_z_wa, tm_u_wf, tm_u_wa, tm_v_wf, tm_v_wa, tm_lt_e, tm_ls_e, tm_bd_rt, tm_bd_th, Nat.reduceEqDiff, Int.reduceEq, Int.reduceNeg, false_and, and_false, true_and, and_true, and_self, if_false, if_true, reduceIte, ite_true, ite_false, reduceCtorEq])
        rw [tm_f_ne, if_pos rfl]
        decide
      have gl : ∀ j : Int, 0 ≤ j → j < n → tm_a (tm_wf (tm_wf (tm_wf (tm_ne σ1 4 0 4) 192 (1000 + (tm_c σ1 : Int)) (1000 + (tm_c σ : Int))) 193 (1000 + (tm_c σ1 : Int)) v) 194 (1000 + (tm_c σ1 : Int)) N) (1000 + (tm_c σ : Int)) j = tm_a τ 117 j := by
        intro j j0 j1
        (simp only [tm_f_wf, tm_f_wa, tm_a_wf, tm_a_wa, tm_n_wf, tm_n_wa, tm_k_wf, tm_k_wa, tm_c_wf, tm_c_wa, tm_z_wf, tm_z_wa, tm_u_wf, tm_u_wa, tm_v_wf, tm_v_wa, tm_lt_e, tm_ls_e, tm_bd_rt, tm_bd_th, Nat.reduceEqDiff, Int.reduceEq, Int.reduceNeg, false_and, and_false, true_and, and_true, and_self, if_false, if_true, reduceIte, ite_true, ite_false, reduceCtorEq])
        rw [tm_a_ne, if_neg (by omega), f3 j j0 j1, if_pos j0, tm_a_ne, if_neg (by omega)]
        exact (s4 j j0 j1).1
      have gk : tm_k (tm_wf (tm_wf (tm_wf (tm_ne σ1 4 0 4) 192 (1000 + (tm_c σ1 : Int)) (1000 + (tm_c σ : Int))) 193 (1000 + (tm_c σ1 : Int)) v) 194 (1000 + (tm_c σ1 : Int)) N) (1000 + (tm_c σ : Int)) = 20 ∧ tm_n (tm_wf (tm_wf (tm_wf (tm_ne σ1 4 0 4) 192 (1000 + (tm_c σ1 : Int)) (1000 + (tm_c σ : Int))) 193 (1000 + (tm_c σ1 : Int)) v) 194 (1000 + (tm_c σ1 : Int)) N) (1000 + (tm_c σ : Int)) = n := by
        (simp only [tm_f_wf, tm_f_wa, tm_a_wf, tm_a_wa, tm_n_wf, tm_n_wa, tm_k_wf, tm_k_wa, tm_c_wf, tm_c_wa, tm_z_wf, tm_z_wa, tm_u_wf, tm_u_wa, tm_v_wf, tm_v_wa, tm_lt_e, tm_ls_e, tm_bd_rt, tm_bd_th, Nat.reduceEqDiff, Int.reduceEq, Int.reduceNeg, false_and, and_false, true_and, and_true, and_self, if_false, if_true, reduceIte, ite_true, ite_false, reduceCtorEq])
        rw [tm_k_ne, tm_n_ne, if_neg (by omega), if_neg (by omega), f2.k, f2.n, tm_k_ne, tm_n_ne, if_pos rfl, if_pos rfl]
        exact ⟨rfl, rfl⟩
      have g106 : ∀ k : Nat, k = 384 ∨ k = 385 ∨ k = 386 → tm_f (tm_wf (tm_wf (tm_wf (tm_ne σ1 4 0 4) 192 (1000 + (tm_c σ1 : Int)) (1000 + (tm_c σ : Int))) 193 (1000 + (tm_c σ1 : Int)) v) 194 (1000 + (tm_c σ1 : Int)) N) k 106 = tm_f σ k 106 := by
        intro k hk
        rw [tm_f_wf, if_neg (by omega), tm_f_wf, if_neg (by omega), tm_f_wf, if_neg (by omega), tm_f_ne, if_neg (by omega), f2.f, tm_f_ne, if_neg (by omega)]
      have gc : tm_c (tm_wf (tm_wf (tm_wf (tm_ne σ1 4 0 4) 192 (1000 + (tm_c σ1 : Int)) (1000 + (tm_c σ : Int))) 193 (1000 + (tm_c σ1 : Int)) v) 194 (1000 + (tm_c σ1 : Int)) N) = tm_c σ1 + 1 := rfl
      have gz : tm_z (tm_wf (tm_wf (tm_wf (tm_ne σ1 4 0 4) 192 (1000 + (tm_c σ1 : Int)) (1000 + (tm_c σ : Int))) 193 (1000 + (tm_c σ1 : Int)) v) 194 (1000 + (tm_c σ1 : Int)) N) = tm_z σ1 + 4 := rfl
      have ge : ∀ (b j : Int), b ≠ 1000 + (tm_c σ : Int) → b < 1000 + (tm_c σ : Int) → tm_a (tm_wf (tm_wf (tm_wf (tm_ne σ1 4 0 4) 192 (1000 + (tm_c σ1 : Int)) (1000 + (tm_c σ : Int))) 193 (1000 + (tm_c σ1 : Int)) v) 194 (1000 + (tm_c σ1 : Int)) N) b j = tm_a σ b j := by
        intro b j h1 h2
        (simp only [tm_f_wf, tm_f_wa, tm_a_wf, tm_a_wa, tm_n_wf, tm_n_wa, tm_k_wf, tm_k_wa, tm_c_wf, tm_c_wa, tm_z_wf, tm_z_wa, tm_u_wf, tm_u_wa, tm_v_wf, tm_v_wa, tm_lt_e, tm_ls_e, tm_bd_rt, tm_bd_th, Nat.reduceEqDiff, Int.reduceEq, Int.reduceNeg, false_and, and_false, true_and, and_true, and_self, if_false, if_true, reduceIte, ite_true, ite_false, reduceCtorEq])
        rw [tm_a_ne, if_neg (by omega), f2.a b j h1, tm_a_ne, if_neg (by omega)]
      have gkn : tm_k (tm_wf (tm_wf (tm_wf (tm_ne σ1 4 0 4) 192 (1000 + (tm_c σ1 : Int)) (1000 + (tm_c σ : Int))) 193 (1000 + (tm_c σ1 : Int)) v) 194 (1000 + (tm_c σ1 : Int)) N) (1000 + (tm_c σ1 : Int)) = 4 := kn
      have gk6 : tm_k (tm_wf (tm_wf (tm_wf (tm_ne σ1 4 0 4) 192 (1000 + (tm_c σ1 : Int)) (1000 + (tm_c σ : Int))) 193 (1000 + (tm_c σ1 : Int)) v) 194 (1000 + (tm_c σ1 : Int)) N) 106 = 7 := k106
      generalize (tm_wf (tm_wf (tm_wf (tm_ne σ1 4 0 4) 192 (1000 + (tm_c σ1 : Int)) (1000 + (tm_c σ : Int))) 193 (1000 + (tm_c σ1 : Int)) v) 194 (1000 + (tm_c σ1 : Int)) N) = σ2 at *
      have hE := h.ns.e0
      have ns2 : tm_Ns N (tm_f τ 471 0) σ2 τ := by
        have hns := h.ns
        rw [hN9] at hns
        exact hns.ex (Int.le_refl _) x1 (tm_Tk.rf _ τ) (g106 385 (by decide)) (fun j j0 j1 => ge _ j (by omega) (by omega)) (fun _ _ _ _ => rfl)
      have hu := x1.u
      obtain ⟨σ3, j1, x2, j3, j4, j5, j6, j7, j8, j9, j10⟩ := tm_J3_add ns2 gk6 (by rw [g106 386 (by decide)]; exact hnn.1) (by omega) (r := 1000 + (tm_c σ1 : Int)) ⟨gkn, by omega, by omega⟩ (by rw [g106 384 (by decide)]; omega) (by rw [hu.1, hu.2]; omega)
      rw [j1, tm_bd_rt]
      unfold fc_tokenOf
      have kk9 : ∀ q : Int, q < 1000 + (tm_c σ2 : Int) → tm_k σ3 q = tm_k σ2 q ∧ tm_n σ3 q = tm_n σ2 q := x2.kh.k
      have k3n : tm_k σ3 (1000 + (tm_c σ1 : Int)) = 4 := by rw [(kk9 _ (by omega)).1]; exact gkn
      have f3n : ∀ k : Nat, tm_f σ3 k (1000 + (tm_c σ1 : Int)) = tm_f σ2 k (1000 + (tm_c σ1 : Int)) := fun k => j7 k _ (by omega) (by omega)
      rw [tm_gk_t k3n, f3n, g194, tm_gi_t (by omega), tm_gi_t (by omega), tm_bd_rt]
      have x3 := x1.tr x2
      have hc3 := x2.kh.c
      have l3 : ∀ j : Int, tm_a σ3 (1000 + (tm_c σ : Int)) j = tm_a σ2 (1000 + (tm_c σ : Int)) j := fun j => x2.kh.a _ j (by omega) (by omega) (by rw [gk.1]; decide)
      refine tm_RRrt ⟨h.grow x3 tx (by omega) ⟨by rw [j6, m3], by omega⟩ (by rw [j5, g106 384 (by decide), m3]; omega) (by rw [m3]; omega) (by rw [m3]; omega) ?_ (fun k k0 k1 => ?_), x3, tx, by omega, by omega, by omega⟩
      · rw [m3]
        refine tm_Ns.mk ⟨j8.1, j8.2.1⟩ j8.2.2.1 j8.2.2.2 (fun k k0 k1 => ?_)
        by_cases hk : k = N
        · subst hk
          rw [j10]
          refine tm_Na.mk ?_ ?_ ?_ ?_ ?_ ?_ ?_ ?_ ?_
          · omega
          · exact k3n
          · rw [f3n]; exact g194
          · rw [f3n, g192]; omega
          · rw [f3n, g192, (kk9 _ (by omega)).1]; exact gk.1
          · rw [f3n, g192, (kk9 _ (by omega)).2, gk.2]; omega
          · intro i i0 i1
            rw [m4] at i1
            rw [f3n, g192, l3, gl i i0 i1, m7 i i0 i1]
            exact ⟨rfl, (s4 i i0 i1).2⟩
          · rw [f3n, g193, m5]; exact ⟨rfl, hv⟩
          · rw [f3n, g195, m6]; exact Or.inl ⟨rfl, rfl⟩
        · rw [j9 k k0 (by omega)]
          obtain ⟨n1, n2, n3, n4⟩ := m8 k k0 (by omega)
          have hna := ns2.nm k k0 (by omega)
          have hl2 := hna.l2
          exact hna.ex (by omega) (Int.le_refl _) x2 (tx.tk _) n1 n2 n3 (fun i i0 i1 => n4 i i0 (by omega))
      · rw [j9 k k0 (by omega)]
        unfold tm_nr
        rw [g106 385 (by decide)]
        exact ge _ k (by omega) (by omega)
