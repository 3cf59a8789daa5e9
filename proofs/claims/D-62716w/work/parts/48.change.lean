/-! CHANGES -/
set_option maxRecDepth 100000
theorem tm_MR.wf {N M : Int} {σ τ : tm_S} {r m : Int} (h : tm_MR N M σ τ r m) (k : Nat) (p v : Int) (hk : (k ≠ 256 ∧ k ≠ 320 ∧ k ≠ 321 ∧ k ≠ 322 ∧ k ≠ 192 ∧ k ≠ 193 ∧ k ≠ 194) ∨ p < 1000) : tm_MR N M (tm_wf σ k p v) τ r m := h.go (Int.le_refl _) (Int.le_refl _) ((tm_Kh.rf σ).wf k p v (by omega)) (tm_Tk.rf _ τ)
/-- the rows of the model's tables, when something else is written -/
theorem tm_Tk.wa {M : Int} {τ0 τ : tm_S} (h : tm_Tk M τ0 τ) (a i v : Int) (ha : a ≠ 124 ∧ a ≠ 125 ∧ a ≠ 126 ∧ a ≠ 127 ∧ a ≠ 128) : tm_Tk M τ0 (tm_wa τ a i v) := by
  intro j j0 j1
  obtain ⟨h1, h2, h3, h4, h5⟩ := h j j0 j1
  refine ⟨?_, ?_, ?_, fun i i0 i1 => ?_, fun i i0 i1 => ?_⟩
  · rw [tm_a_wa, if_neg (fun h9 => ha.1 h9.1.symm)]; exact h1
  · rw [tm_a_wa, if_neg (fun h9 => ha.2.2.1 h9.1.symm)]; exact h2
  · rw [tm_a_wa, if_neg (fun h9 => ha.2.2.2.2 h9.1.symm)]; exact h3
  · rw [tm_a_wa, if_neg (fun h9 => ha.2.1 h9.1.symm)]; exact h4 i i0 i1
  · rw [tm_a_wa, if_neg (fun h9 => ha.2.2.2.1 h9.1.symm)]; exact h5 i i0 i1
/-- a name means something else -/
theorem tm_Ns.mean {N M : Int} {σ τ : tm_S} (h : tm_Ns N M σ τ) {k r m : Int} (hk : 0 ≤ k ∧ k < N) (hr : tm_MR N M σ τ r m) : tm_Ns N M (tm_wf σ 195 (tm_nr σ k) r) (tm_wa τ 115 k m) := by
  refine tm_Ns.mk h.e0 h.e1 h.e2 (fun j j0 j1 => ?_)
  have hj := h.nm j j0 j1
  have hn := h.nm k hk.1 hk.2
  have kh : tm_Kh σ (tm_wf σ 195 (tm_nr σ k) r) := (tm_Kh.rf σ).wf 195 _ r (Or.inl (by decide))
  have kt : tm_Tk M τ (tm_wa τ 115 k m) := (tm_Tk.rf M τ).wa 115 k m (by decide)
  show tm_Na N M _ _ (tm_nr σ j) j
  refine hj.go (Int.le_refl _) (Int.le_refl _) kh kt ?_ rfl rfl (fun _ _ _ => rfl)
  (simp only [tm_f_wf, tm_f_wa, tm_a_wf, tm_a_wa, tm_n_wf, tm_n_wa, tm_k_wf, tm_k_wa, tm_c_wf, tm_c_wa, tm_z_wf, tm_z_wa, tm_u_wf, tm_u_wa, tm_v_wf, tm_v_wa, tm_lt_e, tm_ls_e, tm_bd_rt, tm_bd_th, Nat.reduceEqDiff, Int.reduceEq, Int.reduceNeg, false_and, and_false, true_and, and_true, and_self, if_false, if_true, reduceIte, ite_true, ite_false, reduceCtorEq])
  by_cases hjk : j = k
  · subst hjk
    rw [if_pos rfl, if_pos rfl]
    exact hr.go (Int.le_refl _) (Int.le_refl _) kh kt
  · have hne : tm_nr σ j ≠ tm_nr σ k := fun h9 => hjk (by rw [← hj.nu, ← hn.nu, h9])
    rw [if_neg hne, if_neg hjk]
    exact hj.me.go (Int.le_refl _) (Int.le_refl _) kh kt
theorem tm_Cs.mean {N M C G : Int} {σ τ : tm_S} (h : tm_Cs N M C G σ τ) (p k r m : Int) : tm_Cs N M C G (tm_wf σ 195 p r) (tm_wa τ 115 k m) := by
  refine tm_Cs.mk h.gr h.up (fun j j0 j1 => ?_)
  rcases h.of j j0 j1 with ⟨c1, c2, c3, c4, c5⟩ | c
  · exact Or.inl ⟨c1, c2, c3, c4, (c5.wf 195 p r (Or.inl (by decide))).go (Int.le_refl _) (Int.le_refl _) (tm_Kh.rf _) ((tm_Tk.rf M τ).wa 115 k m (by decide))⟩
  · exact Or.inr c
theorem tm_Kp.wf {D : Int} {σ0 σ : tm_S} (h : tm_Kp D σ0 σ) (k : Nat) (p v : Int) (hk : (k ≠ 256 ∧ k ≠ 320 ∧ k ≠ 321 ∧ k ≠ 322 ∧ k ≠ 192 ∧ k ≠ 193 ∧ k ≠ 194) ∨ p < 1000) (h2 : k ≠ 385 ∧ k ≠ 386) : tm_Kp D σ0 (tm_wf σ k p v) := by
  refine tm_Kp.mk (h.h.wf k p v (by omega)) ?_ (fun j j0 j1 => ?_) h.sp
  · rw [tm_f_wf, if_neg (fun h9 => h2.2 h9.1.symm)]; exact h.n
  · unfold tm_nr
    rw [tm_f_wf, if_neg (fun h9 => h2.1 h9.1.symm)]
    exact h.nr j j0 j1
theorem tm_Kt.wa {F lo : Int} {τ0 τ : tm_S} (h : tm_Kt F lo τ0 τ) (a i v : Int) (ha : a < 124 ∨ (136 < a) ∨ a = 129 ∨ a = 131) : tm_Kt F lo τ0 (tm_wa τ a i v) := by
  refine tm_Kt.mk h.n h.m (h.t.wa a i v (by omega)) (fun j j0 j1 => ?_) (fun j j0 j1 => ?_) (fun j j0 j1 => ?_)
  · simp only [tm_a_wa]
    rw [if_neg (by omega), if_neg (by omega), if_neg (by omega), if_neg (by omega)]
    exact h.fr j j0 j1
  · rw [tm_a_wa, if_neg (by omega)]; exact h.sp j j0 j1
  · rw [tm_a_wa, if_neg (by omega)]; exact h.cd j j0 j1
/-- what a change may touch: names' meanings, categories, the changes kept -/
def tm_Fc (σ τ σ' τ' : tm_S) : Prop :=
  (∀ (k : Nat) (r : Int), r < 1000 → ¬(r = 0 ∧ k = 22) → ¬(200 ≤ r ∧ r < 260) → tm_f σ' k r = tm_f σ k r) ∧
  (∀ a i : Int, a < 1000 → a ≠ 104 → tm_a σ' a i = tm_a σ a i) ∧
  (∀ k : Nat, k ≠ 467 → tm_f τ' k 0 = tm_f τ k 0) ∧
  (∀ a i : Int, a ≠ 108 → a ≠ 115 → a ≠ 120 → a ≠ 121 → a ≠ 122 → tm_a τ' a i = tm_a τ a i)
theorem tm_Fc.mk {σ τ σ' τ' : tm_S} (f : ∀ (k : Nat) (r : Int), r < 1000 → ¬(r = 0 ∧ k = 22) → ¬(200 ≤ r ∧ r < 260) → tm_f σ' k r = tm_f σ k r) (a : ∀ a i : Int, a < 1000 → a ≠ 104 → tm_a σ' a i = tm_a σ a i) (g : ∀ k : Nat, k ≠ 467 → tm_f τ' k 0 = tm_f τ k 0) (b : ∀ a i : Int, a ≠ 108 → a ≠ 115 → a ≠ 120 → a ≠ 121 → a ≠ 122 → tm_a τ' a i = tm_a τ a i) : tm_Fc σ τ σ' τ' := ⟨f, a, g, b⟩
theorem tm_Fc.f {σ τ σ' τ' : tm_S} (h : tm_Fc σ τ σ' τ') : ∀ (k : Nat) (r : Int), r < 1000 → ¬(r = 0 ∧ k = 22) → ¬(200 ≤ r ∧ r < 260) → tm_f σ' k r = tm_f σ k r := h.1
theorem tm_Fc.a {σ τ σ' τ' : tm_S} (h : tm_Fc σ τ σ' τ') : ∀ a i : Int, a < 1000 → a ≠ 104 → tm_a σ' a i = tm_a σ a i := h.2.1
theorem tm_Fc.g {σ τ σ' τ' : tm_S} (h : tm_Fc σ τ σ' τ') : ∀ k : Nat, k ≠ 467 → tm_f τ' k 0 = tm_f τ k 0 := h.2.2.1
theorem tm_Fc.b {σ τ σ' τ' : tm_S} (h : tm_Fc σ τ σ' τ') : ∀ a i : Int, a ≠ 108 → a ≠ 115 → a ≠ 120 → a ≠ 121 → a ≠ 122 → tm_a τ' a i = tm_a τ a i := h.2.2.2
/-- which one is changed: the component's name r (or -1) and character c, the model's number o -/
def tm_Of (N : Int) (σ : tm_S) (r c o : Int) : Prop := (0 ≤ o ∧ o < N ∧ r = tm_nr σ o ∧ c = 0) ∨ (200 ≤ o ∧ o < 328 ∧ r = -1 ∧ c = o - 200)
theorem tm_Of.k {q : tm_Pm} {b e : Int} {σ τ : tm_S} {r c o : Int} (h : tm_Si q b e σ τ) (ho : tm_Of (tm_f τ 459 0) σ r c o) : (r = -1 ∨ tm_k σ r ≠ 0) ∧ 0 ≤ c ∧ c < 128 ∧ 0 ≤ o ∧ o < 328 := by
  have hnn := h.nn
  rcases ho with ⟨a1, a2, a3, a4⟩ | ⟨a1, a2, a3, a4⟩
  · have hna := h.ns.nm o a1 a2
    refine ⟨Or.inr ?_, by omega, by omega, by omega, by omega⟩
    rw [a3, hna.kd]
    decide
  · exact ⟨Or.inl a3, by omega, by omega, by omega, by omega⟩
/-- whether the i-th is that one -/
theorem tm_Of.same {q : tm_Pm} {b e : Int} {σ τ : tm_S} {r c o i : Int} (h : tm_Si q b e σ τ) (ho : tm_Of (tm_f τ 459 0) σ r c o) (hi : 0 ≤ i ∧ i < tm_f τ 467 0) : (tm_f σ 64 (200 + i) = -1 ∨ tm_k σ (tm_f σ 64 (200 + i)) ≠ 0) ∧ ((tm_f σ 64 (200 + i) = r ∧ tm_f σ 66 (200 + i) = c) ↔ tm_a τ 121 i = o) := by
  have hnn := h.nn
  rcases h.cs.of i hi.1 hi.2 with ⟨c1, c2, c3, c4, c5⟩ | ⟨c1, c2, c3, c4, c5⟩
  · have h1 := h.ns.nm _ c1 c2
    have h1r := h1.r0
    refine ⟨Or.inr (by rw [c3, h1.kd]; decide), ?_⟩
    rcases ho with ⟨a1, a2, a3, a4⟩ | ⟨a1, a2, a3, a4⟩
    · have h2 := h.ns.nm o a1 a2
      constructor
      · intro h9
        rw [← h1.nu, ← h2.nu, ← c3, ← a3, h9.1]
      · intro h9
        rw [c3, a3, h9, c4, a4]
        exact ⟨rfl, rfl⟩
    · constructor
      · intro h9
        omega
      · intro h9
        omega
  · refine ⟨Or.inl c3, ?_⟩
    rcases ho with ⟨a1, a2, a3, a4⟩ | ⟨a1, a2, a3, a4⟩
    · have h2 := h.ns.nm o a1 a2
      have h2r := h2.r0
      constructor
      · intro h9
        omega
      · intro h9
        omega
    · constructor
      · intro h9
        omega
      · intro h9
        omega
/-- the component's search, from the top down -/
theorem tm_keep_loop {q : tm_Pm} {b e : Int} {σ τ : tm_S} {r c o : Int} (h : tm_Si q b e σ τ) (ho : tm_Of (tm_f τ 459 0) σ r c o) : ∀ (f : Nat) (i : Int), (-1 ≤ i ∧ i < tm_f τ 467 0) → i + 1 < (f : Int) →
    ((∃ j : Int, 0 ≤ j ∧ j ≤ i ∧ tm_a τ 120 j = tm_f τ 466 0 ∧ tm_a τ 121 j = o) → fc_keep_L15 f r c i σ = tm_rt 0 σ) ∧ (¬(∃ j : Int, 0 ≤ j ∧ j ≤ i ∧ tm_a τ 120 j = tm_f τ 466 0 ∧ tm_a τ 121 j = o) → fc_keep_L15 f r c i σ = fc_keep_J68 r c σ) := by
  have hok := tm_Of.k h ho
  have hcg := h.cg
  have hgr := h.gr
  intro f
  induction f with
  | zero => intro i h0 h1; exact absurd h1 (by omega)
  | succ f ih =>
    intro i h0 h1
    show (_ → fc_keep_B15 (fc_keep_L15 f) r c i σ = _) ∧ (_ → fc_keep_B15 (fc_keep_L15 f) r c i σ = _)
    unfold fc_keep_B15
    by_cases hi : i < 0
    · rw [if_pos hi]
      exact ⟨fun ⟨j, j0, j1, _⟩ => absurd j1 (by omega), fun _ => rfl⟩
    · have hkk := h.fx.ch i (by omega) (by omega)
      have hg := h.cs.gr i (by omega) h0.2
      obtain ⟨s1, s2⟩ := tm_Of.same h ho ⟨by omega, h0.2⟩
      rw [if_neg hi, tm_gx_t (by omega), tm_gk_t hkk, hg.1, hgr.1]
      obtain ⟨i1, i2⟩ := ih (i + -1) (by omega) (by omega)
      by_cases hgg : tm_a τ 120 i = tm_f τ 466 0
      · rw [if_pos hgg, tm_gq_t s1, tm_gq_t hok.1]
        by_cases hs : tm_a τ 121 i = o
        · obtain ⟨s3, s4⟩ := s2.mpr hs
          rw [if_pos s3, if_pos s4, tm_gx_t (by omega), tm_gx_t (by omega)]
          exact ⟨fun _ => rfl, fun h9 => absurd ⟨i, by omega, Int.le_refl _, hgg, hs⟩ h9⟩
        · have e9 : (if tm_f σ 64 (200 + i) = r then (tm_gx i 60 <| if tm_f σ 66 (200 + i) = c then tm_rt 0 σ else tm_gi (i + -1) <| fc_keep_L15 f r c (i + -1) σ) else tm_gi (i + -1) <| fc_keep_L15 f r c (i + -1) σ) = fc_keep_L15 f r c (i + -1) σ := by
            by_cases h3 : tm_f σ 64 (200 + i) = r
            · rw [if_pos h3, if_neg (fun h4 => hs (s2.mp ⟨h3, h4⟩)), tm_gx_t (by omega), tm_gi_t (by omega)]
            · rw [if_neg h3, tm_gi_t (by omega)]
          rw [tm_gx_t (by omega)]
          refine ⟨fun ⟨j, j0, j1, j2, j3⟩ => ?_, fun h9 => ?_⟩
          · have hj : j ≠ i := fun h8 => hs (h8 ▸ j3)
            exact e9.trans (i1 ⟨j, j0, by omega, j2, j3⟩)
          · exact e9.trans (i2 fun ⟨j, j0, j1, j2, j3⟩ => h9 ⟨j, j0, by omega, j2, j3⟩)
      · rw [if_neg hgg]
        refine ⟨fun ⟨j, j0, j1, j2, j3⟩ => ?_, fun _ => rfl⟩
        have u := h.cs.up j i j0 j1 h0.2
        have hj := h.cs.gr j j0 (by omega)
        omega
/-- the model's, over all -/
theorem tm_change_loop {τ : tm_S} {o m : Int} (hC : 0 ≤ tm_f τ 467 0 ∧ tm_f τ 467 0 ≤ 60) : ∀ (f : Nat) (v i : Int), (0 ≤ i ∧ i ≤ tm_f τ 467 0) → tm_f τ 467 0 - i < (f : Int) → (v = 0 ∨ v = 1) →
    ∃ w : Int, (w = 0 ∨ w = 1) ∧ (w = 1 ↔ (v = 1 ∨ ∃ j : Int, i ≤ j ∧ j < tm_f τ 467 0 ∧ tm_a τ 120 j = tm_f τ 466 0 ∧ tm_a τ 121 j = o)) ∧ fm_change_L16 f o m v i τ = fm_change_B16 (fun _ _ _ _ _ => none) o m w (tm_f τ 467 0) τ := by
  intro f
  induction f with
  | zero => intro v i h0 h1; exact absurd h1 (by omega)
  | succ f ih =>
    intro v i h0 h1 h2
    by_cases hi : i < tm_f τ 467 0
    · show ∃ w : Int, (w = 0 ∨ w = 1) ∧ _ ∧ fm_change_B16 (fm_change_L16 f) o m v i τ = _
      have hB : ∃ v', (v' = 0 ∨ v' = 1) ∧ (v' = 1 ↔ (v = 1 ∨ (tm_a τ 120 i = tm_f τ 466 0 ∧ tm_a τ 121 i = o))) ∧ fm_change_B16 (fm_change_L16 f) o m v i τ = fm_change_L16 f o m v' (i + 1) τ := by
        unfold fm_change_B16
        rw [if_pos hi]
        rcases h2 with rfl | rfl
        · rw [if_pos rfl, tm_gx_t (by omega)]
          by_cases g1 : tm_a τ 120 i = tm_f τ 466 0
          · rw [if_pos g1, tm_gx_t (by omega)]
            by_cases g2 : tm_a τ 121 i = o
            · rw [if_pos g2, tm_gi_t (by omega)]
              exact ⟨1, Or.inr rfl, ⟨fun _ => Or.inr ⟨g1, g2⟩, fun _ => rfl⟩, rfl⟩
            · rw [if_neg g2, tm_gi_t (by omega)]
              exact ⟨0, Or.inl rfl, ⟨fun h9 => absurd h9 (by decide), fun h9 => h9.elim id (fun h8 => absurd h8.2 g2)⟩, rfl⟩
          · rw [if_neg g1, tm_gi_t (by omega)]
            exact ⟨0, Or.inl rfl, ⟨fun h9 => absurd h9 (by decide), fun h9 => h9.elim id (fun h8 => absurd h8.1 g1)⟩, rfl⟩
        · rw [if_neg (by decide), tm_gi_t (by omega)]
          exact ⟨1, Or.inr rfl, ⟨fun _ => Or.inl rfl, fun _ => rfl⟩, rfl⟩
      obtain ⟨v', p1, p2, p3⟩ := hB
      obtain ⟨w, w1, w2, w3⟩ := ih v' (i + 1) (by omega) (by omega) p1
      refine ⟨w, w1, w2.trans ?_, p3.trans w3⟩
      constructor
      · rintro (h9 | ⟨j, j0, j1, j2, j3⟩)
        · rcases p2.mp h9 with h8 | h8
          · exact Or.inl h8
          · exact Or.inr ⟨i, Int.le_refl _, hi, h8.1, h8.2⟩
        · exact Or.inr ⟨j, by omega, j1, j2, j3⟩
      · rintro (h9 | ⟨j, j0, j1, j2, j3⟩)
        · exact Or.inl (p2.mpr (Or.inl h9))
        · by_cases hj : j = i
          · subst hj
            exact Or.inl (p2.mpr (Or.inr ⟨j2, j3⟩))
          · exact Or.inr ⟨j, by omega, j1, j2, j3⟩
    · have hi9 : i = tm_f τ 467 0 := by omega
      refine ⟨v, h2, ⟨fun h9 => Or.inl h9, fun h9 => ?_⟩, ?_⟩
      · rcases h9 with h9 | ⟨j, j0, j1, -⟩
        · exact h9
        · omega
      · show fm_change_B16 (fm_change_L16 f) o m v i τ = _
        unfold fm_change_B16
        rw [if_neg hi, if_neg (Int.lt_irrefl _)]
