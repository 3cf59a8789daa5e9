/-! A MACRO IS EXPANDED -/
set_option maxRecDepth 100000
/-- what an expansion leaves alone: the macro that is being made, the tables, and it spends -/
def tm_Fe (σ τ σ' τ' : tm_S) : Prop :=
  (tm_f σ' 129 124 = tm_f σ 129 124 ∧ tm_f σ' 129 125 = tm_f σ 129 125) ∧
  (∀ i : Int, tm_a σ' 144 i = tm_a σ 144 i ∧ tm_a σ' 145 i = tm_a σ 145 i) ∧
  (∀ k i : Int, 124 ≤ k → k ≤ 128 → tm_a τ' k i = tm_a τ k i) ∧
  (tm_f τ' 471 0 = tm_f τ 471 0) ∧
  (tm_f τ 455 0 ≤ tm_f τ' 455 0) ∧
  (tm_f τ 459 0 ≤ tm_f τ' 459 0)
theorem tm_Fe.mk {σ τ σ' τ' : tm_S} (f : tm_f σ' 129 124 = tm_f σ 129 124 ∧ tm_f σ' 129 125 = tm_f σ 129 125) (w : ∀ i : Int, tm_a σ' 144 i = tm_a σ 144 i ∧ tm_a σ' 145 i = tm_a σ 145 i) (t : ∀ k i : Int, 124 ≤ k → k ≤ 128 → tm_a τ' k i = tm_a τ k i) (m : tm_f τ' 471 0 = tm_f τ 471 0) (x : tm_f τ 455 0 ≤ tm_f τ' 455 0) (n : tm_f τ 459 0 ≤ tm_f τ' 459 0) : tm_Fe σ τ σ' τ' := ⟨f, w, t, m, x, n⟩
theorem tm_Fe.f {σ τ σ' τ' : tm_S} (h : tm_Fe σ τ σ' τ') : tm_f σ' 129 124 = tm_f σ 129 124 ∧ tm_f σ' 129 125 = tm_f σ 129 125 := h.1
theorem tm_Fe.w {σ τ σ' τ' : tm_S} (h : tm_Fe σ τ σ' τ') : ∀ i : Int, tm_a σ' 144 i = tm_a σ 144 i ∧ tm_a σ' 145 i = tm_a σ 145 i := h.2.1
theorem tm_Fe.t {σ τ σ' τ' : tm_S} (h : tm_Fe σ τ σ' τ') : ∀ k i : Int, 124 ≤ k → k ≤ 128 → tm_a τ' k i = tm_a τ k i := h.2.2.1
theorem tm_Fe.m {σ τ σ' τ' : tm_S} (h : tm_Fe σ τ σ' τ') : tm_f τ' 471 0 = tm_f τ 471 0 := h.2.2.2.1
theorem tm_Fe.x {σ τ σ' τ' : tm_S} (h : tm_Fe σ τ σ' τ') : tm_f τ 455 0 ≤ tm_f τ' 455 0 := h.2.2.2.2.1
theorem tm_Fe.n {σ τ σ' τ' : tm_S} (h : tm_Fe σ τ σ' τ') : tm_f τ 459 0 ≤ tm_f τ' 459 0 := h.2.2.2.2.2
theorem tm_Fe.rf (σ τ : tm_S) : tm_Fe σ τ σ τ := ⟨⟨rfl, rfl⟩, fun _ => ⟨rfl, rfl⟩, fun _ _ _ _ => rfl, rfl, Int.le_refl _, Int.le_refl _⟩
theorem tm_Fe.tr {σ τ σ1 τ1 σ2 τ2 : tm_S} (h : tm_Fe σ τ σ1 τ1) (g : tm_Fe σ1 τ1 σ2 τ2) : tm_Fe σ τ σ2 τ2 :=
  tm_Fe.mk ⟨g.f.1.trans h.f.1, g.f.2.trans h.f.2⟩ (fun i => ⟨(g.w i).1.trans (h.w i).1, (g.w i).2.trans (h.w i).2⟩) (fun k i h1 h2 => (g.t k i h1 h2).trans (h.t k i h1 h2)) (g.m.trans h.m) (Int.le_trans h.x g.x) (Int.le_trans h.n g.n)
theorem tm_Fr.fe {a : Int} {σ τ σ' τ' : tm_S} (h : tm_Fr a σ τ σ' τ') (ha : 0 ≤ a ∧ a < 4) : tm_Fe σ τ σ' τ' :=
  tm_Fe.mk ⟨h.f 124 (by decide) (by decide) (by decide) (by omega), h.f 125 (by decide) (by decide) (by decide) (by omega)⟩ (fun i => ⟨h.w 144 i (by decide) (by decide) (by omega), h.w 145 i (by decide) (by decide) (by omega)⟩) h.t h.m (by rw [h.x]; exact Int.le_refl _) h.n
theorem tm_Fg.fe {σ τ σ' τ' : tm_S} (h : tm_Fg σ τ σ' τ') : tm_Fe σ τ σ' τ' := (h.fr 0).fe (by decide)
theorem tm_Ar.fr {N N' : Int} {σ τ σ' τ' : tm_S} {a j : Int} (h : tm_Ar N σ τ j) (g : tm_Fr a σ τ σ' τ') (hj : 0 ≤ j ∧ j < 4) (ha : 0 ≤ a ∧ a < 4) (hne : j ≠ a) (hN : N ≤ N') : tm_Ar N' σ' τ' j := by
  have hn := h.n
  refine tm_Ar.mk ?_ (fun i i0 i1 => ?_)
  · rw [g.f (130 + j) (by omega) (by omega) (by omega) (by omega), g.c j hne]
    exact hn
  · rw [g.c j hne] at i1
    rw [g.w (150 + j) i (by omega) (by omega) (by omega), g.b (42 * j + i) (by omega)]
    exact (h.t i i0 i1).up hN (Int.le_refl _)
/-- a voiding call, seen: related again, or dead -/
def tm_Px (q : tm_Pm) (b : Int) (σ τ : tm_S) (_ : Int) (σ' : tm_S) (_ : Int) (τ' : tm_S) : Prop := tm_Si q b 0 σ' τ' ∧ tm_Fe σ τ σ' τ'
/-- the model, after a fault, does nothing more here -/
theorem fm_call_L185_dead {τ : tm_S} (hf : 0 < tm_f τ 453 0) (m i : Int) (g : Nat) : fm_call_L185 (g + 1) m i τ = tm_rt 0 τ := by
  show fm_call_B185 (fm_call_L185 g) m i τ = _
  unfold fm_call_B185
  by_cases hi : i < 0
  · rw [if_pos hi]
  · rw [if_neg hi, if_neg (by omega)]
theorem fm_call_L247_dead {τ : tm_S} (hf : 0 < tm_f τ 453 0) (m i a j : Int) (hi : -1000 ≤ i ∧ i ≤ 1000) (g g2 : Nat) : fm_call_L247 (fm_call_L185 (g + 1)) (g2 + 1) m i a j τ = tm_rt 0 τ := by
  show fm_call_B247 (fm_call_L185 (g + 1)) (fm_call_L247 (fm_call_L185 (g + 1)) g2) m i a j τ = _
  unfold fm_call_B247
  by_cases hj : j < 0
  · rw [if_pos hj, tm_gi_t (by omega), fm_call_L185_dead hf]
  · rw [if_neg hj, if_neg (by omega), tm_gi_t (by omega), fm_call_L185_dead hf]
/-- an argument is put back -/
theorem tm_putRow {q : tm_Pm} {b m i a : Int} {σ τ : tm_S} {K : tm_S → tm_R} (ha : 0 ≤ a ∧ a < 4) (hi : 0 ≤ i ∧ i ≤ 100) (g9 : Nat) (hK : ∀ σ1 τ1, tm_Si q b 0 σ1 τ1 → tm_Fg σ τ σ1 τ1 → tm_RR (tm_Px q b σ τ) (tm_Dv q) (K σ1) (fm_call_L185 (g9 + 1) m (i + -1) τ1)) :
    ∀ (f g : Nat) (j : Int) (σ1 τ1 : tm_S), tm_Si q b 0 σ1 τ1 → tm_Ar (tm_f τ1 459 0) σ1 τ1 a → tm_Fg σ τ σ1 τ1 → (-1 ≤ j ∧ j < tm_a τ1 140 a) → j + 1 < (f : Int) → j + 2 < (g : Int) → tm_RR (tm_Px q b σ τ) (tm_Dv q) (tm_bd (fc_X3_putBack_L7 f (130 + a) j σ1) fun _ σ180 => K σ180) (fm_call_L247 (fm_call_L185 (g9 + 1)) g m i a j τ1) := by
  intro f
  induction f with
  | zero => intro g j σ1 τ1 _ _ _ h0 h1; exact absurd h1 (by omega)
  | succ f ih =>
    intro g j σ1 τ1 h ar fr h0 h1 h2
    cases g with
    | zero => exact absurd h2 (by omega)
    | succ g =>
    have hnn := h.nn
    have hfl := h.fl
    obtain ⟨r1, r2, r3, r4⟩ := h.fx.rw (130 + a) (by omega)
    have e20 : 130 + a + 20 = 150 + a := by omega
    rw [e20] at r2 r3 r4
    have an := ar.n
    show tm_RR _ _ (tm_bd (fc_X3_putBack_B7 (fc_X3_putBack_L7 f) (130 + a) j σ1) fun _ σ180 => K σ180) (fm_call_B247 (fm_call_L185 (g9 + 1)) (fm_call_L247 (fm_call_L185 (g9 + 1)) g) m i a j τ1)
    unfold fc_X3_putBack_B7 fm_call_B247
    by_cases hj : j < 0
    · rw [if_pos hj, if_pos hj, tm_bd_rt, tm_gi_t (by omega)]
      exact hK σ1 τ1 h fr
    · have ht := ar.t j (by omega) h0.2
      have htr : tm_TR (tm_f τ1 459 0) (tm_a σ1 (150 + a) j) (tm_a τ1 139 (42 * a + j)) := by
        rcases ht with c | c | c
        · exact Or.inl c
        · exact Or.inr (Or.inl c)
        · omega
      rw [if_neg hj, if_neg hj, if_pos hfl.2, tm_gk_t r1, r2, tm_gk_t r3, tm_gx_t (by omega), tm_gi_t (by omega), tm_gi_t (by omega), tm_gx_t (by omega), tm_bd_assoc]
      refine tm_RRbd (sm_back h htr) (fun x σ2 y τ2 ⟨p1, p2, p3⟩ => ?_) (fun σ2 w τ2 d => ?_)
      · rw [tm_gi_t (by omega), tm_gi_t (by omega)]
        have e1 : tm_a τ2 140 a = tm_a τ1 140 a := p2.b 140 a (by decide) (by decide) (by decide) (by decide) (by decide) (by decide)
        exact ih g (j + -1) σ2 τ2 p1 (ar.fg p2 ha p2.n) (fr.tr p2) (by omega) (by omega) (by omega)
      · have hd := d.fl
        cases g with
        | zero => exact absurd h2 (by omega)
        | succ g =>
        rw [tm_gi_t (by omega), fm_call_L247_dead (by omega) m i a _ (by omega)]
        exact ⟨_, _, rfl, d⟩
