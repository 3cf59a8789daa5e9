/-! WHAT LASTS -/
set_option maxRecDepth 100000
theorem tm_Kh.rf (σ : tm_S) : tm_Kh σ σ := ⟨Nat.le_refl _, fun _ _ => ⟨rfl, rfl⟩, fun _ _ _ => ⟨rfl, rfl, rfl, rfl, rfl, rfl, rfl⟩, fun _ _ _ _ _ => rfl⟩
theorem tm_Kh.tr {σ0 σ1 σ2 : tm_S} (h : tm_Kh σ0 σ1) (g : tm_Kh σ1 σ2) : tm_Kh σ0 σ2 := by
  have hc := h.c
  have gc := g.c
  refine tm_Kh.mk (by omega) (fun r hr => ?_) (fun r h0 hr => ?_) (fun r i h0 hr hk => ?_)
  · obtain ⟨a1, a2⟩ := h.k r hr
    obtain ⟨b1, b2⟩ := g.k r (by omega)
    exact ⟨b1.trans a1, b2.trans a2⟩
  · obtain ⟨a1, a2, a3, a4, a5, a6, a7⟩ := h.f r h0 hr
    obtain ⟨b1, b2, b3, b4, b5, b6, b7⟩ := g.f r h0 (by omega)
    exact ⟨b1.trans a1, b2.trans a2, b3.trans a3, b4.trans a4, b5.trans a5, b6.trans a6, b7.trans a7⟩
  · exact (g.a r i h0 (by omega) (by rw [(h.k r hr).1]; exact hk)).trans (h.a r i h0 hr hk)
theorem tm_Kh.wf {σ0 σ : tm_S} (h : tm_Kh σ0 σ) (k : Nat) (r v : Int) (hk : (k ≠ 256 ∧ k ≠ 320 ∧ k ≠ 321 ∧ k ≠ 322 ∧ k ≠ 192 ∧ k ≠ 193 ∧ k ≠ 194) ∨ r < 1000 ∨ 1000 + (tm_c σ0 : Int) ≤ r) : tm_Kh σ0 (tm_wf σ k r v) := by
  refine tm_Kh.mk h.c h.k (fun q h0 hr => ?_) h.a
  have h9 := h.f q h0 hr
  simp only [tm_f_wf]
  rw [if_neg (by omega), if_neg (by omega), if_neg (by omega), if_neg (by omega), if_neg (by omega), if_neg (by omega), if_neg (by omega)]
  exact h9
theorem tm_Kh.wa {σ0 σ : tm_S} (h : tm_Kh σ0 σ) (a i v : Int) (ha : a < 1000 ∨ 1000 + (tm_c σ0 : Int) ≤ a ∨ 25 ≤ tm_k σ0 a) : tm_Kh σ0 (tm_wa σ a i v) := by
  refine tm_Kh.mk h.c h.k h.f (fun r j h0 hr hk => ?_)
  rw [tm_a_wa, if_neg (by rintro ⟨rfl, -⟩; omega)]
  exact h.a r j h0 hr hk
theorem tm_Kh.ne {σ0 σ : tm_S} (h : tm_Kh σ0 σ) (k : Nat) (n : Int) (z : Nat) : tm_Kh σ0 (tm_ne σ k n z) := by
  have hc := h.c
  refine tm_Kh.mk (by rw [tm_c_ne]; omega) (fun r hr => ?_) (fun r h0 hr => ?_) (fun r i h0 hr hk => ?_)
  · rw [tm_k_ne, tm_n_ne, if_neg (by omega), if_neg (by omega)]
    exact h.k r hr
  · simp only [tm_f_ne]
    rw [if_neg (by omega), if_neg (by omega), if_neg (by omega), if_neg (by omega), if_neg (by omega), if_neg (by omega), if_neg (by omega)]
    exact h.f r h0 hr
  · rw [tm_a_ne, if_neg (by omega)]
    exact h.a r i h0 hr hk
theorem tm_a_cp (τ : tm_S) (r a k b j : Int) : tm_a (tm_cp τ r a k) b j = if b = r ∧ 0 ≤ j ∧ j < k then tm_a τ a j else tm_a τ b j := rfl
theorem tm_Kh.cp {σ0 σ : tm_S} (h : tm_Kh σ0 σ) (r a k : Int) (hr : 1000 + (tm_c σ0 : Int) ≤ r) : tm_Kh σ0 (tm_cp σ r a k) := by
  refine tm_Kh.mk h.c h.k h.f (fun q j h0 hq hk => ?_)
  rw [tm_a_cp, if_neg (by omega)]
  exact h.a q j h0 hq hk
theorem tm_Tk.rf (M : Int) (τ : tm_S) : tm_Tk M τ τ := fun _ _ _ => ⟨rfl, rfl, rfl, fun _ _ _ => rfl, fun _ _ _ => rfl⟩
theorem tm_Tk.tr {M M' : Int} {τ0 τ1 τ2 : tm_S} (h : tm_Tk M τ0 τ1) (g : tm_Tk M' τ1 τ2) (hM : M ≤ M') : tm_Tk M τ0 τ2 := by
  intro j h0 h1
  obtain ⟨a1, a2, a3, a4, a5⟩ := h j h0 h1
  obtain ⟨b1, b2, b3, b4, b5⟩ := g j h0 (by omega)
  exact ⟨b1.trans a1, b2.trans a2, b3.trans a3, fun i i0 i1 => (b4 i i0 i1).trans (a4 i i0 i1), fun i i0 i1 => (b5 i i0 i1).trans (a5 i i0 i1)⟩
theorem tm_Kp.rf (D : Int) (σ : tm_S) : tm_Kp D σ σ := ⟨tm_Kh.rf σ, Int.le_refl _, fun _ _ _ => rfl, fun _ _ _ _ => rfl⟩
theorem tm_Kp.tr {D D' : Int} {σ0 σ1 σ2 : tm_S} (h : tm_Kp D σ0 σ1) (g : tm_Kp D' σ1 σ2) (hD : D ≤ D') : tm_Kp D σ0 σ2 := by
  have hn := h.n
  exact tm_Kp.mk (h.h.tr g.h) (by have := g.n; omega) (fun k k0 k1 => (g.nr k k0 (by omega)).trans (h.nr k k0 k1)) (fun i j i0 i1 => (g.sp i j i0 (by omega)).trans (h.sp i j i0 i1))
theorem tm_Kt.rf (F lo : Int) (τ : tm_S) : tm_Kt F lo τ τ := ⟨Int.le_refl _, Int.le_refl _, tm_Tk.rf _ τ, fun _ _ _ => ⟨rfl, rfl, rfl, rfl⟩, fun _ _ _ => rfl, fun _ _ _ => rfl⟩
theorem tm_Kt.tr {F lo F' lo' : Int} {τ0 τ1 τ2 : tm_S} (h : tm_Kt F lo τ0 τ1) (g : tm_Kt F' lo' τ1 τ2) (hF : F ≤ F') (hl : lo ≤ lo') : tm_Kt F lo τ0 τ2 := by
  refine tm_Kt.mk (by have := h.n; have := g.n; omega) (by have := h.m; have := g.m; omega) (h.t.tr g.t h.m) (fun i i0 i1 => ?_) (fun i i0 i1 => (g.sp i i0 (by omega)).trans (h.sp i i0 i1)) (fun i i0 i1 => (g.cd i i0 (by omega)).trans (h.cd i i0 i1))
  obtain ⟨a1, a2, a3, a4⟩ := h.fr i i0 i1
  obtain ⟨b1, b2, b3, b4⟩ := g.fr i i0 (by omega)
  exact ⟨b1.trans a1, b2.trans a2, b3.trans a3, b4.trans a4⟩
theorem tm_TR.up {N N' x y : Int} (h : tm_TR N x y) (hN : N ≤ N') : tm_TR N' x y := by
  rcases h with h | h | h
  · exact Or.inl h
  · exact Or.inr (Or.inl (by omega))
  · exact Or.inr (Or.inr (by omega))
theorem tm_PR.up {N N' p p' x y : Int} (h : tm_PR N p x y) (hN : N ≤ N') (hp : p ≤ p') : tm_PR N' p' x y := by
  rcases h with h | h | h
  · exact Or.inl h
  · exact Or.inr (Or.inl (by omega))
  · exact Or.inr (Or.inr (by omega))
theorem tm_Ma.go {N N' M : Int} {σ σ' τ τ' : tm_S} {r j : Int} (h : tm_Ma N σ τ r j) (hN : N ≤ N') (kh : tm_Kh σ σ') (kt : tm_Tk M τ τ') (hr : 1000 ≤ r ∧ r < 1000 + (tm_c σ : Int)) (hj : 0 ≤ j ∧ j < M) : tm_Ma N' σ' τ' r j := by
  obtain ⟨a1, a2, a3, a4, a5⟩ := kt j hj.1 hj.2
  obtain ⟨f1, f2, f3, f4, -⟩ := kh.f r hr.1 hr.2
  have hc := kh.c
  have t0 := h.t0
  have b0 := h.b0
  have t2 := h.t2
  have b2 := h.b2
  have kt1 := kh.k _ t0.2
  have kb1 := kh.k _ b0.2
  have ht1 := h.t1
  have hb1 := h.b1
  refine tm_Ma.mk ?_ ?_ ?_ ?_ ?_ ?_ ?_ ?_ ?_
  · rw [f2]; omega
  · rw [f2, kt1.1]; exact ht1
  · rw [f2, kt1.2, a1]; exact t2
  · intro i i0 i1
    rw [a1] at i1
    rw [f2, kh.a _ i t0.1 t0.2 (by rw [ht1]; decide), a4 i i0 (by omega)]
    exact ⟨(h.t3 i i0 i1).1.up hN (Int.le_refl _), (h.t3 i i0 i1).2⟩
  · rw [f3]; omega
  · rw [f3, kb1.1]; exact hb1
  · rw [f3, kb1.2, a2]; exact b2
  · intro i i0 i1
    rw [a2] at i1
    rw [f3, kh.a _ i b0.1 b0.2 (by rw [hb1]; decide), a5 i i0 (by omega), a3]
    exact (h.b3 i i0 i1).up hN (Int.le_refl _)
  · rw [f4, a3]; exact h.p
theorem tm_MR.go {N N' M M' : Int} {σ σ' τ τ' : tm_S} {r m : Int} (h : tm_MR N M σ τ r m) (hN : N ≤ N') (hM : M ≤ M') (kh : tm_Kh σ σ') (kt : tm_Tk M τ τ') : tm_MR N' M' σ' τ' r m := by
  have hc := kh.c
  rcases h with h | h | ⟨h0, h1, h2, h3, h4⟩ | ⟨h0, h1, h2, h3, h4, h5⟩
  · exact Or.inl h
  · exact Or.inr (Or.inl h)
  · refine Or.inr (Or.inr (Or.inl ⟨h0, by omega, ?_, ?_, ?_⟩))
    · rw [(kh.k r h1).1]; exact h2
    · rw [(kh.f r h0 h1).1]; exact h3
    · rw [(kh.f r h0 h1).1]; exact h4
  · refine Or.inr (Or.inr (Or.inr ⟨h0, by omega, ?_, h3, by omega, ?_⟩))
    · rw [(kh.k r h1).1]; exact h2
    · exact h5.go hN kh kt ⟨h0, h1⟩ ⟨by omega, by omega⟩
theorem tm_Na.go {N N' M M' : Int} {σ σ' τ τ' : tm_S} {r k : Int} (h : tm_Na N M σ τ r k) (hN : N ≤ N') (hM : M ≤ M') (kh : tm_Kh σ σ') (kt : tm_Tk M τ τ') (h5 : tm_MR N' M' σ' τ' (tm_f σ' 195 r) (tm_a τ' 115 k)) (h3 : tm_a τ' 113 k = tm_a τ 113 k) (h4 : tm_a τ' 114 k = tm_a τ 114 k) (hl : ∀ i : Int, 0 ≤ i → i < tm_a τ 113 k → tm_a τ' 112 (11 * k + i) = tm_a τ 112 (11 * k + i)) : tm_Na N' M' σ' τ' r k := by
  have r0 := h.r0
  have l0 := h.l0
  have hc := kh.c
  obtain ⟨-, -, -, -, f5, f6, f7⟩ := kh.f r r0.1 r0.2
  have k1 := kh.k r r0.2
  have k2 := kh.k _ l0.2
  have l1 := h.l1
  refine tm_Na.mk ?_ ?_ ?_ ?_ ?_ ?_ ?_ ?_ h5
  · omega
  · rw [k1.1]; exact h.kd
  · rw [f7]; exact h.nu
  · rw [f5]; omega
  · rw [f5, k2.1]; exact l1
  · rw [f5, k2.2, h3]; exact h.l2
  · intro i i0 i1
    rw [h3] at i1
    rw [f5, kh.a _ i l0.1 l0.2 (by rw [l1]; decide), hl i i0 i1]
    exact h.l3 i i0 i1
  · rw [f6, h4]; exact h.ac
/-- a step that makes new things and writes in these alone, and in the list of names -/
def tm_Ex (σ σ' : tm_S) : Prop :=
  (tm_Kh σ σ') ∧
  (∀ (k : Nat) (r : Int), (r < 1000 ∧ r ≠ 106) ∨ (k = 195 ∧ r < 1000 + (tm_c σ : Int)) → tm_f σ' k r = tm_f σ k r) ∧
  (∀ a i : Int, a < 1000 → tm_a σ' a i = tm_a σ a i) ∧
  (tm_u σ' = tm_u σ ∧ tm_v σ' = tm_v σ)
theorem tm_Ex.mk {σ σ' : tm_S} (kh : tm_Kh σ σ') (f : ∀ (k : Nat) (r : Int), (r < 1000 ∧ r ≠ 106) ∨ (k = 195 ∧ r < 1000 + (tm_c σ : Int)) → tm_f σ' k r = tm_f σ k r) (a : ∀ a i : Int, a < 1000 → tm_a σ' a i = tm_a σ a i) (u : tm_u σ' = tm_u σ ∧ tm_v σ' = tm_v σ) : tm_Ex σ σ' := ⟨kh, f, a, u⟩
theorem tm_Ex.kh {σ σ' : tm_S} (h : tm_Ex σ σ') : tm_Kh σ σ' := h.1
theorem tm_Ex.f {σ σ' : tm_S} (h : tm_Ex σ σ') : ∀ (k : Nat) (r : Int), (r < 1000 ∧ r ≠ 106) ∨ (k = 195 ∧ r < 1000 + (tm_c σ : Int)) → tm_f σ' k r = tm_f σ k r := h.2.1
theorem tm_Ex.a {σ σ' : tm_S} (h : tm_Ex σ σ') : ∀ a i : Int, a < 1000 → tm_a σ' a i = tm_a σ a i := h.2.2.1
theorem tm_Ex.u {σ σ' : tm_S} (h : tm_Ex σ σ') : tm_u σ' = tm_u σ ∧ tm_v σ' = tm_v σ := h.2.2.2
theorem tm_Ex.rf (σ : tm_S) : tm_Ex σ σ := ⟨tm_Kh.rf σ, fun _ _ _ => rfl, fun _ _ _ => rfl, rfl, rfl⟩
theorem tm_Ex.wf {σ0 σ : tm_S} (h : tm_Ex σ0 σ) (k : Nat) (r v : Int) (hr : 1000 + (tm_c σ0 : Int) ≤ r ∨ (r = 106 ∧ k ≠ 195)) : tm_Ex σ0 (tm_wf σ k r v) := by
  refine tm_Ex.mk (h.kh.wf k r v (by omega)) (fun j q hq => ?_) h.a h.u
  rw [tm_f_wf, if_neg (by omega)]
  exact h.f j q hq
theorem tm_Ex.wa {σ0 σ : tm_S} (h : tm_Ex σ0 σ) (a i v : Int) (ha : 1000 + (tm_c σ0 : Int) ≤ a ∨ (1000 ≤ a ∧ 25 ≤ tm_k σ0 a)) : tm_Ex σ0 (tm_wa σ a i v) := by
  refine tm_Ex.mk (h.kh.wa a i v (by omega)) h.f (fun b j hb => ?_) h.u
  rw [tm_a_wa, if_neg (by omega)]
  exact h.a b j hb
theorem tm_Ex.ne {σ0 σ : tm_S} (h : tm_Ex σ0 σ) (k : Nat) (n : Int) (z : Nat) : tm_Ex σ0 (tm_ne σ k n z) := by
  have hc := h.kh.c
  refine tm_Ex.mk (h.kh.ne k n z) (fun j q hq => ?_) (fun b j hb => ?_) h.u
  · rw [tm_f_ne, if_neg (by omega)]
    exact h.f j q hq
  · rw [tm_a_ne, if_neg (by omega)]
    exact h.a b j hb
theorem tm_Ex.cp {σ0 σ : tm_S} (h : tm_Ex σ0 σ) (r a k : Int) (hr : 1000 + (tm_c σ0 : Int) ≤ r) : tm_Ex σ0 (tm_cp σ r a k) := by
  refine tm_Ex.mk (h.kh.cp r a k hr) h.f (fun b j hb => ?_) h.u
  rw [tm_a_cp, if_neg (by omega)]
  exact h.a b j hb
/-- a step of the model that writes in the names and in what is spelled -/
def tm_Tx (τ τ' : tm_S) : Prop :=
  (∀ (k : Nat), k ≠ 459 → k ≠ 464 → tm_f τ' k 0 = tm_f τ k 0) ∧
  (tm_f τ 459 0 ≤ tm_f τ' 459 0) ∧
  (∀ a i : Int, a ≠ 112 → a ≠ 113 → a ≠ 114 → a ≠ 115 → a ≠ 117 → tm_a τ' a i = tm_a τ a i)
theorem tm_Tx.mk {τ τ' : tm_S} (f : ∀ (k : Nat), k ≠ 459 → k ≠ 464 → tm_f τ' k 0 = tm_f τ k 0) (n : tm_f τ 459 0 ≤ tm_f τ' 459 0) (a : ∀ a i : Int, a ≠ 112 → a ≠ 113 → a ≠ 114 → a ≠ 115 → a ≠ 117 → tm_a τ' a i = tm_a τ a i) : tm_Tx τ τ' := ⟨f, n, a⟩
theorem tm_Tx.f {τ τ' : tm_S} (h : tm_Tx τ τ') : ∀ (k : Nat), k ≠ 459 → k ≠ 464 → tm_f τ' k 0 = tm_f τ k 0 := h.1
theorem tm_Tx.n {τ τ' : tm_S} (h : tm_Tx τ τ') : tm_f τ 459 0 ≤ tm_f τ' 459 0 := h.2.1
theorem tm_Tx.a {τ τ' : tm_S} (h : tm_Tx τ τ') : ∀ a i : Int, a ≠ 112 → a ≠ 113 → a ≠ 114 → a ≠ 115 → a ≠ 117 → tm_a τ' a i = tm_a τ a i := h.2.2
theorem tm_Tx.tk {τ τ' : tm_S} (h : tm_Tx τ τ') (M : Int) : tm_Tk M τ τ' := fun j _ _ => ⟨h.a 124 j (by decide) (by decide) (by decide) (by decide) (by decide), h.a 126 j (by decide) (by decide) (by decide) (by decide) (by decide), h.a 128 j (by decide) (by decide) (by decide) (by decide) (by decide), fun i _ _ => h.a 125 _ (by decide) (by decide) (by decide) (by decide) (by decide), fun i _ _ => h.a 127 _ (by decide) (by decide) (by decide) (by decide) (by decide)⟩
theorem tm_Tx.rf (τ : tm_S) : tm_Tx τ τ := ⟨fun _ _ _ => rfl, Int.le_refl _, fun _ _ _ _ _ _ _ => rfl⟩
theorem tm_Tx.kt {F lo : Int} {τ0 τ τ' : tm_S} (h : tm_Tx τ τ') (g : tm_Kt F lo τ0 τ) : tm_Kt F lo τ0 τ' := by
  have a : ∀ a i : Int, 124 ≤ a → tm_a τ' a i = tm_a τ a i := fun a i ha => h.a a i (by omega) (by omega) (by omega) (by omega) (by omega)
  refine tm_Kt.mk (by have := g.n; have := h.n; omega) (by rw [h.f 471 (by decide) (by decide)]; exact g.m) (g.t.tr (h.tk _) (Int.le_refl _)) (fun i i0 i1 => ?_) (fun i i0 i1 => ?_) (fun i i0 i1 => ?_)
  · rw [a 132 i (by decide), a 133 i (by decide), a 134 i (by decide), a 135 i (by decide)]
    exact g.fr i i0 i1
  · rw [a 136 i (by decide)]
    exact g.sp i i0 i1
  · rw [a 130 i (by decide)]
    exact g.cd i i0 i1
theorem tm_Fx.go {σ σ' : tm_S} (h : tm_Fx σ) (x : tm_Ex σ σ') : tm_Fx σ' := by
  have k : ∀ r : Int, r < 1000 → tm_k σ' r = tm_k σ r ∧ tm_n σ' r = tm_n σ r := fun r hr => x.kh.k r (by omega)
  refine tm_Fx.mk (fun i i0 i1 => ?_) (fun i i0 i1 => ?_) (fun i i0 i1 => ?_) ?_ (fun r hr => ?_) ?_ ?_
  · rw [(k i (by omega)).1]; exact h.cm i i0 i1
  · rw [(k _ (by omega)).1]; exact h.ch i i0 i1
  · rw [(k _ (by omega)).1, (k _ (by omega)).2]; exact h.sp i i0 i1
  · rw [(k 107 (by decide)).1, (k 107 (by decide)).2]; exact h.lt
  · rw [(k r (by omega)).1, (k (r + 20) (by omega)).1, (k (r + 20) (by omega)).2, x.f 128 r (Or.inl (by omega))]
    exact h.rw r hr
  · rw [(k 106 (by decide)).1]; exact h.ls
  · rw [(k (-1) (by decide)).1]; exact h.nu
/-- side by side still, with more names or none, and more things -/
theorem tm_Si.grow {q : tm_Pm} {b b' e : Int} {σ σ' τ τ' : tm_S} (h : tm_Si q b e σ τ) (x : tm_Ex σ σ') (t : tm_Tx τ τ') (hb : 0 ≤ b' ∧ b' ≤ b)
    (nn : tm_f σ' 386 106 = tm_f τ' 459 0 ∧ tm_f τ' 459 0 ≤ 118) (md : 0 ≤ tm_f σ' 384 106 ∧ tm_f σ' 384 106 + 118 - tm_f τ' 459 0 ≤ q.S)
    (bc : (tm_c σ' : Int) + 3 * (118 - tm_f τ' 459 0) + 3 * (60 - tm_f τ 471 0) + b' + 1 ≤ (tm_u σ : Int)) (bz : (tm_z σ' : Int) + 220 * (118 - tm_f τ' 459 0) + 60 * (60 - tm_f τ 471 0) + b' + 6 ≤ (tm_v σ : Int))
    (ns : tm_Ns (tm_f τ' 459 0) (tm_f τ 471 0) σ' τ') (nr : ∀ k : Int, 0 ≤ k → k < tm_f τ 459 0 → tm_nr σ' k = tm_nr σ k) : tm_Si q b' e σ' τ' := by
  have F : ∀ k : Nat, tm_f σ' k 0 = tm_f σ k 0 := fun k => x.f k 0 (Or.inl ⟨by decide, by decide⟩)
  have T : ∀ k : Nat, k ≠ 459 → k ≠ 464 → tm_f τ' k 0 = tm_f τ k 0 := t.f
  have A : ∀ a i : Int, a ≠ 112 → a ≠ 113 → a ≠ 114 → a ≠ 115 → a ≠ 117 → tm_a τ' a i = tm_a τ a i := t.a
  have hn := h.nn
  have hs := h.sp
  have tn := t.n
  refine tm_Si.mk ?_ ?_ ?_ ?_ ?_ ?_ ?_ ?_ ?_ ?_ ?_ ?_ ?_ ?_ ?_ ?_ ?_ ?_ ?_ ?_ ?_ ?_ ?_ ?_ ?_ ?_ ?_ ?_
  · rw [F, T 453 (by decide) (by decide)]; exact h.fl
  · rw [F, T 449 (by decide) (by decide)]; exact h.sz
  · rw [F, T 451 (by decide) (by decide), T 449 (by decide) (by decide)]; exact h.pl
  · rw [F, T 452 (by decide) (by decide)]; exact h.st
  · rw [F, T 454 (by decide) (by decide)]; omega
  · rw [F, T 466 (by decide) (by decide)]; exact h.gr
  · rw [F, T 471 (by decide) (by decide)]; exact h.mc
  · rw [F, T 455 (by decide) (by decide)]; exact h.ex
  · rw [F, T 485 (by decide) (by decide)]; exact h.oc
  · rw [F, T 457 (by decide) (by decide)]; exact h.wt
  · rw [F, T 477 (by decide) (by decide)]; exact h.op
  · rw [F, T 467 (by decide) (by decide)]; exact h.cg
  · omega
  · rw [F, T 479 (by decide) (by decide)]; exact h.dp
  · exact md
  · rw [T 471 (by decide) (by decide), x.u.1]; exact bc
  · rw [T 471 (by decide) (by decide), x.u.2]; exact bz
  · intro i i0 i1
    rw [T 449 (by decide) (by decide)] at i1
    rw [x.a 100 i (by decide), A 102 i (by decide) (by decide) (by decide) (by decide) (by decide)]
    exact h.tx i i0 i1
  · intro i i0 i1
    rw [x.a 104 i (by decide), A 108 i (by decide) (by decide) (by decide) (by decide) (by decide)]
    exact h.ca i i0 i1
  · intro i i0 i1
    rw [T 457 (by decide) (by decide)] at i1
    rw [x.a 109 i (by decide), A 110 i (by decide) (by decide) (by decide) (by decide) (by decide)]
    exact (h.pe i i0 i1).up tn
  · intro i i0 i1
    rw [T 485 (by decide) (by decide)] at i1
    rw [x.a 111 i (by decide), A 138 i (by decide) (by decide) (by decide) (by decide) (by decide)]
    exact h.ou i i0 i1
  · intro i i0 i1
    rw [T 477 (by decide) (by decide)] at i1
    rw [x.a 119 i (by decide), A 130 i (by decide) (by decide) (by decide) (by decide) (by decide)]
    exact h.cd i i0 i1
  · rw [T 477 (by decide) (by decide)]; exact h.lo
  · rw [T 471 (by decide) (by decide)]; exact ns
  · rw [T 471 (by decide) (by decide), T 467 (by decide) (by decide), T 466 (by decide) (by decide)]
    have cs := h.cs
    refine tm_Cs.mk (fun i i0 i1 => ?_) (fun i j i0 i1 i2 => ?_) (fun i i0 i1 => ?_)
    · have cg := h.cg
      rw [x.f 68 (200 + i) (Or.inl (by omega)), A 120 i (by decide) (by decide) (by decide) (by decide) (by decide)]
      exact cs.gr i i0 i1
    · rw [A 120 i (by decide) (by decide) (by decide) (by decide) (by decide), A 120 j (by decide) (by decide) (by decide) (by decide) (by decide)]
      exact cs.up i j i0 i1 i2
    · have cg := h.cg
      have co := cs.of i i0 i1
      unfold tm_Ch at co ⊢
      rw [x.f 64 (200 + i) (Or.inl (by omega)), x.f 65 (200 + i) (Or.inl (by omega)), x.f 66 (200 + i) (Or.inl (by omega)), x.f 67 (200 + i) (Or.inl (by omega)), A 121 i (by decide) (by decide) (by decide) (by decide) (by decide), A 122 i (by decide) (by decide) (by decide) (by decide) (by decide)]
      rcases co with ⟨c1, c2, c3, c4, c5⟩ | co
      · exact Or.inl ⟨c1, by omega, by rw [nr _ c1 c2]; exact c3, c4, c5.go tn (Int.le_refl _) x.kh (t.tk _)⟩
      · exact Or.inr co
  · exact h.fx.go x
  · have kp := h.kp
    have kn := kp.n
    exact tm_Kp.mk (kp.h.tr x.kh) (by omega) (fun k k0 k1 => (nr k k0 (by omega)).trans (kp.nr k k0 k1)) (fun i j i0 i1 => by have := h.dp; rw [x.a (300 + i) j (by omega)]; exact kp.sp i j i0 i1)
  · exact t.kt h.kt
