/-! READING -/
set_option maxRecDepth 100000
theorem tm_S_ext {σ τ : tm_S} (h : σ.1 = τ.1) (h2 : σ.2 = τ.2) : σ = τ := Prod.ext h h2
theorem tm_wf_wf (σ : tm_S) (k : Nat) (r v w : Int) : tm_wf (tm_wf σ k r v) k r w = tm_wf σ k r w := by
  refine tm_S_ext ?_ rfl
  funext j p
  show (if j = k ∧ p = r then w else if j = k ∧ p = r then v else tm_f σ j p) = if j = k ∧ p = r then w else tm_f σ j p
  split <;> rfl
theorem tm_wf_self (σ : tm_S) (k : Nat) (r : Int) : tm_wf σ k r (tm_f σ k r) = σ := by
  refine tm_S_ext ?_ rfl
  funext j p
  show (if j = k ∧ p = r then tm_f σ k r else tm_f σ j p) = σ.1 j p
  split
  · rename_i h
    rw [h.1, h.2]
    rfl
  · rfl
theorem tm_wf_comm (σ : tm_S) (k j : Nat) (r p v w : Int) (h : k ≠ j) : tm_wf (tm_wf σ k r v) j p w = tm_wf (tm_wf σ j p w) k r v := by
  refine tm_S_ext ?_ rfl
  funext i z
  show (if i = j ∧ z = p then w else if i = k ∧ z = r then v else tm_f σ i z) = if i = k ∧ z = r then v else if i = j ∧ z = p then w else tm_f σ i z
  by_cases h1 : i = j ∧ z = p
  · rw [if_pos h1, if_neg (fun h2 => h (h2.1.symm.trans h1.1)), if_pos h1]
  · rw [if_neg h1, if_neg h1]
theorem tm_nr_wa {σ : tm_S} {a i v k : Int} (ha : a < 1000) (hE : 1000 ≤ tm_f σ 385 106) : tm_nr (tm_wa σ a i v) k = tm_nr σ k := by
  unfold tm_nr
  rw [tm_f_wa, tm_a_wa, if_neg (by omega)]
theorem tm_MR.wa {N M : Int} {σ τ : tm_S} {r m : Int} (h : tm_MR N M σ τ r m) (a i v : Int) (ha : a < 1000) : tm_MR N M (tm_wa σ a i v) τ r m := h.go (Int.le_refl _) (Int.le_refl _) ((tm_Kh.rf σ).wa a i v (Or.inl ha)) (tm_Tk.rf _ τ)
theorem tm_Ns.wa {N M : Int} {σ τ : tm_S} (h : tm_Ns N M σ τ) (a i v : Int) (ha : a < 1000) : tm_Ns N M (tm_wa σ a i v) τ := by
  refine tm_Ns.mk h.e0 h.e1 h.e2 (fun k k0 k1 => ?_)
  have hn := h.nm k k0 k1
  rw [tm_nr_wa ha h.e0.1]
  exact hn.go (Int.le_refl _) (Int.le_refl _) ((tm_Kh.rf σ).wa a i v (Or.inl ha)) (tm_Tk.rf _ τ) (hn.me.wa a i v ha) rfl rfl (fun _ _ _ => rfl)
theorem tm_Cs.wa {N M C G : Int} {σ τ : tm_S} (h : tm_Cs N M C G σ τ) (a i v : Int) (ha : a < 1000) (hE : 1000 ≤ tm_f σ 385 106) : tm_Cs N M C G (tm_wa σ a i v) τ := by
  refine tm_Cs.mk h.gr h.up (fun j j0 j1 => ?_)
  rcases h.of j j0 j1 with ⟨c1, c2, c3, c4, c5⟩ | c
  · exact Or.inl ⟨c1, c2, c3.trans (tm_nr_wa ha hE).symm, c4, c5.wa a i v ha⟩
  · exact Or.inr c
theorem tm_Kp.wa {D : Int} {σ0 σ : tm_S} (h : tm_Kp D σ0 σ) (a i v : Int) (ha : a < 1000) (hE : 1000 ≤ tm_f σ 385 106) (hD : ∀ j : Int, 0 ≤ j → j < D → a ≠ 300 + j) : tm_Kp D σ0 (tm_wa σ a i v) := by
  refine tm_Kp.mk (h.h.wa a i v (Or.inl ha)) h.n (fun k k0 k1 => (tm_nr_wa ha hE).trans (h.nr k k0 k1)) (fun p j p0 p1 => ?_)
  rw [tm_a_wa, if_neg (fun h9 => hD p p0 p1 h9.1.symm)]
  exact h.sp p j p0 p1
/-- a write in an array of the component that nothing here reads -/
theorem tm_Si.wa {q : tm_Pm} {b e : Int} {σ τ : tm_S} (h : tm_Si q b e σ τ) (a i v : Int) (ha : a < 1000 ∧ a ≠ 100 ∧ a ≠ 104 ∧ a ≠ 109 ∧ a ≠ 111 ∧ a ≠ 119) (hD : ∀ j : Int, 0 ≤ j → j < q.D → a ≠ 300 + j) : tm_Si q b e (tm_wa σ a i v) τ := by
  have hE := h.ns.e0.1
  refine (tm_Si.mk (fl := h.fl) (sz := h.sz) (pl := h.pl) (st := h.st) (sp := h.sp) (gr := h.gr) (mc := h.mc) (ex := h.ex) (oc := h.oc) (wt := h.wt) (op := h.op) (cg := h.cg) (nn := h.nn) (dp := h.dp) (md := h.md) (bc := h.bc) (bz := h.bz) (tx := ?_) (ca := ?_) (pe := ?_) (ou := ?_) (cd := ?_) (lo := h.lo) (ns := h.ns.wa a i v ha.1) (cs := h.cs.wa a i v ha.1 hE) (fx := h.fx) (kp := h.kp.wa a i v ha.1 hE hD) (kt := h.kt))
  · intro j j0 j1
    rw [tm_a_wa, if_neg (by omega)]
    exact h.tx j j0 j1
  · intro j j0 j1
    rw [tm_a_wa, if_neg (by omega)]
    exact h.ca j j0 j1
  · intro j j0 j1
    rw [tm_a_wa, if_neg (by omega)]
    exact h.pe j j0 j1
  · intro j j0 j1
    rw [tm_a_wa, if_neg (by omega)]
    exact h.ou j j0 j1
  · intro j j0 j1
    rw [tm_a_wa, if_neg (by omega)]
    exact h.cd j j0 j1
/-- what a token's getting leaves alone -/
def tm_Fg (σ τ σ' τ' : tm_S) : Prop :=
  (∀ (k : Nat) (r : Int), r < 1000 → r ≠ 106 → ¬(r = 0 ∧ (k = 2 ∨ k = 3 ∨ k = 10)) → tm_f σ' k r = tm_f σ k r) ∧
  (∀ a i : Int, a < 1000 → a ≠ 107 → a ≠ 109 → tm_a σ' a i = tm_a σ a i) ∧
  (∀ k : Nat, k ≠ 451 → k ≠ 452 → k ≠ 457 → k ≠ 459 → k ≠ 464 → tm_f τ' k 0 = tm_f τ k 0) ∧
  (∀ a i : Int, a ≠ 110 → a ≠ 112 → a ≠ 113 → a ≠ 114 → a ≠ 115 → a ≠ 117 → tm_a τ' a i = tm_a τ a i) ∧
  (tm_f τ 459 0 ≤ tm_f τ' 459 0)
theorem tm_Fg.mk {σ τ σ' τ' : tm_S} (f : ∀ (k : Nat) (r : Int), r < 1000 → r ≠ 106 → ¬(r = 0 ∧ (k = 2 ∨ k = 3 ∨ k = 10)) → tm_f σ' k r = tm_f σ k r) (a : ∀ a i : Int, a < 1000 → a ≠ 107 → a ≠ 109 → tm_a σ' a i = tm_a σ a i) (g : ∀ k : Nat, k ≠ 451 → k ≠ 452 → k ≠ 457 → k ≠ 459 → k ≠ 464 → tm_f τ' k 0 = tm_f τ k 0) (b : ∀ a i : Int, a ≠ 110 → a ≠ 112 → a ≠ 113 → a ≠ 114 → a ≠ 115 → a ≠ 117 → tm_a τ' a i = tm_a τ a i) (n : tm_f τ 459 0 ≤ tm_f τ' 459 0) : tm_Fg σ τ σ' τ' := ⟨f, a, g, b, n⟩
theorem tm_Fg.f {σ τ σ' τ' : tm_S} (h : tm_Fg σ τ σ' τ') : ∀ (k : Nat) (r : Int), r < 1000 → r ≠ 106 → ¬(r = 0 ∧ (k = 2 ∨ k = 3 ∨ k = 10)) → tm_f σ' k r = tm_f σ k r := h.1
theorem tm_Fg.a {σ τ σ' τ' : tm_S} (h : tm_Fg σ τ σ' τ') : ∀ a i : Int, a < 1000 → a ≠ 107 → a ≠ 109 → tm_a σ' a i = tm_a σ a i := h.2.1
theorem tm_Fg.g {σ τ σ' τ' : tm_S} (h : tm_Fg σ τ σ' τ') : ∀ k : Nat, k ≠ 451 → k ≠ 452 → k ≠ 457 → k ≠ 459 → k ≠ 464 → tm_f τ' k 0 = tm_f τ k 0 := h.2.2.1
theorem tm_Fg.b {σ τ σ' τ' : tm_S} (h : tm_Fg σ τ σ' τ') : ∀ a i : Int, a ≠ 110 → a ≠ 112 → a ≠ 113 → a ≠ 114 → a ≠ 115 → a ≠ 117 → tm_a τ' a i = tm_a τ a i := h.2.2.2.1
theorem tm_Fg.n {σ τ σ' τ' : tm_S} (h : tm_Fg σ τ σ' τ') : tm_f τ 459 0 ≤ tm_f τ' 459 0 := h.2.2.2.2
theorem tm_Fg.rf (σ τ : tm_S) : tm_Fg σ τ σ τ := ⟨fun _ _ _ _ _ => rfl, fun _ _ _ _ _ => rfl, fun _ _ _ _ _ _ => rfl, fun _ _ _ _ _ _ _ _ => rfl, Int.le_refl _⟩
theorem tm_Fg.tr {σ τ σ1 τ1 σ2 τ2 : tm_S} (h : tm_Fg σ τ σ1 τ1) (g : tm_Fg σ1 τ1 σ2 τ2) : tm_Fg σ τ σ2 τ2 :=
  tm_Fg.mk (fun k r h1 h2 h3 => (g.f k r h1 h2 h3).trans (h.f k r h1 h2 h3)) (fun a i h1 h2 h3 => (g.a a i h1 h2 h3).trans (h.a a i h1 h2 h3)) (fun k h1 h2 h3 h4 h5 => (g.g k h1 h2 h3 h4 h5).trans (h.g k h1 h2 h3 h4 h5)) (fun a i h0 h1 h2 h3 h4 h5 => (g.b a i h0 h1 h2 h3 h4 h5).trans (h.b a i h0 h1 h2 h3 h4 h5)) (Int.le_trans h.n g.n)
/-- how much there is to read -/
def tm_mu (τ : tm_S) : Int := tm_f τ 457 0 + (tm_f τ 449 0 - tm_f τ 451 0)
/-- a token, or none -/
def tm_Pg (q : tm_Pm) (b : Int) (σ τ : tm_S) (x : Int) (σ' : tm_S) (y : Int) (τ' : tm_S) : Prop :=
  tm_Si q b 0 σ' τ' ∧ tm_Fg σ τ σ' τ' ∧ tm_f τ' 457 0 < 300 ∧ tm_mu τ' ≤ tm_mu τ ∧ ((x = -1 ∧ y = -1) ∨ (tm_TR (tm_f τ' 459 0) x y ∧ tm_mu τ' < tm_mu τ))
def tm_Dg (q : tm_Pm) (σ' : tm_S) (w : Int) (τ' : tm_S) : Prop := w = -1 ∧ tm_De q σ' τ'
/-- the rest of the line is passed -/
theorem tm_passLine {q : tm_Pm} {b : Int} {σ τ : tm_S} (h : tm_Si q b 0 σ τ) (c : Int) : ∃ p : Int, tm_f τ 451 0 ≤ p ∧ p ≤ tm_f τ 449 0 ∧ fc_passLine c σ = tm_rt 0 (tm_wf (tm_wf σ 3 0 0) 2 0 p) ∧ ∀ (r0 : tm_S → tm_R) (v2 v3 : Int), fm_read_L66 r0 tm_FU v2 v3 c τ = fm_read_J108 r0 v2 v3 (tm_wf τ 451 0 p) := by
  have hsz := h.sz
  have hpl := h.pl
  unfold fc_passLine
  by_cases hc : c = 10
  · refine ⟨tm_f τ 451 0, Int.le_refl _, hpl.2.2, ?_, fun r0 v2 v3 => ?_⟩
    · rw [if_pos hc]
      have e : tm_wf (tm_wf σ 3 0 0) 2 0 (tm_f τ 451 0) = tm_wf σ 3 0 0 := by
        rw [← hpl.1]
        exact tm_wf_self (tm_wf σ 3 0 0) 2 0
      rw [e]
    · rw [tm_wf_self]
      show fm_read_B66 r0 (fm_read_L66 r0 99999) v2 v3 c τ = _
      unfold fm_read_B66
      rw [if_pos hc]
  · rw [if_neg hc]
    have loop : ∀ (f g : Nat) (p c : Int) (σ1 τ1 : tm_S), c ≠ 10 → tm_f σ1 2 0 = p → tm_f τ1 451 0 = p → tm_f σ1 1 0 = tm_f τ 449 0 → tm_f τ1 449 0 = tm_f τ 449 0 → (∀ i : Int, tm_a σ1 100 i = tm_a σ 100 i) → (∀ i : Int, tm_a τ1 102 i = tm_a τ 102 i) → 0 ≤ p ∧ p ≤ tm_f τ 449 0 → tm_f τ 449 0 - p < (f : Int) → tm_f τ 449 0 - p + 1 < (g : Int) →
        ∃ p' : Int, p ≤ p' ∧ p' ≤ tm_f τ 449 0 ∧ fc_passLine_L12 f σ1 = tm_rt 0 (tm_wf σ1 2 0 p') ∧ ∀ (r0 : tm_S → tm_R) (v2 v3 : Int), fm_read_L66 r0 g v2 v3 c τ1 = fm_read_J108 r0 v2 v3 (tm_wf τ1 451 0 p') := by
      intro f
      induction f with
      | zero => intro g p c σ1 τ1 _ _ _ _ _ _ _ h1 h2; exact absurd h2 (by omega)
      | succ f ih =>
        intro g p c σ1 τ1 hc h1 h2 h3 h4 h5 h6 h7 h8 h9
        cases g with
        | zero => exact absurd h9 (by omega)
        | succ g =>
        show ∃ p' : Int, p ≤ p' ∧ p' ≤ tm_f τ 449 0 ∧ fc_passLine_B12 (fc_passLine_L12 f) σ1 = _ ∧ ∀ (r0 : tm_S → tm_R) (v2 v3 : Int), fm_read_B66 r0 (fm_read_L66 r0 g) v2 v3 c τ1 = _
        unfold fc_passLine_B12 fc_passLine_J50 fm_read_B66
        simp only [if_neg hc, h1, h2, h3, h4]
        by_cases hp : p < tm_f τ 449 0
        · have htx := h.tx p h7.1 hp
          simp only [if_pos hp]
          rw [tm_gx_t (by omega), h5, htx.1]
          by_cases hq : tm_a τ 102 p = 10
          · refine ⟨p + 1, by omega, by omega, ?_, fun r0 v2 v3 => ?_⟩
            · rw [if_pos hq, tm_gi_t (by omega)]
            · rw [tm_gx_t (by omega), h6, hq, tm_lt_e, tm_gi_t (by omega)]
              cases g with
              | zero => exact absurd h9 (by omega)
              | succ g =>
                show fm_read_B66 r0 (fm_read_L66 r0 g) v2 v3 10 _ = _
                unfold fm_read_B66
                rw [if_pos rfl]
          · rw [if_neg hq, tm_gi_t (by omega)]
            obtain ⟨p', i1, i2, i3, i4⟩ := ih g (p + 1) (tm_a τ 102 p) (tm_wf σ1 2 0 (p + 1)) (tm_wf τ1 451 0 (p + 1)) hq rfl rfl h3 h4 h5 h6 (by omega) (by omega) (by omega)
            refine ⟨p', by omega, i2, ?_, fun r0 v2 v3 => ?_⟩
            · rw [i3, tm_wf_wf]
            · rw [tm_gx_t (by omega), h6, tm_lt_e, tm_gi_t (by omega), i4, tm_wf_wf]
        · simp only [if_neg hp]
          refine ⟨p, Int.le_refl _, h7.2, rfl, fun r0 v2 v3 => ?_⟩
          rw [← h2, tm_wf_self]
    have hFU : tm_f τ 449 0 - tm_f τ 451 0 + 1 < ((tm_FU : Nat) : Int) := by unfold tm_FU; omega
    obtain ⟨p, i1, i2, i3, i4⟩ := loop tm_FU tm_FU (tm_f τ 451 0) c (tm_wf σ 3 0 0) τ hc hpl.1 rfl hsz.1 rfl (fun _ => rfl) (fun _ => rfl) (by omega) (by omega) hFU
    exact ⟨p, i1, i2, i3, i4⟩
