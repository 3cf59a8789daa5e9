/-! ARGUMENTS -/
set_option maxRecDepth 100000
/-- the same, with another state to look back at -/
def tm_Pm.re (q : tm_Pm) (σ τ : tm_S) : tm_Pm := (q.d, q.S, q.D, q.F, q.lo, σ, τ)
theorem tm_Si.snap {q : tm_Pm} {b e : Int} {σ τ : tm_S} (h : tm_Si q b e σ τ) : tm_Si (q.re σ τ) b e σ τ := by
  refine (tm_Si.mk (fl := h.fl) (sz := h.sz) (pl := h.pl) (st := h.st) (sp := h.sp) (gr := h.gr) (mc := h.mc) (ex := h.ex) (oc := h.oc) (wt := h.wt) (op := h.op) (cg := h.cg) (nn := h.nn) (dp := h.dp) (md := h.md) (bc := h.bc) (bz := h.bz) (tx := h.tx) (ca := h.ca) (pe := h.pe) (ou := h.ou) (cd := h.cd) (lo := ⟨h.lo.1, h.lo.2.1, fun h9 => ?_⟩) (ns := h.ns) (cs := h.cs) (fx := h.fx) (kp := tm_Kp.rf _ σ) (kt := tm_Kt.rf _ _ τ))
  have h9 : 0 < q.lo := h9
  show tm_a τ 130 (q.lo - 1) = 0
  rw [h.kt.cd (q.lo - 1) (by omega) (by omega)]
  exact h.lo.2.2 h9
theorem tm_Si.un {q : tm_Pm} {b b' e e' : Int} {σ τ σ' τ' : tm_S} (h : tm_Si q b e σ τ) (h' : tm_Si (q.re σ τ) b' e' σ' τ') : tm_Si q b' e' σ' τ' :=
  (tm_Si.mk (fl := h'.fl) (sz := h'.sz) (pl := h'.pl) (st := h'.st) (sp := h'.sp) (gr := h'.gr) (mc := h'.mc) (ex := h'.ex) (oc := h'.oc) (wt := h'.wt) (op := h'.op) (cg := h'.cg) (nn := h'.nn) (dp := h'.dp) (md := h'.md) (bc := h'.bc) (bz := h'.bz) (tx := h'.tx) (ca := h'.ca) (pe := h'.pe) (ou := h'.ou) (cd := h'.cd) (lo := ⟨h'.lo.1, h'.lo.2.1, h.lo.2.2⟩) (ns := h'.ns) (cs := h'.cs) (fx := h'.fx) (kp := h.kp.tr h'.kp (Int.le_refl _)) (kt := h.kt.tr h'.kt (Int.le_refl _) (Int.le_refl _)))
theorem tm_De.un {q : tm_Pm} {b e : Int} {σ τ σ' τ' : tm_S} (h : tm_Si q b e σ τ) (h' : tm_De (q.re σ τ) σ' τ') : tm_De q σ' τ' :=
  (tm_De.mk (fl := h'.fl) (sz := h'.sz) (pl := h'.pl) (sp := h'.sp) (gr := h'.gr) (mc := h'.mc) (oc := h'.oc) (op := h'.op) (nn := h'.nn) (md := h'.md) (tx := h'.tx) (ca := h'.ca) (ou := h'.ou) (ns := h'.ns) (fx := h'.fx) (kt := h.kt.tr h'.kt (Int.le_refl _) (Int.le_refl _)))
theorem fc_same_e (x z : Int) (σ : tm_S) : fc_same x z σ = tm_rt (if tm_pc x = tm_pc z then 1 else 0) σ := by
  unfold fc_same
  rw [fc_plain_e, tm_bd_rt, fc_plain_e, tm_bd_rt]
  unfold tm_pc
  (repeat' split) <;> first | rfl | (exfalso; omega)
theorem tm_lev_TR {N x y : Int} (h : tm_TR N x y) : tm_lev x = tm_lev y := by
  rcases h with ⟨a1, -⟩ | a | a
  · rw [a1]
  · unfold tm_lev; (repeat' split) <;> first | rfl | (exfalso; omega)
  · unfold tm_lev; (repeat' split) <;> first | rfl | (exfalso; omega)
/-- a piece of an argument, when its token is there -/
theorem sm_piece {q : tm_Pm} {b x y got T m p0 p1 dep : Int} {σ τ : tm_S} (h : tm_Si q b 0 σ τ) (ht : tm_TR (tm_f τ 459 0) x y) (hg : 0 ≤ got ∧ got ≤ 40) (hp : 0 ≤ p0 ∧ p0 ≤ p1 ∧ p1 ≤ 12) (hm : 0 ≤ m ∧ m < 60)
    (hT : p0 < p1 → tm_k σ T = 21 ∧ p1 ≤ tm_n σ T ∧ ∀ i : Int, p0 ≤ i → i < p1 → tm_PR (tm_f τ 459 0) 0 (tm_a σ T i) (tm_a τ 125 (13 * m + i))) :
    (∃ σ' τ' : tm_S, (if got = 40 then tm_bd (fc_fail 5 σ) fun _ _ => none else fc_argued_L23 tm_FU T p1 x 0 p0 σ) = tm_th 0 σ' ∧ fm_piece y (got + 1) m p0 p1 dep τ = tm_rt (-1) τ' ∧ tm_De q σ' τ') ∨
    (got < 40 ∧ (if got = 40 then tm_bd (fc_fail 5 σ) fun _ _ => none else fc_argued_L23 tm_FU T p1 x 0 p0 σ) = tm_rt x σ ∧ ((tm_lev y = -1 ∧ dep = 0 ∧ fm_piece y (got + 1) m p0 p1 dep τ = tm_rt (-1) (tm_wf τ 453 0 1)) ∨ (¬(tm_lev y = -1 ∧ dep = 0) ∧ fm_piece y (got + 1) m p0 p1 dep τ = tm_rt (tm_pm y) τ))) := by
  have hnn := h.nn
  have hr := ht.rng (by omega)
  have hfl := h.fl
  unfold fm_piece
  rw [if_neg (show ¬ y = -1 by omega)]
  by_cases h40 : got = 40
  · rw [if_pos h40, if_pos (show 40 < got + 1 by omega), h.fail, tm_bd_th, tm_stop_0 hfl.2, tm_bd_rt]
    exact Or.inl ⟨_, _, rfl, rfl, h.die (by decide)⟩
  · rw [if_neg h40, if_neg (show ¬ 40 < got + 1 by omega), fm_plain_e, tm_bd_rt]
    have hpl := ht.plain (by omega)
    have hpar : tm_pc x = 4096 ↔ tm_pm y = 4096 := by
      have h1 : tm_PR (tm_f τ 459 0) 0 4096 4096 := Or.inr (Or.inl (by omega))
      exact tm_PR.inj hpl.1 h1 (by omega)
    have hpc : tm_pc 4096 = 4096 := by decide
    have lev2 : tm_lev y = -1 ↔ (0 ≤ y ∧ y < 4096 ∧ y / 256 = 2) := by
      unfold tm_lev
      (repeat' split) <;> omega
    -- the loops, side by side: whether it is par, and not behind
    have loop : ∀ (f g : Nat) (i vb vp : Int), (p0 ≤ i ∧ i ≤ p1) → p1 - i < (f : Int) → p1 - i < (g : Int) → (vb = 0 ∨ vb = 1) → (vp = 0 ∨ vp = 1) → (vp = 1 ↔ (tm_pm y = 4096 ∧ vb = 0)) →
        (∃ σ' τ' : tm_S, fc_argued_L23 f T p1 x vb i σ = tm_th 0 σ' ∧ fm_piece_L44 g y m p1 dep vp i τ = tm_rt (-1) τ' ∧ tm_De q σ' τ') ∨
        (fc_argued_L23 f T p1 x vb i σ = tm_rt x σ ∧ ((tm_lev y = -1 ∧ dep = 0 ∧ fm_piece_L44 g y m p1 dep vp i τ = tm_rt (-1) (tm_wf τ 453 0 1)) ∨ (¬(tm_lev y = -1 ∧ dep = 0) ∧ fm_piece_L44 g y m p1 dep vp i τ = tm_rt (tm_pm y) τ))) := by
      intro f
      induction f with
      | zero => intro g i vb vp h0 h1; exact absurd h1 (by omega)
      | succ f ih =>
        intro g i vb vp h0 h1 h2 h3 h4 h5
        cases g with
        | zero => exact absurd h2 (by omega)
        | succ g =>
        show (∃ σ' τ' : tm_S, fc_argued_B23 (fc_argued_L23 f) T p1 x vb i σ = _ ∧ fm_piece_B44 (fm_piece_L44 g) y m p1 dep vp i τ = _ ∧ _) ∨ (fc_argued_B23 (fc_argued_L23 f) T p1 x vb i σ = _ ∧ ((_ ∧ _ ∧ fm_piece_B44 (fm_piece_L44 g) y m p1 dep vp i τ = _) ∨ (_ ∧ fm_piece_B44 (fm_piece_L44 g) y m p1 dep vp i τ = _)))
        unfold fc_argued_B23 fm_piece_B44 fm_piece_J122
        by_cases hi : i < p1
        · obtain ⟨t1, t2, t3⟩ := hT (by omega)
          have hti := t3 i h0.1 hi
          have htr := hti.rng (by omega) (by decide)
          have hinj := tm_PR.inj hpl.1 hti (by omega)
          have hpt : tm_pc (tm_a σ T i) = tm_a σ T i := by
            unfold tm_pc
            rcases hti with ⟨a1, a2, a3, -⟩ | a | a
            · rw [if_pos (by omega)]
            · rw [if_neg (by omega)]
              omega
            · omega
          -- one step on each side
          have hC : ∃ vb' : Int, (vb' = 0 ∨ vb' = 1) ∧ (vb' = 0 ↔ (vb = 0 ∧ tm_pm y ≠ tm_a τ 125 (13 * m + i))) ∧ (if vb = 0 then tm_gk (tm_k σ T) 21 <| tm_gx i (tm_n σ T) <| tm_bd (fc_same x (tm_a σ T i) σ) fun u41 σ41 => if u41 = 0 then tm_gi (i + 1) <| fc_argued_L23 f T p1 x 0 (i + 1) σ41 else tm_gi (i + 1) <| fc_argued_L23 f T p1 x 1 (i + 1) σ41 else tm_gi (i + 1) <| fc_argued_L23 f T p1 x 1 (i + 1) σ) = fc_argued_L23 f T p1 x vb' (i + 1) σ := by
            rcases h3 with rfl | rfl
            · rw [if_pos rfl, tm_gk_t t1, tm_gx_t (by omega), fc_same_e, tm_bd_rt, hpt]
              by_cases hs : tm_pc x = tm_a σ T i
              · rw [if_pos hs, if_neg (by decide), tm_gi_t (by omega)]
                exact ⟨1, Or.inr rfl, ⟨fun h9 => absurd h9 (by decide), fun h9 => absurd (hinj.mp hs) h9.2⟩, rfl⟩
              · rw [if_neg hs, if_pos rfl, tm_gi_t (by omega)]
                exact ⟨0, Or.inl rfl, ⟨fun _ => ⟨rfl, fun h9 => hs (hinj.mpr h9)⟩, fun _ => rfl⟩, rfl⟩
            · rw [if_neg (by decide), tm_gi_t (by omega)]
              exact ⟨1, Or.inr rfl, ⟨fun h9 => absurd h9 (by decide), fun h9 => absurd h9.1 (by decide)⟩, rfl⟩
          have hM : ∃ vp' : Int, (vp' = 0 ∨ vp' = 1) ∧ (vp' = 1 ↔ (vp = 1 ∧ tm_a τ 125 (13 * m + i) ≠ 4096)) ∧ (if vp = 0 then tm_gi (i + 1) <| fm_piece_L44 g y m p1 dep 0 (i + 1) τ else tm_gi (13 * m) <| tm_gi ((13 * m) + i) <| tm_gx ((13 * m) + i) 800 <| if (tm_a τ 125 ((13 * m) + i)) = 4096 then tm_gi (i + 1) <| fm_piece_L44 g y m p1 dep 0 (i + 1) τ else tm_gi (i + 1) <| fm_piece_L44 g y m p1 dep 1 (i + 1) τ) = fm_piece_L44 g y m p1 dep vp' (i + 1) τ := by
            rcases h4 with rfl | rfl
            · rw [if_pos rfl, tm_gi_t (by omega)]
              exact ⟨0, Or.inl rfl, ⟨fun h9 => absurd h9 (by decide), fun h9 => absurd h9.1 (by decide)⟩, rfl⟩
            · rw [if_neg (by decide), tm_gi_t (by omega), tm_gi_t (by omega), tm_gx_t (by omega)]
              by_cases hs : tm_a τ 125 (13 * m + i) = 4096
              · rw [if_pos hs, tm_gi_t (by omega)]
                exact ⟨0, Or.inl rfl, ⟨fun h9 => absurd h9 (by decide), fun h9 => absurd hs h9.2⟩, rfl⟩
              · rw [if_neg hs, tm_gi_t (by omega)]
                exact ⟨1, Or.inr rfl, ⟨fun _ => ⟨rfl, hs⟩, fun _ => rfl⟩, rfl⟩
          obtain ⟨vb', b1, b2, b3⟩ := hC
          obtain ⟨vp', c1, c2, c3⟩ := hM
          rw [if_pos hi, if_pos hi, b3, c3]
          refine ih g (i + 1) vb' vp' (by omega) (by omega) (by omega) b1 c1 ?_
          rw [c2, h5, b2]
          constructor
          · rintro ⟨⟨d1, d2⟩, d3⟩
            exact ⟨d1, d2, fun h9 => d3 (by rw [← h9, d1])⟩
          · rintro ⟨d1, d2, d3⟩
            exact ⟨⟨d1, d2⟩, fun h9 => d3 (by rw [h9, d1])⟩
        · rw [if_neg hi, if_neg hi, fc_same_e, tm_bd_rt, hpc]
          by_cases hx : tm_pm y = 4096
          · rw [if_pos (hpar.mpr hx), if_neg (by decide)]
            rcases h3 with rfl | rfl
            · have hv : vp = 1 := h5.mpr ⟨hx, rfl⟩
              rw [if_pos rfl, if_neg (by omega), h.fail, tm_bd_th, tm_stop_0 hfl.2, tm_bd_rt]
              exact Or.inl ⟨_, _, rfl, rfl, h.die (by decide)⟩
            · have hv : vp = 0 := by
                rcases h4 with h4 | h4
                · exact h4
                · exact absurd (h5.mp h4).2 (by decide)
              have hy : ¬ tm_lev y = -1 := by
                rw [lev2]
                unfold tm_pm at hx
                split at hx <;> omega
              rw [if_neg (by decide), if_pos hv, fm_isCharacter_e, tm_bd_rt, if_neg (fun h9 => hy (lev2.mpr h9)), if_pos rfl, fm_plain_e, tm_bd_rt]
              exact Or.inr ⟨rfl, Or.inr ⟨fun h9 => hy h9.1, rfl⟩⟩
          · have hv : vp = 0 := by
              rcases h4 with h4 | h4
              · exact h4
              · exact absurd (h5.mp h4).1 hx
            rw [if_neg (fun h9 => hx (hpar.mp h9)), if_pos rfl, if_pos hv, fm_isCharacter_e, tm_bd_rt]
            by_cases hy : tm_lev y = -1
            · rw [if_pos (lev2.mp hy), if_neg (by decide)]
              by_cases hd : dep = 0
              · rw [if_pos hd, tm_stop_0 hfl.2, tm_bd_rt]
                exact Or.inr ⟨rfl, Or.inl ⟨hy, hd, rfl⟩⟩
              · rw [if_neg hd, fm_plain_e, tm_bd_rt]
                exact Or.inr ⟨rfl, Or.inr ⟨fun h9 => hd h9.2, rfl⟩⟩
            · rw [if_neg (fun h9 => hy (lev2.mpr h9)), if_pos rfl, fm_plain_e, tm_bd_rt]
              exact Or.inr ⟨rfl, Or.inr ⟨fun h9 => hy h9.1, rfl⟩⟩
    have hFU : p1 - p0 < ((tm_FU : Nat) : Int) := by unfold tm_FU; omega
    have e8 : (if 8192 ≤ y ∧ y < 16384 then y - 8192 else y) = tm_pm y := rfl
    rw [e8]
    by_cases hx : tm_pm y = 4096
    · rw [if_pos hx]
      rcases loop tm_FU tm_FU p0 0 1 (by omega) hFU hFU (Or.inl rfl) (Or.inr rfl) ⟨fun _ => ⟨hx, rfl⟩, fun _ => rfl⟩ with h9 | h9
      · exact Or.inl h9
      · exact Or.inr ⟨by omega, h9⟩
    · rw [if_neg hx]
      rcases loop tm_FU tm_FU p0 0 0 (by omega) hFU hFU (Or.inl rfl) (Or.inl rfl) ⟨fun h9 => absurd h9 (by decide), fun h9 => absurd h9.1 hx⟩ with h9 | h9
      · exact Or.inl h9
      · exact Or.inr ⟨by omega, h9⟩
