set_option maxRecDepth 100000
/-- the body is put back -/
theorem tm_putBody {q : tm_Pm} {b r m : Int} {σ τ : tm_S} (hma : ∀ σ1 τ1, tm_Si q b 0 σ1 τ1 → tm_Fg σ τ σ1 τ1 → tm_k σ1 r = 6 ∧ tm_Ma (tm_f τ1 459 0) σ1 τ1 r m) (hm : 0 ≤ m ∧ m < 60) (har : ∀ p : Int, 0 ≤ p → p < tm_a τ 128 m → tm_Ar (tm_f τ 459 0) σ τ p) :
    ∀ (f g : Nat) (i : Int) (σ1 τ1 : tm_S), tm_Si q b 0 σ1 τ1 → tm_Fg σ τ σ1 τ1 → (-1 ≤ i ∧ i < tm_a τ 126 m) → i + 1 < (f : Int) → i + 3 < (g : Int) → tm_RR (tm_Px q b σ τ) (tm_Dv q) (fc_X7_expand_L140 f r i σ1) (fm_call_L185 g m i τ1) := by
  intro f
  induction f with
  | zero => intro g i σ1 τ1 _ _ h0 h1; exact absurd h1 (by omega)
  | succ f ih =>
    intro g i σ1 τ1 h fr h0 h1 h2
    cases g with
    | zero => exact absurd h2 (by omega)
    | succ g =>
    cases g with
    | zero => exact absurd h2 (by omega)
    | succ g =>
    have hnn := h.nn
    have hfl := h.fl
    obtain ⟨kr, ma⟩ := hma σ1 τ1 h fr
    have e126 : tm_a τ1 126 m = tm_a τ 126 m := fr.b 126 m (by decide) (by decide) (by decide) (by decide) (by decide) (by decide)
    have e128 : tm_a τ1 128 m = tm_a τ 128 m := fr.b 128 m (by decide) (by decide) (by decide) (by decide) (by decide) (by decide)
    have b2 := ma.b2
    have mp := ma.p
    show tm_RR _ _ (fc_X7_expand_B140 (fc_X7_expand_L140 f) r i σ1) (fm_call_B185 (fm_call_L185 (g + 1)) m i τ1)
    unfold fc_X7_expand_B140 fm_call_B185
    by_cases hi : i < 0
    · rw [if_pos hi, if_pos hi]
      exact tm_RRrt ⟨h, fr.fe⟩
    · have hb := ma.b3 i (by omega) (by omega)
      have hr := hb.rng (by omega) mp.2
      rw [if_neg hi, if_neg hi, if_pos hfl.2, tm_gk_t kr, tm_gk_t ma.b1, tm_lt_e]
      by_cases hx : tm_a τ1 127 (41 * m + i) < 16384
      · have htr : tm_TR (tm_f τ1 459 0) (tm_a σ1 (tm_f σ1 321 r) i) (tm_a τ1 127 (41 * m + i)) := by
          rcases hb with c | c | c
          · exact Or.inl c
          · exact Or.inr (Or.inl c)
          · omega
        (repeat (first | refine tm_RRgi (by (first | omega | assumption)) ?_ | refine tm_RRgx (by (first | omega | assumption)) ?_ | refine tm_RRgb (by (first | omega | assumption)) ?_ | refine tm_RRgs (by (first | omega | assumption)) ?_ | refine tm_RRgz (by (first | omega | assumption)) ?_ | refine tm_RRgk (by (first | omega | assumption)) ?_ | refine tm_RRgn (by (first | omega | assumption)) ?_ | refine tm_RRgiR (by (first | omega | assumption)) ?_ | refine tm_RRgxR (by (first | omega | assumption)) ?_ | refine tm_RRgzR (by (first | omega | assumption)) ?_ | refine tm_RRt (by (first | omega | assumption)) ?_ | refine tm_RRf (by (first | omega | assumption)) ?_ | refine tm_RRtR (by (first | omega | assumption)) ?_ | refine tm_RRfR (by (first | omega | assumption)) ?_))
        refine tm_RRbd (sm_back h htr) (fun x σ2 y τ2 ⟨p1, p2, p3⟩ => ?_) (fun σ2 w τ2 d => ?_)
        · rw [tm_gi_t (by omega), tm_gi_t (by omega)]
          exact ih (g + 1) (i + -1) σ2 τ2 p1 (fr.tr p2) (by omega) (by omega) (by omega)
        · have hd := d.fl
          rw [tm_gi_t (by omega), fm_call_L185_dead (by omega)]
          exact ⟨_, _, rfl, d⟩
      · have hp : 16385 ≤ tm_a τ1 127 (41 * m + i) ∧ tm_a τ1 127 (41 * m + i) ≤ 16384 + tm_a τ1 128 m ∧ tm_a σ1 (tm_f σ1 321 r) i = 16384 - tm_a τ1 127 (41 * m + i) := by
          rcases hb with ⟨-, c, c2, -⟩ | c | c <;> omega
        have hpa : (-1) - tm_a σ1 (tm_f σ1 321 r) i = tm_a τ1 127 (41 * m + i) - 16384 - 1 := by omega
        rw [hpa, tm_lt_e]
        (repeat (first | refine tm_RRgi (by (first | omega | assumption)) ?_ | refine tm_RRgx (by (first | omega | assumption)) ?_ | refine tm_RRgb (by (first | omega | assumption)) ?_ | refine tm_RRgs (by (first | omega | assumption)) ?_ | refine tm_RRgz (by (first | omega | assumption)) ?_ | refine tm_RRgk (by (first | omega | assumption)) ?_ | refine tm_RRgn (by (first | omega | assumption)) ?_ | refine tm_RRgiR (by (first | omega | assumption)) ?_ | refine tm_RRgxR (by (first | omega | assumption)) ?_ | refine tm_RRgzR (by (first | omega | assumption)) ?_ | refine tm_RRt (by (first | omega | assumption)) ?_ | refine tm_RRf (by (first | omega | assumption)) ?_ | refine tm_RRtR (by (first | omega | assumption)) ?_ | refine tm_RRfR (by (first | omega | assumption)) ?_))
        generalize hpp : tm_a τ1 127 (41 * m + i) - 16384 - 1 = p at *
        have ar := (har p (by omega) (by omega)).fg fr (by omega) fr.n
        have an := ar.n
        obtain ⟨r1, -⟩ := h.fx.rw (130 + p) (by omega)
        unfold fc_X3_putBack
        rw [tm_gk_t r1, tm_gk_t r1, an.1, tm_gi_t (by omega), tm_lt_e, tm_lt_e]
        (repeat (first | refine tm_RRgi (by (first | omega | assumption)) ?_ | refine tm_RRgx (by (first | omega | assumption)) ?_ | refine tm_RRgb (by (first | omega | assumption)) ?_ | refine tm_RRgs (by (first | omega | assumption)) ?_ | refine tm_RRgz (by (first | omega | assumption)) ?_ | refine tm_RRgk (by (first | omega | assumption)) ?_ | refine tm_RRgn (by (first | omega | assumption)) ?_ | refine tm_RRgiR (by (first | omega | assumption)) ?_ | refine tm_RRgxR (by (first | omega | assumption)) ?_ | refine tm_RRgzR (by (first | omega | assumption)) ?_ | refine tm_RRt (by (first | omega | assumption)) ?_ | refine tm_RRf (by (first | omega | assumption)) ?_ | refine tm_RRtR (by (first | omega | assumption)) ?_ | refine tm_RRfR (by (first | omega | assumption)) ?_))
        have hFU1 : tm_a τ1 140 p - 1 + 1 < ((tm_FU : Nat) : Int) := by unfold tm_FU; omega
        have hFU2 : tm_a τ1 140 p - 1 + 2 < ((tm_FU : Nat) : Int) := by unfold tm_FU; omega
        refine tm_putRow (K := fun σ180 => tm_gi (i + -1) <| fc_X7_expand_L140 f r (i + -1) σ180) (a := p) (by omega) (by omega) g (fun σ2 τ2 h2' f2 => ?_) tm_FU tm_FU (tm_a τ1 140 p - 1) σ1 τ1 h ar fr (by omega) hFU1 hFU2
        show tm_RR _ _ (tm_gi (i + -1) <| fc_X7_expand_L140 f r (i + -1) σ2) _
        rw [tm_gi_t (by omega)]
        exact ih (g + 1) (i + -1) σ2 τ2 h2' f2 (by omega) (by omega) (by omega)
/-- the next parameter's place in the text -/
theorem tm_scan {N : Int} {σ τ : tm_S} {r m : Int} (kr : tm_k σ r = 6) (ma : tm_Ma N σ τ r m) (hN : 0 ≤ N ∧ N ≤ 118) (hm : 0 ≤ m ∧ m < 60) (rc : Int → Int → Int → tm_S → tm_R) (rm : Int → Int → Int → tm_S → tm_R) (p k9 fr0 : Int) :
    ∀ (f g : Nat) (x : Int), (0 ≤ x ∧ x ≤ 20) → 20 - x < (f : Int) → 20 - x < (g : Int) → ∃ t : Int, x ≤ t ∧ (t = x ∨ t ≤ tm_a τ 124 m) ∧ (∀ i : Int, x ≤ i → i < t → tm_a τ 125 (13 * m + i) < 16384) ∧ fc_X7_expand_L66 rc f r x p fr0 σ = fc_X7_expand_J90 rc r t p fr0 σ ∧ fm_call_L97 rm g m k9 p x τ = fm_call_J132 rm m k9 p t τ := by
  have t2 := ma.t2
  intro f
  induction f with
  | zero => intro g x h0 h1; exact absurd h1 (by omega)
  | succ f ih =>
    intro g x h0 h1 h2
    cases g with
    | zero => exact absurd h2 (by omega)
    | succ g =>
    show ∃ t : Int, x ≤ t ∧ (t = x ∨ t ≤ tm_a τ 124 m) ∧ _ ∧ fc_X7_expand_B66 rc (fc_X7_expand_L66 rc f) r x p fr0 σ = _ ∧ fm_call_B97 rm (fm_call_L97 rm g) m k9 p x τ = _
    unfold fc_X7_expand_B66 fm_call_B97
    rw [tm_gk_t kr, tm_gk_t ma.t1, tm_gx_t (show 0 ≤ m ∧ m < 61 by omega), t2.1]
    by_cases hx : x < tm_a τ 124 m
    · have ht := (ma.t3 x h0.1 hx).1
      have hr := ht.rng hN (by decide)
      rw [if_pos hx, if_pos hx, tm_gx_t (show 0 ≤ x ∧ x < tm_a τ 124 m by omega), tm_gi_t (show -2147483648 ≤ 13 * m ∧ 13 * m ≤ 2147483647 by omega), tm_gi_t (show -2147483648 ≤ 13 * m + x ∧ 13 * m + x ≤ 2147483647 by omega), tm_gx_t (show 0 ≤ 13 * m + x ∧ 13 * m + x < 800 by omega)]
      by_cases hp : tm_a τ 125 (13 * m + x) < 16384
      · rw [if_neg (by omega), if_pos hp, tm_gi_t (by omega), tm_gi_t (by omega)]
        obtain ⟨t, i1, i2, i3, i4, i5⟩ := ih g (x + 1) (by omega) (by omega) (by omega)
        refine ⟨t, by omega, Or.inr (by omega), fun i j0 j1 => ?_, i4, i5⟩
        by_cases hi : i = x
        · rw [hi]; exact hp
        · exact i3 i (by omega) j1
      · rw [if_pos (by omega), if_neg hp]
        exact ⟨x, Int.le_refl _, Or.inl rfl, fun i j0 j1 => absurd j1 (by omega), rfl, rfl⟩
    · rw [if_neg hx, if_neg hx]
      exact ⟨x, Int.le_refl _, Or.inl rfl, fun i j0 j1 => absurd j1 (by omega), rfl, rfl⟩
