/-! CONDITIONALS -/
set_option maxRecDepth 100000
def tm_Ps (q : tm_Pm) (b : Int) (σ τ : tm_S) (x : Int) (σ' : tm_S) (y : Int) (τ' : tm_S) : Prop := tm_Si q b 0 σ' τ' ∧ tm_Fg σ τ σ' τ' ∧ x = y ∧ (y = 0 ∨ y = 1)
def tm_Dz (q : tm_Pm) (σ' : tm_S) (w : Int) (τ' : tm_S) : Prop := w = 0 ∧ tm_De q σ' τ'
theorem sm_skip {q : tm_Pm} {b v : Int} {σ τ : tm_S} (h : tm_Si q b 0 σ τ) (hv : v = 0 ∨ v = 1) : tm_RR (tm_Ps q b σ τ) (tm_Dz q) (fc_skip v σ) (fm_pass v τ) := by
  have loop : ∀ (f g : Nat) (d : Int) (σ1 τ1 : tm_S), tm_Si q b 0 σ1 τ1 → tm_Fg σ τ σ1 τ1 → 0 ≤ d → d + tm_mu τ1 ≤ 1000 → tm_mu τ1 + 1 < (f : Int) → tm_mu τ1 < (g : Int) → tm_RR (tm_Ps q b σ τ) (tm_Dz q) (fc_skip_L2 f v d σ1) (fm_pass_L2 g v d τ1) := by
    intro f
    induction f with
    | zero =>
      intro g d σ1 τ1 h _ _ _ h1
      have := h.wt
      have := h.pl
      unfold tm_mu at h1
      exact absurd h1 (by omega)
    | succ f ih =>
      intro g d σ1 τ1 h fr hd hdm h1 h2
      have hmu : 0 ≤ tm_mu τ1 := by
        have := h.wt
        have := h.pl
        unfold tm_mu
        omega
      cases g with
      | zero => exact absurd h2 (by omega)
      | succ g =>
      show tm_RR _ _ (fc_skip_B2 (fc_skip_L2 f) v d σ1) (fm_pass_B2 (fm_pass_L2 g) v d τ1)
      unfold fc_skip_B2 fm_pass_B2
      rw [if_neg (by omega)]
      refine tm_RRbd (sm_need h) (fun x σ2 y τ2 ⟨p1, p2, p3, p4, p5⟩ => ?_) (fun σ2 w τ2 ⟨d1, d2⟩ => ?_)
      · have hn2 := p1.nn
        have hry := p4.rng (by omega)
        have fr2 := fr.tr p2
        have hmu2 : 0 ≤ tm_mu τ2 := by
          have := p1.wt
          have := p1.pl
          unfold tm_mu
          omega
        have go : ∀ e : Int, 0 ≤ e → e ≤ d + 1 → tm_RR (tm_Ps q b σ τ) (tm_Dz q) (fc_skip_L2 f v e σ2) (fm_pass_L2 g v e τ2) := fun e e0 e1 => ih g e σ2 τ2 p1 fr2 e0 (by omega) (by omega) (by omega)
        rw [if_neg (by omega), fc_meaningOf_e p1 p4, fm_meaningOf_e (by omega) p4, tm_bd_rt, tm_bd_rt]
        unfold fc_skip_J35 fc_skip_J45 fm_pass_J41
        have plainOn : ∀ r m : Int, (r = -1 ∨ tm_k σ2 r ≠ 0) → r ≠ 417 → r ≠ 416 → m ≠ 18 → m ≠ 17 → tm_RR (tm_Ps q b σ τ) (tm_Dz q) (tm_gq σ2 r <| if r = 417 then tm_gi (d + -1) <| tm_gq σ2 r <| if r = 416 then (if d + -1 = 0 then (if v = 0 then fc_skip_L2 f v (d + -1) σ2 else tm_rt 1 σ2) else fc_skip_L2 f v (d + -1) σ2) else fc_skip_L2 f v (d + -1) σ2 else tm_gq σ2 r <| if r = 416 then (if d = 0 then (if v = 0 then fc_skip_L2 f v d σ2 else tm_rt 1 σ2) else fc_skip_L2 f v d σ2) else fc_skip_L2 f v d σ2) (if m = 18 then tm_gi (d + -1) <| if d + -1 < 0 then tm_rt 0 τ2 else fm_pass_L2 g v (d + -1) τ2 else if m = 17 then (if d = 0 then (if v = 0 then fm_pass_L2 g v d τ2 else tm_rt 1 τ2) else fm_pass_L2 g v d τ2) else fm_pass_L2 g v d τ2) := by
          intro r m hr h7 h6 h8 h9
          rw [tm_gq_t hr, if_neg h7, tm_gq_t hr, if_neg h6, if_neg h8, if_neg h9]
          exact go d hd (by omega)
        rcases tm_TM p1 p4 with ⟨a1, a2, a3, a4⟩ | ⟨a1, a2, a3⟩
        · obtain ⟨a5, a6, -⟩ := a1
          rw [a3, p1.fx.nu, if_neg (show ¬ (0 : Nat) = 39 by decide), tm_gm_t (Or.inl (by decide)), if_neg (show ¬ tm_mm τ2 y < 13 by omega), if_pos (show 16 < tm_mm τ2 y by omega)]
          exact plainOn (-1) (tm_mm τ2 y) (Or.inl rfl) (by decide) (by decide) (by omega) (by omega)
        · rcases a3 with a3 | a3 | ⟨c0, c1, c2, c3, c4⟩ | ⟨c0, c1, c2, c3, c4, c5⟩
          · rw [a3.1, a3.2, p1.fx.nu, if_neg (show ¬ (0 : Nat) = 39 by decide), tm_gm_t (Or.inl (by decide)), if_pos (show (0 : Int) < 13 by decide)]
            exact plainOn (-1) 0 (Or.inl rfl) (by decide) (by decide) (by decide) (by decide)
          · have hk := p1.fx.cm (tm_mc σ2 x) (by omega) (by omega)
            have hq : tm_mc σ2 x = -1 ∨ tm_k σ2 (tm_mc σ2 x) ≠ 0 := Or.inr (by rw [hk]; decide)
            rw [if_pos hk, fc_opens_e p1 (by omega), tm_bd_rt]
            by_cases ho : 412 ≤ tm_mc σ2 x ∧ tm_mc σ2 x < 416
            · rw [if_pos ho, if_neg (show ¬ (1 : Int) = 0 by decide), tm_gi_t (by omega), tm_gq_t hq, if_neg (show ¬ tm_mc σ2 x = 417 by omega), tm_gq_t hq, if_neg (show ¬ tm_mc σ2 x = 416 by omega), if_neg (show ¬ tm_mm τ2 y < 13 by omega), if_neg (show ¬ 16 < tm_mm τ2 y by omega), tm_gi_t (by omega)]
              exact go (d + 1) (by omega) (by omega)
            · rw [if_neg ho, if_pos rfl]
              have e9 : (if tm_mm τ2 y < 13 then (if tm_mm τ2 y = 18 then tm_gi (d + -1) <| if d + -1 < 0 then tm_rt 0 τ2 else fm_pass_L2 g v (d + -1) τ2 else if tm_mm τ2 y = 17 then (if d = 0 then (if v = 0 then fm_pass_L2 g v d τ2 else tm_rt 1 τ2) else fm_pass_L2 g v d τ2) else fm_pass_L2 g v d τ2) else if 16 < tm_mm τ2 y then (if tm_mm τ2 y = 18 then tm_gi (d + -1) <| if d + -1 < 0 then tm_rt 0 τ2 else fm_pass_L2 g v (d + -1) τ2 else if tm_mm τ2 y = 17 then (if d = 0 then (if v = 0 then fm_pass_L2 g v d τ2 else tm_rt 1 τ2) else fm_pass_L2 g v d τ2) else fm_pass_L2 g v d τ2) else tm_gi (d + 1) <| fm_pass_L2 g v (d + 1) τ2) = (if tm_mm τ2 y = 18 then tm_gi (d + -1) <| if d + -1 < 0 then tm_rt 0 τ2 else fm_pass_L2 g v (d + -1) τ2 else if tm_mm τ2 y = 17 then (if d = 0 then (if v = 0 then fm_pass_L2 g v d τ2 else tm_rt 1 τ2) else fm_pass_L2 g v d τ2) else fm_pass_L2 g v d τ2) := by
                by_cases h13 : tm_mm τ2 y < 13
                · rw [if_pos h13]
                · rw [if_neg h13, if_pos (show 16 < tm_mm τ2 y by omega)]
              rw [e9]
              by_cases h18 : tm_mm τ2 y = 18
              · rw [tm_gq_t hq, if_pos (show tm_mc σ2 x = 417 by omega), tm_gi_t (by omega), tm_gq_t hq, if_neg (show ¬ tm_mc σ2 x = 416 by omega), if_pos h18, tm_gi_t (by omega)]
                by_cases hneg : d + -1 < 0
                · rw [if_pos hneg]
                  cases f with
                  | zero => exact absurd h1 (by omega)
                  | succ f =>
                    show tm_RR _ _ (fc_skip_B2 (fc_skip_L2 f) v (d + -1) σ2) _
                    unfold fc_skip_B2
                    rw [if_pos hneg]
                    exact tm_RRrt ⟨p1, fr2, rfl, Or.inl rfl⟩
                · rw [if_neg hneg]
                  exact go (d + -1) (by omega) (by omega)
              · by_cases h17 : tm_mm τ2 y = 17
                · rw [tm_gq_t hq, if_neg (show ¬ tm_mc σ2 x = 417 by omega), tm_gq_t hq, if_pos (show tm_mc σ2 x = 416 by omega), if_neg h18, if_pos h17]
                  by_cases hd0 : d = 0
                  · rw [if_pos hd0, if_pos hd0]
                    rcases hv with hv | hv
                    · rw [if_pos hv, if_pos hv]
                      exact go d hd (by omega)
                    · rw [if_neg (show ¬ v = 0 by omega), if_neg (show ¬ v = 0 by omega)]
                      exact tm_RRrt ⟨p1, fr2, rfl, Or.inr rfl⟩
                  · rw [if_neg hd0, if_neg hd0]
                    exact go d hd (by omega)
                · exact plainOn (tm_mc σ2 x) (tm_mm τ2 y) hq (by omega) (by omega) h18 h17
          · have c5 := c3.1
            rw [c2, if_neg (show ¬ (5 : Nat) = 39 by decide), tm_gm_t (Or.inr (Or.inl c2)), if_neg (show ¬ tm_mm τ2 y < 13 by omega), if_pos (show 16 < tm_mm τ2 y by omega)]
            exact plainOn (tm_mc σ2 x) (tm_mm τ2 y) (Or.inr (by rw [c2]; decide)) (by omega) (by omega) (by omega) (by omega)
          · rw [c2, if_neg (show ¬ (6 : Nat) = 39 by decide), tm_gm_t (Or.inr (Or.inr (Or.inl c2))), if_neg (show ¬ tm_mm τ2 y < 13 by omega), if_pos (show 16 < tm_mm τ2 y by omega)]
            exact plainOn (tm_mc σ2 x) (tm_mm τ2 y) (Or.inr (by rw [c2]; decide)) (by omega) (by omega) (by omega) (by omega)
      · subst d1
        rw [if_pos rfl]
        exact ⟨_, _, rfl, rfl, d2⟩
  have hwt := h.wt
  have hpl := h.pl
  have hsz := h.sz
  have hFU : tm_mu τ + 1 < ((tm_FU : Nat) : Int) := by unfold tm_FU tm_mu; omega
  have hFU2 : tm_mu τ < ((tm_FU : Nat) : Int) := by unfold tm_FU tm_mu; omega
  unfold fc_skip fm_pass
  exact loop tm_FU tm_FU 0 σ τ h (tm_Fg.rf σ τ) (by decide) (by unfold tm_mu; omega) hFU hFU2
