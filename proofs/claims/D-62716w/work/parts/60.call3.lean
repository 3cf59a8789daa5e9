set_option maxRecDepth 100000
theorem tm_lev_flat {y : Int} (h : ¬ (256 ≤ y ∧ y < 768)) : tm_lev y = 0 := by
  unfold tm_lev
  (repeat' split) <;> first | rfl | (exfalso; omega)
theorem fm_call_L75_dead {τ : tm_S} {m : Int} (hf : 0 < tm_f τ 453 0) (hm : 0 ≤ m ∧ m < 60) (hb : 0 ≤ tm_a τ 126 m ∧ tm_a τ 126 m ≤ 40) (g : Nat) (k p : Int) : fm_call_L75 (g + 1) m k p τ = tm_rt 0 τ := by
  show fm_call_B75 (fm_call_L75 g) m k p τ = _
  have hJ : fm_call_J176 m τ = tm_rt 0 τ := by
    unfold fm_call_J176
    rw [tm_gx_t (by omega), tm_gi_t (by omega), tm_lt_e]
    exact fm_call_L185_dead hf m _ 99999
  unfold fm_call_B75
  rw [tm_gx_t (by omega), if_neg (show ¬ tm_f τ 453 0 = 0 by omega), hJ]
  split <;> rfl
theorem tm_call {q : tm_Pm} {b r m : Int} {σ τ : tm_S} (h : tm_Si q b 0 σ τ) (hs0 : q.s0 = σ) (ht0 : q.t0 = τ) (hr : 1000 ≤ r ∧ r < 1000 + (tm_c σ : Int)) (kr : tm_k σ r = 6) (hm : 0 ≤ m ∧ m < tm_f τ 471 0) (ma : tm_Ma (tm_f τ 459 0) σ τ r m) : tm_RR (tm_Px q b σ τ) (tm_Dv q) (fc_X7_expand r σ) (fm_call m τ) := by
  have hmc := h.mc
  have hma : ∀ σ1 τ1, tm_Si q b 0 σ1 τ1 → tm_k σ1 r = 6 ∧ tm_Ma (tm_f τ1 459 0) σ1 τ1 r m := by
    intro σ1 τ1 h1
    have kh := h1.kp.h
    have kn := h1.kt.n
    have kt := h1.kt.t
    rw [hs0] at kh
    rw [ht0] at kn kt
    exact ⟨(kh.k r hr.2).1.trans kr, ma.go kn kh kt hr hm⟩
  have b2 := ma.b2
  have t2 := ma.t2
  have mp := ma.p
  have dead : ∀ σ1 τ1, tm_De q σ1 τ1 → ∀ (g : Nat) (k p : Int), fm_call_L75 (g + 1) m k p τ1 = tm_rt 0 τ1 := by
    intro σ1 τ1 d g k p
    have hf := d.fl
    have kt := d.kt.t
    rw [ht0] at kt
    obtain ⟨-, e126, -⟩ := kt m hm.1 hm.2
    exact fm_call_L75_dead (by omega) (by omega) (by omega) g k p
  -- the arguments
  have args : ∀ (f g : Nat) (k p : Int) (σ1 τ1 : tm_S), tm_Si q b 0 σ1 τ1 → tm_Fe σ τ σ1 τ1 → (0 ≤ p ∧ p ≤ tm_a τ 128 m) → (∀ j : Int, 0 ≤ j → j < p → tm_Ar (tm_f τ1 459 0) σ1 τ1 j) → (0 ≤ k ∧ k ≤ 12 + p) → 5 - p < (f : Int) → 6 - p < (g : Int) → tm_RR (tm_Px q b σ τ) (tm_Dv q) (fc_X7_expand_L50 f r k p σ1) (fm_call_L75 g m k p τ1) := by
    intro f
    induction f with
    | zero => intro g k p σ1 τ1 _ _ h0 _ _ h1; exact absurd h1 (by omega)
    | succ f ih =>
      intro g k p σ1 τ1 h1 fe hp har hk g1 g2
      cases g with
      | zero => exact absurd g2 (by omega)
      | succ g =>
      cases g with
      | zero => exact absurd g2 (by omega)
      | succ g =>
      have hnn := h1.nn
      have hfl := h1.fl
      obtain ⟨kr1, ma1⟩ := hma σ1 τ1 h1
      have e124 := fe.t 124 m (by decide) (by decide)
      have e126 := fe.t 126 m (by decide) (by decide)
      have e128 := fe.t 128 m (by decide) (by decide)
      have mp1 := ma1.p
      have t21 := ma1.t2
      have b21 := ma1.b2
      show tm_RR _ _ (fc_X7_expand_B50 (fc_X7_expand_L50 f) r k p σ1) (fm_call_B75 (fm_call_L75 (g + 1)) m k p τ1)
      unfold fc_X7_expand_B50 fm_call_B75
      rw [tm_gk_t kr1, tm_gx_t (by omega), mp1.1]
      by_cases hpp : p < tm_a τ1 128 m
      · rw [if_pos hpp, if_pos hpp, if_pos hfl.2, tm_gi_t (by omega), tm_gi_t (by omega), tm_lt_e, tm_lt_e]
        have hFU : 20 - (k + 1) < ((tm_FU : Nat) : Int) := by unfold tm_FU; omega
        obtain ⟨t, i1, i2, i3, i4, i5⟩ := tm_scan kr1 ma1 (by omega) (by omega) (fc_X7_expand_L50 f) (fm_call_L75 (g + 1)) p k (k + 1) tm_FU tm_FU (k + 1) (by omega) hFU hFU
        rw [i4, i5]
        unfold fc_X7_expand_J90 fm_call_J132
        have h2 : tm_Si q b 0 σ1 (tm_wa τ1 140 p 0) := (tm_Si.mk (fl := h1.fl) (sz := h1.sz) (pl := h1.pl) (st := h1.st) (sp := h1.sp) (gr := h1.gr) (mc := h1.mc) (ex := h1.ex) (oc := h1.oc) (wt := h1.wt) (op := h1.op) (cg := h1.cg) (nn := h1.nn) (dp := h1.dp) (md := h1.md) (bc := h1.bc) (bz := h1.bz) (tx := h1.tx) (ca := h1.ca) (pe := h1.pe) (ou := h1.ou) (cd := h1.cd) (lo := h1.lo) (ns := h1.ns) (cs := h1.cs) (fx := h1.fx) (kp := h1.kp) (kt := h1.kt))
        have f2 : tm_Fr p σ1 τ1 σ1 (tm_wa τ1 140 p 0) := tm_Fr.mk (fun _ _ _ _ _ => rfl) (fun _ _ _ _ _ => rfl) (fun k i h1 h2 => by rw [tm_a_wa, if_neg (by omega)]) rfl rfl (fun i _ => rfl) (fun i hi => by rw [tm_a_wa, if_neg (by omega)]) (Int.le_refl _)
        -- what comes behind an argument
        have next : ∀ σ2 τ2, tm_Pu q b p σ1 (tm_wa τ1 140 p 0) 0 σ2 0 τ2 → tm_RR (tm_Px q b σ τ) (tm_Dv q) (tm_gi (p + 1) <| fc_X7_expand_L50 f r t (p + 1) σ2) (tm_gi (p + 1) <| fm_call_L75 (g + 1) m t (p + 1) τ2) := by
          intro σ2 τ2 ⟨p1, p2, p3⟩
          have fr := f2.tr p3
          rw [tm_gi_t (by omega), tm_gi_t (by omega)]
          refine ih (g + 1) t (p + 1) σ2 τ2 p1 (fe.tr (fr.fe (by omega))) (by omega) (fun j j0 j1 => ?_) (by omega) (by omega) (by omega)
          by_cases hj : j = p
          · rw [hj]; exact p2
          · exact (har j j0 (by omega)).fr fr (by omega) (by omega) hj fr.n
        have stop : ∀ σ2 τ2, tm_De q σ2 τ2 → ∃ w' τ', (tm_gi (p + 1) <| fm_call_L75 (g + 1) m t (p + 1) τ2) = tm_rt w' τ' ∧ tm_Dv q σ2 w' τ' := by
          intro σ2 τ2 d
          rw [tm_gi_t (by omega), dead σ2 τ2 d]
          exact ⟨_, _, rfl, d⟩
        by_cases ht : t = k + 1
        · rw [if_pos ht, tm_gx_t (by omega), tm_gi_t (by omega), if_pos ht]
          (repeat (first | refine tm_RRgi (by (first | omega | assumption)) ?_ | refine tm_RRgx (by (first | omega | assumption)) ?_ | refine tm_RRgb (by (first | omega | assumption)) ?_ | refine tm_RRgs (by (first | omega | assumption)) ?_ | refine tm_RRgz (by (first | omega | assumption)) ?_ | refine tm_RRgk (by (first | omega | assumption)) ?_ | refine tm_RRgn (by (first | omega | assumption)) ?_ | refine tm_RRgiR (by (first | omega | assumption)) ?_ | refine tm_RRgxR (by (first | omega | assumption)) ?_ | refine tm_RRgzR (by (first | omega | assumption)) ?_ | refine tm_RRt (by (first | omega | assumption)) ?_ | refine tm_RRf (by (first | omega | assumption)) ?_ | refine tm_RRtR (by (first | omega | assumption)) ?_ | refine tm_RRfR (by (first | omega | assumption)) ?_))
          exact tm_RRbd (sm_undelimited h2 (by omega) (by omega) (by rw [tm_a_wa, if_pos ⟨rfl, rfl⟩])) (fun _ σ2 _ τ2 hp => next σ2 τ2 hp) (fun σ2 _ τ2 d => stop σ2 τ2 d)
        · rw [if_neg ht, if_neg ht, tm_gk_t kr1]
          (repeat (first | refine tm_RRgi (by (first | omega | assumption)) ?_ | refine tm_RRgx (by (first | omega | assumption)) ?_ | refine tm_RRgb (by (first | omega | assumption)) ?_ | refine tm_RRgs (by (first | omega | assumption)) ?_ | refine tm_RRgz (by (first | omega | assumption)) ?_ | refine tm_RRgk (by (first | omega | assumption)) ?_ | refine tm_RRgn (by (first | omega | assumption)) ?_ | refine tm_RRgiR (by (first | omega | assumption)) ?_ | refine tm_RRgxR (by (first | omega | assumption)) ?_ | refine tm_RRgzR (by (first | omega | assumption)) ?_ | refine tm_RRt (by (first | omega | assumption)) ?_ | refine tm_RRf (by (first | omega | assumption)) ?_ | refine tm_RRtR (by (first | omega | assumption)) ?_ | refine tm_RRfR (by (first | omega | assumption)) ?_))
          have h3 := h2.snap
          refine tm_RRbd (tm_RRweak (sm_delimited h3 (a := p) (m := m) (T := tm_f σ1 320 r) (p0 := k + 1) (p1 := t) (by omega) (by omega) (by omega) (by rw [tm_a_wa, if_pos ⟨rfl, rfl⟩]) ma1.t0 ⟨ma1.t1, by omega, fun i j0 j1 => ?_⟩ (fun i j0 j1 => ?_) rfl) (fun _ σ2 _ τ2 ⟨p1, p2, p3⟩ => (⟨h2.un p1, p2, p3⟩ : tm_Pu q b p σ1 (tm_wa τ1 140 p 0) 0 σ2 0 τ2)) (fun σ2 _ τ2 d => (tm_De.un h2 d : tm_De q σ2 τ2))) (fun _ σ2 _ τ2 hp => next σ2 τ2 hp) (fun σ2 _ τ2 d => stop σ2 τ2 d)
          · have h9 := (ma1.t3 i (by omega) (by omega)).1
            have h8 := i3 i j0 j1
            rcases h9 with c | c | c
            · exact Or.inl c
            · exact Or.inr (Or.inl c)
            · omega
          · exact tm_lev_flat (ma1.t3 i (by omega) (by omega)).2
      · rw [if_neg hpp, if_neg hpp, tm_gk_t ma1.b1, b21.1]
        unfold fm_call_J176
        rw [tm_lt_e, tm_lt_e]
        (repeat (first | refine tm_RRgi (by (first | omega | assumption)) ?_ | refine tm_RRgx (by (first | omega | assumption)) ?_ | refine tm_RRgb (by (first | omega | assumption)) ?_ | refine tm_RRgs (by (first | omega | assumption)) ?_ | refine tm_RRgz (by (first | omega | assumption)) ?_ | refine tm_RRgk (by (first | omega | assumption)) ?_ | refine tm_RRgn (by (first | omega | assumption)) ?_ | refine tm_RRgiR (by (first | omega | assumption)) ?_ | refine tm_RRgxR (by (first | omega | assumption)) ?_ | refine tm_RRgzR (by (first | omega | assumption)) ?_ | refine tm_RRt (by (first | omega | assumption)) ?_ | refine tm_RRf (by (first | omega | assumption)) ?_ | refine tm_RRtR (by (first | omega | assumption)) ?_ | refine tm_RRfR (by (first | omega | assumption)) ?_))
        have hFU1 : tm_a τ1 126 m - 1 + 1 < ((tm_FU : Nat) : Int) := by unfold tm_FU; omega
        have hFU2 : tm_a τ1 126 m - 1 + 3 < ((tm_FU : Nat) : Int) := by unfold tm_FU; omega
        refine tm_RRweak (tm_putBody (σ := σ1) (τ := τ1) (fun σ2 τ2 h2 _ => hma σ2 τ2 h2) (by omega) (fun j j0 j1 => har j j0 (by omega)) tm_FU tm_FU (tm_a τ1 126 m - 1) σ1 τ1 h1 (tm_Fg.rf σ1 τ1) (by omega) hFU1 hFU2) (fun _ σ2 _ τ2 ⟨p1, p2⟩ => ⟨p1, fe.tr p2⟩) (fun _ _ _ d => d)
  -- the text before the first parameter
  have pre : ∀ (f g : Nat) (k : Int) (σ1 τ1 : tm_S), tm_Si q b 0 σ1 τ1 → tm_Fe σ τ σ1 τ1 → (0 ≤ k ∧ k ≤ 12) → 12 - k < (f : Int) → 12 - k < (g : Int) → tm_RR (tm_Px q b σ τ) (tm_Dv q) (fc_X7_expand_L2 f r k σ1) (fm_call_L2 g m k τ1) := by
    intro f
    induction f with
    | zero => intro g k σ1 τ1 _ _ h0 h1; exact absurd h1 (by omega)
    | succ f ih =>
      intro g k σ1 τ1 h1 fe hk g1 g2
      cases g with
      | zero => exact absurd g2 (by omega)
      | succ g =>
      have hnn := h1.nn
      obtain ⟨kr1, ma1⟩ := hma σ1 τ1 h1
      have e124 := fe.t 124 m (by decide) (by decide)
      have t21 := ma1.t2
      have hFU1 : 5 - (0 : Int) < ((tm_FU : Nat) : Int) := by unfold tm_FU; omega
      have hFU2 : 6 - (0 : Int) < ((tm_FU : Nat) : Int) := by unfold tm_FU; omega
      have behind : tm_RR (tm_Px q b σ τ) (tm_Dv q) (fc_X7_expand_L50 tm_FU r k 0 σ1) (fm_call_L75 tm_FU m k 0 τ1) := args tm_FU tm_FU k 0 σ1 τ1 h1 fe (by omega) (fun j j0 j1 => absurd j1 (by omega)) (by omega) hFU1 hFU2
      show tm_RR _ _ (fc_X7_expand_B2 (fc_X7_expand_L2 f) r k σ1) (fm_call_B2 (fm_call_L2 g) m k τ1)
      unfold fc_X7_expand_B2 fm_call_B2
      rw [tm_gk_t kr1, tm_gk_t ma1.t1, t21.1, tm_gx_t (show 0 ≤ m ∧ m < 61 by omega)]
      by_cases hkl : k < tm_a τ1 124 m
      · have htk := (ma1.t3 k hk.1 hkl).1
        have hrk := htk.rng (by omega) (by decide)
        rw [if_pos hkl, if_pos hkl]
        by_cases hpar : tm_a τ1 125 (13 * m + k) < 16384
        · (repeat (first | refine tm_RRgi (by (first | omega | assumption)) ?_ | refine tm_RRgx (by (first | omega | assumption)) ?_ | refine tm_RRgb (by (first | omega | assumption)) ?_ | refine tm_RRgs (by (first | omega | assumption)) ?_ | refine tm_RRgz (by (first | omega | assumption)) ?_ | refine tm_RRgk (by (first | omega | assumption)) ?_ | refine tm_RRgn (by (first | omega | assumption)) ?_ | refine tm_RRgiR (by (first | omega | assumption)) ?_ | refine tm_RRgxR (by (first | omega | assumption)) ?_ | refine tm_RRgzR (by (first | omega | assumption)) ?_ | refine tm_RRt (by (first | omega | assumption)) ?_ | refine tm_RRf (by (first | omega | assumption)) ?_ | refine tm_RRtR (by (first | omega | assumption)) ?_ | refine tm_RRfR (by (first | omega | assumption)) ?_))
          refine tm_RRbd (sm_need h1) (fun x σ2 y τ2 ⟨p1, p2, p3, p4, p5⟩ => ?_) (fun σ2 w τ2 ⟨d1, d2⟩ => ?_)
          · have hn2 := p1.nn
            have hry := p4.rng (by omega)
            obtain ⟨kr2, ma2⟩ := hma σ2 τ2 p1
            have t22 := ma2.t2
            have e1242 : tm_a τ2 124 m = tm_a τ1 124 m := p2.b 124 m (by decide) (by decide) (by decide) (by decide) (by decide) (by decide)
            have e1252 : tm_a τ2 125 (13 * m + k) = tm_a τ1 125 (13 * m + k) := p2.b 125 _ (by decide) (by decide) (by decide) (by decide) (by decide) (by decide)
            have htk2 := (ma2.t3 k hk.1 (by omega)).1
            have htk0 : tm_PR (tm_f τ2 459 0) 0 (tm_a σ2 (tm_f σ2 320 r) k) (tm_a τ2 125 (13 * m + k)) := by
              rcases htk2 with c | c | c
              · exact Or.inl c
              · exact Or.inr (Or.inl c)
              · omega
            have hpt : tm_pc (tm_a σ2 (tm_f σ2 320 r) k) = tm_a σ2 (tm_f σ2 320 r) k := by
              unfold tm_pc
              rcases htk0 with ⟨c1, c2, c3, -⟩ | c | c
              · rw [if_pos (by omega)]
              · rw [if_neg (by omega)]; omega
              · omega
            have hinj := tm_PR.inj (p4.plain (by omega)).1 htk0 (by omega)
            rw [if_neg (by omega), tm_gk_t kr2, tm_gk_t ma2.t1, tm_gx_t (by omega), fc_same_e, tm_bd_rt, fm_plain_e, tm_bd_rt, hpt]
            have e8 : (if 8192 ≤ y ∧ y < 16384 then y - 8192 else y) = tm_pm y := rfl
            rw [e8]
            by_cases hs : tm_pm y = tm_a τ2 125 (13 * m + k)
            · rw [if_pos (hinj.mpr hs), if_neg (show ¬ (1 : Int) = 0 by decide)]
              (repeat (first | refine tm_RRgi (by (first | omega | assumption)) ?_ | refine tm_RRgx (by (first | omega | assumption)) ?_ | refine tm_RRgb (by (first | omega | assumption)) ?_ | refine tm_RRgs (by (first | omega | assumption)) ?_ | refine tm_RRgz (by (first | omega | assumption)) ?_ | refine tm_RRgk (by (first | omega | assumption)) ?_ | refine tm_RRgn (by (first | omega | assumption)) ?_ | refine tm_RRgiR (by (first | omega | assumption)) ?_ | refine tm_RRgxR (by (first | omega | assumption)) ?_ | refine tm_RRgzR (by (first | omega | assumption)) ?_ | refine tm_RRt (by (first | omega | assumption)) ?_ | refine tm_RRf (by (first | omega | assumption)) ?_ | refine tm_RRtR (by (first | omega | assumption)) ?_ | refine tm_RRfR (by (first | omega | assumption)) ?_))
              exact ih g (k + 1) σ2 τ2 p1 (fe.tr p2.fe) (by omega) (by omega) (by omega)
            · rw [if_neg (fun h9 => hs (hinj.mp h9)), if_pos rfl]
              (repeat (first | refine tm_RRgi (by (first | omega | assumption)) ?_ | refine tm_RRgx (by (first | omega | assumption)) ?_ | refine tm_RRgb (by (first | omega | assumption)) ?_ | refine tm_RRgs (by (first | omega | assumption)) ?_ | refine tm_RRgz (by (first | omega | assumption)) ?_ | refine tm_RRgk (by (first | omega | assumption)) ?_ | refine tm_RRgn (by (first | omega | assumption)) ?_ | refine tm_RRgiR (by (first | omega | assumption)) ?_ | refine tm_RRgxR (by (first | omega | assumption)) ?_ | refine tm_RRgzR (by (first | omega | assumption)) ?_ | refine tm_RRt (by (first | omega | assumption)) ?_ | refine tm_RRf (by (first | omega | assumption)) ?_ | refine tm_RRtR (by (first | omega | assumption)) ?_ | refine tm_RRfR (by (first | omega | assumption)) ?_))
              exact tm_RRfail p1 (by decide) (fun σ' τ' hd => ⟨_, _, rfl, hd⟩)
          · subst d1
            exact ⟨_, _, rfl, d2⟩
        · rw [tm_gx_t (show 0 ≤ k ∧ k < tm_a τ1 124 m by omega), if_pos (show tm_a σ1 (tm_f σ1 320 r) k < 0 by omega), tm_gi_t (show -2147483648 ≤ 13 * m ∧ 13 * m ≤ 2147483647 by omega), tm_gi_t (show -2147483648 ≤ 13 * m + k ∧ 13 * m + k ≤ 2147483647 by omega), tm_gx_t (show 0 ≤ 13 * m + k ∧ 13 * m + k < 800 by omega), if_neg hpar]
          exact behind
      · rw [if_neg hkl, if_neg hkl]
        exact behind
  unfold fc_X7_expand fm_call
  have hFU : 12 - (0 : Int) < ((tm_FU : Nat) : Int) := by unfold tm_FU; omega
  exact pre tm_FU tm_FU 0 σ τ h (tm_Fe.rf σ τ) (by decide) hFU hFU
