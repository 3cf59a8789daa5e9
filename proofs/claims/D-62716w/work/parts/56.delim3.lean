set_option maxRecDepth 100000
/-- a row's size is set on both sides -/
theorem tm_resize {q : tm_Pm} {b a s : Int} {σ τ : tm_S} (h : tm_Si q b 0 σ τ) (ha : 0 ≤ a ∧ a < 4) (ar : tm_Ar (tm_f τ 459 0) σ τ a) (hs : 0 ≤ s ∧ s ≤ tm_a τ 140 a) : tm_Si q b 0 (tm_wf σ 129 (130 + a) s) (tm_wa τ 140 a s) ∧ tm_Ar (tm_f τ 459 0) (tm_wf σ 129 (130 + a) s) (tm_wa τ 140 a s) a ∧ tm_Fr a σ τ (tm_wf σ 129 (130 + a) s) (tm_wa τ 140 a s) := by
  have an := ar.n
  refine ⟨(tm_Si.mk (fl := h.fl) (sz := h.sz) (pl := h.pl) (st := h.st) (sp := h.sp) (gr := h.gr) (mc := h.mc) (ex := h.ex) (oc := h.oc) (wt := h.wt) (op := h.op) (cg := h.cg) (nn := h.nn) (dp := h.dp) (md := h.md) (bc := h.bc) (bz := h.bz) (tx := h.tx) (ca := h.ca) (pe := h.pe) (ou := h.ou) (cd := h.cd) (lo := h.lo) (ns := h.ns) (cs := h.cs) (fx := h.fx) (kp := h.kp) (kt := h.kt)), tm_Ar.mk (by (simp only [tm_f_wf, tm_f_wa, tm_a_wf, tm_a_wa, tm_n_wf, tm_n_wa, tm_k_wf, tm_k_wa, tm_c_wf, tm_c_wa, tm_z_wf, tm_z_wa, tm_u_wf, tm_u_wa, tm_v_wf, tm_v_wa, tm_lt_e, tm_ls_e, tm_bd_rt, tm_bd_th, Nat.reduceEqDiff, Int.reduceEq, Int.reduceNeg, false_and, and_false, true_and, and_true, and_self, if_false, if_true, reduceIte, ite_true, ite_false, reduceCtorEq]); omega) (fun i i0 i1 => ?_), tm_Fr.mk (fun r h1 h2 h3 h4 => ?_) (fun _ _ _ _ _ => rfl) (fun k i h1 h2 => ?_) rfl rfl (fun i hi => rfl) (fun i hi => ?_) (Int.le_refl _)⟩
  · rw [tm_a_wa, if_pos ⟨rfl, rfl⟩] at i1
    exact ar.t i i0 (by omega)
  · rw [tm_f_wf, if_neg (by omega)]
  · rw [tm_a_wa, if_neg (by omega)]
  · rw [tm_a_wa, if_neg (by omega)]
theorem tm_strip {q : tm_Pm} {b a s : Int} {σ τ : tm_S} (ha : 0 ≤ a ∧ a < 4) (hs : 2 ≤ s) : ∀ (f g : Nat) (i : Int) (σ1 τ1 : tm_S), tm_Si q b 0 σ1 τ1 → tm_Ar (tm_f τ1 459 0) σ1 τ1 a → tm_a τ1 140 a = s → tm_Fr a σ τ σ1 τ1 → (1 ≤ i ∧ i ≤ s - 1) → s - i < (f : Int) → s - i < (g : Int) → tm_RR (tm_Pu q b a σ τ) (tm_Dv q) (tm_bd (fc_X3_strip_L2 f (130 + a) (i + 1) σ1) fun _ σ100 => tm_rt 0 σ100) (fm_longArgument_L226 g a s i τ1) := by
  intro f
  induction f with
  | zero => intro g i σ1 τ1 _ _ _ _ h0 h1; exact absurd h1 (by omega)
  | succ f ih =>
    intro g i σ1 τ1 h ar hsz fr h0 h1 h2
    cases g with
    | zero => exact absurd h2 (by omega)
    | succ g =>
    have hnn := h.nn
    obtain ⟨r1, r2, r3, r4⟩ := h.fx.rw (130 + a) (by omega)
    have e20 : 130 + a + 20 = 150 + a := by omega
    rw [e20] at r2 r3 r4
    have an := ar.n
    show tm_RR _ _ (tm_bd (fc_X3_strip_B2 (fc_X3_strip_L2 f) (130 + a) (i + 1) σ1) fun _ σ100 => tm_rt 0 σ100) (fm_longArgument_B226 (fm_longArgument_L226 g) a s i τ1)
    unfold fc_X3_strip_B2 fm_longArgument_B226
    rw [tm_gk_t r1, an.1, hsz]
    by_cases hi : i + 1 < s
    · have ht := ar.t i (by omega) (by omega)
      have hr := ht.rng (by omega) (by decide)
      rw [if_pos hi, r2, show i + 1 - 1 = i by omega, show i + 1 - 2 = i - 1 by omega, tm_gi_t (show -2147483648 ≤ i - 1 ∧ i - 1 ≤ 2147483647 by omega), tm_gi_t (show -2147483648 ≤ i ∧ i ≤ 2147483647 by omega), tm_gk_t r3, tm_gx_t (by omega), tm_gx_t (by omega), tm_gs_t (by omega), tm_gi_t (by omega)]
      have hM : (tm_gi (s - 1) <| if i < (s - 1) then tm_gi (42 * a) <| tm_gi ((42 * a) + i) <| tm_gi (((42 * a) + i) - 1) <| tm_gi (42 * a) <| tm_gi ((42 * a) + i) <| tm_gx ((42 * a) + i) 168 <| tm_gx (((42 * a) + i) - 1) 168 <| tm_gi (i + 1) <| fm_longArgument_L226 g a s (i + 1) (tm_wa τ1 139 (((42 * a) + i) - 1) (tm_a τ1 139 ((42 * a) + i))) else tm_gi (s - 2) <| tm_gx a 4 <| tm_rt 0 (tm_wa τ1 140 a (s - 2))) = fm_longArgument_L226 g a s (i + 1) (tm_wa τ1 139 (42 * a + (i - 1)) (tm_a τ1 139 (42 * a + i))) := by
        rw [tm_gi_t (by omega), if_pos (by omega), tm_gi_t (by omega), tm_gi_t (by omega), tm_gi_t (by omega), tm_gi_t (by omega), tm_gi_t (by omega), tm_gx_t (by omega), tm_gx_t (by omega), tm_gi_t (by omega), show 42 * a + i - 1 = 42 * a + (i - 1) by omega]
      rw [hM]
      have hw := h.wa (150 + a) (i - 1) (tm_a σ1 (150 + a) i) (by omega) (fun j j0 j1 => by omega)
      refine ih g (i + 1) _ _ ((tm_Si.mk (fl := hw.fl) (sz := hw.sz) (pl := hw.pl) (st := hw.st) (sp := hw.sp) (gr := hw.gr) (mc := hw.mc) (ex := hw.ex) (oc := hw.oc) (wt := hw.wt) (op := hw.op) (cg := hw.cg) (nn := hw.nn) (dp := hw.dp) (md := hw.md) (bc := hw.bc) (bz := hw.bz) (tx := hw.tx) (ca := hw.ca) (pe := hw.pe) (ou := hw.ou) (cd := hw.cd) (lo := hw.lo) (ns := hw.ns) (cs := hw.cs) (fx := hw.fx) (kp := hw.kp) (kt := hw.kt))) (tm_Ar.mk an (fun j j0 j1 => ?_)) hsz (fr.tr (tm_Fr.mk (fun r h1 h2 h3 h4 => rfl) (fun r j h1 h2 h3 => ?_) (fun k j h1 h2 => ?_) rfl rfl (fun j hj => ?_) (fun j hj => rfl) (Int.le_refl _))) (by omega) (by omega) (by omega)
      · have j1 : j < tm_a τ1 140 a := j1
        (simp only [tm_f_wf, tm_f_wa, tm_a_wf, tm_a_wa, tm_n_wf, tm_n_wa, tm_k_wf, tm_k_wa, tm_c_wf, tm_c_wa, tm_z_wf, tm_z_wa, tm_u_wf, tm_u_wa, tm_v_wf, tm_v_wa, tm_lt_e, tm_ls_e, tm_bd_rt, tm_bd_th, Nat.reduceEqDiff, Int.reduceEq, Int.reduceNeg, false_and, and_false, true_and, and_true, and_self, if_false, if_true, reduceIte, ite_true, ite_false, reduceCtorEq])
        by_cases hj : j = i - 1
        · rw [if_pos hj, if_pos (by omega)]
          exact ht
        · rw [if_neg hj, if_neg (by omega)]
          exact ar.t j j0 j1
      · rw [tm_a_wa, if_neg (by omega)]
      · rw [tm_a_wa, if_neg (by omega)]
      · rw [tm_a_wa, if_neg (by omega)]
    · rw [if_neg hi, tm_gi_t (by omega), tm_bd_rt, tm_gi_t (by omega), if_neg (by omega), tm_gi_t (by omega), tm_gx_t (by omega)]
      obtain ⟨s1, s2, s3⟩ := tm_resize (s := s - 2) h ha ar (by omega)
      exact tm_RRrt ⟨s1, s2, fr.tr s3⟩
/-- the end of an argument that goes up to a piece of the text -/
theorem tm_delim_end {q : tm_Pm} {b a m T p0 p1 n9 : Int} {σ τ σ1 τ1 : tm_S} (h : tm_Si q b 0 σ1 τ1) (ha : 0 ≤ a ∧ a < 4) (hm : 0 ≤ m ∧ m < 60) (hp : 0 ≤ p0 ∧ p0 < p1 ∧ p1 ≤ 12) (ar : tm_Ar (tm_f τ1 459 0) σ1 τ1 a) (fr : tm_Fr a σ τ σ1 τ1)
    (hb : ∀ i : Int, p0 ≤ i → i < p1 → tm_lev (tm_a τ1 125 (13 * m + i)) = 0) (hen : p1 - p0 ≤ tm_a τ1 140 a ∧ tm_En τ1 a m p0 (p1 - p0) 0)
    (hlv : ∀ k : Nat, (k : Int) ≤ tm_a τ1 140 a → 0 ≤ tm_LV τ1 a k) (hl0 : tm_LV τ1 a (tm_a τ1 140 a).toNat = 0) (r : Int → Int → Int → Int → Int → Int → Int → tm_S → tm_R) (dep : Int) :
    tm_RR (tm_Pu q b a σ τ) (tm_Dv q) (tm_gk (tm_k σ1 (130 + a)) 3 <| tm_gi (p1 - p0) <| tm_gi ((tm_f σ1 129 (130 + a)) - (p1 - p0)) <| tm_gk (tm_k (tm_wf σ1 129 (130 + a) ((tm_f σ1 129 (130 + a)) - (p1 - p0))) (130 + a)) 3 <| tm_bd (fc_X3_isGroup (130 + a) (tm_wf σ1 129 (130 + a) ((tm_f σ1 129 (130 + a)) - (p1 - p0)))) fun u93 σ93 => if u93 = 0 then tm_rt 0 σ93 else tm_gk (tm_k σ93 (130 + a)) 3 <| tm_bd (fc_X3_strip (130 + a) σ93) fun u100 σ100 => tm_rt 0 σ100)
      (fm_longArgument_B9 r a m p0 p1 dep 1 n9 τ1) := by
  have hnn := h.nn
  obtain ⟨r1, r2, r3, r4⟩ := h.fx.rw (130 + a) (by omega)
  have an := ar.n
  obtain ⟨s1, s2, s3⟩ := tm_resize (s := tm_a τ1 140 a - (p1 - p0)) h ha ar (by omega)
  have fr2 := fr.tr s3
  -- the levels, in what is left
  have hLV : ∀ k : Nat, tm_LV (tm_wa τ1 140 a (tm_a τ1 140 a - (p1 - p0))) a k = tm_LV τ1 a k := fun k => tm_LV_eq k (fun i _ _ => rfl)
  have hs9 : tm_LV τ1 a (tm_a τ1 140 a - (p1 - p0)).toNat = 0 := by
    have h9 := tm_LV_flat (τ := τ1) (a := a) (tm_a τ1 140 a - (p1 - p0)).toNat (p1 - p0).toNat (fun i i0 i1 => by
      have e := hen.2 (i - (tm_a τ1 140 a - (p1 - p0))) (by omega) (by omega)
      rw [show tm_a τ1 140 a - (p1 - p0) + (i - (tm_a τ1 140 a - (p1 - p0))) = i by omega] at e
      rw [e]
      exact hb _ (by omega) (by omega))
    rw [show (tm_a τ1 140 a - (p1 - p0)).toNat + (p1 - p0).toNat = (tm_a τ1 140 a).toNat by omega] at h9
    omega
  unfold fm_longArgument_B9
  rw [an.1, tm_gk_t r1, tm_gi_t (by omega), tm_gi_t (by omega), tm_gk_t (by exact r1), if_neg (by decide)]
  have hkk : tm_k (tm_wf σ1 129 (130 + a) (tm_a τ1 140 a - (p1 - p0))) (130 + a) = 3 := r1
  have hsz : tm_a (tm_wa τ1 140 a (tm_a τ1 140 a - (p1 - p0))) 140 a = tm_a τ1 140 a - (p1 - p0) := by (simp only [tm_f_wf, tm_f_wa, tm_a_wf, tm_a_wa, tm_n_wf, tm_n_wa, tm_k_wf, tm_k_wa, tm_c_wf, tm_c_wa, tm_z_wf, tm_z_wa, tm_u_wf, tm_u_wa, tm_v_wf, tm_v_wa, tm_lt_e, tm_ls_e, tm_bd_rt, tm_bd_th, Nat.reduceEqDiff, Int.reduceEq, Int.reduceNeg, false_and, and_false, true_and, and_true, and_self, if_false, if_true, reduceIte, ite_true, ite_false, reduceCtorEq])
  rw [tm_gx_t (by omega), tm_gi_t (by omega), tm_gi_t (by omega), tm_gx_t (by omega), tm_gx_t (by omega), tm_lt_e, hsz]
  generalize hs0 : tm_a τ1 140 a - (p1 - p0) = s at *
  generalize hσ : tm_wf σ1 129 (130 + a) s = σ2 at *
  generalize hτ : tm_wa τ1 140 a s = τ2 at *
  have an2 := s2.n
  have hn2 : tm_f τ1 459 0 = tm_f τ2 459 0 := by rw [← hτ]; rfl
  rw [hn2] at s2
  unfold fc_X3_isGroup
  show tm_RR _ _ (tm_bd (fc_X3_isGroup_B4 (fc_X3_isGroup_L4 99999) (130 + a) 0 0 σ2) _) _
  obtain ⟨q1, q2, q3, q4⟩ := s1.fx.rw (130 + a) (by omega)
  have e20 : 130 + a + 20 = 150 + a := by omega
  rw [e20] at q2 q3 q4
  unfold fc_X3_isGroup_B4
  rw [tm_gk_t q1, an2.1, hsz]
  by_cases h0 : 0 < s
  · have ht := s2.t 0 (by omega) (by omega)
    have hlv2 : tm_lev (tm_a σ2 (150 + a) 0) = tm_lev (tm_a τ2 139 (42 * a)) := by
      rw [show 42 * a = 42 * a + 0 by omega]
      rcases ht with ⟨c1, -⟩ | c | c
      · rw [c1]
      · unfold tm_lev; (repeat' split) <;> first | rfl | (exfalso; omega)
      · omega
    have h1 : tm_LV τ2 a 1 = tm_lev (tm_a τ2 139 (42 * a)) := by
      show 0 + tm_lev (tm_a τ2 139 (42 * a + 0)) = _
      rw [show 42 * a + 0 = 42 * a by omega]
      omega
    have hin := tm_lev_in (tm_a τ2 139 (42 * a))
    have hlp : 0 ≤ tm_LV τ2 a 1 := by rw [hLV]; exact hlv 1 (by omega)
    obtain ⟨l1, l2, l3⟩ := tm_lev_if (tm_a τ2 139 (42 * a))
    rw [if_pos h0, q2, tm_gk_t q3, tm_gx_t (by omega), fc_levelOf_e, tm_bd_rt, hlv2, tm_gi_t (by omega), tm_lt_e]
    by_cases hz : tm_lev (tm_a τ2 139 (42 * a)) = 0
    · rw [if_pos (by omega), if_neg (by decide), tm_bd_rt, if_pos rfl]
      by_cases hs2 : s < 2
      · rw [if_pos hs2]
        exact tm_RRrt ⟨s1, s2, fr2⟩
      · rw [if_neg hs2, tm_gi_t (by omega), tm_gx_t (by omega), fm_isCharacter_e, tm_bd_rt, l1, hz, if_pos (by decide)]
        exact tm_RRrt ⟨s1, s2, fr2⟩
    · have hone : tm_lev (tm_a τ2 139 (42 * a)) = 1 := by omega
      have hs2 : ¬ s < 2 := by
        intro h9
        have : s = 1 := by omega
        rw [this] at hs9
        have e9 : tm_LV τ1 a 1 = 0 := hs9
        rw [← hLV] at e9
        omega
      rw [if_neg (by omega), tm_gi_t (by omega), if_neg hs2, tm_gi_t (by omega), tm_gx_t (by omega), fm_isCharacter_e, tm_bd_rt, l1, hone, if_pos rfl, if_neg (by decide)]
      show tm_RR _ _ _ (fm_longArgument_B162 (fm_longArgument_L162 99999) a s 0 0 τ2)
      unfold fm_longArgument_B162 fm_longArgument_J205
      rw [tm_gi_t (by omega), tm_gi_t (by omega), tm_gx_t (by omega), tm_lt_e, show 42 * a + 0 = 42 * a by omega, fm_isCharacter_e, tm_bd_rt, l1, hone, if_pos rfl, if_neg (by decide), tm_gi_t (by decide), tm_lt_e, tm_gi_t (by decide), if_pos (by decide)]
      have hg := tm_isGroup s1 ha s2 (fun k hk => by rw [hLV]; exact hlv k (by omega)) 99999 99999 1 (by omega) (Nat.le_refl _) (by omega) ⟨s.toNat, by omega, by omega, by rw [hLV]; exact hs9⟩ (by omega) (by omega)
      rw [hsz, h1, hone] at hg
      rcases hg with ⟨g1, g2, g3⟩ | ⟨g1, g3⟩
      · have g1 : fc_X3_isGroup_L4 99999 (130 + a) (0 + 1) (0 + 1) σ2 = tm_rt 1 σ2 := g1
        have g3 : fm_longArgument_L162 99999 a s (0 + 1) (0 + 1) τ2 = fm_longArgument_L226 tm_FU a s 1 τ2 := g3
        rw [g1, g3, tm_bd_rt, if_neg (by decide), tm_gk_t q1]
        unfold fc_X3_strip
        have hFU : s - 1 < ((tm_FU : Nat) : Int) := by unfold tm_FU; omega
        exact tm_strip ha (by omega) tm_FU tm_FU 1 σ2 τ2 s1 s2 hsz fr2 (by omega) hFU hFU
      · have g1 : fc_X3_isGroup_L4 99999 (130 + a) (0 + 1) (0 + 1) σ2 = tm_rt 0 σ2 := g1
        have g3 : fm_longArgument_L162 99999 a s (0 + 1) (0 + 1) τ2 = tm_rt 0 τ2 := g3
        rw [g1, g3, tm_bd_rt, if_pos rfl]
        exact tm_RRrt ⟨s1, s2, fr2⟩
  · rw [if_neg h0, tm_bd_rt, if_pos rfl, if_pos (by omega)]
    exact tm_RRrt ⟨s1, s2, fr2⟩
