set_option maxRecDepth 100000
theorem tm_bd_assoc (x : tm_R) (k j : Int → tm_S → tm_R) : tm_bd (tm_bd x k) j = tm_bd x fun v σ => tm_bd (k v σ) j := by
  cases x with
  | none => rfl
  | some z => obtain ⟨z1, z2⟩ := z; cases z1 <;> rfl
theorem sm_delimited {q : tm_Pm} {b a m T p0 p1 : Int} {σ τ : tm_S} (h : tm_Si q b 0 σ τ) (ha : 0 ≤ a ∧ a < 4) (hm : 0 ≤ m ∧ m < 60) (hp : 0 ≤ p0 ∧ p0 < p1 ∧ p1 ≤ 12) (hz : tm_a τ 140 a = 0) (hT0 : 1000 ≤ T ∧ T < 1000 + (tm_c σ : Int))
    (hT : tm_k σ T = 21 ∧ p1 ≤ tm_n σ T ∧ ∀ i : Int, p0 ≤ i → i < p1 → tm_PR (tm_f τ 459 0) 0 (tm_a σ T i) (tm_a τ 125 (13 * m + i)))
    (hb : ∀ i : Int, p0 ≤ i → i < p1 → tm_lev (tm_a τ 125 (13 * m + i)) = 0) (hsn : q.s0 = σ) :
    tm_RR (tm_Pu q b a σ τ) (tm_Dv q) (fc_delimited (130 + a) T p0 p1 σ) (fm_longArgument a m p0 p1 τ) := by
  obtain ⟨r1, -⟩ := h.fx.rw (130 + a) (by omega)
  have h0 : tm_Si q b 0 (tm_wf σ 129 (130 + a) 0) τ := (tm_Si.mk (fl := h.fl) (sz := h.sz) (pl := h.pl) (st := h.st) (sp := h.sp) (gr := h.gr) (mc := h.mc) (ex := h.ex) (oc := h.oc) (wt := h.wt) (op := h.op) (cg := h.cg) (nn := h.nn) (dp := h.dp) (md := h.md) (bc := h.bc) (bz := h.bz) (tx := h.tx) (ca := h.ca) (pe := h.pe) (ou := h.ou) (cd := h.cd) (lo := h.lo) (ns := h.ns) (cs := h.cs) (fx := h.fx) (kp := h.kp) (kt := h.kt))
  have f0 : tm_Fr a σ τ (tm_wf σ 129 (130 + a) 0) τ := tm_Fr.mk (fun r h1 h2 h3 h4 => by rw [tm_f_wf, if_neg (by omega)]) (fun _ _ _ _ _ => rfl) (fun _ _ _ _ => rfl) rfl rfl (fun _ _ => rfl) (fun _ _ => rfl) (Int.le_refl _)
  have a0 : tm_Ar (tm_f τ 459 0) (tm_wf σ 129 (130 + a) 0) τ a := tm_Ar.mk (by (simp only [tm_f_wf, tm_f_wa, tm_a_wf, tm_a_wa, tm_n_wf, tm_n_wa, tm_k_wf, tm_k_wa, tm_c_wf, tm_c_wa, tm_z_wf, tm_z_wa, tm_u_wf, tm_u_wa, tm_v_wf, tm_v_wa, tm_lt_e, tm_ls_e, tm_bd_rt, tm_bd_th, Nat.reduceEqDiff, Int.reduceEq, Int.reduceNeg, false_and, and_false, true_and, and_true, and_self, if_false, if_true, reduceIte, ite_true, ite_false, reduceCtorEq]); omega) (fun i i0 i1 => by omega)
  have loop : ∀ (f g : Nat) (lv got dn : Int) (σ1 τ1 : tm_S), tm_Si q b 0 σ1 τ1 → tm_Ar (tm_f τ1 459 0) σ1 τ1 a → tm_Fr a σ τ σ1 τ1 → tm_a τ1 140 a = got → (0 ≤ got ∧ got ≤ 40) → lv = tm_LV τ1 a got.toNat → (∀ k : Nat, (k : Int) ≤ got → 0 ≤ tm_LV τ1 a k) → (dn = 0 ∨ dn = 1) → (dn = 1 ↔ (0 < got ∧ lv = 0 ∧ p1 - p0 ≤ tm_a τ1 140 a ∧ tm_En τ1 a m p0 (p1 - p0) 0)) → 41 - got < (f : Int) → 41 - got < (g : Int) →
      tm_RR (tm_Pu q b a σ τ) (tm_Dv q) (fc_delimited_L11 f (130 + a) T p0 p1 lv got σ1) (fm_longArgument_L9 g a m p0 p1 lv dn (got + 1) τ1) := by
    intro f
    induction f with
    | zero => intro g lv got dn σ1 τ1 _ _ _ _ _ _ _ _ _ h1; exact absurd h1 (by omega)
    | succ f ih =>
      intro g lv got dn σ1 τ1 h ar fr hsz hgot hlv hlp hdn hdn1 h1 h2
      cases g with
      | zero => exact absurd h2 (by omega)
      | succ g =>
      have hnn := h.nn
      obtain ⟨r1, -⟩ := h.fx.rw (130 + a) (by omega)
      have kh := h.kp.h
      rw [hsn] at kh
      -- the text, as it stood
      have hT1 : ∀ (σ2 τ2 : tm_S), tm_Kh σ σ2 → tm_Fr a σ τ σ2 τ2 → tm_k σ2 T = 21 ∧ p1 ≤ tm_n σ2 T ∧ ∀ i : Int, p0 ≤ i → i < p1 → tm_PR (tm_f τ2 459 0) 0 (tm_a σ2 T i) (tm_a τ2 125 (13 * m + i)) := by
        intro σ2 τ2 k2 f2
        obtain ⟨t1, t2, t3⟩ := hT
        refine ⟨(k2.k T hT0.2).1.trans t1, by rw [(k2.k T hT0.2).2]; exact t2, fun i i0 i1 => ?_⟩
        rw [k2.a T i hT0.1 hT0.2 (by rw [t1]; decide), f2.t 125 _ (by decide) (by decide)]
        exact (t3 i i0 i1).up f2.n (Int.le_refl _)
      have hb1 : ∀ i : Int, p0 ≤ i → i < p1 → tm_lev (tm_a τ1 125 (13 * m + i)) = 0 := fun i i0 i1 => by
        rw [fr.t 125 _ (by decide) (by decide)]
        exact hb i i0 i1
      have hlv0 : 0 ≤ lv := by
        rw [hlv]
        exact hlp _ (by omega)
      have hsm : ∀ n : Nat, tm_LV τ1 a n ≤ (n : Int) := by
        intro n
        induction n with
        | zero => exact Int.le_refl _
        | succ n ih2 =>
          have := tm_lev_in (tm_a τ1 139 (42 * a + (n : Int)))
          show tm_LV τ1 a n + _ ≤ _
          omega
      have hlvs : lv ≤ got := by
        have := hsm got.toNat
        omega
      -- one more token
      have more : dn = 0 → tm_RR (tm_Pu q b a σ τ) (tm_Dv q) (fc_delimited_J32 (fc_delimited_L11 f) (130 + a) T p0 p1 lv got σ1) (fm_longArgument_B9 (fm_longArgument_L9 g) a m p0 p1 lv dn (got + 1) τ1) := by
        intro hd0
        unfold fc_delimited_J32 fm_longArgument_B9 fm_longArgument_J79 fc_argued
        rw [if_pos hd0, tm_bd_assoc]
        refine tm_RRget h (fun x σ2 y τ2 ⟨p1', p2, p3, p4, p5⟩ => ?_) (fun τ2 τ3 e3 => ⟨0, τ3, by rw [fm_piece_end e3, tm_bd_rt, if_pos rfl], fun σ' d => d⟩)
        have hn2 := p1'.nn
        have ar2 := ar.fg p2 ha p2.n
        have fr2 := fr.tr (p2.fr a)
        have hsz2 : tm_a τ2 140 a = got := (p2.b 140 a (by decide) (by decide) (by decide) (by decide) (by decide) (by decide)).trans hsz
        have kh2 := p1'.kp.h
        rw [hsn] at kh2
        have hT2 := hT1 σ2 τ2 kh2 fr2
        rcases sm_piece (dep := lv) (T := T) (m := m) (p0 := p0) (p1 := p1) p1' p4 ⟨hgot.1, hgot.2⟩ (by omega) hm (fun _ => hT2) with ⟨σ3, τ3, e1, e2, d⟩ | ⟨g40, e1, ⟨c1, c2, e2⟩ | ⟨c1, e2⟩⟩
        · rw [e1, e2, tm_bd_th, tm_bd_rt, if_pos rfl]
          exact tm_RRth d
        · rw [e1, e2, tm_bd_rt, tm_bd_rt, if_pos rfl, fc_levelOf_e, tm_bd_rt, tm_lev_TR p4, c1, tm_gi_t (by omega), tm_lt_e, if_pos (by omega), p1'.fail, tm_bd_th]
          exact tm_RRth (p1'.die (by decide))
        · have hpl := p4.plain (by omega)
          have hpr := hpl.2.2.rng (by omega)
          have hin := tm_lev_in y
          obtain ⟨l1, l2, l3⟩ := tm_lev_if (tm_pm y)
          obtain ⟨σ3, τ3, a1, a2, a3, a4, a5, a6, a7, a8, a9, a10⟩ := sm_add p1' ha ar2 (by omega) p4
          rw [e1, e2, tm_bd_rt, tm_bd_rt, if_neg (by omega), fc_levelOf_e, tm_bd_rt, tm_lev_TR p4, tm_gi_t (by omega), tm_lt_e, if_neg (by omega)]
          unfold fc_delimited_J64
          obtain ⟨r2, -⟩ := p1'.fx.rw (130 + a) (by omega)
          rw [tm_gk_t r2, a1, a2, tm_bd_rt, tm_bd_rt, tm_gi_t (by omega), fm_isCharacter_e, tm_bd_rt, l1]
          rw [tm_lev_pm p4 (by omega)] at l1 l2 l3 ⊢
          have fr3 := fr2.tr a5
          have kh3 := a3.kp.h
          rw [hsn] at kh3
          have hT3 := hT1 σ3 τ3 kh3 fr3
          have hb3 : ∀ i : Int, p0 ≤ i → i < p1 → tm_lev (tm_a τ3 125 (13 * m + i)) = 0 := fun i i0 i1 => by
            rw [fr3.t 125 _ (by decide) (by decide)]
            exact hb i i0 i1
          have hsz3 : tm_a τ3 140 a = got + 1 := by omega
          have hLVs : ∀ k : Nat, (k : Int) ≤ got → tm_LV τ3 a k = tm_LV τ1 a k := fun k hk => tm_LV_eq k (fun i i0 i1 => by
            rw [a9 i i0 (by omega)]
            exact p2.b 139 _ (by decide) (by decide) (by decide) (by decide) (by decide) (by decide))
          have hLVn : tm_LV τ3 a (got + 1).toNat = lv + tm_lev y := by
            rw [show (got + 1).toNat = got.toNat + 1 by omega]
            show tm_LV τ3 a got.toNat + tm_lev (tm_a τ3 139 (42 * a + (got.toNat : Int))) = _
            rw [hLVs _ (by omega), ← hlv, show (got.toNat : Int) = got by omega]
            rw [hsz2] at a10
            rw [a10, tm_lev_pm p4 (by omega)]
          have hpos : 0 ≤ lv + tm_lev y := by
            rcases l3 with l3 | l3 | l3
            · omega
            · omega
            · have : ¬ lv = 0 := fun h9 => c1 ⟨l3, h9⟩
              omega
          obtain ⟨i1, i2⟩ := tm_ends a3 ha hm (by omega) a4 hT3
          -- what the model does next
          have go : ∀ dn' : Int, (dn' = 0 ∨ dn' = 1) → (dn' = 1 ↔ (lv + tm_lev y = 0 ∧ p1 - p0 ≤ tm_a τ3 140 a ∧ tm_En τ3 a m p0 (p1 - p0) 0)) → tm_RR (tm_Pu q b a σ τ) (tm_Dv q) (fc_delimited_L11 f (130 + a) T p0 p1 (lv + tm_lev y) (got + 1) σ3) (fm_longArgument_L9 g a m p0 p1 (lv + tm_lev y) dn' (got + 1 + 1) τ3) := by
            intro dn' d1 d2
            refine ih g (lv + tm_lev y) (got + 1) dn' σ3 τ3 a3 a4 fr3 hsz3 (by omega) hLVn.symm (fun k hk => ?_) d1 ?_ (by omega) (by omega)
            · by_cases hk9 : (k : Int) ≤ got
              · rw [hLVs k hk9]
                exact hlp k hk9
              · rw [show k = (got + 1).toNat by omega, hLVn]
                exact hpos
            · rw [d2]
              exact ⟨fun h9 => ⟨by omega, h9⟩, fun h9 => h9.2⟩
          have gi1 : ∀ X : tm_R, tm_gi (got + 1 + 1) X = X := fun X => tm_gi_t (by omega)
          have hM : ∀ w : Int, w = lv + tm_lev y → tm_RR (tm_Pu q b a σ τ) (tm_Dv q) (fc_delimited_L11 f (130 + a) T p0 p1 (lv + tm_lev y) (got + 1) σ3) (tm_gi w <| tm_lt w fun x80 => if x80 = 0 then tm_bd (fm_isBehind a m p0 p1 τ3) fun u93 σ93 => if u93 = 0 then tm_gi (got + 1 + 1) <| fm_longArgument_L9 g a m p0 p1 x80 0 (got + 1 + 1) σ93 else tm_gi (got + 1 + 1) <| fm_longArgument_L9 g a m p0 p1 x80 1 (got + 1 + 1) σ93 else tm_gi (got + 1 + 1) <| fm_longArgument_L9 g a m p0 p1 x80 0 (got + 1 + 1) τ3) := by
            intro w hw
            subst hw
            simp only [gi1]
            rw [tm_gi_t (by omega), tm_lt_e]
            by_cases hz9 : lv + tm_lev y = 0
            · rw [if_pos hz9]
              by_cases hE : p1 - p0 ≤ tm_a τ3 140 a ∧ tm_En τ3 a m p0 (p1 - p0) 0
              · rw [(i1 hE).2, tm_bd_rt, if_neg (by decide)]
                exact go 1 (Or.inr rfl) ⟨fun _ => ⟨hz9, hE⟩, fun _ => rfl⟩
              · rw [(i2 hE).2, tm_bd_rt, if_pos rfl]
                exact go 0 (Or.inl rfl) ⟨fun h9 => absurd h9 (by decide), fun h9 => absurd h9.2 hE⟩
            · rw [if_neg hz9]
              exact go 0 (Or.inl rfl) ⟨fun h9 => absurd h9 (by decide), fun h9 => absurd h9.1 hz9⟩
          rcases l3 with l3 | l3 | l3
          · rw [l3, if_pos rfl, if_neg (by decide)]
            have z := hM (lv + 1) (by omega)
            rw [l3] at z
            exact z
          · rw [l3, if_neg (show ¬ (0 : Int) = 1 by decide), if_pos rfl, fm_isCharacter_e, tm_bd_rt, l2, l3, if_neg (show ¬ (0 : Int) = -1 by decide), if_pos rfl]
            have z := hM (lv + 0) (by omega)
            rw [l3] at z
            exact z
          · rw [l3, if_neg (show ¬ (-1 : Int) = 1 by decide), if_pos rfl, fm_isCharacter_e, tm_bd_rt, l2, l3, if_pos rfl, if_neg (show ¬ (1 : Int) = 0 by decide)]
            have z := hM (lv + -1) (by omega)
            rw [l3] at z
            exact z
      show tm_RR _ _ (fc_delimited_B11 (fc_delimited_L11 f) (130 + a) T p0 p1 lv got σ1) (fm_longArgument_B9 (fm_longArgument_L9 g) a m p0 p1 lv dn (got + 1) τ1)
      unfold fc_delimited_B11
      by_cases hg0 : got = 0
      · have hd0 : dn = 0 := by
          rcases hdn with hdn | hdn
          · exact hdn
          · have := (hdn1.mp hdn).1
            omega
        rw [if_pos hg0]
        exact more hd0
      · rw [if_neg hg0]
        by_cases hl : 0 < lv
        · have hd0 : dn = 0 := by
            rcases hdn with hdn | hdn
            · exact hdn
            · have := (hdn1.mp hdn).2.1
              omega
          rw [if_pos hl]
          exact more hd0
        · rw [if_neg hl, tm_gk_t r1]
          obtain ⟨i1, i2⟩ := tm_ends h ha hm (by omega) ar (hT1 σ1 τ1 kh fr)
          by_cases hE : p1 - p0 ≤ tm_a τ1 140 a ∧ tm_En τ1 a m p0 (p1 - p0) 0
          · have hd1 : dn = 1 := hdn1.mpr ⟨by omega, by omega, hE⟩
            rw [(i1 hE).1, tm_bd_rt, if_neg (by decide), hd1]
            exact tm_delim_end (T := T) h ha hm hp ar fr hb1 hE (fun k hk => hlp k (by omega)) (by rw [hsz, ← hlv]; omega) _ _
          · have hd0 : dn = 0 := by
              rcases hdn with hdn | hdn
              · exact hdn
              · exact absurd (hdn1.mp hdn).2.2 hE
            rw [(i2 hE).1, tm_bd_rt, if_pos rfl]
            exact more hd0
  unfold fc_delimited fm_longArgument
  rw [tm_gk_t r1]
  have hFU : 41 - (0 : Int) < ((tm_FU : Nat) : Int) := by unfold tm_FU; omega
  exact loop tm_FU tm_FU 0 0 0 _ τ h0 a0 f0 hz (by decide) rfl (fun k hk => by rw [show k = 0 by omega]; exact Int.le_refl _) (Or.inl rfl) ⟨fun h9 => absurd h9 (by decide), fun h9 => absurd h9.1 (by decide)⟩ hFU hFU
