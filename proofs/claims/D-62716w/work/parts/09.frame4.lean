/-! ROWS THAT READ AND WRITE THE TYPED HEAP; CALLS; ENDS -/
/-- a class of the list: its place, name, fields, their types -/
def tm_cd (ci : Nat) (C : String) (T : u_T) (N : Nat) (ty : Nat → FieldType) : Prop := tm_cl[ci]? = some (C, T, N) ∧ (∀ w ∈ u_ws C T N, w ∈ lw_all) ∧ tm_nf (ci + 1) = N ∧ ci < 19 ∧ (∀ k, k < N → parseFieldDescriptor (T k).2.2.1 = some (ty k)) ∧ ∀ a, a < N → ∀ b, b < N → a ≠ b → (T a).2.1 ≠ (T b).2.1
theorem tm_cd_X1 : tm_cd 0 RX1 TX1 26 tyX1 := ⟨rfl, in_X1, rfl, by decide, tyX1_ok, nmX1⟩
theorem tm_cd_X4 : tm_cd 1 RX4 TX4 5 tyX4 := ⟨rfl, in_X4, rfl, by decide, tyX4_ok, nmX4⟩
theorem tm_cd_X3 : tm_cd 2 RX3 TX3 2 tyX3 := ⟨rfl, in_X3, rfl, by decide, tyX3_ok, nmX3⟩
theorem tm_cd_X5 : tm_cd 3 RX5 TX5 4 tyX5 := ⟨rfl, in_X5, rfl, by decide, tyX5_ok, nmX5⟩
theorem tm_cd_X8 : tm_cd 4 RX8 TX8 1 tyX8 := ⟨rfl, in_X8, rfl, by decide, tyX8_ok, nmX8⟩
theorem tm_cd_X7 : tm_cd 5 RX7 TX7 3 tyX7 := ⟨rfl, in_X7, rfl, by decide, tyX7_ok, nmX7⟩
theorem tm_cd_J3 : tm_cd 6 RJ3 TJ3 3 tyJ3 := ⟨rfl, in_J3, rfl, by decide, tyJ3_ok, nmJ3⟩
theorem tm_cd_X6 : tm_cd 7 RX6 TX6 41 tyX6 := ⟨rfl, in_X6, rfl, by decide, tyX6_ok, nmX6⟩
theorem tm_setSlot_size (cell : Cell) (i : Nat) (v : Value) : (cell.setSlot i v).slots.size = cell.slots.size := by simp [Cell.setSlot]
theorem tm_vp_fl (K : tm_K) (σ : tm_S) (r : Int) {ci j : Nat} (hj : j < tm_nf (ci + 1)) : vp_V (tm_fl K σ r ci) j = tm_fv K (64 * ci + j) (tm_f σ (64 * ci + j) r) := by
  unfold vp_V
  rw [List.getD_eq_getElem?_getD, tm_fl_at K σ r hj]
  rfl
theorem tm_put_W {K : tm_K} {σ : tm_S} {H H1 : Heap} {r x : Int} {ci j k : Nat} {C : String} {T : u_T} {N : Nat} {ty : Nat → FieldType} (cd : tm_cd ci C T N ty) (hj : j < N) (hk9 : 64 * ci + j = k) (hw : tm_W K σ H) (hk : tm_k σ r = ci + 1) (hx : tm_in x) {cell : Cell} (q2 : cell.cls = (tm_D K).1 ci) (q3 : cell.vm = .none) (q4 : ∀ i, i < N → cell.slots[(tm_D K).2 ci i]? = some (vp_V (tm_fl K σ r ci) i))
    (hap : ∀ a b, a < N → b < N → a ≠ b → (tm_D K).2 ci a ≠ (tm_D K).2 ci b) (e1 : H1[tm_ad K r]? = some (cell.setSlot ((tm_D K).2 ci j) (tm_fv K k x))) (e2 : H1.size = H.size) (e3 : ∀ q : Nat, q ≠ tm_ad K r → H1[q]? = H[q]?) : tm_W K (tm_wf σ k r x) H1 := by
  obtain ⟨hc, -, hN, hci, -, -⟩ := cd
  refine tm_W_put hw (by rw [hk]; omega) ?_ e2 e3 (fun _ => rfl) (fun _ => rfl) (fun q hq => ⟨fun i => ?_, fun _ => rfl⟩) (tm_rf_wf hw.2.2.1 hx) hw.2.2.2.1
  · rw [tm_ent_obj (σ := tm_wf σ k r x) (ci := ci) hk hci]
    refine ⟨(C, T, N), hc, t_OB.to (V := updV (vp_V (tm_fl K σ r ci)) j (tm_fv K k x)) ⟨_, e1, q2, q3, t_set q4 hap hj _⟩ (fun i hi => ?_)⟩
    show updV (vp_V (tm_fl K σ r ci)) j (tm_fv K k x) i = vp_V (tm_fl K (tm_wf σ k r x) r ci) i
    rw [tm_vp_fl K (tm_wf σ k r x) r (by rw [hN]; exact hi), tm_f_wf]
    unfold updV
    by_cases hij : i = j
    · subst hij
      rw [if_pos rfl, if_pos ⟨hk9, rfl⟩, hk9]
    · rw [if_neg hij, if_neg (fun h => hij (by omega)), tm_vp_fl K σ r (by rw [hN]; exact hi)]
  · rw [tm_f_wf, if_neg (fun h => hq h.2)]
theorem tm_at_one {D : va_G} {cl : List vw_C} {q : Nat × va_E} {H : Heap} (h : va_at D cl q H) : va_P D cl [q] H := by
  intro k x hx
  cases k with
  | zero => cases hx; exact h
  | succ k => cases hx
theorem tm_iarr_W {K : tm_K} {σ : tm_S} {H H1 : Heap} {a i x : Int} {k : Nat} (h20 : 20 ≤ k) (h25 : k < 25) (hw : tm_W K σ H) (hk : tm_k σ a = k) (hi : 0 ≤ i) (hx : tm_in x)
    (e1 : H1[tm_ad K a]? = some ((vp_cell (tm_CA K k) ((tm_n σ a).toNat, .inl fun j => Int32.ofInt (tm_a σ a (j : Int)))).setSlot i.toNat (.int (Int32.ofInt x)))) (e2 : H1.size = H.size) (e3 : ∀ q : Nat, q ≠ tm_ad K a → H1[q]? = H[q]?) : tm_W K (tm_wa σ a i x) H1 := by
  refine tm_W_put hw (by rw [hk]; omega) ?_ e2 e3 (fun _ => rfl) (fun _ => rfl) (fun q hq => ⟨fun _ => rfl, fun j => ?_⟩) hw.2.2.1 (tm_ra_wa hw.2.2.2.1 hx)
  · rw [tm_ent_int (σ := tm_wa σ a i x) hk h20 h25]
    show H1[tm_ad K a]? = some (vp_cell _ _)
    rw [e1, vp_cell_i, vp_cell_i, arrV_store]
    congr 2
    funext j
    unfold updV
    rw [tm_a_wa]
    by_cases hj : j = i.toNat
    · rw [if_pos hj, if_pos ⟨rfl, by omega⟩]
    · rw [if_neg hj, if_neg (fun h => hj (by omega))]
  · rw [tm_a_wa, if_neg (fun h => hq h.1)]
theorem tm_wd_wf {K : tm_K} {FX : tm_X0} {σ : tm_S} {H H1 : Heap} {k : Nat} {r x : Int} (w : tm_Wd K FX σ H) (hW : tm_W K (tm_wf σ k r x) H1) (hfx : (FX.1.all fun q => q.1 != k) = true) (e2 : H1.size = H.size) (eh : tm_hs H1 = tm_hs H) : tm_Wd K FX (tm_wf σ k r x) H1 :=
  ⟨hW, tm_hf_wf w.2.1 hfx, by rw [e2]; exact w.2.2.1, by rw [eh]; exact w.2.2.2.1, w.2.2.2.2.1, w.2.2.2.2.2.1, fun q hq => w.2.2.2.2.2.2.1 q (by rw [← e2]; exact hq), w.2.2.2.2.2.2.2⟩
theorem tm_wd_wa {K : tm_K} {FX : tm_X0} {σ : tm_S} {H H1 : Heap} {a i x : Int} (w : tm_Wd K FX σ H) (hW : tm_W K (tm_wa σ a i x) H1) (hfx : ∀ q ∈ FX.2.2, q.1 ≠ a) (e2 : H1.size = H.size) (eh : tm_hs H1 = tm_hs H) : tm_Wd K FX (tm_wa σ a i x) H1 :=
  ⟨hW, tm_hf_wa w.2.1 hfx, by rw [e2]; exact w.2.2.1, by rw [eh]; exact w.2.2.2.1, w.2.2.2.2.1, w.2.2.2.2.2.1, fun q hq => w.2.2.2.2.2.2.1 q (by rw [← e2]; exact hq), w.2.2.2.2.2.2.2⟩
/-- arrays of numbered objects are of a kind that no int array is -/
def tm_fam (FX : tm_X0) : Prop := (∀ q ∈ FX.2.2, ∃ x ∈ FX.2.1, x.1 = q.1 ∧ 25 < x.2.1) ∧ (∀ q ∈ FX.2.1, q.1 < 1000) ∧ ∀ q ∈ FX.2.2, q.1 < 1000
theorem tm_fam_ne {FX : tm_X0} (h : tm_fam FX) {σ : tm_S} (hf : tm_hf FX σ) {a : Int} {k : Nat} (hk : tm_k σ a = k) (h25 : k ≤ 25) : ∀ q ∈ FX.2.2, q.1 ≠ a := by
  intro q hq e
  obtain ⟨x, hx, h1, h2⟩ := h.1 q hq
  have h3 := (hf.2.1 x hx).1
  rw [h1, e, hk] at h3
  omega
section TMH
variable {p : Program} {l : Launch} {e : Env} {R : Room} {s : State} {m : MethodId} {args : Array Value} {below : List Frame} {meth : Method} {c : Code} {K : tm_K} {FX : tm_X0} {rt : Nat} {cc : ByteArray} {nL : Nat} {own mn : String} {ret : Option FieldType} {fr lo : Nat} {pc : Nat} {ls : Array Slot} {rest : List Value} {X A B : tm_R} {σ : tm_S} {lg : Nat}
theorem tm_get (cx : tm_C p l R s m args meth c K cc nL own mn ret fr lo) {ci j k N index : Nat} {C ref : String} {T : u_T} {ty : Nat → FieldType} {r : Int} (cd : tm_cd ci C T N ty) (hj : j < N) (hk9 : 64 * ci + j = k) (hl : Cond.fieldLink own index ref (T j).2.1 (T j).2.2.1 ∈ lw_all) (hsm : ref = (T j).1) (hk : tm_hf FX σ → tm_k σ r = ci + 1) (d : decode cc pc = .ok (.getfield index, 3))
    (kk : tm_in (tm_f σ k r) → tm_hf FX σ → tm_J p l e R s m args below meth c K FX rt X σ (F0 m (pc + 3) ls (tm_fv K k (tm_f σ k r) :: rest))) : tm_J p l e R s m args below meth c K FX rt X σ (F0 m pc ls (tm_rv K r :: rest)) := by
  intro o t h H locs w v
  subst hk9
  obtain ⟨hc, hin, hN, hci, -, -⟩ := cd
  have hkr := hk w.2.1
  obtain ⟨g1, g2, g3, g4⟩ := w.1.1 r (by rw [hkr]; omega)
  have hat := (g3 (by rw [hkr]; omega)).1
  rw [tm_ent_obj hkr hci] at hat
  have k1 := kk (w.1.2.2.1 _ r) w.2.1 o t h H locs w v
  rw [tm_rv_pos g1]
  exact va_get (ws := [(tm_ad K r, .inr (ci, tm_fl K σ r ci))]) cx.1 cx.2.1 cx.2.2.2.2.1 hin cx.2.2.2.1 cx.2.2.2.2.2.2.2.2.1.1 (tm_at_one hat) 0 rfl hc j hj (cx.2.2.2.2.1 _ hl) (fun x hx => by rw [hsm]; exact hx) (tm_fl_at K σ r (by rw [hN]; exact hj)) d k1
theorem tm_getN (cx : tm_C p l R s m args meth c K cc nL own mn ret fr lo) {ci j k N index : Nat} {C ref host : String} {T : u_T} {ty : Nat → FieldType} {r : Int} (cd : tm_cd ci C T N ty) (hj : j < N) (hk9 : 64 * ci + j = k) (hl : (own, index, ref, (T j).2.1, (T j).2.2.1, host) ∈ tm_nF) (hsm : ref = (T j).1) (hk : tm_hf FX σ → tm_k σ r = ci + 1) (d : decode cc pc = .ok (.getfield index, 3))
    (kk : tm_in (tm_f σ k r) → tm_hf FX σ → tm_J p l e R s m args below meth c K FX rt X σ (F0 m (pc + 3) ls (tm_fv K k (tm_f σ k r) :: rest))) : tm_J p l e R s m args below meth c K FX rt X σ (F0 m pc ls (tm_rv K r :: rest)) := by
  intro o t h H locs w v
  subst hk9
  obtain ⟨hc, hin, hN, hci, -, -⟩ := cd
  have hkr := hk w.2.1
  obtain ⟨g1, g2, g3, g4⟩ := w.1.1 r (by rw [hkr]; omega)
  have hat := (g3 (by rw [hkr]; omega)).1
  rw [tm_ent_obj hkr hci] at hat
  have k1 := kk (w.1.2.2.1 _ r) w.2.1 o t h H locs w v
  rw [tm_rv_pos g1]
  exact va_getN (ws := [(tm_ad K r, .inr (ci, tm_fl K σ r ci))]) cx.1 cx.2.1 cx.2.2.2.2.1 hin cx.2.2.2.1 cx.2.2.2.2.2.2.2.2.1.1 (tm_at_one hat) 0 rfl hc j hj (va_Nw.use rfl (cx.2.2.2.2.2.2.2.2.1.2.1.1 _ hl)) (fun x hx => by rw [hsm]; exact hx) (tm_fl_at K σ r (by rw [hN]; exact hj)) d k1
theorem tm_put (cx : tm_C p l R s m args meth c K cc nL own mn ret fr lo) {ci j k N index : Nat} {C ref : String} {T : u_T} {ty : Nat → FieldType} {r x : Int} (cd : tm_cd ci C T N ty) (hj : j < N) (hk9 : 64 * ci + j = k) (hl : Cond.fieldLink own index ref (T j).2.1 (T j).2.2.1 ∈ lw_all) (hsm : ref = (T j).1) (hfin : (T j).2.2.2 = false) (hfx : (FX.1.all fun q => q.1 != k) = true) (hn : narrow (ty j) (tm_fv K k x) = tm_fv K k x) (hfit : fits (ty j) (tm_fv K k x) = true) (hx : tm_in x)
    (hk : tm_hf FX σ → tm_k σ r = ci + 1) (d : decode cc pc = .ok (.putfield index, 3)) (kk : tm_J p l e R s m args below meth c K FX rt X (tm_wf σ k r x) (F0 m (pc + 3) ls rest)) : tm_J p l e R s m args below meth c K FX rt X σ (F0 m pc ls (tm_fv K k x :: tm_rv K r :: rest)) := by
  intro o t h H locs w v
  have cd9 := cd
  obtain ⟨hc, hin, hN, hci, hty, hnm⟩ := cd
  have hkr := hk w.2.1
  obtain ⟨g1, g2, g3, g4⟩ := w.1.1 r (by rw [hkr]; omega)
  obtain ⟨hat, hA⟩ := g3 (by rw [hkr]; omega)
  rw [tm_ent_obj hkr hci] at hat
  have hts := cx.2.2.2.2.1
  have hown := cx.2.2.2.1
  have hK := cx.2.2.2.2.2.2.2.2.1.1
  have hap := va_apart (own := own) hts hin ty hty hnm hK hc
  obtain ⟨r9, h1, cell, q1, q2, q3, q4⟩ := hat
  have hr : r9 = (C, T, N) := Option.some.inj (h1.symm.trans hc)
  subst hr
  obtain ⟨hS, hfc, kC, hkC, hkind⟩ := hK.1 ci _ hc
  obtain ⟨cf, kf, fi, f, hi, hsl⟩ := hS j hj
  have hlay := hts _ (hin _ (u_in_lay hj))
  unfold u_lay at hlay
  rw [if_neg (by rw [hfin]; decide)] at hlay
  have hst := (u_facts hfc hkC (u_lays hts hin hj) hi).1
  have h6 := u_store hfc hkC hkind hlay hi (hty j hj) hn hfit
  rw [tm_rv_pos g1]
  refine W.putK cx.1 cx.2.1 (f := f) ⟨hown, hts _ hl, ⟨_, _, _, by rw [hsm]; exact hi⟩, hst⟩ (by rw [q2]; exact h6) q1 q3 (by rw [hsl]; exact k2_hasslot (q4 j hj)) rfl rfl d fun H1 e1 e2 e3 => ?_
  have eh := tm_hs_put q1 e1 (tm_setSlot_size _ _ _) e3
  rw [hsl] at e1
  have k1 := kk o t h H1 (locs ++ [⟨tm_ad K r, f.slot⟩]) (tm_wd_wf w (tm_put_W cd9 hj hk9 w.1 hkr hx q2 q3 q4 hap e1 e2 e3) hfx e2 eh) (va_S.put v e2 e3 hA)
  rw [e2, eh] at k1
  exact k1
theorem tm_putN (cx : tm_C p l R s m args meth c K cc nL own mn ret fr lo) {ci j k N index : Nat} {C ref host : String} {T : u_T} {ty : Nat → FieldType} {r x : Int} (cd : tm_cd ci C T N ty) (hj : j < N) (hk9 : 64 * ci + j = k) (hl : (own, index, ref, (T j).2.1, (T j).2.2.1, host) ∈ tm_nF) (hsm : ref = (T j).1) (hfin : (T j).2.2.2 = false) (hfx : (FX.1.all fun q => q.1 != k) = true) (hn : narrow (ty j) (tm_fv K k x) = tm_fv K k x) (hfit : fits (ty j) (tm_fv K k x) = true) (hx : tm_in x)
    (hk : tm_hf FX σ → tm_k σ r = ci + 1) (d : decode cc pc = .ok (.putfield index, 3)) (kk : tm_J p l e R s m args below meth c K FX rt X (tm_wf σ k r x) (F0 m (pc + 3) ls rest)) : tm_J p l e R s m args below meth c K FX rt X σ (F0 m pc ls (tm_fv K k x :: tm_rv K r :: rest)) := by
  intro o t h H locs w v
  have cd9 := cd
  obtain ⟨hc, hin, hN, hci, hty, hnm⟩ := cd
  have hkr := hk w.2.1
  obtain ⟨g1, g2, g3, g4⟩ := w.1.1 r (by rw [hkr]; omega)
  obtain ⟨hat, hA⟩ := g3 (by rw [hkr]; omega)
  rw [tm_ent_obj hkr hci] at hat
  have hts := cx.2.2.2.2.1
  have hown := cx.2.2.2.1
  have hK := cx.2.2.2.2.2.2.2.2.1.1
  have hap := va_apart (own := own) hts hin ty hty hnm hK hc
  obtain ⟨r9, h1, cell, q1, q2, q3, q4⟩ := hat
  have hr : r9 = (C, T, N) := Option.some.inj (h1.symm.trans hc)
  subst hr
  obtain ⟨hS, hfc, kC, hkC, hkind⟩ := hK.1 ci _ hc
  obtain ⟨cf, kf, fi, f, hi, hsl⟩ := hS j hj
  have hlay := hts _ (hin _ (u_in_lay hj))
  unfold u_lay at hlay
  rw [if_neg (by rw [hfin]; decide)] at hlay
  have hst := (u_facts hfc hkC (u_lays hts hin hj) hi).1
  have h6 := u_store hfc hkC hkind hlay hi (hty j hj) hn hfit
  rw [tm_rv_pos g1]
  refine va_WputK cx.1 cx.2.1 (f := f) hown (va_Nw.use rfl (cx.2.2.2.2.2.2.2.2.1.2.1.1 _ hl)) (by rw [hsm]; exact hi) hst (by rw [q2]; exact h6) q1 q3 (by rw [hsl]; exact k2_hasslot (q4 j hj)) rfl rfl d fun H1 e1 e2 e3 => ?_
  have eh := tm_hs_put q1 e1 (tm_setSlot_size _ _ _) e3
  rw [hsl] at e1
  have k1 := kk o t h H1 (locs ++ [⟨tm_ad K r, f.slot⟩]) (tm_wd_wf w (tm_put_W cd9 hj hk9 w.1 hkr hx q2 q3 q4 hap e1 e2 e3) hfx e2 eh) (va_S.put v e2 e3 hA)
  rw [e2, eh] at k1
  exact k1
theorem tm_ch_ (cx : tm_C p l R s m args meth c K cc nL own mn ret fr lo) (i : Nat) {q : ClassId × FieldType} (h : (tm_tys K)[i]? = some q) : ArrOfT s q.1 q.2 := (cx.2.2.2.2.2.2.2.2.1.1.2 i _ h).1
theorem tm_nar_b {x : Int} (h : -128 ≤ x ∧ x ≤ 127) : narrow .byte (.int (Int32.ofInt x)) = .int (Int32.ofInt x) := by
  show Value.int ((Int32.ofInt x).toInt8.toInt32) = _
  rw [Int32.toInt8_ofInt, Int8.toInt32_ofInt (by show -128 ≤ x; omega) (by show x ≤ 127; omega)]
theorem tm_nar_s {x : Int} (h : -32768 ≤ x ∧ x ≤ 32767) : narrow .short (.int (Int32.ofInt x)) = .int (Int32.ofInt x) := by
  show Value.int ((Int32.ofInt x).toInt16.toInt32) = _
  rw [Int32.toInt16_ofInt, Int16.toInt32_ofInt (by show -32768 ≤ x; omega) (by show x ≤ 32767; omega)]
theorem tm_nar_z {x : Int} (h : x = 0 ∨ x = 1) : narrow .boolean (.int (Int32.ofInt x)) = .int (Int32.ofInt x) := by
  rcases h with rfl | rfl <;> rfl
theorem tm_bald (cx : tm_C p l R s m args meth c K cc nL own mn ret fr lo) {a n i : Int} (hk : tm_hf FX σ → tm_k σ a = 20 ∧ tm_n σ a = n) (hi : tm_in i) (d : decode cc pc = .ok (.baload, 1)) (kk : 0 ≤ i ∧ i < n → tm_in (tm_a σ a i) → tm_J p l e R s m args below meth c K FX rt X σ (F0 m (pc + 1) ls (tm_iv (tm_a σ a i) :: rest))) : tm_J p l e R s m args below meth c K FX rt (tm_gx i n X) σ (F0 m pc ls (tm_iv i :: tm_rv K a :: rest)) := by
  refine tm_gx_ fun hg => ?_
  intro o t h H locs w v
  obtain ⟨hkr, hn⟩ := hk w.2.1
  obtain ⟨g1, g2, g3, g4⟩ := w.1.1 a (by rw [hkr]; omega)
  have hat := (g3 (by rw [hkr]; omega)).1
  rw [tm_ent_int hkr (by omega) (by omega)] at hat
  have k1 := kk hg (w.1.2.2.2.1 a i) o t h H locs w v
  rw [tm_rv_pos g1]
  have h9 : (((Int32.ofInt i).toNatClampNeg : Nat) : Int) = i := by rw [tm_I_cl hi]; omega
  refine va_bald cx.1 cx.2.1 cx.2.2.2.2.2.2.2.2.1.1 (tm_at_one hat) 0 0 rfl rfl (by rw [hn]; exact tm_I_in hg hi) d ?_
  rw [h9]
  exact k1
theorem tm_bast (cx : tm_C p l R s m args meth c K cc nL own mn ret fr lo) {a n i x : Int} (hfam : tm_fam FX) (hk : tm_hf FX σ → tm_k σ a = 20 ∧ tm_n σ a = n) (hi : tm_in i) (hx : tm_in x) (d : decode cc pc = .ok (.bastore, 1)) (kk : tm_J p l e R s m args below meth c K FX rt X (tm_wa σ a i x) (F0 m (pc + 1) ls rest)) : tm_J p l e R s m args below meth c K FX rt (tm_gx i n (tm_gb x X)) σ (F0 m pc ls (tm_iv x :: tm_iv i :: tm_rv K a :: rest)) := by
  refine tm_gx_ fun hg => ?_
  refine tm_gb_ fun hb => ?_
  intro o t h H locs w v
  obtain ⟨hkr, hn⟩ := hk w.2.1
  obtain ⟨g1, g2, g3, g4⟩ := w.1.1 a (by rw [hkr]; omega)
  obtain ⟨hat, hA⟩ := g3 (by rw [hkr]; omega)
  rw [tm_ent_int hkr (by omega) (by omega)] at hat
  rw [tm_rv_pos g1]
  refine W.bast cx.1 cx.2.1 hat ((tm_ch_ cx 0 rfl) (tm_n σ a).toNat (fun j => .int (Int32.ofInt (tm_a σ a (j : Int))))) (fun q => by cases q) (by show ¬ (_ < 0 ∨ (arrV _ _ _).slots.size ≤ _); rw [arrV_size, hn]; exact tm_I_in hg hi) rfl rfl d fun H1 e1 e2 e3 => ?_
  have eh := tm_hs_put hat e1 (tm_setSlot_size _ _ _) e3
  rw [tm_nar_b hb] at e1
  rw [tm_I_cl hi] at e1
  have k1 := kk o t h H1 (locs ++ [⟨tm_ad K a, (Int32.ofInt i).toNatClampNeg⟩]) (tm_wd_wa w (tm_iarr_W (by omega) (by omega) w.1 hkr hg.1 hx e1 e2 e3) (tm_fam_ne hfam w.2.1 hkr (by omega)) e2 eh) (va_S.put v e2 e3 hA)
  rw [e2, eh] at k1
  exact k1
theorem tm_sald (cx : tm_C p l R s m args meth c K cc nL own mn ret fr lo) {a n i : Int} (hk : tm_hf FX σ → tm_k σ a = 21 ∧ tm_n σ a = n) (hi : tm_in i) (d : decode cc pc = .ok (.saload, 1)) (kk : 0 ≤ i ∧ i < n → tm_in (tm_a σ a i) → tm_J p l e R s m args below meth c K FX rt X σ (F0 m (pc + 1) ls (tm_iv (tm_a σ a i) :: rest))) : tm_J p l e R s m args below meth c K FX rt (tm_gx i n X) σ (F0 m pc ls (tm_iv i :: tm_rv K a :: rest)) := by
  refine tm_gx_ fun hg => ?_
  intro o t h H locs w v
  obtain ⟨hkr, hn⟩ := hk w.2.1
  obtain ⟨g1, g2, g3, g4⟩ := w.1.1 a (by rw [hkr]; omega)
  have hat := (g3 (by rw [hkr]; omega)).1
  rw [tm_ent_int hkr (by omega) (by omega)] at hat
  have k1 := kk hg (w.1.2.2.2.1 a i) o t h H locs w v
  rw [tm_rv_pos g1]
  have h9 : (((Int32.ofInt i).toNatClampNeg : Nat) : Int) = i := by rw [tm_I_cl hi]; omega
  refine va_sald cx.1 cx.2.1 cx.2.2.2.2.2.2.2.2.1.1 (tm_at_one hat) 0 1 rfl rfl (by rw [hn]; exact tm_I_in hg hi) d ?_
  rw [h9]
  exact k1
theorem tm_sast (cx : tm_C p l R s m args meth c K cc nL own mn ret fr lo) {a n i x : Int} (hfam : tm_fam FX) (hk : tm_hf FX σ → tm_k σ a = 21 ∧ tm_n σ a = n) (hi : tm_in i) (hx : tm_in x) (d : decode cc pc = .ok (.sastore, 1)) (kk : tm_J p l e R s m args below meth c K FX rt X (tm_wa σ a i x) (F0 m (pc + 1) ls rest)) : tm_J p l e R s m args below meth c K FX rt (tm_gx i n (tm_gs x X)) σ (F0 m pc ls (tm_iv x :: tm_iv i :: tm_rv K a :: rest)) := by
  refine tm_gx_ fun hg => ?_
  refine tm_gs_ fun hb => ?_
  intro o t h H locs w v
  obtain ⟨hkr, hn⟩ := hk w.2.1
  obtain ⟨g1, g2, g3, g4⟩ := w.1.1 a (by rw [hkr]; omega)
  obtain ⟨hat, hA⟩ := g3 (by rw [hkr]; omega)
  rw [tm_ent_int hkr (by omega) (by omega)] at hat
  rw [tm_rv_pos g1]
  refine W.sast cx.1 cx.2.1 hat ((tm_ch_ cx 1 rfl) (tm_n σ a).toNat (fun j => .int (Int32.ofInt (tm_a σ a (j : Int))))) (fun q => by cases q) (by show ¬ (_ < 0 ∨ (arrV _ _ _).slots.size ≤ _); rw [arrV_size, hn]; exact tm_I_in hg hi) rfl rfl d fun H1 e1 e2 e3 => ?_
  have eh := tm_hs_put hat e1 (tm_setSlot_size _ _ _) e3
  rw [tm_nar_s hb] at e1
  rw [tm_I_cl hi] at e1
  have k1 := kk o t h H1 (locs ++ [⟨tm_ad K a, (Int32.ofInt i).toNatClampNeg⟩]) (tm_wd_wa w (tm_iarr_W (by omega) (by omega) w.1 hkr hg.1 hx e1 e2 e3) (tm_fam_ne hfam w.2.1 hkr (by omega)) e2 eh) (va_S.put v e2 e3 hA)
  rw [e2, eh] at k1
  exact k1
theorem tm_iald (cx : tm_C p l R s m args meth c K cc nL own mn ret fr lo) {a n i : Int} (hk : tm_hf FX σ → tm_k σ a = 22 ∧ tm_n σ a = n) (hi : tm_in i) (d : decode cc pc = .ok (.iaload, 1)) (kk : 0 ≤ i ∧ i < n → tm_in (tm_a σ a i) → tm_J p l e R s m args below meth c K FX rt X σ (F0 m (pc + 1) ls (tm_iv (tm_a σ a i) :: rest))) : tm_J p l e R s m args below meth c K FX rt (tm_gx i n X) σ (F0 m pc ls (tm_iv i :: tm_rv K a :: rest)) := by
  refine tm_gx_ fun hg => ?_
  intro o t h H locs w v
  obtain ⟨hkr, hn⟩ := hk w.2.1
  obtain ⟨g1, g2, g3, g4⟩ := w.1.1 a (by rw [hkr]; omega)
  have hat := (g3 (by rw [hkr]; omega)).1
  rw [tm_ent_int hkr (by omega) (by omega)] at hat
  have k1 := kk hg (w.1.2.2.2.1 a i) o t h H locs w v
  rw [tm_rv_pos g1]
  have h9 : (((Int32.ofInt i).toNatClampNeg : Nat) : Int) = i := by rw [tm_I_cl hi]; omega
  refine va_iald cx.1 cx.2.1 cx.2.2.2.2.2.2.2.2.1.1 (tm_at_one hat) 0 2 rfl rfl (by rw [hn]; exact tm_I_in hg hi) d ?_
  rw [h9]
  exact k1
theorem tm_iast (cx : tm_C p l R s m args meth c K cc nL own mn ret fr lo) {a n i x : Int} (hfam : tm_fam FX) (hk : tm_hf FX σ → tm_k σ a = 22 ∧ tm_n σ a = n) (hi : tm_in i) (hx : tm_in x) (d : decode cc pc = .ok (.iastore, 1)) (kk : tm_J p l e R s m args below meth c K FX rt X (tm_wa σ a i x) (F0 m (pc + 1) ls rest)) : tm_J p l e R s m args below meth c K FX rt (tm_gx i n X) σ (F0 m pc ls (tm_iv x :: tm_iv i :: tm_rv K a :: rest)) := by
  refine tm_gx_ fun hg => ?_
  intro o t h H locs w v
  obtain ⟨hkr, hn⟩ := hk w.2.1
  obtain ⟨g1, g2, g3, g4⟩ := w.1.1 a (by rw [hkr]; omega)
  obtain ⟨hat, hA⟩ := g3 (by rw [hkr]; omega)
  rw [tm_ent_int hkr (by omega) (by omega)] at hat
  rw [tm_rv_pos g1]
  refine W.iast cx.1 cx.2.1 hat ((tm_ch_ cx 2 rfl) (tm_n σ a).toNat (fun j => .int (Int32.ofInt (tm_a σ a (j : Int))))) (fun q => by cases q) (by show ¬ (_ < 0 ∨ (arrV _ _ _).slots.size ≤ _); rw [arrV_size, hn]; exact tm_I_in hg hi) rfl rfl d fun H1 e1 e2 e3 => ?_
  have eh := tm_hs_put hat e1 (tm_setSlot_size _ _ _) e3
  rw [tm_I_cl hi] at e1
  have k1 := kk o t h H1 (locs ++ [⟨tm_ad K a, (Int32.ofInt i).toNatClampNeg⟩]) (tm_wd_wa w (tm_iarr_W (by omega) (by omega) w.1 hkr hg.1 hx e1 e2 e3) (tm_fam_ne hfam w.2.1 hkr (by omega)) e2 eh) (va_S.put v e2 e3 hA)
  rw [e2, eh] at k1
  exact k1
theorem tm_zald (cx : tm_C p l R s m args meth c K cc nL own mn ret fr lo) {a n i : Int} (hk : tm_hf FX σ → tm_k σ a = 23 ∧ tm_n σ a = n) (hi : tm_in i) (d : decode cc pc = .ok (.baload, 1)) (kk : 0 ≤ i ∧ i < n → tm_in (tm_a σ a i) → tm_J p l e R s m args below meth c K FX rt X σ (F0 m (pc + 1) ls (tm_iv (tm_a σ a i) :: rest))) : tm_J p l e R s m args below meth c K FX rt (tm_gx i n X) σ (F0 m pc ls (tm_iv i :: tm_rv K a :: rest)) := by
  refine tm_gx_ fun hg => ?_
  intro o t h H locs w v
  obtain ⟨hkr, hn⟩ := hk w.2.1
  obtain ⟨g1, g2, g3, g4⟩ := w.1.1 a (by rw [hkr]; omega)
  have hat := (g3 (by rw [hkr]; omega)).1
  rw [tm_ent_int hkr (by omega) (by omega)] at hat
  have k1 := kk hg (w.1.2.2.2.1 a i) o t h H locs w v
  rw [tm_rv_pos g1]
  have h9 : (((Int32.ofInt i).toNatClampNeg : Nat) : Int) = i := by rw [tm_I_cl hi]; omega
  refine va_zald cx.1 cx.2.1 cx.2.2.2.2.2.2.2.2.1.1 (tm_at_one hat) 0 3 rfl rfl (by rw [hn]; exact tm_I_in hg hi) d ?_
  rw [h9]
  exact k1
theorem tm_zast (cx : tm_C p l R s m args meth c K cc nL own mn ret fr lo) {a n i x : Int} (hfam : tm_fam FX) (hk : tm_hf FX σ → tm_k σ a = 23 ∧ tm_n σ a = n) (hi : tm_in i) (hx : tm_in x) (d : decode cc pc = .ok (.bastore, 1)) (kk : tm_J p l e R s m args below meth c K FX rt X (tm_wa σ a i x) (F0 m (pc + 1) ls rest)) : tm_J p l e R s m args below meth c K FX rt (tm_gx i n (tm_gz x X)) σ (F0 m pc ls (tm_iv x :: tm_iv i :: tm_rv K a :: rest)) := by
  refine tm_gx_ fun hg => ?_
  refine tm_gz_ fun hb => ?_
  intro o t h H locs w v
  obtain ⟨hkr, hn⟩ := hk w.2.1
  obtain ⟨g1, g2, g3, g4⟩ := w.1.1 a (by rw [hkr]; omega)
  obtain ⟨hat, hA⟩ := g3 (by rw [hkr]; omega)
  rw [tm_ent_int hkr (by omega) (by omega)] at hat
  rw [tm_rv_pos g1]
  refine W.zast cx.1 cx.2.1 hat ((tm_ch_ cx 3 rfl) (tm_n σ a).toNat (fun j => .int (Int32.ofInt (tm_a σ a (j : Int))))) (fun q => by cases q) (by show ¬ (_ < 0 ∨ (arrV _ _ _).slots.size ≤ _); rw [arrV_size, hn]; exact tm_I_in hg hi) rfl rfl d fun H1 e1 e2 e3 => ?_
  have eh := tm_hs_put hat e1 (tm_setSlot_size _ _ _) e3
  rw [tm_nar_z hb] at e1
  rw [tm_I_cl hi] at e1
  have k1 := kk o t h H1 (locs ++ [⟨tm_ad K a, (Int32.ofInt i).toNatClampNeg⟩]) (tm_wd_wa w (tm_iarr_W (by omega) (by omega) w.1 hkr hg.1 hx e1 e2 e3) (tm_fam_ne hfam w.2.1 hkr (by omega)) e2 eh) (va_S.put v e2 e3 hA)
  rw [e2, eh] at k1
  exact k1
theorem tm_alen (cx : tm_C p l R s m args meth c K cc nL own mn ret fr lo) {a n : Int} {k : Nat} (hk : tm_hf FX σ → tm_k σ a = k ∧ tm_n σ a = n) (h20 : 20 ≤ k ∧ k < 30) (d : decode cc pc = .ok (.arraylength, 1)) (kk : 0 ≤ n ∧ n ≤ 2147483647 → tm_J p l e R s m args below meth c K FX rt X σ (F0 m (pc + 1) ls (tm_iv n :: rest))) : tm_J p l e R s m args below meth c K FX rt X σ (F0 m pc ls (tm_rv K a :: rest)) := by
  intro o t h H locs w v
  obtain ⟨hkr, hn⟩ := hk w.2.1
  obtain ⟨g1, g2, g3, g4⟩ := w.1.1 a (by rw [hkr]; omega)
  have hat := (g3 (by rw [hkr]; omega)).1
  have hr := w.1.2.2.2.2 a
  rw [hn] at hr
  have k1 := kk hr o t h H locs w v
  have e9 : Int32.ofNat n.toNat = Int32.ofInt n := by
    rw [← Int32.ofInt_eq_ofNat]
    congr 1
    omega
  rw [tm_rv_pos g1]
  have hty : ∃ (i : Nat) (ty : FieldType), (tm_tys K)[i]? = some (tm_CA K k, ty) := by
    have : k = 20 ∨ k = 21 ∨ k = 22 ∨ k = 23 ∨ k = 24 ∨ k = 25 ∨ k = 26 ∨ k = 27 ∨ k = 28 ∨ k = 29 := by omega
    rcases this with rfl | rfl | rfl | rfl | rfl | rfl | rfl | rfl | rfl | rfl
    · exact ⟨0, _, rfl⟩
    · exact ⟨1, _, rfl⟩
    · exact ⟨2, _, rfl⟩
    · exact ⟨3, _, rfl⟩
    · exact ⟨4, _, rfl⟩
    · exact ⟨5, _, rfl⟩
    · exact ⟨6, _, rfl⟩
    · exact ⟨7, _, rfl⟩
    · exact ⟨8, _, rfl⟩
    · exact ⟨9, _, rfl⟩
  obtain ⟨i, ty, hty⟩ := hty
  by_cases h25 : k < 25
  · rw [tm_ent_int hkr h20.1 h25] at hat
    exact va_alen (v := Int32.ofInt n) cx.1 cx.2.1 cx.2.2.2.2.2.2.2.2.1.1 (tm_at_one hat) 0 i rfl hty (by rw [hn]; exact e9) d k1
  · rw [tm_ent_ref hkr (by omega)] at hat
    exact va_alen (v := Int32.ofInt n) cx.1 cx.2.1 cx.2.2.2.2.2.2.2.2.1.1 (tm_at_one hat) 0 i rfl hty (by rw [hn]; exact e9) d k1
end TMH
