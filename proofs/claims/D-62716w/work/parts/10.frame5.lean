/-! ENDS AND CALLS -/
theorem tm_cat8 {rest : List Value} (h : rest.length ≤ 4) : (rest.map fun v => v.category).sum ≤ 8 := by
  have : ∀ (r : List Value), (r.map fun v => v.category).sum ≤ 2 * r.length := by
    intro r
    induction r with
    | nil => exact Nat.le_refl _
    | cons a r ih =>
      rw [List.map_cons, List.sum_cons, List.length_cons]
      have := lv_cat a
      omega
  have := this rest
  omega
section TMC
variable {p : Program} {l : Launch} {e : Env} {R : Room} {s : State} {m : MethodId} {args : Array Value} {below : List Frame} {meth : Method} {c : Code} {K : tm_K} {FX : tm_X0} {rt : Nat} {cc : ByteArray} {nL : Nat} {own mn : String} {ret : Option FieldType} {fr lo : Nat} {pc : Nat} {ls : Array Slot} {rest : List Value} {X A B : tm_R} {σ : tm_S} {lg : Nat}
theorem tm_ireturn (cx : tm_C p l R s m args meth c K cc nL own mn (some .int) fr lo) {x : Int} (hx : tm_in x) (d : decode cc pc = .ok (.ireturn, 1)) : tm_J p l e R s m args below meth c K FX 1 (tm_rt x σ) σ (F0 m pc ls [tm_iv x]) := by
  intro o t h H locs w v
  cases h
  have hlocks : meth.locks = false := cx.2.2.2.2.2.1
  have h1 := w.2.2.1
  have h2 := w.2.2.2.1
  have h3 := w.2.2.2.2.1
  have h4 := w.2.2.2.2.2.1
  refine vx_ret (W.widen (k := tm_LC K - s.heap.size) (n := tm_LS K - tm_hs s.heap) (by omega) (by omega) ?_)
  exact W.zret (v := Int32.ofInt x) (ty := .int) cx.1 cx.2.1 cx.2.2.2.2.2.2.2.1 rfl (fun t9 ht hW => ⟨⟨x, rfl, hx, rfl⟩, by rw [ht]; exact w, v.F ht⟩) v.2.2 d
theorem tm_zreturn (cx : tm_C p l R s m args meth c K cc nL own mn (some .boolean) fr lo) {x : Int} (hx : x = 0 ∨ x = 1) (d : decode cc pc = .ok (.ireturn, 1)) : tm_J p l e R s m args below meth c K FX 1 (tm_rt x σ) σ (F0 m pc ls [tm_iv x]) := by
  intro o t h H locs w v
  cases h
  have hlocks : meth.locks = false := cx.2.2.2.2.2.1
  have h1 := w.2.2.1
  have h2 := w.2.2.2.1
  have h3 := w.2.2.2.2.1
  have h4 := w.2.2.2.2.2.1
  refine vx_ret (W.widen (k := tm_LC K - s.heap.size) (n := tm_LS K - tm_hs s.heap) (by omega) (by omega) ?_)
  exact W.zret (v := Int32.ofInt x) (ty := .boolean) cx.1 cx.2.1 cx.2.2.2.2.2.2.2.1 (tm_nar_z hx) (fun t9 ht hW => ⟨⟨x, rfl, (by omega), rfl⟩, by rw [ht]; exact w, v.F ht⟩) v.2.2 d
theorem tm_zreturnG (cx : tm_C p l R s m args meth c K cc nL own mn (some .boolean) fr lo) {x : Int} (d : decode cc pc = .ok (.ireturn, 1)) : tm_J p l e R s m args below meth c K FX 1 (tm_gz x (tm_rt x σ)) σ (F0 m pc ls [tm_iv x]) := tm_gz_ fun h => tm_zreturn cx h d
theorem tm_areturn (cx : tm_C p l R s m args meth c K cc nL own mn ret fr lo) {x : Int} (hr : ∃ rt9, ret = some rt9 ∧ ((∃ n, rt9 = .object n) ∨ ∃ t, rt9 = .array t)) (hx : tm_in x) (d : decode cc pc = .ok (.areturn, 1)) : tm_J p l e R s m args below meth c K FX 2 (tm_rt x σ) σ (F0 m pc ls [tm_rv K x]) := by
  intro o t h H locs w v
  cases h
  obtain ⟨rt9, hr1, hr2⟩ := hr
  have hlocks : meth.locks = false := cx.2.2.2.2.2.1
  have h1 := w.2.2.1
  have h2 := w.2.2.2.1
  have h3 := w.2.2.2.2.1
  have h4 := w.2.2.2.2.2.1
  refine vx_ret (W.widen (k := tm_LC K - s.heap.size) (n := tm_LS K - tm_hs s.heap) (by omega) (by omega) ?_)
  exact W.aret (v := tm_rv K x) (rt := rt9) cx.1 cx.2.1 (cx.2.2.2.2.2.2.2.1.trans hr1) hr2 (tm_rv_or K x) (fun t9 ht hW => ⟨⟨x, rfl, hx, rfl⟩, by rw [ht]; exact w, v.F ht⟩) v.2.2 d
theorem tm_vreturn (cx : tm_C p l R s m args meth c K cc nL own mn none fr lo) (d : decode cc pc = .ok (.return_, 1)) : tm_J p l e R s m args below meth c K FX 0 (tm_rt 0 σ) σ (F0 m pc ls []) := by
  intro o t h H locs w v
  cases h
  have hlocks : meth.locks = false := cx.2.2.2.2.2.1
  have h1 := w.2.2.1
  have h2 := w.2.2.2.1
  have h3 := w.2.2.2.2.1
  have h4 := w.2.2.2.2.2.1
  refine vx_ret (W.widen (k := tm_LC K - s.heap.size) (n := tm_LS K - tm_hs s.heap) (by omega) (by omega) ?_)
  exact W.vret cx.1 cx.2.1 cx.2.2.2.2.2.2.2.1 (fun t9 ht hW => ⟨⟨0, rfl, by decide, rfl⟩, by rw [ht]; exact w, v.F ht⟩) v.2.2 d
/-- what a call has come to goes on, or leaves this method too -/
theorem tm_callK2 (cx : tm_C p l R s m args meth c K cc nL own mn ret fr lo) {rt1 : Nat} {k : Int → tm_S → tm_R} {Xf : tm_R} {o1 : Int ⊕ Nat} {σ1 : tm_S} (hX : Xf = some (o1, σ1)) {H : Heap} {locs : List Loc} {cells slots mc ms : Nat} {st0 : List Value} {a : Array Value} (hr : vx_Run p l e R s m args below meth c H locs cells slots mc ms (F0 m pc ls st0) rest (tm_cq K FX rt1 o1 σ1 a) (tm_cx K FX o1 σ1) (tm_A K))
    (hc : cells + mc ≤ tm_LC K - s.heap.size) (hs : slots + ms ≤ tm_LS K - tm_hs s.heap) (v : va_S (tm_A K) s.heap H locs) {o : Int ⊕ Nat} {σ' : tm_S} (h : tm_bd Xf k = some (o, σ'))
    (kk : ∀ x : Int, o1 = .inl x → tm_in x → tm_J p l e R s m args below meth c K FX rt (k x σ1) σ1 (F0 m (pc + 3) ls ((tm_ov K rt1 x).toList ++ rest))) :
    W p l e R s m args below meth c H locs cells slots (vx_MQ below (tm_cq K FX rt o σ') (tm_cx K FX o σ') args s (tm_LC K - s.heap.size) (tm_LS K - tm_hs s.heap) (tm_A K)) (F0 m pc ls st0) := by
  intro T hT X
  rw [hX] at h
  rcases hr T hT X with ⟨v9, st₀, t, T', L, h0, X', hL, e1, e2, ⟨⟨x, ho, hx, hv⟩, hw1, hF⟩, st⟩ | ⟨q, st₀, t, T', L, E, ce, h0, X', hL, e1, e2, ⟨⟨e9, ho, hE⟩, hw1, hF⟩, hce, hcv, hcl, st⟩
  · subst ho
    have h : k x σ1 = some (o, σ') := h
    have hv : v9 = tm_ov K rt1 x := by cases hv; rfl
    subst hv
    obtain ⟨k1, k2, k3⟩ := vx_keep h0 e1 v (fun _ _ h => h) (fun _ h => h) hL hF
    obtain ⟨t2, a1, b1⟩ := tm_lower (kk x rfl hx o σ' h T'.heap (locs ++ L) (by rw [e1]; exact hw1) k3) T' rfl X'
    exact ⟨t2, st t2 a1, b1⟩
  · subst ho
    have h : some (Sum.inr e9, σ1) = some (o, σ') := h
    cases h
    obtain ⟨k1, k2, k3⟩ := vx_keep h0 e1 v (fun _ _ h => h) (fun _ h => h) hL hF
    have hlocks : meth.locks = false := cx.2.2.2.2.2.1
    obtain ⟨t2, a1, b1⟩ := vx_out (pc := pc) (ls := ls) (rest := rest) (Qc := tm_cq K FX rt (Sum.inr e9) σ1) (XC := tm_cx K FX (Sum.inr e9) σ1) (args := args) (free := tm_A K) (mc := tm_LC K - s.heap.size) (ms := tm_LS K - tm_hs s.heap) (fun x hx => absurd hx (cx.2.2.2.2.2.2.1 x)) hlocks (q := q) (ce := ce) (E := E) (H := T'.heap) (by rw [e1]; exact hce) hcv hcl
      (fun t9 ht hW => ⟨⟨e9, rfl, hE⟩, by rw [ht, e1]; exact hw1, k3.F ht⟩) k3.2.2 hc hs T' rfl X'
    exact ⟨t2, st.trans a1, b1⟩
theorem tm_callK (cx : tm_C p l R s m args meth c K cc nL own mn ret fr lo) {rt1 : Nat} {k : Int → tm_S → tm_R} {Xf : tm_R} {o1 : Int ⊕ Nat} {σ1 : tm_S} (hX : Xf = some (o1, σ1)) {H : Heap} {locs : List Loc} {cells slots mc ms : Nat} {st0 : List Value} {a : Array Value} (hr : vx_Run p l e R s m args below meth c H locs cells slots mc ms (F0 m pc ls st0) rest (tm_cq K FX rt1 o1 σ1 a) (tm_cx K FX o1 σ1) (tm_A K))
    (hc : cells + mc ≤ tm_LC K - s.heap.size) (hs : slots + ms ≤ tm_LS K - tm_hs s.heap) (v : va_S (tm_A K) s.heap H locs) {o : Int ⊕ Nat} {σ' : tm_S} (h : tm_bd Xf k = some (o, σ'))
    (kk : ∀ (x : Int) (τ : tm_S), tm_in x → tm_J p l e R s m args below meth c K FX rt (k x τ) τ (F0 m (pc + 3) ls ((tm_ov K rt1 x).toList ++ rest))) :
    W p l e R s m args below meth c H locs cells slots (vx_MQ below (tm_cq K FX rt o σ') (tm_cx K FX o σ') args s (tm_LC K - s.heap.size) (tm_LS K - tm_hs s.heap) (tm_A K)) (F0 m pc ls st0) :=
  tm_callK2 cx hX hr hc hs v h (fun x _ hx => kk x σ1 hx)
theorem tm_blind {As : List Value} {τ : tm_S} : FrameBlind (va_Pc As (fun U => tm_vm K U U.heap ∧ tm_Wd K FX τ U.heap)) := by
  intro a U g mk h
  obtain ⟨h1, h2, h3⟩ := h
  exact ⟨h1, tm_vm_go (s := U) (U := U.calling g mk a) (H := U.heap) (locs := []) h2 va_S.rf rfl (State.WarmedH.refl U), h3⟩
theorem tm_recv (cx : tm_C p l R s m args meth c K cc nL own mn ret fr lo) {ci N : Nat} {C : String} {T : u_T} {ty : Nat → FieldType} {r : Int} {H : Heap} (cd : tm_cd ci C T N ty) (w : tm_Wd K FX σ H) (hkr : tm_k σ r = ci + 1) : 0 ≤ r ∧ ∃ cellB : Cell, H[tm_ad K r]? = some cellB ∧ cellB.vm.isStatics = false ∧ s.vm.findClass C = some cellB.cls := by
  obtain ⟨hc, hin, hN, hci, hty, hnm⟩ := cd
  obtain ⟨g1, g2, g3, g4⟩ := w.1.1 r (by rw [hkr]; omega)
  have hat := (g3 (by rw [hkr]; omega)).1
  rw [tm_ent_obj hkr hci] at hat
  exact ⟨g1, va_recv cx.2.2.2.2.2.2.2.2.1.1 (tm_at_one hat) hc (q0 := 0) rfl⟩
/-- the room of a call, at a state of the walk -/
theorem tm_rooms (cx : tm_C p l R s m args meth c K cc nL own mn ret fr lo) {H : Heap} {locs : List Loc} {cells slots : Nat} {T : State} (X : Stand p l e R s m args below meth c T locs cells slots) (hT : T.heap = H) (w : tm_Wd K FX σ H) :
    ((H.size - s.heap.size) + (tm_LC K - tm_c σ) ≤ R.cells ∧ (tm_hs H - tm_hs s.heap) + (tm_LS K - tm_z σ) ≤ R.slots) ∧ (H.size - s.heap.size) + (tm_LC K - tm_c σ) ≤ tm_LC K - s.heap.size ∧ (tm_hs H - tm_hs s.heap) + (tm_LS K - tm_z σ) ≤ tm_LS K - tm_hs s.heap := by
  have hlow := tm_low (H0 := H) (A := tm_A K) X
  rw [hT] at hlow
  have h1 := w.2.2.1
  have h2 := w.2.2.2.1
  have h3 := w.2.2.2.2.1
  have h4 := w.2.2.2.2.2.1
  have h5 := cx.2.2.2.2.2.2.2.2.2.1.2.2
  omega
theorem tm_callV (cx : tm_C p l R s m args meth c K cc nL own mn ret fr lo) {y : MethodName} {bytes : ByteArray} {maxL : Nat} {ret1 : Option FieldType} {rt1 : Nat} {r : Int} {As : List Value} {fr1 lo1 index ci N n : Nat} {C : String} {T9 : u_T} {ty : Nat → FieldType} {Xf : tm_S → tm_R} {k : Int → tm_S → tm_R} (hC : tm_ct K FX l y bytes maxL ret1 rt1 (tm_rv K r :: As) Xf fr1 lo1)
    (hw : GoodIn lw_all (wsV own index C y (ws_ y bytes maxL ret1))) (hd : y.cls = C ∧ y.cls ≠ "java/lang/invoke/MethodHandle" ∧ y.cls ≠ "java/lang/invoke/VarHandle" ∧ (parseMethodDescriptor y.desc).map (fun d => d.parameters.length) = some n) (hn : As.length = n) (cd : tm_cd ci C T9 N ty) (hk : tm_hf FX σ → tm_k σ r = ci + 1) (hfr : fr1 + 1 ≤ fr ∧ 8 + (maxL + 11) + lo1 ≤ lo)
    {st : List Value} (hst : st = As.reverse ++ tm_rv K r :: rest) (hcat : rest.length ≤ 4) (hls : ls.size = nL) (d : decode cc pc = .ok (.invokevirtual index, 3))
    (kk : ∀ (x : Int) (τ : tm_S), tm_in x → tm_J p l e R s m args below meth c K FX rt (k x τ) τ (F0 m (pc + 3) ls ((tm_ov K rt1 x).toList ++ rest))) : tm_J p l e R s m args below meth c K FX rt (tm_bd (Xf σ) k) σ (F0 m pc ls st) := by
  intro o t h H locs w v
  cases hX : Xf σ with
  | none => rw [hX] at h; cases h
  | some q =>
    obtain ⟨o1, σ1⟩ := q
    have hM := hC σ o1 σ1 hX
    have hR := cx.2.2.2.2.2.2.2.2.2.1
    obtain ⟨g1, hrecv⟩ := tm_recv cx cd w (hk w.2.1)
    rw [hst]
    rw [tm_rv_pos g1] at hM ⊢
    intro T hT X
    have hro := tm_rooms cx X hT w
    exact tm_callK cx hX (vx_runV (As := As) (rest := rest) (C := C) ⟨cx.1, cx.2.1, cx.2.2.1, cx.2.2.2.1, cx.2.2.2.2.1⟩ hM (cwV n cx.2.2.2.2.1 hw rfl rfl rfl hd (by rw [hR.1, hR.2.1]; exact hfr)) ⟨tm_blind, hrecv, fun U hU hW => ⟨rfl, tm_vm_go cx.2.2.2.2.2.2.2.2.1 v hU hW, by rw [hU]; exact w⟩⟩ rfl hn hls rfl (lv_room (tm_cat8 hcat)) d hro.1) hro.2.1 hro.2.2 v h kk T hT X
theorem tm_callS (cx : tm_C p l R s m args meth c K cc nL own mn ret fr lo) {y : MethodName} {bytes : ByteArray} {maxL : Nat} {ret1 : Option FieldType} {rt1 : Nat} {As : List Value} {fr1 lo1 index n : Nat} {Xf : tm_S → tm_R} {k : Int → tm_S → tm_R} (hC : tm_ct K FX l y bytes maxL ret1 rt1 As Xf fr1 lo1)
    (hw : GoodIn lw_all (va_wsS own index y (ws_ y bytes maxL ret1))) (hd : y.cls ≠ "java/lang/invoke/MethodHandle" ∧ y.cls ≠ "java/lang/invoke/VarHandle" ∧ (parseMethodDescriptor y.desc).map (fun d => d.parameters.length) = some n) (hn : As.length = n) (hfr : fr1 + 1 ≤ fr ∧ 8 + (maxL + 11) + lo1 ≤ lo)
    {st : List Value} (hst : st = As.reverse ++ rest) (hcat : rest.length ≤ 4) (hls : ls.size = nL) (d : decode cc pc = .ok (.invokestatic index, 3))
    (kk : ∀ (x : Int) (τ : tm_S), tm_in x → tm_J p l e R s m args below meth c K FX rt (k x τ) τ (F0 m (pc + 3) ls ((tm_ov K rt1 x).toList ++ rest))) : tm_J p l e R s m args below meth c K FX rt (tm_bd (Xf σ) k) σ (F0 m pc ls st) := by
  intro o t h H locs w v
  cases hX : Xf σ with
  | none => rw [hX] at h; cases h
  | some q =>
    obtain ⟨o1, σ1⟩ := q
    have hM := hC σ o1 σ1 hX
    have hR := cx.2.2.2.2.2.2.2.2.2.1
    rw [hst]
    intro T hT X
    have hro := tm_rooms cx X hT w
    exact tm_callK cx hX (vx_runS (As := As) (rest := rest) ⟨cx.1, cx.2.1, cx.2.2.1, cx.2.2.2.1, cx.2.2.2.2.1⟩ hM (va_cwS n cx.2.2.2.2.1 hw rfl rfl rfl hd (by rw [hR.1, hR.2.1]; exact hfr)) ⟨tm_blind, fun U hU hW => ⟨rfl, tm_vm_go cx.2.2.2.2.2.2.2.2.1 v hU hW, by rw [hU]; exact w⟩⟩ rfl hn hls rfl (lv_room (tm_cat8 hcat)) d hro.1) hro.2.1 hro.2.2 v h kk T hT X
end TMC
