/-! ROWS FOR THE COMPONENT, 3: interfaces, throws, the commands' numbers, switches, stores of references -/
def tm_max (x y : Int) : Int := if x < y then y else x
section TMI
variable {p : Program} {l : Launch} {e : Env} {R : Room} {s : State} {m : MethodId} {args : Array Value} {below : List Frame} {meth : Method} {c : Code} {K : tm_K} {FX : tm_X0} {rt : Nat} {cc : ByteArray} {nL : Nat} {own mn : String} {ret : Option FieldType} {fr lo : Nat} {pc : Nat} {ls : Array Slot} {rest : List Value} {X A B : tm_R} {σ : tm_S} {lg : Nat}
/-- the kit's vx_runF, of a receiver whose class is known by name alone -/
theorem tm_runF {H : Heap} {locs : List Loc} {cells slots : Nat} {x y : MethodName} {bytes : ByteArray} {maxL mc ms n index count : Nat} {ret1 : Option FieldType} {ws : List Cond} {rm : Room} {Pc : Array Value → State → Prop} {Qc : Array Value → State → Outcome → State → Prop} {XC : String → State → State → Prop} {free : Addr → Prop} {Ts : List Cond} {C : String} {b : Addr} {As : List Value} {g : JFrame}
    (S : CallFix p m c cc nL s args Ts own) (hM : vx_Met l y ws rm Pc Qc XC mc ms free) (cw : va_CI R s args own C index x y bytes maxL ret1 ws rm mc ms n) (hp : PreV s H C b Pc As)
    (hg : g.method = m) (hn : As.length = n) (hsize : g.locals.size = nL) (hstack : g.stack = As.reverse ++ .ref b :: rest) (hW : 2 * g.monitorRoom + (rest.map fun v => v.category).sum ≤ 8) (hdg : decode cc g.pc = .ok (.invokeinterface index count, 5)) (hf : cells + mc ≤ R.cells ∧ slots + ms ≤ R.slots) :
    vx_Run5 p l e R s m args below meth c H locs cells slots mc ms g rest (Qc (Value.ref b :: As).toArray) XC free := by
  obtain ⟨hrc, hrs, hfr, hlo, hws, hcw⟩ := cw.back
  have hini := cw.init
  have hK : vx_Back l R p e below s args y 5 8 (PreOf R mc ms Pc) (PostOf Qc mc ms free) (vx_Post XC mc ms free) := vx_back (bytes := bytes) (maxL := maxL) (ret := ret1) hM hp.1 hrc hrs hfr hlo hws hcw (fun a' U hW => word_at hW (Or.inl (by first | rfl | simp [Cond.onTables, Cond.keeps, Cond.steady])) hini)
  obtain ⟨hx, hb, hml, ho, -⟩ := S
  obtain ⟨-, ⟨cellB, hcB, hoB, hclB⟩, hPc⟩ := hp
  obtain ⟨kB, hkB, -⟩ := Vm.findClass_spec hclB
  intro T hT X
  rcases vx_callIF X hx (C := C) (bytes := bytes) (maxL := maxL) (ret := ret1) ho cw.link cw.decl cw.face cw.sel cw.inst cw.pub cw.unh cw.cast cw.code cw.notMH hK (by rw [hT]; exact hcB) hoB hclB hkB hg (hsize.trans hml.symm) (argsL := As) (rest := rest) (fun sig h => hn.trans (cw.len sig h)) hstack hW (by rw [hb]; exact hdg)
    (fun vm₁ hW₁ => ⟨hf.1, hf.2, hPc (T.setVm vm₁) hT hW₁⟩) with ⟨v, vm₁, ⟨U', l2, c2, s2⟩, hW₁, X', ⟨g', mk, t, L, e1, e2, hq, h1, hL, h2, h3⟩, st⟩ | ⟨q, vm₁, ⟨U', l2, c2, s2⟩, hW₁, X', ⟨g', mk, t, L, E, ce, e1, e2, hq, hce, hcv, hcl, h1, hL, h2, h3⟩, st⟩
  · dsimp only [Pt.U, Pt.locs, Pt.cells, Pt.slots] at X' e1 e2 h1 h2 h3 st
    subst h1; subst h2; subst h3
    exact Or.inl ⟨v, (T.setVm vm₁).calling g' mk (Value.ref b :: As).toArray, t, U', L, hT, X', hL, e1, e2, hq, st⟩
  · dsimp only [Pt.U, Pt.locs, Pt.cells, Pt.slots] at X' e1 e2 h1 h2 h3 st hcl
    subst h1; subst h2; subst h3
    exact Or.inr ⟨q, (T.setVm vm₁).calling g' mk (Value.ref b :: As).toArray, t, U', L, E, ce, hT, X', hL, e1, e2, hq, hce, hcv, vx_cls hW₁ hcl, st⟩
theorem tm_callK5 (cx : tm_C p l R s m args meth c K cc nL own mn ret fr lo) {rt1 : Nat} {k : Int → tm_S → tm_R} {Xf : tm_R} {o1 : Int ⊕ Nat} {σ1 : tm_S} (hX : Xf = some (o1, σ1)) {H : Heap} {locs : List Loc} {cells slots mc ms : Nat} {st0 : List Value} {a : Array Value} (hr : vx_Run5 p l e R s m args below meth c H locs cells slots mc ms (F0 m pc ls st0) rest (tm_cq K FX rt1 o1 σ1 a) (tm_cx K FX o1 σ1) (tm_A K))
    (hc : cells + mc ≤ tm_LC K - s.heap.size) (hs : slots + ms ≤ tm_LS K - tm_hs s.heap) (v : va_S (tm_A K) s.heap H locs) {o : Int ⊕ Nat} {σ' : tm_S} (h : tm_bd Xf k = some (o, σ'))
    (kk : ∀ (x : Int) (τ : tm_S), tm_in x → tm_J p l e R s m args below meth c K FX rt (k x τ) τ (F0 m (pc + 5) ls ((tm_ov K rt1 x).toList ++ rest))) :
    W p l e R s m args below meth c H locs cells slots (vx_MQ below (tm_cq K FX rt o σ') (tm_cx K FX o σ') args s (tm_LC K - s.heap.size) (tm_LS K - tm_hs s.heap) (tm_A K)) (F0 m pc ls st0) := by
  intro T hT X
  rw [hX] at h
  rcases hr T hT X with ⟨v9, st₀, t, T', L, h0, X', hL, e1, e2, ⟨⟨x, ho, hx, hv⟩, hw1, hF⟩, st⟩ | ⟨q, st₀, t, T', L, E, ce, h0, X', hL, e1, e2, ⟨⟨e9, ho, hE⟩, hw1, hF⟩, hce, hcv, hcl, st⟩
  · subst ho
    have h : k x σ1 = some (o, σ') := h
    have hv : v9 = tm_ov K rt1 x := by cases hv; rfl
    subst hv
    obtain ⟨k1, k2, k3⟩ := vx_keep h0 e1 v (fun _ _ h => h) (fun _ h => h) hL hF
    obtain ⟨t2, a1, b1⟩ := tm_lower (kk x σ1 hx o σ' h T'.heap (locs ++ L) (by rw [e1]; exact hw1) k3) T' rfl X'
    exact ⟨t2, st t2 a1, b1⟩
  · subst ho
    have h : some (Sum.inr e9, σ1) = some (o, σ') := h
    cases h
    obtain ⟨k1, k2, k3⟩ := vx_keep h0 e1 v (fun _ _ h => h) (fun _ h => h) hL hF
    have hlocks : meth.locks = false := cx.2.2.2.2.2.1
    obtain ⟨t2, a1, b1⟩ := vx_out (pc := pc) (ls := ls) (rest := rest) (Qc := tm_cq K FX rt (Sum.inr e9) σ1) (XC := tm_cx K FX (Sum.inr e9) σ1) (args := args) (free := tm_A K) (mc := tm_LC K - s.heap.size) (ms := tm_LS K - tm_hs s.heap) (fun x hx => absurd hx (cx.2.2.2.2.2.2.1 x)) hlocks (q := q) (ce := ce) (E := E) (H := T'.heap) (by rw [e1]; exact hce) hcv hcl
      (fun t9 ht hW => ⟨⟨e9, rfl, hE⟩, by rw [ht, e1]; exact hw1, k3.F ht⟩) k3.2.2 hc hs T' rfl X'
    exact ⟨t2, st.trans a1, b1⟩
/-- a call through the interface, of one class's method -/
theorem tm_callF1 (cx : tm_C p l R s m args meth c K cc nL own mn ret fr lo) {C : String} {x y : MethodName} {bytes : ByteArray} {maxL : Nat} {ret1 : Option FieldType} {rt1 : Nat} {r : Int} {As : List Value} {fr1 lo1 index count n : Nat} {Xf : tm_S → tm_R} {k : Int → tm_S → tm_R} (hC : tm_ct K FX l y bytes maxL ret1 rt1 (tm_rv K r :: As) Xf fr1 lo1)
    (hw : GoodIn lw_all (va_wsF own index C x y (ws_ y bytes maxL ret1))) (hI : (C, x, y) ∈ tm_nI) (hd : x.cls ≠ "java/lang/invoke/MethodHandle" ∧ x.cls ≠ "java/lang/invoke/VarHandle" ∧ (parseMethodDescriptor x.desc).map (fun d => d.parameters.length) = some n) (hn : As.length = n) (hrec : ∀ (H : Heap) (locs : List Loc), tm_Wd K FX σ H → va_S (tm_A K) s.heap H locs → 0 ≤ r ∧ ∃ cell : Cell, H[tm_ad K r]? = some cell ∧ cell.vm.isStatics = false ∧ s.vm.findClass C = some cell.cls) (hfr : fr1 + 1 ≤ fr ∧ 8 + (maxL + 11) + lo1 ≤ lo)
    {st : List Value} (hst : st = As.reverse ++ tm_rv K r :: rest) (hcat : rest.length ≤ 4) (hls : ls.size = nL) (d : decode cc pc = .ok (.invokeinterface index count, 5))
    (kk : ∀ (x : Int) (τ : tm_S), tm_in x → tm_J p l e R s m args below meth c K FX rt (k x τ) τ (F0 m (pc + 5) ls ((tm_ov K rt1 x).toList ++ rest))) : tm_J p l e R s m args below meth c K FX rt (tm_bd (Xf σ) k) σ (F0 m pc ls st) := by
  intro o t h H locs w v
  cases hX : Xf σ with
  | none => rw [hX] at h; cases h
  | some q =>
    obtain ⟨o1, σ1⟩ := q
    have hM := hC σ o1 σ1 hX
    have hR := cx.2.2.2.2.2.2.2.2.2.1
    obtain ⟨g1, hrecv⟩ := hrec H locs w v
    rw [hst]
    rw [tm_rv_pos g1] at hM ⊢
    intro T hT X
    have hro := tm_rooms cx X hT w
    exact tm_callK5 cx hX (tm_runF (As := As) (rest := rest) (C := C) ⟨cx.1, cx.2.1, cx.2.2.1, cx.2.2.2.1, cx.2.2.2.2.1⟩ hM (va_cwF n cx.2.2.2.2.1 hw rfl rfl rfl ((tm_nw_ cx).2.2.2.2.1 _ hI) hd (by rw [hR.1, hR.2.1]; exact hfr)) ⟨tm_blind, hrecv, fun U hU hW => ⟨rfl, tm_vm_go cx.2.2.2.2.2.2.2.2.1 v hU hW, by rw [hU]; exact w⟩⟩ rfl hn hls rfl (lv_room (tm_cat8 hcat)) d hro.1) hro.2.1 hro.2.2 v h kk T hT X
theorem tm_callF (cx : tm_C p l R s m args meth c K cc nL own mn ret fr lo) {x y1 y2 y3 : MethodName} {b1 b2 b3 : ByteArray} {L1 L2 L3 : Nat} {ret1 : Option FieldType} {rt1 : Nat} {r : Int} {As : List Value} {f1 l1 f2 l2 f3 l3 index count n : Nat} {X1 X2 X3 : tm_S → tm_R} {k : Int → tm_S → tm_R}
    (h1 : tm_ct K FX l y1 b1 L1 ret1 rt1 (tm_rv K r :: As) X1 f1 l1) (h2 : tm_ct K FX l y2 b2 L2 ret1 rt1 (tm_rv K r :: As) X2 f2 l2) (h3 : tm_ct K FX l y3 b3 L3 ret1 rt1 (tm_rv K r :: As) X3 f3 l3)
    (w1 : GoodIn lw_all (va_wsF own index "TokenMouth$Command" x y1 (ws_ y1 b1 L1 ret1))) (w2 : GoodIn lw_all (va_wsF own index "TokenMouth$Sign" x y2 (ws_ y2 b2 L2 ret1))) (w3 : GoodIn lw_all (va_wsF own index "TokenMouth$Macro" x y3 (ws_ y3 b3 L3 ret1)))
    (i1 : ("TokenMouth$Command", x, y1) ∈ tm_nI) (i2 : ("TokenMouth$Sign", x, y2) ∈ tm_nI) (i3 : ("TokenMouth$Macro", x, y3) ∈ tm_nI) (hd : x.cls ≠ "java/lang/invoke/MethodHandle" ∧ x.cls ≠ "java/lang/invoke/VarHandle" ∧ (parseMethodDescriptor x.desc).map (fun d => d.parameters.length) = some n) (hn : As.length = n)
    (r1 : f1 + 1 ≤ fr ∧ 8 + (L1 + 11) + l1 ≤ lo) (r2 : f2 + 1 ≤ fr ∧ 8 + (L2 + 11) + l2 ≤ lo) (r3 : f3 + 1 ≤ fr ∧ 8 + (L3 + 11) + l3 ≤ lo)
    {st : List Value} (hst : st = As.reverse ++ tm_rv K r :: rest) (hcat : rest.length ≤ 4) (hls : ls.size = nL) (d : decode cc pc = .ok (.invokeinterface index count, 5))
    (kk : ∀ (x : Int) (τ : tm_S), tm_in x → tm_J p l e R s m args below meth c K FX rt (k x τ) τ (F0 m (pc + 5) ls ((tm_ov K rt1 x).toList ++ rest))) : tm_J p l e R s m args below meth c K FX rt (tm_bd (tm_m3 (tm_k σ r) (X1 σ) (X2 σ) (X3 σ)) k) σ (F0 m pc ls st) := by
  by_cases h39 : tm_k σ r = 39
  · have e9 : tm_m3 (tm_k σ r) (X1 σ) (X2 σ) (X3 σ) = X1 σ := if_pos h39
    rw [e9]
    exact tm_callF1 cx h1 w1 i1 hd hn (fun H locs w v => by have := tm_k39 w h39; exact ⟨by omega, (tm_cmd cx v this).2⟩) r1 hst hcat hls d kk
  · by_cases h5 : tm_k σ r = 5
    · have e9 : tm_m3 (tm_k σ r) (X1 σ) (X2 σ) (X3 σ) = X2 σ := (if_neg h39).trans (if_pos h5)
      rw [e9]
      exact tm_callF1 cx h2 w2 i2 hd hn (fun H locs w v => tm_recv cx tm_cd_X8 w h5) r2 hst hcat hls d kk
    · by_cases h6 : tm_k σ r = 6
      · have e9 : tm_m3 (tm_k σ r) (X1 σ) (X2 σ) (X3 σ) = X3 σ := (if_neg h39).trans ((if_neg h5).trans (if_pos h6))
        rw [e9]
        exact tm_callF1 cx h3 w3 i3 hd hn (fun H locs w v => tm_recv cx tm_cd_X7 w h6) r3 hst hcat hls d kk
      · have e9 : tm_m3 (tm_k σ r) (X1 σ) (X2 σ) (X3 σ) = none := (if_neg h39).trans ((if_neg h5).trans (if_neg h6))
        rw [e9]
        exact tm_none
/-- a call of a command's own method -/
theorem tm_callC (cx : tm_C p l R s m args meth c K cc nL own mn ret fr lo) {y : MethodName} {bytes : ByteArray} {maxL : Nat} {ret1 : Option FieldType} {rt1 : Nat} {r : Int} {As : List Value} {fr1 lo1 index n : Nat} {Xf : tm_S → tm_R} {k : Int → tm_S → tm_R} (hC : tm_ct K FX l y bytes maxL ret1 rt1 (tm_rv K r :: As) Xf fr1 lo1)
    (hw : GoodIn lw_all (wsV own index "TokenMouth$Command" y (ws_ y bytes maxL ret1))) (hd : y.cls = "TokenMouth$Command" ∧ y.cls ≠ "java/lang/invoke/MethodHandle" ∧ y.cls ≠ "java/lang/invoke/VarHandle" ∧ (parseMethodDescriptor y.desc).map (fun d => d.parameters.length) = some n) (hn : As.length = n) (hk : tm_k σ r = 39) (hfr : fr1 + 1 ≤ fr ∧ 8 + (maxL + 11) + lo1 ≤ lo)
    {st : List Value} (hst : st = As.reverse ++ tm_rv K r :: rest) (hcat : rest.length ≤ 4) (hls : ls.size = nL) (d : decode cc pc = .ok (.invokevirtual index, 3))
    (kk : ∀ (x : Int) (τ : tm_S), tm_in x → tm_J p l e R s m args below meth c K FX rt (k x τ) τ (F0 m (pc + 3) ls ((tm_ov K rt1 x).toList ++ rest))) : tm_J p l e R s m args below meth c K FX rt (tm_bd (Xf σ) k) σ (F0 m pc ls st) := by
  intro o t h H locs w v
  cases hX : Xf σ with
  | none => rw [hX] at h; cases h
  | some q =>
    obtain ⟨o1, σ1⟩ := q
    have hM := hC σ o1 σ1 hX
    have hR := cx.2.2.2.2.2.2.2.2.2.1
    have hr := tm_k39 w hk
    obtain ⟨-, hrecv⟩ := tm_cmd cx v hr
    rw [hst]
    rw [tm_rv_pos (by omega)] at hM ⊢
    intro T hT X
    have hro := tm_rooms cx X hT w
    exact tm_callK cx hX (vx_runV (As := As) (rest := rest) (C := "TokenMouth$Command") ⟨cx.1, cx.2.1, cx.2.2.1, cx.2.2.2.1, cx.2.2.2.2.1⟩ hM (cwV n cx.2.2.2.2.1 hw rfl rfl rfl hd (by rw [hR.1, hR.2.1]; exact hfr)) ⟨tm_blind, hrecv, fun U hU hW => ⟨rfl, tm_vm_go cx.2.2.2.2.2.2.2.2.1 v hU hW, by rw [hU]; exact w⟩⟩ rfl hn hls rfl (lv_room (tm_cat8 hcat)) d hro.1) hro.2.1 hro.2.2 v h kk T hT X
/-- Enum.ordinal of a command -/
theorem tm_ord_met (K : tm_K) (l : Launch) (hst : l.stackTraces = false) (r : Int) (hr : 0 ≤ r - 400 ∧ r - 400 < 18) : tm_ct K FX l yJ0_ordinal cJ0_ordinal 1 (some .int) 1 [tm_rv K r] (fun σ => tm_rt (r - 400) σ) 0 0 := by
  refine tm_ct_of hst (by decide +kernel) (tm_sl_r _ _ _ _ (tm_sl_n _)) ?_
  intro p e R s m args below meth c cx σ ls hl0
  have hl : lv_has ls 1 [(0, tm_rv K r)] := by
    have h9 := hl0
    simp only [tm_args_r, tm_args_n] at h9
    exact h9
  intro o t h H locs w v
  have hc := tm_cmd cx v hr
  have hi : (r - 400).toNat < tm_nm.length := by show _ < 18; omega
  have k1 := tm_ireturn (e := e) (below := below) (pc := 4) (ls := ls) cx (x := r - 400) (by omega) dJ0_ordinal_4 o t h H locs w v
  have e1 : (tm_or[0]?.map fun q => q.2.2.2.getD (r - 400).toNat 0) = some (Int32.ofInt (r - 400)) := by
    have : r - 400 = (((r - 400).toNat : Nat) : Int) := by omega
    rw [this]
    have hn : (r - 400).toNat < 18 := by omega
    generalize (r - 400).toNat = n at hn ⊢
    have : ∀ n : Fin 18, (tm_or[0]?.map fun q => q.2.2.2.getD (((n.val : Nat) : Int)).toNat 0) = some (Int32.ofInt ((n.val : Nat) : Int)) := by decide +kernel
    exact this ⟨n, hn⟩
  have e2 : ([0, 1, 2, 3, 4, 5, 6, 7, 8, 9, 10, 11, 12, 13, 14, 15, 16, 17] : List Int32).getD (r - 400).toNat 0 = Int32.ofInt (r - 400) := Option.some.inj e1
  refine lv_aload_n cx.1 cx.2.1 dJ0_ordinal_0 rfl (lv_at (by rw [hc.1] at hl; exact hl) 0 rfl) ?_
  refine va_getE (i := (r - 400).toNat) (q := ("java/lang/Enum", "ordinal", "I", [0, 1, 2, 3, 4, 5, 6, 7, 8, 9, 10, 11, 12, 13, 14, 15, 16, 17])) cx.1 cx.2.1 (tm_cs_ cx).1 hi v cx.2.2.2.1 List.mem_cons_self (cx.2.2.2.2.1 _ q1506) (fun _ h9 => h9) dJ0_ordinal_1 ?_
  show W p l e R s m args below meth c H locs _ _ _ (F0 m 4 ls [.int (List.getD _ _ 0)])
  rw [e2]
  exact k1
theorem tm_ordinal (cx : tm_C p l R s m args meth c K cc nL own mn ret fr lo) {index : Nat} {r : Int} (hw : GoodIn lw_all (va_wsU own index "TokenMouth$Command" "java/lang/Enum" ⟨"TokenMouth$Command", "ordinal", "()I"⟩ yJ0_ordinal (ws_ yJ0_ordinal cJ0_ordinal 1 (some .int)))) (hfr : 1 ≤ fr ∧ 20 ≤ lo) (hcat : rest.length ≤ 4) (hls : ls.size = nL) (d : decode cc pc = .ok (.invokevirtual index, 3))
    (kk : 0 ≤ r - 400 ∧ r - 400 < 18 → tm_J p l e R s m args below meth c K FX rt X σ (F0 m (pc + 3) ls (tm_iv (r - 400) :: rest))) : tm_J p l e R s m args below meth c K FX rt (tm_gx (r - 400) 18 X) σ (F0 m pc ls (tm_rv K r :: rest)) := by
  refine tm_gx_ fun hr => ?_
  intro o t h H locs w v
  have hC := tm_ord_met (FX := FX) K l (tm_hst cx) r hr
  have hM := hC σ (.inl (r - 400)) σ rfl
  have hR := cx.2.2.2.2.2.2.2.2.2.1
  obtain ⟨e9, hrecv⟩ := tm_cmd cx v hr
  rw [tm_rv_pos (by omega)] at hM ⊢
  intro T hT X9
  have hro := tm_rooms cx X9 hT w
  refine tm_callK2 (rt1 := 1) (k := fun _ _ => X) (Xf := tm_rt (r - 400) σ) (o1 := .inl (r - 400)) (σ1 := σ) cx rfl (vx_runU (As := []) (rest := rest) (C := "TokenMouth$Command") (owner := "java/lang/Enum") (x := ⟨"TokenMouth$Command", "ordinal", "()I"⟩) ⟨cx.1, cx.2.1, cx.2.2.1, cx.2.2.2.1, cx.2.2.2.2.1⟩ hM (va_cwU 0 cx.2.2.2.2.1 hw rfl rfl rfl rfl ⟨by decide +kernel, by decide +kernel, by decide +kernel⟩ (by rw [hR.1, hR.2.1]; exact ⟨hfr.1, hfr.2⟩)) ⟨tm_blind, hrecv, fun U hU hW => ⟨rfl, tm_vm_go cx.2.2.2.2.2.2.2.2.1 v hU hW, by rw [hU]; exact w⟩⟩ rfl rfl hls rfl (lv_room (tm_cat8 hcat)) d hro.1) hro.2.1 hro.2.2 v h (fun x hx _ => ?_) T hT X9
  cases hx
  exact kk hr
/-- new X(); throw -/
theorem tm_throw (cx : tm_C p l R s m args meth c K cc nL own mn ret fr lo) {e9 ik ic : Nat} {names : List String} (hcls : Bundle.fit (tm_exn e9) = true) (hnames : ∀ n ∈ names, Bundle.fit n = true) (hk : Cond.classLink own ik (tm_exn e9) ∈ lw_all) (hini : Cond.initialized (tm_exn e9) ∈ lw_all) (hat : ∀ w ∈ vx_at0 own ic (tm_exn e9) names, w.before args s = true) (hgood : ∀ w ∈ Cond.classLink own ik (tm_exn e9) :: Cond.initialized (tm_exn e9) :: vx_at0 own ic (tm_exn e9) names, vx_ot w = true)
    (hfr : names.length + 4 ≤ fr ∧ 13 * (names.length + 1) + 50 ≤ lo) (hcat : rest.length ≤ 4) (hls : ls.size = nL) (d0 : decode cc pc = .ok (.new ik, 3)) (d3 : decode cc (pc + 3) = .ok (.dup, 1)) (d4 : decode cc (pc + 4) = .ok (.invokespecial ic, 3)) (d7 : decode cc (pc + 7) = .ok (.athrow, 1)) : tm_J p l e R s m args below meth c K FX rt (tm_gn σ 6 (tm_th e9 σ)) σ (F0 m pc ls rest) := by
  refine tm_gn_ fun hg => ?_
  intro o t h H locs w v
  cases h
  have hts := cx.2.2.2.2.1
  have hR := cx.2.2.2.2.2.2.2.2.2.1
  have h8 := tm_cat8 hcat
  intro T hT X9
  have hlow := tm_low (H0 := H) (A := tm_A K) X9
  rw [hT] at hlow
  have w3 := w.2.2.1
  have w4 := w.2.2.2.1
  have w8 := w.2.2.2.2.2.2.2
  refine (?_ : W p l e R s m args below meth c H locs _ _ _ _) T hT X9
  exact vx_throw0 (A := tm_A K) cx.1 cx.2.1 (tm_hst cx) cx.2.2.2.1 hcls hnames (hts _ hk) (hts _ hini) hat hgood (tm_cs_ cx).2.1 (tm_cs_ cx).2.2.1 v (by rw [cx.2.2.1]; exact hls) d0 d3 d4 d7 (fun x hx => absurd hx (cx.2.2.2.2.2.2.1 x)) (by omega) (by omega) (by omega) (by omega) cx.2.2.2.2.2.1
    (fun t hW hz hq => ⟨⟨e9, rfl, rfl⟩, ⟨tm_W_kept w.1 hz hq, w.2.1, fun q hq9 => w.2.2.2.2.2.2.1 q (by omega)⟩, ⟨Nat.le_trans v.1 hz, fun q h1 h2 => (hq q (Nat.lt_of_lt_of_le h1 v.1)).trans (v.2.1 q h1 h2)⟩⟩) v.2.2 (by omega) (by omega)
theorem tm_aast (cx : tm_C p l R s m args meth c K cc nL own mn ret fr lo) {a n i x : Int} (hfam : tm_fam FX) (hk : tm_hf FX σ → tm_k σ a = 25 ∧ tm_n σ a = n) (hx4 : tm_k σ x = 4) (hi : tm_in i) (hx : tm_in x) (d : decode cc pc = .ok (.aastore, 1)) (kk : tm_J p l e R s m args below meth c K FX rt X (tm_wa σ a i x) (F0 m (pc + 1) ls rest)) : tm_J p l e R s m args below meth c K FX rt (tm_gx i n X) σ (F0 m pc ls (tm_rv K x :: tm_iv i :: tm_rv K a :: rest)) := by
  refine tm_gx_ fun hg => ?_
  intro o t h H locs w v
  obtain ⟨hkr, hn⟩ := hk w.2.1
  obtain ⟨g1, g2, g3, g4⟩ := w.1.1 a (by rw [hkr]; omega)
  obtain ⟨hat, hA⟩ := g3 (by rw [hkr]; omega)
  rw [tm_ent_ref hkr (by omega)] at hat
  have hK := cx.2.2.2.2.2.2.2.2.1.1
  obtain ⟨gx, cellV, v1, v2, v3⟩ := tm_recv cx tm_cd_X5 w hx4
  obtain ⟨kA, comp, k1, k2, k3, -⟩ := (hK.2 5 _ rfl).2
  obtain ⟨kE, hkE, -⟩ := Vm.findClass_spec k3
  obtain ⟨c0, t1, f1, f2, f3⟩ := Cond.castable_spec (va_Nw.use (A := args) rfl ((tm_nw_ cx).2.2.1 ("TokenMouth$Name", "java/lang/Object") (by decide +kernel)))
  cases v3.symm.trans f1
  cases k3.symm.trans f2
  obtain ⟨kC, hkC, -⟩ := Vm.findClass_spec v3
  have hlt : (Int32.ofInt i).toNatClampNeg < (tm_n σ a).toNat := by rw [tm_I_cl hi, hn]; omega
  have hnn : ¬ Int32.ofInt i < 0 := fun h9 => by have := (tm_Z_lt hi).mp h9; omega
  rw [tm_rv_pos g1, tm_rv_pos gx]
  refine W.aast cx.1 cx.2.1 hat (fun q h => by cases h) (fun h => by cases h) k1 k2 rfl hkE ⟨hnn, by show _ < (arrV _ _ _).slots.size; rw [arrV_size]; exact hlt⟩ v1 (fun q h => by rw [h] at v2; cases v2) hkC f3 rfl rfl d fun H1 e1 e2 e3 => ?_
  have eh := tm_hs_put hat e1 (tm_setSlot_size _ _ _) e3
  rw [tm_I_cl hi, ← tm_rv_pos gx] at e1
  have k9 := kk o t h H1 (locs ++ [⟨tm_ad K a, (Int32.ofInt i).toNatClampNeg⟩]) (tm_wd_wa w (tm_refarr_W (by omega) (by omega) w.1 hkr hg.1 hx e1 e2 e3) (tm_fam_ne hfam w.2.1 hkr (by omega)) e2 eh) (va_S.put v e2 e3 hA)
  rw [e2, eh] at k9
  exact k9
theorem tm_aastN (cx : tm_C p l R s m args meth c K cc nL own mn ret fr lo) {a n i : Int} (hfam : tm_fam FX) (hk : tm_hf FX σ → tm_k σ a = 25 ∧ tm_n σ a = n) (hi : tm_in i) (d : decode cc pc = .ok (.aastore, 1)) (kk : tm_J p l e R s m args below meth c K FX rt X (tm_wa σ a i (-1)) (F0 m (pc + 1) ls rest)) : tm_J p l e R s m args below meth c K FX rt (tm_gx i n X) σ (F0 m pc ls (tm_rv K (-1) :: tm_iv i :: tm_rv K a :: rest)) := by
  refine tm_gx_ fun hg => ?_
  intro o t h H locs w v
  obtain ⟨hkr, hn⟩ := hk w.2.1
  obtain ⟨g1, g2, g3, g4⟩ := w.1.1 a (by rw [hkr]; omega)
  obtain ⟨hat, hA⟩ := g3 (by rw [hkr]; omega)
  rw [tm_ent_ref hkr (by omega)] at hat
  rw [tm_rv_pos g1]
  refine va_WaastN (C := "java/lang/Object") cx.1 cx.2.1 hat ((tm_ch_ cx 5 rfl) (tm_n σ a).toNat (fun j => va_rf (tm_ro K (tm_a σ a (j : Int))))) (fun h => by cases h) (by show ¬ (_ < 0 ∨ (arrV _ _ _).slots.size ≤ _); rw [arrV_size, hn]; exact tm_I_in hg hi) rfl rfl d fun H1 e1 e2 e3 => ?_
  have eh := tm_hs_put hat e1 (tm_setSlot_size _ _ _) e3
  rw [tm_I_cl hi] at e1
  have k9 := kk o t h H1 (locs ++ [⟨tm_ad K a, (Int32.ofInt i).toNatClampNeg⟩]) (tm_wd_wa w (tm_refarr_W (by omega) (by omega) w.1 hkr hg.1 (by decide) e1 e2 e3) (tm_fam_ne hfam w.2.1 hkr (by omega)) e2 eh) (va_S.put v e2 e3 hA)
  rw [e2, eh] at k9
  exact k9
/-- a switch on x, at one of its numbers, and off them -/
theorem tm_swIn (cx : tm_C p l R s m args meth c K cc nL own mn ret fr lo) {x : Int} {dflt lo9 hi9 : Int} {offs : Array Int} {len tgt : Nat} {off : Int} (hx : tm_in x) (d : decode cc pc = .ok (.tableswitch dflt lo9 hi9 offs, len)) (h1 : lo9 ≤ x ∧ x ≤ hi9) (ho : offs[(x - lo9).toNat]? = some off) (ht : (pc : Int) + off = (tgt : Int)) (k : tm_J p l e R s m args below meth c K FX rt X σ (F0 m tgt ls rest)) : tm_J p l e R s m args below meth c K FX rt X σ (F0 m pc ls (tm_iv x :: rest)) :=
  fun o t h H locs w v => lv_tableIn cx.1 cx.2.1 d (by rw [tm_I hx]; omega) (by rw [tm_I hx]; omega) (by rw [tm_I hx]; exact ho) ht (k o t h H locs w v)
theorem tm_swOut (cx : tm_C p l R s m args meth c K cc nL own mn ret fr lo) {x : Int} {dflt lo9 hi9 : Int} {offs : Array Int} {len tgt : Nat} (hx : tm_in x) (d : decode cc pc = .ok (.tableswitch dflt lo9 hi9 offs, len)) (h1 : x < lo9 ∨ hi9 < x ∨ offs[(x - lo9).toNat]? = some dflt) (ht : (pc : Int) + dflt = (tgt : Int)) (k : tm_J p l e R s m args below meth c K FX rt X σ (F0 m tgt ls rest)) : tm_J p l e R s m args below meth c K FX rt X σ (F0 m pc ls (tm_iv x :: rest)) := by
  by_cases h2 : x < lo9 ∨ hi9 < x
  · exact fun o t h H locs w v => lv_tableOut cx.1 cx.2.1 d (by rw [tm_I hx]; exact h2) ht (k o t h H locs w v)
  · exact tm_swIn cx hx d (by omega) (by rcases h1 with h1 | h1 | h1; · omega
                                         · omega
                                         · exact h1) ht k
theorem tm_mmax (cx : tm_C p l R s m args meth c K cc nL own mn ret fr lo) {index : Nat} {x y : Int} (hl : Cond.methodLink own index Lib.Math.max.name ∈ lw_all) (hs : Cond.static Lib.Math.max.name ∈ lw_all) (hi : Cond.initialized "java/lang/Math" ∈ lw_all) (hc : Cond.code Lib.Math.max.name Lib.Math.max.code 2 (some .int) ∈ lw_all) (hx : tm_in x) (hy : tm_in y) (hfr : 1 ≤ fr ∧ 29 ≤ lo) (hcat : rest.length ≤ 4) (hls : ls.size = nL) (d : decode cc pc = .ok (.invokestatic index, 3))
    (kk : tm_in (tm_max x y) → tm_J p l e R s m args below meth c K FX rt X σ (F0 m (pc + 3) ls (tm_iv (tm_max x y) :: rest))) : tm_J p l e R s m args below meth c K FX rt X σ (F0 m pc ls (tm_iv y :: tm_iv x :: rest)) := by
  intro o t h H locs w v
  have hts := cx.2.2.2.2.1
  have hR := cx.2.2.2.2.2.2.2.2.2.1
  have h8 := tm_cat8 hcat
  have hin : tm_in (tm_max x y) := by unfold tm_max; split <;> assumption
  have k1 := kk hin o t h H locs w v
  intro T hT X9
  have hlow := tm_low (H0 := H) (A := tm_A K) X9
  rw [hT] at hlow
  have w3 := w.2.2.1
  have w4 := w.2.2.2.1
  have w5 := w.2.2.2.2.1
  have w6 := w.2.2.2.2.2.1
  refine (?_ : W p l e R s m args below meth c H locs _ _ _ _) T hT X9
  refine va_mmax cx.1 cx.2.1 (by rw [cx.2.2.1]; exact hls.symm) cx.2.2.2.1 (hts _ hl) (hts _ hs) (hts _ hi) (hts _ hc) (by omega) (by omega) (by omega) (by omega) d ?_
  have e9 : (if Int32.ofInt x < Int32.ofInt y then Int32.ofInt y else Int32.ofInt x) = Int32.ofInt (tm_max x y) := by
    unfold tm_max
    by_cases h9 : x < y
    · rw [if_pos h9, if_pos ((tm_I_lt hx hy).mpr h9)]
    · rw [if_neg h9, if_neg (fun z => h9 ((tm_I_lt hx hy).mp z))]
  rw [e9]
  exact k1
theorem tm_dup_x1_rr (cx : tm_C p l R s m args meth c K cc nL own mn ret fr lo) {x y : Int} (d : decode cc pc = .ok (.dup_x1, 1)) (k : tm_J p l e R s m args below meth c K FX rt X σ (F0 m (pc + 1) ls (tm_rv K x :: tm_rv K y :: tm_rv K x :: rest))) : tm_J p l e R s m args below meth c K FX rt X σ (F0 m pc ls (tm_rv K x :: tm_rv K y :: rest)) :=
  fun o t h H locs w v => lv_dup_x1 cx.1 cx.2.1 d (tm_rv_cat K x) (tm_rv_cat K y) (k o t h H locs w v)
theorem tm_ldc (cx : tm_C p l R s m args meth c K cc nL own mn ret fr lo) {n : Int} {index : Nat} {v9 : Int32} (hq : Cond.constant own index v9 ∈ lw_all) (d : decode cc pc = .ok (.ldc index, 2)) (hv : v9 = Int32.ofInt n) (k : tm_J p l e R s m args below meth c K FX rt X σ (F0 m (pc + 2) ls (tm_iv n :: rest))) : tm_J p l e R s m args below meth c K FX rt X σ (F0 m pc ls rest) := by
  subst hv
  exact fun o t h H locs w v => lv_ldc cx.1 cx.2.1 cx.2.2.2.1 (cx.2.2.2.2.1 _ hq) d (k o t h H locs w v)
theorem tm_getO (cx : tm_C p l R s m args meth c K cc nL own mn ret fr lo) {ci j k N index : Nat} {C ref : String} {T : u_T} {ty : Nat → FieldType} {r : Int} (cd : tm_cd ci C T N ty) (hj : j < N) (hk9 : 64 * ci + j = k) (hl : Cond.fieldLink own index ref (T j).2.1 (T j).2.2.1 ∈ lw_all) (hsm : Cond.sameField ref (T j).1 (T j).2.1 (T j).2.2.1 ∈ lw_all) (hk : tm_hf FX σ → tm_k σ r = ci + 1) (d : decode cc pc = .ok (.getfield index, 3))
    (kk : tm_in (tm_f σ k r) → tm_hf FX σ → tm_J p l e R s m args below meth c K FX rt X σ (F0 m (pc + 3) ls (tm_fv K k (tm_f σ k r) :: rest))) : tm_J p l e R s m args below meth c K FX rt X σ (F0 m pc ls (tm_rv K r :: rest)) := by
  intro o t h H locs w v
  subst hk9
  obtain ⟨hc, hin, hN, hci, -, -⟩ := cd
  have hkr := hk w.2.1
  obtain ⟨g1, g2, g3, g4⟩ := w.1.1 r (by rw [hkr]; omega)
  have hat := (g3 (by rw [hkr]; omega)).1
  rw [tm_ent_obj hkr hci] at hat
  have k1 := kk (w.1.2.2.1 _ r) w.2.1 o t h H locs w v
  rw [tm_rv_pos g1]
  exact va_get (ws := [(tm_ad K r, .inr (ci, tm_fl K σ r ci))]) cx.1 cx.2.1 cx.2.2.2.2.1 hin cx.2.2.2.1 cx.2.2.2.2.2.2.2.2.1.1 (tm_at_one hat) 0 rfl hc j hj (cx.2.2.2.2.1 _ hl) (u_same (cx.2.2.2.2.1 _ hsm)) (tm_fl_at K σ r (by rw [hN]; exact hj)) d k1
theorem tm_putO (cx : tm_C p l R s m args meth c K cc nL own mn ret fr lo) {ci j k N index : Nat} {C ref : String} {T : u_T} {ty : Nat → FieldType} {r x : Int} (cd : tm_cd ci C T N ty) (hj : j < N) (hk9 : 64 * ci + j = k) (hl : Cond.fieldLink own index ref (T j).2.1 (T j).2.2.1 ∈ lw_all) (hsm : Cond.sameField ref (T j).1 (T j).2.1 (T j).2.2.1 ∈ lw_all) (hfin : (T j).2.2.2 = false) (hfx : (FX.1.all fun q => q.1 != k) = true) (hn : narrow (ty j) (tm_fv K k x) = tm_fv K k x) (hfit : fits (ty j) (tm_fv K k x) = true) (hx : tm_in x)
    (hk : tm_hf FX σ → tm_k σ r = ci + 1) (d : decode cc pc = .ok (.putfield index, 3)) (kk : tm_J p l e R s m args below meth c K FX rt X (tm_wf σ k r x) (F0 m (pc + 3) ls rest)) : tm_J p l e R s m args below meth c K FX rt X σ (F0 m pc ls (tm_fv K k x :: tm_rv K r :: rest)) := by
  intro o t h H locs w v
  have cd9 := cd
  obtain ⟨hc, hin, hN, hci, hty, hnm⟩ := cd
  have hkr := hk w.2.1
  obtain ⟨g1, g2, g3, g4⟩ := w.1.1 r (by rw [hkr]; omega)
  obtain ⟨hat, hA⟩ := g3 (by rw [hkr]; omega)
  rw [tm_ent_obj hkr hci] at hat
  have hts := cx.2.2.2.2.1
  have hown := cx.2.2.2.1
  have hK := cx.2.2.2.2.2.2.2.2.1.1
  have hap := va_apart (own := own) hts hin ty hty hnm hK hc
  obtain ⟨r9, h1, cell, q1, q2, q3, q4⟩ := hat
  have hr : r9 = (C, T, N) := Option.some.inj (h1.symm.trans hc)
  subst hr
  obtain ⟨hS, hfc, kC, hkC, hkind⟩ := hK.1 ci _ hc
  obtain ⟨cf, kf, fi, f, hi, hsl⟩ := hS j hj
  have hlay := hts _ (hin _ (u_in_lay hj))
  unfold u_lay at hlay
  rw [if_neg (by rw [hfin]; decide)] at hlay
  have hst := (u_facts hfc hkC (u_lays hts hin hj) hi).1
  have h6 := u_store hfc hkC hkind hlay hi (hty j hj) hn hfit
  rw [tm_rv_pos g1]
  refine W.putK cx.1 cx.2.1 (f := f) ⟨hown, hts _ hl, ⟨_, _, _, u_same (hts _ hsm) _ hi⟩, hst⟩ (by rw [q2]; exact h6) q1 q3 (by rw [hsl]; exact k2_hasslot (q4 j hj)) rfl rfl d fun H1 e1 e2 e3 => ?_
  have eh := tm_hs_put q1 e1 (tm_setSlot_size _ _ _) e3
  rw [hsl] at e1
  have k1 := kk o t h H1 (locs ++ [⟨tm_ad K r, f.slot⟩]) (tm_wd_wf w (tm_put_W cd9 hj hk9 w.1 hkr hx q2 q3 q4 hap e1 e2 e3) hfx e2 eh) (va_S.put v e2 e3 hA)
  rw [e2, eh] at k1
  exact k1
end TMI
theorem tm_in18 {x : Int} (h : 0 ≤ x ∧ x < 18) : tm_in x := by omega
theorem tm_lwF {own : String} {idx : Nat} {C : String} {x y : MethodName} {b : ByteArray} {L : Nat} {r : Option FieldType} (h1 : Cond.methodLink own idx x ∈ lw_all) (h2 : Cond.selects C x y ∈ lw_all) (h3 : Cond.instanceMethod y ∈ lw_all) (h4 : Cond.initialized y.cls ∈ lw_all) (h5 : Cond.code y b L r ∈ lw_all) : GoodIn lw_all (va_wsF own idx C x y (ws_ y b L r)) := by
  refine lw_app ?_ (lw_meth h5)
  intro w hw
  simp only [List.mem_cons, List.not_mem_nil, or_false] at hw
  rcases hw with e | e | e | e
  · rw [e]; exact h1
  · rw [e]; exact h2
  · rw [e]; exact h3
  · rw [e]; exact h4
theorem tm_lwU {own : String} {idx : Nat} {C owner : String} {x y : MethodName} {b : ByteArray} {L : Nat} {r : Option FieldType} (h1 : Cond.methodLink own idx x ∈ lw_all) (h2 : Cond.sameMethod x.cls owner x.name x.desc ∈ lw_all) (h3 : Cond.selects C x y ∈ lw_all) (h4 : Cond.instanceMethod y ∈ lw_all) (h5 : Cond.initialized y.cls ∈ lw_all) (h6 : Cond.code y b L r ∈ lw_all) : GoodIn lw_all (va_wsU own idx C owner x y (ws_ y b L r)) := by
  refine lw_app ?_ (lw_meth h6)
  intro w hw
  simp only [List.mem_cons, List.not_mem_nil, or_false] at hw
  rcases hw with e | e | e | e | e
  · rw [e]; exact h1
  · rw [e]; exact h2
  · rw [e]; exact h3
  · rw [e]; exact h4
  · rw [e]; exact h5
theorem tm_df5 (K : tm_K) : ∀ j, j < 4 → defaultValue (tyX5 j) = tm_fv K (64 * 3 + j) (if tm_rc (64 * 3 + j) = true then -1 else 0) := by
  intro j hj
  have : j = 0 ∨ j = 1 ∨ j = 2 ∨ j = 3 := by omega
  rcases this with rfl | rfl | rfl | rfl <;> rfl
theorem tm_df8 (K : tm_K) : ∀ j, j < 1 → defaultValue (tyX8 j) = tm_fv K (64 * 4 + j) (if tm_rc (64 * 4 + j) = true then -1 else 0) := by
  intro j hj
  have : j = 0 := by omega
  rcases this with rfl <;> rfl
theorem tm_df7 (K : tm_K) : ∀ j, j < 3 → defaultValue (tyX7 j) = tm_fv K (64 * 5 + j) (if tm_rc (64 * 5 + j) = true then -1 else 0) := by
  intro j hj
  have : j = 0 ∨ j = 1 ∨ j = 2 := by omega
  rcases this with rfl | rfl | rfl <;> rfl
theorem tm_narA (K : tm_K) (t : FieldType) (x : Int) : narrow (.array t) (tm_rv K x) = tm_rv K x := by
  rcases tm_rv_or K x with e | ⟨a, e⟩ <;> rw [e] <;> rfl
theorem tm_fitA (K : tm_K) (t : FieldType) (x : Int) : fits (.array t) (tm_rv K x) = true := by
  rcases tm_rv_or K x with e | ⟨a, e⟩ <;> rw [e] <;> rfl
theorem tm_fitZ {x : Int} (h : x = 0 ∨ x = 1) : fits .boolean (.int (Int32.ofInt x)) = true := by
  rcases h with rfl | rfl <;> rfl
