/-! ROWS FOR THE COMPONENT, 2: what is made, constructors, nest mates, interfaces, throws -/
theorem tm_ent_new_int {K : tm_K} {σ : tm_S} {k : Nat} {n : Int} {z : Nat} (h20 : 20 ≤ k) (h25 : k < 25) : tm_ent K (tm_ne σ k n z) (1000 + (tm_c σ : Int)) = .inl (tm_CA K k, n.toNat, .inl fun _ => Int32.ofInt 0) := by
  rw [tm_ent_int (k := k) (by rw [tm_k_ne, if_pos rfl]) h20 h25, tm_n_ne, if_pos rfl]
  congr 4
  funext j
  rw [tm_a_ne, if_pos rfl, if_neg (by omega)]
theorem tm_ent_new_ref {K : tm_K} {σ : tm_S} {k : Nat} {n : Int} {z : Nat} (h25 : 25 ≤ k) : tm_ent K (tm_ne σ k n z) (1000 + (tm_c σ : Int)) = .inl (tm_CA K k, n.toNat, .inr (.inr (.inr (.inr fun _ => none)))) := by
  rw [tm_ent_ref (k := k) (by rw [tm_k_ne, if_pos rfl]) h25, tm_n_ne, if_pos rfl]
  congr 7
  funext j
  rw [tm_a_ne, if_pos rfl, if_pos h25]
  rfl
theorem tm_refarr_W {K : tm_K} {σ : tm_S} {H H1 : Heap} {a i x : Int} {k : Nat} (h25 : 25 ≤ k) (h38 : k < 38) (hw : tm_W K σ H) (hk : tm_k σ a = k) (hi : 0 ≤ i) (hx : tm_in x)
    (e1 : H1[tm_ad K a]? = some ((vp_cell (tm_CA K k) ((tm_n σ a).toNat, .inr (.inr (.inr (.inr fun j => tm_ro K (tm_a σ a (j : Int))))))).setSlot i.toNat (tm_rv K x))) (e2 : H1.size = H.size) (e3 : ∀ q : Nat, q ≠ tm_ad K a → H1[q]? = H[q]?) : tm_W K (tm_wa σ a i x) H1 := by
  refine tm_W_put hw (by rw [hk]; omega) ?_ e2 e3 (fun _ => rfl) (fun _ => rfl) (fun q hq => ⟨fun _ => rfl, fun j => ?_⟩) hw.2.2.1 (tm_ra_wa hw.2.2.2.1 hx)
  · rw [tm_ent_ref (σ := tm_wa σ a i x) hk h25]
    show H1[tm_ad K a]? = some (vp_cell _ _)
    rw [e1, vp_cell_q, vp_cell_q, arrV_store]
    congr 2
    funext j
    unfold updV
    rw [tm_a_wa]
    by_cases hj : j = i.toNat
    · rw [if_pos hj, if_pos ⟨rfl, by omega⟩]
      rfl
    · rw [if_neg hj, if_neg (fun h => hj (by omega))]
  · rw [tm_a_wa, if_neg (fun h => hq h.1)]
section TMN
variable {p : Program} {l : Launch} {e : Env} {R : Room} {s : State} {m : MethodId} {args : Array Value} {below : List Frame} {meth : Method} {c : Code} {K : tm_K} {FX : tm_X0} {rt : Nat} {cc : ByteArray} {nL : Nat} {own mn : String} {ret : Option FieldType} {fr lo : Nat} {pc : Nat} {ls : Array Slot} {rest : List Value} {X A B : tm_R} {σ : tm_S} {lg : Nat}
theorem tm_mk (cx : tm_C p l R s m args meth c K cc nL own mn ret fr lo) {ci N index : Nat} {C : String} {T : u_T} {ty : Nat → FieldType} (cd : tm_cd ci C T N ty) (hfam : tm_fam FX) (hcl : Cond.classLink own index C ∈ lw_all) (hinst : Cond.instantiable C N ∈ lw_all) (hini : Cond.initialized C ∈ lw_all) (hdef : ∀ j, j < N → defaultValue (ty j) = tm_fv K (64 * ci + j) (if tm_rc (64 * ci + j) = true then -1 else 0)) (d : decode cc pc = .ok (.new index, 3))
    (kk : tm_in (1000 + (tm_c σ : Int)) → tm_J p l e R s m args below meth c K FX rt X (tm_ne σ (ci + 1) 0 N) (F0 m (pc + 3) ls (tm_rv K (1000 + (tm_c σ : Int)) :: rest))) : tm_J p l e R s m args below meth c K FX rt (tm_gn σ N X) σ (F0 m pc ls rest) := by
  refine tm_gn_ fun hg => ?_
  intro o t h H locs w v
  obtain ⟨hc, hin, hN, hci, hty, hnm⟩ := cd
  have hts := cx.2.2.2.2.1
  have hK := cx.2.2.2.2.2.2.2.2.1.1
  have hKn := hK.1 ci _ hc
  have hR := cx.2.2.2.2.2.2.2.2.2.1
  intro T9 hT9 X9
  have hlow := tm_low (H0 := H) (A := tm_A K) X9
  rw [hT9] at hlow
  have w3 := w.2.2.1
  have w4 := w.2.2.2.1
  have w8 := w.2.2.2.2.2.2.2
  refine (?_ : W p l e R s m args below meth c H locs _ _ _ _) T9 hT9 X9
  refine W.newc (C := C) cx.1 cx.2.1 cx.2.2.2.1 (hts _ hcl) (hts _ hinst) (hts _ hini) rfl d (by omega) (by omega) fun cC kC h1 h2 h3 h4 => ?_
  cases hKn.2.1.symm.trans h1
  have e0 : (H.push { cls := (tm_D K).1 ci, slots := kC.instanceTypes.map defaultValue, vm := .none })[H.size]? = some (blank ((tm_D K).1 ci) kC) := by simp [blank]
  have ez : (H.push { cls := (tm_D K).1 ci, slots := kC.instanceTypes.map defaultValue, vm := .none }).size = H.size + 1 := by simp
  have eo : ∀ q : Nat, q < H.size → (H.push { cls := (tm_D K).1 ci, slots := kC.instanceTypes.map defaultValue, vm := .none })[q]? = H[q]? := fun q hq => by rw [Array.getElem?_push, if_neg (Nat.ne_of_lt hq)]
  generalize H.push { cls := (tm_D K).1 ci, slots := kC.instanceTypes.map defaultValue, vm := .none } = H1 at e0 ez eo ⊢
  have hbz : (blank ((tm_D K).1 ci) kC).slots.size = N := by show (kC.instanceTypes.map defaultValue).size = N; rw [Array.size_map]; exact h4
  have wd := tm_Wd_new (k := ci + 1) (n := 0) w hfam (by omega) (by omega) ⟨by decide, by decide⟩ hg ez eo e0 hbz (by
    rw [tm_ent_obj (ci := ci) (by rw [tm_k_ne, if_pos rfl]) hci]
    refine ⟨_, hc, ?_⟩
    rw [← w3]
    refine (u_born ty hts hin hKn h2 e0 hty).to fun j hj => ?_
    rw [tm_vp_fl K _ _ (by rw [hN]; exact hj), tm_f_ne, w3, if_pos rfl]
    exact hdef j hj)
  have k1 := kk (by omega) o t h H1 locs wd ⟨by omega, fun q g1 g2 => (eo q (by omega)).trans (v.2.1 q g1 g2), v.2.2⟩
  rw [tm_rv_pos (by omega), tm_ad_new, ← w3] at k1
  exact tm_lower k1
theorem tm_mka (cx : tm_C p l R s m args meth c K cc nL own mn ret fr lo) {atype : ArrayType} {k pl : Nat} {n : Int} (hfam : tm_fam FX) (harr : Cond.arrayClass (newarray.typeOf atype) ∈ lw_all) (hpl : (tm_tys K)[pl]? = some (tm_CA K k, newarray.typeOf atype)) (hk : 20 ≤ k ∧ k < 25) (hdv : defaultValue (newarray.typeOf atype) = .int 0) (hcb : componentBytes (newarray.typeOf atype) ≤ 4) (hprim : va_RA s (tm_CA K k) (newarray.typeOf atype) → s.vm.findClass ("[" ++ (newarray.typeOf atype).toString) = some (tm_CA K k)) (hn : tm_in n) (d : decode cc pc = .ok (.newarray atype, 2))
    (kk : tm_in (1000 + (tm_c σ : Int)) → tm_J p l e R s m args below meth c K FX rt X (tm_ne σ k n n.toNat) (F0 m (pc + 2) ls (tm_rv K (1000 + (tm_c σ : Int)) :: rest))) : tm_J p l e R s m args below meth c K FX rt (tm_gx n 1000000 (tm_gn σ n.toNat X)) σ (F0 m pc ls (tm_iv n :: rest)) := by
  refine tm_gx_ fun hx => ?_
  refine tm_gn_ fun hg => ?_
  intro o t h H locs w v
  have hts := cx.2.2.2.2.1
  have hK := cx.2.2.2.2.2.2.2.2.1.1
  have hR := cx.2.2.2.2.2.2.2.2.2.1
  intro T9 hT9 X9
  have hlow := tm_low (H0 := H) (A := tm_A K) X9
  rw [hT9] at hlow
  have w3 := w.2.2.1
  have w4 := w.2.2.2.1
  have w8 := w.2.2.2.2.2.2.2
  refine (?_ : W p l e R s m args below meth c H locs _ _ _ _) T9 hT9 X9
  refine va_newaK (N := n.toNat) cx.1 cx.2.1 (hts _ harr) rfl d rfl (fun h9 => by have := (tm_Z_lt hn).mp h9; omega) (tm_I_cl hn) (by
    have : n.toNat * componentBytes (newarray.typeOf atype) ≤ n.toNat * 4 := Nat.mul_le_mul_left _ hcb
    omega) (by omega) (by omega) rfl fun H1 cA e0 ez eo hAr hNm => ?_
  have hcA : cA = tm_CA K k := Option.some.inj (hNm.symm.trans (hprim (hK.2 pl _ hpl).2))
  subst hcA
  have wd := tm_Wd_new (k := k) (n := n) (z := n.toNat) w hfam (by omega) (by omega) ⟨hx.1, hn.2⟩ hg ez eo e0 (arrV_size _ _ _) (by
    rw [tm_ent_new_int hk.1 hk.2]
    show H1[_]? = some (vp_cell _ _)
    rw [← w3, e0, vp_cell_i, hdv]
    rfl)
  have k1 := kk (by omega) o t h H1 locs wd ⟨by omega, fun q g1 g2 => (eo q (by omega)).trans (v.2.1 q g1 g2), v.2.2⟩
  rw [tm_rv_pos (by omega), tm_ad_new, ← w3] at k1
  exact tm_lower k1
theorem tm_newarray_byte (cx : tm_C p l R s m args meth c K cc nL own mn ret fr lo) {n : Int} (hfam : tm_fam FX) (hn : tm_in n) (d : decode cc pc = .ok (.newarray .byte, 2)) (kk : tm_in (1000 + (tm_c σ : Int)) → tm_J p l e R s m args below meth c K FX rt X (tm_ne σ 20 n n.toNat) (F0 m (pc + 2) ls (tm_rv K (1000 + (tm_c σ : Int)) :: rest))) : tm_J p l e R s m args below meth c K FX rt (tm_gx n 1000000 (tm_gn σ n.toNat X)) σ (F0 m pc ls (tm_iv n :: rest)) :=
  tm_mka cx (atype := .byte) (k := 20) (pl := 0) hfam q171 rfl (by decide) rfl (by decide) (fun h => h) hn d kk
theorem tm_newarray_short (cx : tm_C p l R s m args meth c K cc nL own mn ret fr lo) {n : Int} (hfam : tm_fam FX) (hn : tm_in n) (d : decode cc pc = .ok (.newarray .short, 2)) (kk : tm_in (1000 + (tm_c σ : Int)) → tm_J p l e R s m args below meth c K FX rt X (tm_ne σ 21 n n.toNat) (F0 m (pc + 2) ls (tm_rv K (1000 + (tm_c σ : Int)) :: rest))) : tm_J p l e R s m args below meth c K FX rt (tm_gx n 1000000 (tm_gn σ n.toNat X)) σ (F0 m pc ls (tm_iv n :: rest)) :=
  tm_mka cx (atype := .short) (k := 21) (pl := 1) hfam q191 rfl (by decide) rfl (by decide) (fun h => h) hn d kk
theorem tm_anewO (cx : tm_C p l R s m args meth c K cc nL own mn ret fr lo) {index : Nat} {n : Int} (hfam : tm_fam FX) (hcl : Cond.classLink own index "java/lang/Object" ∈ lw_all) (hn : tm_in n) (d : decode cc pc = .ok (.anewarray index, 3))
    (kk : tm_in (1000 + (tm_c σ : Int)) → tm_J p l e R s m args below meth c K FX rt X (tm_ne σ 25 n n.toNat) (F0 m (pc + 3) ls (tm_rv K (1000 + (tm_c σ : Int)) :: rest))) : tm_J p l e R s m args below meth c K FX rt (tm_gx n 1000000 (tm_gn σ n.toNat X)) σ (F0 m pc ls (tm_iv n :: rest)) := by
  refine tm_gx_ fun hx => ?_
  refine tm_gn_ fun hg => ?_
  intro o t h H locs w v
  have hts := cx.2.2.2.2.1
  have hK := cx.2.2.2.2.2.2.2.2.1.1
  have hR := cx.2.2.2.2.2.2.2.2.2.1
  intro T9 hT9 X9
  have hlow := tm_low (H0 := H) (A := tm_A K) X9
  rw [hT9] at hlow
  have w3 := w.2.2.1
  have w4 := w.2.2.2.1
  have w8 := w.2.2.2.2.2.2.2
  have hcl9 := tm_I_cl hn
  refine (?_ : W p l e R s m args below meth c H locs _ _ _ _) T9 hT9 X9
  refine W.anew (C := "java/lang/Object") cx.1 cx.2.1 cx.2.2.2.1 (hts _ hcl) (va_AO.use (tm_nw_ cx).2.2.2.2.2.2.1) rfl d rfl (fun h9 => by have := (tm_Z_lt hn).mp h9; omega) (by rw [hcl9]; omega) (by omega) (by rw [hcl9]; omega) fun cA kA comp h1 h2 h3 h4 => ?_
  obtain ⟨kA9, comp9, g1, g2, g3, g4⟩ := (hK.2 5 _ rfl).2
  have hcA : cA = tm_CA K 25 := Option.some.inj (h1.symm.trans g4)
  subst hcA
  rw [hcl9]
  have e0 : (H.push { cls := tm_CA K 25, slots := Array.replicate n.toNat .null, vm := .none })[H.size]? = some (arrV (tm_CA K 25) n.toNat (fun _ => .null)) := by rw [← arrV_new]; simp
  have ez : (H.push { cls := tm_CA K 25, slots := Array.replicate n.toNat Value.null, vm := .none }).size = H.size + 1 := by simp
  have eo : ∀ q : Nat, q < H.size → (H.push { cls := tm_CA K 25, slots := Array.replicate n.toNat Value.null, vm := .none })[q]? = H[q]? := fun q hq => by rw [Array.getElem?_push, if_neg (Nat.ne_of_lt hq)]
  generalize H.push { cls := tm_CA K 25, slots := Array.replicate n.toNat Value.null, vm := .none } = H1 at e0 ez eo ⊢
  have wd := tm_Wd_new (k := 25) (n := n) (z := n.toNat) w hfam (by omega) (by omega) ⟨hx.1, hn.2⟩ hg ez eo e0 (arrV_size _ _ _) (by
    rw [tm_ent_new_ref (by omega)]
    show H1[_]? = some (vp_cell _ _)
    rw [← w3, e0, vp_cell_q]
    rfl)
  have k1 := kk (by omega) o t h H1 locs wd ⟨by omega, fun q g1 g2 => (eo q (by omega)).trans (v.2.1 q g1 g2), v.2.2⟩
  rw [tm_rv_pos (by omega), tm_ad_new, ← w3] at k1
  exact tm_lower k1
/-- a final field, in its constructor -/
theorem tm_putF (cx : tm_C p l R s m args meth c K cc nL own "<init>" ret fr lo) {ci j k N index : Nat} {C ref : String} {T : u_T} {ty : Nat → FieldType} {r x : Int} (cd : tm_cd ci C T N ty) (hj : j < N) (hk9 : 64 * ci + j = k) (hl : Cond.fieldLink own index ref (T j).2.1 (T j).2.2.1 ∈ lw_all) (hsm : ref = (T j).1) (hfin : (T j).2.2.2 = true) (hdecl : (T j).1 = own) (hfx : (FX.1.all fun q => q.1 != k) = true) (hn : narrow (ty j) (tm_fv K k x) = tm_fv K k x) (hfit : fits (ty j) (tm_fv K k x) = true) (hx : tm_in x)
    (hk : tm_hf FX σ → tm_k σ r = ci + 1) (d : decode cc pc = .ok (.putfield index, 3)) (kk : tm_J p l e R s m args below meth c K FX rt X (tm_wf σ k r x) (F0 m (pc + 3) ls rest)) : tm_J p l e R s m args below meth c K FX rt X σ (F0 m pc ls (tm_fv K k x :: tm_rv K r :: rest)) := by
  intro o t h H locs w v
  have cd9 := cd
  obtain ⟨hc, hin, hN, hci, hty, hnm⟩ := cd
  have hkr := hk w.2.1
  obtain ⟨g1, g2, g3, g4⟩ := w.1.1 r (by rw [hkr]; omega)
  obtain ⟨hat, hA⟩ := g3 (by rw [hkr]; omega)
  rw [tm_ent_obj hkr hci] at hat
  have hts := cx.2.2.2.2.1
  have hown := cx.2.2.2.1
  have hK := cx.2.2.2.2.2.2.2.2.1.1
  have hin2 : meth.name = "<init>" := cx.2.2.2.2.2.2.2.2.2.2.2
  have hap := va_apart (own := own) hts hin ty hty hnm hK hc
  obtain ⟨r9, h1, cell, q1, q2, q3, q4⟩ := hat
  have hr : r9 = (C, T, N) := Option.some.inj (h1.symm.trans hc)
  subst hr
  obtain ⟨hS, hfc, kC, hkC, hkind⟩ := hK.1 ci _ hc
  obtain ⟨cf, kf, fi, f, hi, hsl⟩ := hS j hj
  have hlay := hts _ (hin _ (u_in_lay hj))
  unfold u_lay at hlay
  rw [if_pos hfin] at hlay
  have hst := (u_facts hfc hkC (u_lays hts hin hj) hi).1
  have hcf : m.cls = cf := by
    obtain ⟨_, _, c', _, _, _, -, -, hf', -, -, -, hown2, -⟩ := Cond.laysFinal_spec hlay
    have e1 : c' = cf := by have := hi.symm.trans hf'; simp at this; exact this.1.symm
    rw [hdecl] at hown2
    rw [← e1]; exact Option.some.inj (hown.symm.trans hown2)
  have h6 := u_fits hfc hkC hkind (Or.inr hlay) hi (hty j hj) hn hfit
  rw [tm_rv_pos g1]
  refine W.putFinK cx.1 cx.2.1 hown (hts _ hl) (by rw [hsm]; exact hi) hst hcf hin2 (by rw [q2]; exact h6) q1 q3 (by rw [hsl]; exact k2_hasslot (q4 j hj)) rfl rfl d fun H1 e1 e2 e3 => ?_
  have eh := tm_hs_put q1 e1 (tm_setSlot_size _ _ _) e3
  rw [hsl] at e1
  have k1 := kk o t h H1 (locs ++ [⟨tm_ad K r, f.slot⟩]) (tm_wd_wf w (tm_put_W cd9 hj hk9 w.1 hkr hx q2 q3 q4 hap e1 e2 e3) hfx e2 eh) (va_S.put v e2 e3 hA)
  rw [e2, eh] at k1
  exact k1
theorem tm_objInit (cx : tm_C p l R s m args meth c K cc nL own mn ret fr lo) {index : Nat} {r : Int} (hr : tm_hf FX σ → tm_k σ r ≠ 0) (hl : Cond.methodLink own index Lib.objectInit ∈ lw_all) (hi : Cond.instanceMethod Lib.objectInit ∈ lw_all) (hcode : Cond.code Lib.objectInit ⟨#[0xb1]⟩ 1 none ∈ lw_all) (hfr : 1 ≤ fr ∧ 28 ≤ lo) (hcat : rest.length ≤ 4) (hls : ls.size = nL) (d : decode cc pc = .ok (.invokespecial index, 3))
    (kk : tm_J p l e R s m args below meth c K FX rt X σ (F0 m (pc + 3) ls rest)) : tm_J p l e R s m args below meth c K FX rt X σ (F0 m pc ls (tm_rv K r :: rest)) := by
  intro o t h H locs w v
  have hR := cx.2.2.2.2.2.2.2.2.2.1
  have g1 := (w.1.1 r (hr w.2.1)).1
  have hts := cx.2.2.2.2.1
  have h8 := tm_cat8 hcat
  rw [tm_rv_pos g1]
  refine W.objInit cx.1 cx.2.1 cx.2.2.2.1 (hts _ hl) (hts _ hi) (hts _ hcode) rfl (by rw [cx.2.2.1]; exact hls) rfl d (by rw [hR.1]; exact hfr.1) ?_ (kk o t h H locs w v)
  show 2 * 0 + _ + 12 ≤ R.locals
  rw [hR.2.1]
  omega
theorem tm_callI (cx : tm_C p l R s m args meth c K cc nL own mn ret fr lo) {y : MethodName} {bytes : ByteArray} {maxL : Nat} {r : Int} {As : List Value} {fr1 lo1 index n : Nat} {Xf : tm_S → tm_R} {k : Int → tm_S → tm_R} (hC : tm_ct K FX l y bytes maxL none 0 (tm_rv K r :: As) Xf fr1 lo1)
    (hq : Cond.code y bytes maxL none ∈ lw_all) (hini : Cond.initialized y.cls ∈ lw_all) (hl : Cond.methodLink own index y ∈ lw_all) (hinst : Cond.instanceMethod y ∈ lw_all) (hy1 : y.name = "<init>") (hd : y.cls ≠ "java/lang/invoke/MethodHandle" ∧ y.cls ≠ "java/lang/invoke/VarHandle" ∧ (parseMethodDescriptor y.desc).map (fun d => d.parameters.length) = some n) (hn : As.length = n) (hk : tm_hf FX σ → tm_k σ r ≠ 0) (hfr : fr1 + 1 ≤ fr ∧ 8 + (maxL + 11) + lo1 ≤ lo)
    {st : List Value} (hst : st = As.reverse ++ tm_rv K r :: rest) (hcat : rest.length ≤ 4) (hls : ls.size = nL) (d : decode cc pc = .ok (.invokespecial index, 3))
    (kk : ∀ (x : Int) (τ : tm_S), tm_in x → tm_J p l e R s m args below meth c K FX rt (k x τ) τ (F0 m (pc + 3) ls rest)) : tm_J p l e R s m args below meth c K FX rt (tm_bd (Xf σ) k) σ (F0 m pc ls st) := by
  intro o t h H locs w v
  cases hX : Xf σ with
  | none => rw [hX] at h; cases h
  | some q =>
    obtain ⟨o1, σ1⟩ := q
    have hM := hC σ o1 σ1 hX
    have hR := cx.2.2.2.2.2.2.2.2.2.1
    have hts := cx.2.2.2.2.1
    have g1 := (w.1.1 r (hk w.2.1)).1
    rw [hst]
    rw [tm_rv_pos g1] at hM ⊢
    intro T hT X
    have hro := tm_rooms cx X hT w
    exact tm_callK (rt1 := 0) cx hX (vx_runI (As := As) (rest := rest) ⟨cx.1, cx.2.1, cx.2.2.1, cx.2.2.2.1, cx.2.2.2.2.1⟩ hM (cwI n hts (lw_meth hq) rfl rfl rfl (hts _ hini) (hts _ hl) (hts _ hinst) hy1 hd (by rw [hR.1, hR.2.1]; exact hfr)) ⟨tm_blind, fun U hU hW => ⟨rfl, tm_vm_go cx.2.2.2.2.2.2.2.2.1 v hU hW, by rw [hU]; exact w⟩⟩ rfl hn hls rfl (lv_room (tm_cat8 hcat)) d hro.1) hro.2.1 hro.2.2 v h kk T hT X
theorem tm_callVN (cx : tm_C p l R s m args meth c K cc nL own mn ret fr lo) {y : MethodName} {host : String} {bytes : ByteArray} {maxL : Nat} {ret1 : Option FieldType} {rt1 : Nat} {r : Int} {As : List Value} {fr1 lo1 index ci N n : Nat} {C : String} {T9 : u_T} {ty : Nat → FieldType} {Xf : tm_S → tm_R} {k : Int → tm_S → tm_R} (hC : tm_ct K FX l y bytes maxL ret1 rt1 (tm_rv K r :: As) Xf fr1 lo1)
    (hq : Cond.code y bytes maxL ret1 ∈ lw_all) (hini : Cond.initialized y.cls ∈ lw_all) (hinst : Cond.instanceMethod y ∈ lw_all) (hsel : Cond.selects C y y ∈ lw_all) (hnm : (own, index, y, host) ∈ tm_nM) (hd : y.cls ≠ "java/lang/invoke/MethodHandle" ∧ y.cls ≠ "java/lang/invoke/VarHandle" ∧ (parseMethodDescriptor y.desc).map (fun d => d.parameters.length) = some n) (hn : As.length = n) (cd : tm_cd ci C T9 N ty) (hk : tm_hf FX σ → tm_k σ r = ci + 1) (hfr : fr1 + 1 ≤ fr ∧ 8 + (maxL + 11) + lo1 ≤ lo)
    {st : List Value} (hst : st = As.reverse ++ tm_rv K r :: rest) (hcat : rest.length ≤ 4) (hls : ls.size = nL) (d : decode cc pc = .ok (.invokevirtual index, 3))
    (kk : ∀ (x : Int) (τ : tm_S), tm_in x → tm_J p l e R s m args below meth c K FX rt (k x τ) τ (F0 m (pc + 3) ls ((tm_ov K rt1 x).toList ++ rest))) : tm_J p l e R s m args below meth c K FX rt (tm_bd (Xf σ) k) σ (F0 m pc ls st) := by
  intro o t h H locs w v
  cases hX : Xf σ with
  | none => rw [hX] at h; cases h
  | some q =>
    obtain ⟨o1, σ1⟩ := q
    have hM := hC σ o1 σ1 hX
    have hR := cx.2.2.2.2.2.2.2.2.2.1
    have hts := cx.2.2.2.2.1
    obtain ⟨g1, hrecv⟩ := tm_recv cx cd w (hk w.2.1)
    rw [hst]
    rw [tm_rv_pos g1] at hM ⊢
    intro T hT X
    have hro := tm_rooms cx X hT w
    exact tm_callK cx hX (vx_runVN (As := As) (rest := rest) (C := C) (host := host) ⟨cx.1, cx.2.1, cx.2.2.1, cx.2.2.2.1, cx.2.2.2.2.1⟩ hM ⟨va_cnB n hts (lw_meth hq) rfl rfl rfl ((tm_nw_ cx).2.1 _ hnm) (hts _ hini) hd (by rw [hR.1, hR.2.1]; exact hfr), hts _ hinst, hts _ hsel⟩ ⟨tm_blind, hrecv, fun U hU hW => ⟨rfl, tm_vm_go cx.2.2.2.2.2.2.2.2.1 v hU hW, by rw [hU]; exact w⟩⟩ rfl hn hls rfl (lv_room (tm_cat8 hcat)) d hro.1) hro.2.1 hro.2.2 v h kk T hT X
theorem tm_callSN (cx : tm_C p l R s m args meth c K cc nL own mn ret fr lo) {y : MethodName} {host : String} {bytes : ByteArray} {maxL : Nat} {ret1 : Option FieldType} {rt1 : Nat} {As : List Value} {fr1 lo1 index n : Nat} {Xf : tm_S → tm_R} {k : Int → tm_S → tm_R} (hC : tm_ct K FX l y bytes maxL ret1 rt1 As Xf fr1 lo1)
    (hq : Cond.code y bytes maxL ret1 ∈ lw_all) (hini : Cond.initialized y.cls ∈ lw_all) (hstt : Cond.static y ∈ lw_all) (hnm : (own, index, y, host) ∈ tm_nM) (hd : y.cls ≠ "java/lang/invoke/MethodHandle" ∧ y.cls ≠ "java/lang/invoke/VarHandle" ∧ (parseMethodDescriptor y.desc).map (fun d => d.parameters.length) = some n) (hn : As.length = n) (hfr : fr1 + 1 ≤ fr ∧ 8 + (maxL + 11) + lo1 ≤ lo)
    {st : List Value} (hst : st = As.reverse ++ rest) (hcat : rest.length ≤ 4) (hls : ls.size = nL) (d : decode cc pc = .ok (.invokestatic index, 3))
    (kk : ∀ (x : Int) (τ : tm_S), tm_in x → tm_J p l e R s m args below meth c K FX rt (k x τ) τ (F0 m (pc + 3) ls ((tm_ov K rt1 x).toList ++ rest))) : tm_J p l e R s m args below meth c K FX rt (tm_bd (Xf σ) k) σ (F0 m pc ls st) := by
  intro o t h H locs w v
  cases hX : Xf σ with
  | none => rw [hX] at h; cases h
  | some q =>
    obtain ⟨o1, σ1⟩ := q
    have hM := hC σ o1 σ1 hX
    have hR := cx.2.2.2.2.2.2.2.2.2.1
    have hts := cx.2.2.2.2.1
    rw [hst]
    intro T hT X
    have hro := tm_rooms cx X hT w
    exact tm_callK cx hX (vx_runSN (As := As) (rest := rest) (host := host) ⟨cx.1, cx.2.1, cx.2.2.1, cx.2.2.2.1, cx.2.2.2.2.1⟩ hM ⟨va_cnB n hts (lw_meth hq) rfl rfl rfl ((tm_nw_ cx).2.1 _ hnm) (hts _ hini) hd (by rw [hR.1, hR.2.1]; exact hfr), hts _ hstt, trivial⟩ ⟨tm_blind, fun U hU hW => ⟨rfl, tm_vm_go cx.2.2.2.2.2.2.2.2.1 v hU hW, by rw [hU]; exact w⟩⟩ rfl hn hls rfl (lv_room (tm_cat8 hcat)) d hro.1) hro.2.1 hro.2.2 v h kk T hT X
end TMN
