/-! ROWS FOR THE COMPONENT: references, new objects, nest mates, interfaces, throws -/
theorem tm_ad_new {σ : tm_S} (K : tm_K) : tm_ad K (1000 + (tm_c σ : Int)) = tm_c σ := by
  unfold tm_ad
  rw [if_neg (by omega)]
  omega
theorem tm_W_new {K : tm_K} {σ : tm_S} {H H1 : Heap} {k : Nat} {n : Int} {z : Nat} (hw : tm_W K σ H) (hk0 : k ≠ 0) (hk : k < 38) (hsz : H.size = tm_c σ) (hz : H1.size = H.size + 1) (ho : ∀ q : Nat, q < H.size → H1[q]? = H[q]?) (hA : ∀ q : Nat, H.size ≤ q → tm_A K q) (hn : 0 ≤ n ∧ n ≤ 2147483647)
    (e : va_at (tm_D K) tm_cl (tm_c σ, tm_ent K (tm_ne σ k n z) (1000 + (tm_c σ : Int))) H1) : tm_W K (tm_ne σ k n z) H1 := by
  have hfr : ∀ q : Int, tm_k σ q ≠ 0 → q ≠ 1000 + (tm_c σ : Int) := fun q hq h9 => by
    have h1 := (hw.1 q hq).2.1
    rw [h9, tm_ad_new] at h1
    omega
  refine ⟨fun q hq => ?_, fun a b ha hb hab => ?_, fun j q => ?_, fun a i => ?_, fun a => ?_⟩
  · rw [tm_k_ne] at hq ⊢
    by_cases hqn : q = 1000 + (tm_c σ : Int)
    · rw [if_pos hqn]
      refine ⟨by omega, ?_, fun _ => ⟨?_, ?_⟩, fun h9 => by omega, fun h9 => by omega⟩
      · rw [hqn, tm_ad_new]; omega
      · rw [hqn, tm_ad_new]; exact e
      · rw [hqn, tm_ad_new]; exact hA _ (by omega)
    · rw [if_neg hqn] at hq ⊢
      obtain ⟨g1, g2, g3, g4⟩ := hw.1 q hq
      refine ⟨g1, by omega, fun h9 => ⟨?_, (g3 h9).2⟩, g4⟩
      rw [tm_ent_congr (σ := σ) (by rw [tm_k_ne, if_neg hqn]) (by rw [tm_n_ne, if_neg hqn]) (fun j => by rw [tm_f_ne, if_neg hqn]) (fun i => by rw [tm_a_ne, if_neg hqn])]
      exact (g3 h9).1.kept (ho _ g2)
  · rw [tm_k_ne] at ha hb
    by_cases h1 : a = 1000 + (tm_c σ : Int)
    · by_cases h2 : b = 1000 + (tm_c σ : Int)
      · rw [h1, h2]
      · rw [if_neg h2] at hb
        have := (hw.1 b hb).2.1
        rw [← hab, h1, tm_ad_new] at this
        omega
    · rw [if_neg h1] at ha
      by_cases h2 : b = 1000 + (tm_c σ : Int)
      · have := (hw.1 a ha).2.1
        rw [hab, h2, tm_ad_new] at this
        omega
      · rw [if_neg h2] at hb
        exact hw.2.1 a b ha hb hab
  · rw [tm_f_ne]
    split
    · split <;> decide
    · exact hw.2.2.1 j q
  · rw [tm_a_ne]
    split
    · split <;> decide
    · exact hw.2.2.2.1 a i
  · rw [tm_n_ne]
    split
    · exact hn
    · exact hw.2.2.2.2 a
theorem tm_hf_ne {FX : tm_X0} {σ : tm_S} {k : Nat} {n : Int} {z : Nat} (hfam : tm_fam FX) (h : tm_hf FX σ) : tm_hf FX (tm_ne σ k n z) := by
  refine ⟨fun q hq => ?_, fun q hq => ?_, fun q hq i hi => ?_⟩
  · rw [tm_f_ne, if_neg (by omega)]
    exact h.1 q hq
  · have := hfam.2.1 q hq
    rw [tm_k_ne, if_neg (by omega), tm_n_ne, if_neg (by omega)]
    exact h.2.1 q hq
  · have := hfam.2.2 q hq
    rw [tm_a_ne, if_neg (by omega)]
    exact h.2.2 q hq i hi
theorem tm_Wd_new {K : tm_K} {FX : tm_X0} {σ : tm_S} {H H1 : Heap} {k : Nat} {n : Int} {z : Nat} {cell : Cell} (w : tm_Wd K FX σ H) (hfam : tm_fam FX) (hk0 : k ≠ 0) (hk : k < 38) (hn : 0 ≤ n ∧ n ≤ 2147483647) (hg : tm_c σ + 1 ≤ tm_u σ ∧ tm_z σ + z ≤ tm_v σ) (hz : H1.size = H.size + 1) (ho : ∀ q : Nat, q < H.size → H1[q]? = H[q]?) (hc : H1[H.size]? = some cell) (hcz : cell.slots.size = z)
    (e : va_at (tm_D K) tm_cl (tm_c σ, tm_ent K (tm_ne σ k n z) (1000 + (tm_c σ : Int))) H1) : tm_Wd K FX (tm_ne σ k n z) H1 := by
  obtain ⟨w1, w2, w3, w4, w5, w6, w7, w8, w9, w10⟩ := w
  have hs := tm_hs_new rfl hz hc ho
  refine ⟨tm_W_new w1 hk0 hk w3 hz ho w7 hn e, tm_hf_ne hfam w2, ?_, ?_, ?_, ?_, fun q hq => w7 q (by omega), w8, w9, w10⟩
  · rw [tm_c_ne]; omega
  · rw [tm_z_ne]; omega
  · rw [tm_c_ne]; omega
  · rw [tm_z_ne]; omega
theorem tm_ro_inj {K : tm_K} {σ : tm_S} {H : Heap} (hw : tm_W K σ H) {x y : Int} (hx : x = -1 ∨ tm_k σ x ≠ 0) (hy : y = -1 ∨ tm_k σ y ≠ 0) : tm_ro K x = tm_ro K y ↔ x = y := by
  refine ⟨fun h => ?_, fun h => by rw [h]⟩
  unfold tm_ro at h
  rcases hx with hx | hx
  · subst hx
    rw [if_pos (by decide)] at h
    rcases hy with hy | hy
    · exact hy.symm
    · have := (hw.1 y hy).1
      rw [if_neg (by omega)] at h
      cases h
  · have h0 := (hw.1 x hx).1
    rw [if_neg (by omega)] at h
    rcases hy with hy | hy
    · subst hy
      rw [if_pos (by decide)] at h
      cases h
    · have := (hw.1 y hy).1
      rw [if_neg (by omega)] at h
      exact hw.2.1 x y hx hy (Option.some.inj h)
section TMK
variable {p : Program} {l : Launch} {e : Env} {R : Room} {s : State} {m : MethodId} {args : Array Value} {below : List Frame} {meth : Method} {c : Code} {K : tm_K} {FX : tm_X0} {rt : Nat} {cc : ByteArray} {nL : Nat} {own mn : String} {ret : Option FieldType} {fr lo : Nat} {pc : Nat} {ls : Array Slot} {rest : List Value} {X A B : tm_R} {σ : tm_S} {lg : Nat}
theorem tm_fork {P : Prop} [Decidable P] {g : JFrame} (kt : P → tm_J p l e R s m args below meth c K FX rt A σ g) (kf : ¬ P → tm_J p l e R s m args below meth c K FX rt B σ g) : tm_J p l e R s m args below meth c K FX rt (if P then A else B) σ g := by
  by_cases h : P
  · rw [if_pos h]; exact kt h
  · rw [if_neg h]; exact kf h
theorem tm_gn_ {z : Nat} {g : JFrame} (kk : tm_c σ + 1 ≤ tm_u σ ∧ tm_z σ + z ≤ tm_v σ → tm_J p l e R s m args below meth c K FX rt X σ g) : tm_J p l e R s m args below meth c K FX rt (tm_gn σ z X) σ g := by
  intro o σ' h
  unfold tm_gn at h
  split at h
  · rename_i h9
    exact kk h9 o σ' h
  · cases h
theorem tm_gq_ {τ : tm_S} {r : Int} {g : JFrame} (kk : r = -1 ∨ tm_k τ r ≠ 0 → tm_J p l e R s m args below meth c K FX rt X σ g) : tm_J p l e R s m args below meth c K FX rt (tm_gq τ r X) σ g := by
  intro o σ' h
  unfold tm_gq at h
  split at h
  · rename_i h9
    exact kk h9 o σ' h
  · cases h
theorem tm_gm_ {τ : tm_S} {r : Int} {g : JFrame} (kk : r < 0 ∨ tm_k τ r = 5 ∨ tm_k τ r = 6 ∨ tm_k τ r = 39 → tm_J p l e R s m args below meth c K FX rt X σ g) : tm_J p l e R s m args below meth c K FX rt (tm_gm τ r X) σ g := by
  intro o σ' h
  unfold tm_gm at h
  split at h
  · rename_i h9
    exact kk h9 o σ' h
  · cases h
theorem tm_acmp_eq (cx : tm_C p l R s m args meth c K cc nL own mn ret fr lo) {x y : Int} {off : Int} {tgt : Nat} (hx : tm_hf FX σ → x = -1 ∨ tm_k σ x ≠ 0) (hy : tm_hf FX σ → y = -1 ∨ tm_k σ y ≠ 0) (d : decode cc pc = .ok (.if_acmp .eq off, 3)) (ht : (pc : Int) + off = (tgt : Int)) (kt : x = y → tm_J p l e R s m args below meth c K FX rt A σ (F0 m tgt ls rest)) (kf : ¬ x = y → tm_J p l e R s m args below meth c K FX rt B σ (F0 m (pc + 3) ls rest)) : tm_J p l e R s m args below meth c K FX rt (if x = y then A else B) σ (F0 m pc ls (tm_rv K y :: tm_rv K x :: rest)) := by
  intro o t h H locs w v
  have hi := tm_ro_inj w.1 (hx w.2.1) (hy w.2.1)
  exact lv_acmp_eq cx.1 cx.2.1 d ht (fun q => by have q := hi.mp q; rw [if_pos q] at h; exact kt q o t h H locs w v) (fun q => by have q : ¬ x = y := fun z => q (hi.mpr z); rw [if_neg q] at h; exact kf q o t h H locs w v)
theorem tm_acmp_ne (cx : tm_C p l R s m args meth c K cc nL own mn ret fr lo) {x y : Int} {off : Int} {tgt : Nat} (hx : tm_hf FX σ → x = -1 ∨ tm_k σ x ≠ 0) (hy : tm_hf FX σ → y = -1 ∨ tm_k σ y ≠ 0) (d : decode cc pc = .ok (.if_acmp .ne off, 3)) (ht : (pc : Int) + off = (tgt : Int)) (kt : x = y → tm_J p l e R s m args below meth c K FX rt A σ (F0 m (pc + 3) ls rest)) (kf : ¬ x = y → tm_J p l e R s m args below meth c K FX rt B σ (F0 m tgt ls rest)) : tm_J p l e R s m args below meth c K FX rt (if x = y then A else B) σ (F0 m pc ls (tm_rv K y :: tm_rv K x :: rest)) := by
  intro o t h H locs w v
  have hi := tm_ro_inj w.1 (hx w.2.1) (hy w.2.1)
  exact lv_acmp_ne cx.1 cx.2.1 d ht (fun q => by have q : ¬ x = y := fun z => q (hi.mpr z); rw [if_neg q] at h; exact kf q o t h H locs w v) (fun q => by have q := hi.mp q; rw [if_pos q] at h; exact kt q o t h H locs w v)
theorem tm_ifnull (cx : tm_C p l R s m args meth c K cc nL own mn ret fr lo) {x : Int} {off : Int} {tgt : Nat} (d : decode cc pc = .ok (.ifnull off, 3)) (ht : (pc : Int) + off = (tgt : Int)) (kt : x < 0 → tm_J p l e R s m args below meth c K FX rt A σ (F0 m tgt ls rest)) (kf : ¬ x < 0 → tm_J p l e R s m args below meth c K FX rt B σ (F0 m (pc + 3) ls rest)) : tm_J p l e R s m args below meth c K FX rt (if x < 0 then A else B) σ (F0 m pc ls (tm_rv K x :: rest)) := by
  intro o t h H locs w v
  by_cases hx : x < 0
  · rw [if_pos hx] at h
    have e9 : tm_rv K x = .null := by unfold tm_rv tm_ro; rw [if_pos hx]; rfl
    rw [e9]
    exact lv_ifnullN cx.1 cx.2.1 d ht (kt hx o t h H locs w v)
  · rw [if_neg hx] at h
    rw [tm_rv_pos (by omega)]
    exact lv_ifnull cx.1 cx.2.1 d (kf hx o t h H locs w v)
theorem tm_ifnonnull (cx : tm_C p l R s m args meth c K cc nL own mn ret fr lo) {x : Int} {off : Int} {tgt : Nat} (d : decode cc pc = .ok (.ifnonnull off, 3)) (ht : (pc : Int) + off = (tgt : Int)) (kt : x < 0 → tm_J p l e R s m args below meth c K FX rt A σ (F0 m (pc + 3) ls rest)) (kf : ¬ x < 0 → tm_J p l e R s m args below meth c K FX rt B σ (F0 m tgt ls rest)) : tm_J p l e R s m args below meth c K FX rt (if x < 0 then A else B) σ (F0 m pc ls (tm_rv K x :: rest)) := by
  intro o t h H locs w v
  by_cases hx : x < 0
  · rw [if_pos hx] at h
    have e9 : tm_rv K x = .null := by unfold tm_rv tm_ro; rw [if_pos hx]; rfl
    rw [e9]
    exact lv_ifnonnullN cx.1 cx.2.1 d (kt hx o t h H locs w v)
  · rw [if_neg hx] at h
    rw [tm_rv_pos (by omega)]
    exact lv_ifnonnull cx.1 cx.2.1 d ht (kf hx o t h H locs w v)
theorem tm_cs_ (cx : tm_C p l R s m args meth c K cc nL own mn ret fr lo) : tm_cs K s s.heap := cx.2.2.2.2.2.2.2.2.1.2.2
theorem tm_nw_ (cx : tm_C p l R s m args meth c K cc nL own mn ret fr lo) : tm_nw s := cx.2.2.2.2.2.2.2.2.1.2.1
theorem tm_getc (cx : tm_C p l R s m args meth c K cc nL own mn ret fr lo) {index k : Nat} {n : String} (hk : k < 18) (hn : tm_nm[k]? = some n) {x : Int} (hx : x = 400 + (k : Int)) (hl : Cond.fieldLink own index "TokenMouth$Command" n "LTokenMouth$Command;" ∈ lw_all) (d : decode cc pc = .ok (.getstatic index, 3))
    (kk : tm_J p l e R s m args below meth c K FX rt X σ (F0 m (pc + 3) ls (tm_rv K x :: rest))) : tm_J p l e R s m args below meth c K FX rt X σ (F0 m pc ls rest) := by
  intro o t h H locs w v
  have hZ := ((tm_cs_ cx).1.1 k hk).1
  have e9 : tm_nm.getD k "" = n := by rw [List.getD_eq_getElem?_getD, hn]; rfl
  rw [e9] at hZ
  have k1 := kk o t h H locs w v
  have e8 : tm_rv K x = .ref (K.2.1 (400 + k)) := by
    rw [tm_rv_pos (by omega)]
    unfold tm_ad
    rw [if_pos (by omega)]
    rw [show x.toNat = 400 + k by omega]
  rw [e8] at k1
  exact va_gets cx.1 cx.2.1 hZ v cx.2.2.2.1 (cx.2.2.2.2.1 _ hl) (fun _ h9 => h9) d k1
theorem tm_gete (cx : tm_C p l R s m args meth c K cc nL own mn ret fr lo) {index : Nat} (hl : Cond.fieldLink own index "java/util/ArrayList" "DEFAULTCAPACITY_EMPTY_ELEMENTDATA" "[Ljava/lang/Object;" ∈ lw_all) (d : decode cc pc = .ok (.getstatic index, 3))
    (kk : tm_J p l e R s m args below meth c K FX rt X σ (F0 m (pc + 3) ls (tm_rv K 420 :: rest))) : tm_J p l e R s m args below meth c K FX rt X σ (F0 m pc ls rest) := by
  intro o t h H locs w v
  have k1 := kk o t h H locs w v
  exact va_gets cx.1 cx.2.1 (tm_cs_ cx).2.2.2.1 v cx.2.2.2.1 (cx.2.2.2.2.1 _ hl) (fun _ h9 => h9) d k1
/-- the length of the empty array that every new ArrayList shares -/
theorem tm_alen0 (cx : tm_C p l R s m args meth c K cc nL own mn ret fr lo) {x : Int} (hx : x = 420) (d : decode cc pc = .ok (.arraylength, 1)) (kk : tm_J p l e R s m args below meth c K FX rt X σ (F0 m (pc + 1) ls (tm_iv 0 :: rest))) : tm_J p l e R s m args below meth c K FX rt X σ (F0 m pc ls (tm_rv K x :: rest)) := by
  subst hx
  intro o t h H locs w v
  have k1 := kk o t h H locs w v
  obtain ⟨cell, h1, h2, h3, h4, h5, h6, h7⟩ := (tm_cs_ cx).2.2.2.2.kept v.2.1
  exact W.alen (n := Int32.ofInt 0) cx.1 cx.2.1 h1 h2 h5 rfl rfl d k1
/-- a command, as the machine has it -/
theorem tm_cmd (cx : tm_C p l R s m args meth c K cc nL own mn ret fr lo) {H : Heap} {locs : List Loc} (v : va_S (tm_A K) s.heap H locs) {r : Int} (hr : 0 ≤ r - 400 ∧ r - 400 < 18) : tm_rv K r = .ref (K.2.1 (400 + (r - 400).toNat)) ∧ ∃ cell : Cell, H[tm_ad K r]? = some cell ∧ cell.vm.isStatics = false ∧ s.vm.findClass "TokenMouth$Command" = some cell.cls := by
  have e1 : tm_ad K r = K.2.1 (400 + (r - 400).toNat) := by
    unfold tm_ad
    rw [if_pos (by omega), show r.toNat = 400 + (r - 400).toNat by omega]
  refine ⟨by rw [tm_rv_pos (by omega), e1], ?_⟩
  rw [e1]
  exact va_recvE (i := (r - 400).toNat) (tm_cs_ cx).1 (by show _ < 18; omega) v
theorem tm_castC (cx : tm_C p l R s m args meth c K cc nL own mn ret fr lo) {index : Nat} {r : Int} (hr : 0 ≤ r - 400 ∧ r - 400 < 18) (hl : Cond.classLink own index "TokenMouth$Command" ∈ lw_all) (d : decode cc pc = .ok (.checkcast index, 3)) (kk : tm_J p l e R s m args below meth c K FX rt X σ (F0 m (pc + 3) ls (tm_rv K r :: rest))) : tm_J p l e R s m args below meth c K FX rt X σ (F0 m pc ls (tm_rv K r :: rest)) := by
  intro o t h H locs w v
  have k1 := kk o t h H locs w v
  have hc := (tm_cmd cx v hr).2
  rw [tm_rv_pos (by omega)] at k1 ⊢
  exact va_castE cx.1 cx.2.1 cx.2.2.2.1 (cx.2.2.2.2.1 _ hl) hc d k1
theorem tm_castO (cx : tm_C p l R s m args meth c K cc nL own mn ret fr lo) {index ci N : Nat} {C : String} {T : u_T} {ty : Nat → FieldType} {r : Int} (cd : tm_cd ci C T N ty) (hk : tm_hf FX σ → tm_k σ r = ci + 1) (hl : Cond.classLink own index C ∈ lw_all) (d : decode cc pc = .ok (.checkcast index, 3)) (kk : tm_J p l e R s m args below meth c K FX rt X σ (F0 m (pc + 3) ls (tm_rv K r :: rest))) : tm_J p l e R s m args below meth c K FX rt X σ (F0 m pc ls (tm_rv K r :: rest)) := by
  intro o t h H locs w v
  have k1 := kk o t h H locs w v
  obtain ⟨g1, hc⟩ := tm_recv cx cd w (hk w.2.1)
  rw [tm_rv_pos g1] at k1 ⊢
  exact va_castE cx.1 cx.2.1 cx.2.2.2.1 (cx.2.2.2.2.1 _ hl) hc d k1
theorem tm_instYO (cx : tm_C p l R s m args meth c K cc nL own mn ret fr lo) {index ci N : Nat} {C : String} {T : u_T} {ty : Nat → FieldType} {r : Int} (cd : tm_cd ci C T N ty) (hk : tm_k σ r = ci + 1) (hl : Cond.classLink own index C ∈ lw_all) (d : decode cc pc = .ok (.instanceof index, 3)) (kk : tm_J p l e R s m args below meth c K FX rt X σ (F0 m (pc + 3) ls (tm_iv 1 :: rest))) : tm_J p l e R s m args below meth c K FX rt X σ (F0 m pc ls (tm_rv K r :: rest)) := by
  intro o t h H locs w v
  have k1 := kk o t h H locs w v
  obtain ⟨g1, hc⟩ := tm_recv cx cd w hk
  rw [tm_rv_pos g1]
  exact va_instE cx.1 cx.2.1 cx.2.2.2.1 (cx.2.2.2.2.1 _ hl) hc d k1
theorem tm_instYC (cx : tm_C p l R s m args meth c K cc nL own mn ret fr lo) {index : Nat} {r : Int} (hr : 0 ≤ r - 400 ∧ r - 400 < 18) (hl : Cond.classLink own index "TokenMouth$Command" ∈ lw_all) (d : decode cc pc = .ok (.instanceof index, 3)) (kk : tm_J p l e R s m args below meth c K FX rt X σ (F0 m (pc + 3) ls (tm_iv 1 :: rest))) : tm_J p l e R s m args below meth c K FX rt X σ (F0 m pc ls (tm_rv K r :: rest)) := by
  intro o t h H locs w v
  have k1 := kk o t h H locs w v
  have hc := (tm_cmd cx v hr).2
  rw [tm_rv_pos (by omega)]
  exact va_instE cx.1 cx.2.1 cx.2.2.2.1 (cx.2.2.2.2.1 _ hl) hc d k1
/-- commands are known by their numbers -/
theorem tm_k39 {H : Heap} {r : Int} (w : tm_Wd K FX σ H) (h : tm_k σ r = 39) : 0 ≤ r - 400 ∧ r - 400 < 18 := (w.1.1 r (by omega)).2.2.2.2 h
theorem tm_instNO (cx : tm_C p l R s m args meth c K cc nL own mn ret fr lo) {index ci N : Nat} {C nm : String} {T : u_T} {ty : Nat → FieldType} {r : Int} (cd : tm_cd ci C T N ty) (hk : tm_k σ r = ci + 1) (hl : Cond.classLink own index nm ∈ lw_all) (hn : (C, nm) ∈ tm_nN) (d : decode cc pc = .ok (.instanceof index, 3)) (kk : tm_J p l e R s m args below meth c K FX rt X σ (F0 m (pc + 3) ls (tm_iv 0 :: rest))) : tm_J p l e R s m args below meth c K FX rt X σ (F0 m pc ls (tm_rv K r :: rest)) := by
  intro o t h H locs w v
  have k1 := kk o t h H locs w v
  obtain ⟨g1, hc⟩ := tm_recv cx cd w hk
  rw [tm_rv_pos g1]
  exact va_instNo cx.1 cx.2.1 cx.2.2.2.1 (cx.2.2.2.2.1 _ hl) ((tm_nw_ cx).2.2.2.1 _ hn) hc d k1
theorem tm_instNC (cx : tm_C p l R s m args meth c K cc nL own mn ret fr lo) {index : Nat} {nm : String} {r : Int} (hr : 0 ≤ r - 400 ∧ r - 400 < 18) (hl : Cond.classLink own index nm ∈ lw_all) (hn : ("TokenMouth$Command", nm) ∈ tm_nN) (d : decode cc pc = .ok (.instanceof index, 3)) (kk : tm_J p l e R s m args below meth c K FX rt X σ (F0 m (pc + 3) ls (tm_iv 0 :: rest))) : tm_J p l e R s m args below meth c K FX rt X σ (F0 m pc ls (tm_rv K r :: rest)) := by
  intro o t h H locs w v
  have k1 := kk o t h H locs w v
  have hc := (tm_cmd cx v hr).2
  rw [tm_rv_pos (by omega)]
  exact va_instNo cx.1 cx.2.1 cx.2.2.2.1 (cx.2.2.2.2.1 _ hl) ((tm_nw_ cx).2.2.2.1 _ hn) hc d k1
/-- an instanceof that fails -/
theorem tm_instN (cx : tm_C p l R s m args meth c K cc nL own mn ret fr lo) {index k : Nat} {nm : String} {r : Int} (hk : (k = 5 ∧ nm = "TokenMouth$Sign") ∨ (k = 6 ∧ nm = "TokenMouth$Macro") ∨ (k = 39 ∧ nm = "TokenMouth$Command")) (hr : r < 0 ∨ tm_k σ r = 5 ∨ tm_k σ r = 6 ∨ tm_k σ r = 39) (hne : ¬ tm_k σ r = k) (hl : Cond.classLink own index nm ∈ lw_all) (d : decode cc pc = .ok (.instanceof index, 3)) (kk : tm_J p l e R s m args below meth c K FX rt X σ (F0 m (pc + 3) ls (tm_iv 0 :: rest))) : tm_J p l e R s m args below meth c K FX rt X σ (F0 m pc ls (tm_rv K r :: rest)) := by
  rcases hr with hr | hr | hr | hr
  · intro o t h H locs w v
    have e9 : tm_rv K r = .null := by unfold tm_rv tm_ro; rw [if_pos hr]; rfl
    rw [e9]
    exact lv_instN cx.1 cx.2.1 d (kk o t h H locs w v)
  · rcases hk with ⟨h1, h2⟩ | ⟨h1, h2⟩ | ⟨h1, h2⟩
    · exact absurd (hr.trans h1.symm) hne
    · exact tm_instNO cx tm_cd_X8 hr hl (by rw [h2]; decide +kernel) d kk
    · exact tm_instNO cx tm_cd_X8 hr hl (by rw [h2]; decide +kernel) d kk
  · rcases hk with ⟨h1, h2⟩ | ⟨h1, h2⟩ | ⟨h1, h2⟩
    · exact tm_instNO cx tm_cd_X7 hr hl (by rw [h2]; decide +kernel) d kk
    · exact absurd (hr.trans h1.symm) hne
    · exact tm_instNO cx tm_cd_X7 hr hl (by rw [h2]; decide +kernel) d kk
  · intro o t h H locs w v
    rcases hk with ⟨h1, h2⟩ | ⟨h1, h2⟩ | ⟨h1, h2⟩
    · exact tm_instNC cx (tm_k39 w hr) hl (by rw [h2]; decide +kernel) d kk o t h H locs w v
    · exact tm_instNC cx (tm_k39 w hr) hl (by rw [h2]; decide +kernel) d kk o t h H locs w v
    · exact absurd (hr.trans h1.symm) hne
/-- an instanceof that holds -/
theorem tm_instY (cx : tm_C p l R s m args meth c K cc nL own mn ret fr lo) {index k : Nat} {nm : String} {r : Int} (hk : (k = 5 ∧ nm = "TokenMouth$Sign") ∨ (k = 6 ∧ nm = "TokenMouth$Macro") ∨ (k = 39 ∧ nm = "TokenMouth$Command")) (hr : tm_k σ r = k) (hl : Cond.classLink own index nm ∈ lw_all) (d : decode cc pc = .ok (.instanceof index, 3)) (kk : tm_J p l e R s m args below meth c K FX rt X σ (F0 m (pc + 3) ls (tm_iv 1 :: rest))) : tm_J p l e R s m args below meth c K FX rt X σ (F0 m pc ls (tm_rv K r :: rest)) := by
  rcases hk with ⟨h1, h2⟩ | ⟨h1, h2⟩ | ⟨h1, h2⟩
  · exact tm_instYO cx tm_cd_X8 (hr.trans h1) (by rw [h2] at hl; exact hl) d kk
  · exact tm_instYO cx tm_cd_X7 (hr.trans h1) (by rw [h2] at hl; exact hl) d kk
  · intro o t h H locs w v
    exact tm_instYC cx (tm_k39 w (hr.trans h1)) (by rw [h2] at hl; exact hl) d kk o t h H locs w v
/-- a checkcast to Command of what is one -/
theorem tm_castK (cx : tm_C p l R s m args meth c K cc nL own mn ret fr lo) {index : Nat} {r : Int} (hr : tm_k σ r = 39) (hl : Cond.classLink own index "TokenMouth$Command" ∈ lw_all) (d : decode cc pc = .ok (.checkcast index, 3)) (kk : tm_J p l e R s m args below meth c K FX rt X σ (F0 m (pc + 3) ls (tm_rv K r :: rest))) : tm_J p l e R s m args below meth c K FX rt X σ (F0 m pc ls (tm_rv K r :: rest)) :=
  fun o t h H locs w v => tm_castC cx (tm_k39 w hr) hl d kk o t h H locs w v
/-- elements of the arrays of numbered objects -/
theorem tm_tyi {k : Nat} (h : 25 ≤ k ∧ k < 30) : ∃ (i : Nat) (ty : FieldType), (tm_tys K)[i]? = some (tm_CA K k, ty) ∧ ty.isReference = true := by
  have : k = 25 ∨ k = 26 ∨ k = 27 ∨ k = 28 ∨ k = 29 := by omega
  rcases this with rfl | rfl | rfl | rfl | rfl
  · exact ⟨5, _, rfl, rfl⟩
  · exact ⟨6, _, rfl, rfl⟩
  · exact ⟨7, _, rfl, rfl⟩
  · exact ⟨8, _, rfl, rfl⟩
  · exact ⟨9, _, rfl, rfl⟩
theorem tm_aald (cx : tm_C p l R s m args meth c K cc nL own mn ret fr lo) {a n i : Int} {k : Nat} (h25 : 25 ≤ k ∧ k < 30) (hk : tm_hf FX σ → tm_k σ a = k ∧ tm_n σ a = n) (hi : tm_in i) (d : decode cc pc = .ok (.aaload, 1)) (kk : 0 ≤ i ∧ i < n → tm_in (tm_a σ a i) → tm_hf FX σ → tm_J p l e R s m args below meth c K FX rt X σ (F0 m (pc + 1) ls (tm_rv K (tm_a σ a i) :: rest))) : tm_J p l e R s m args below meth c K FX rt (tm_gx i n X) σ (F0 m pc ls (tm_iv i :: tm_rv K a :: rest)) := by
  refine tm_gx_ fun hg => ?_
  intro o t h H locs w v
  obtain ⟨hkr, hn⟩ := hk w.2.1
  obtain ⟨g1, g2, g3, g4⟩ := w.1.1 a (by rw [hkr]; omega)
  have hat := (g3 (by rw [hkr]; omega)).1
  rw [tm_ent_ref hkr h25.1] at hat
  have k1 := kk hg (w.1.2.2.2.1 a i) w.2.1 o t h H locs w v
  rw [tm_rv_pos g1]
  have h9 : (((Int32.ofInt i).toNatClampNeg : Nat) : Int) = i := by rw [tm_I_cl hi]; omega
  obtain ⟨ix, ty, hty, href⟩ := tm_tyi (K := K) h25
  have hlt : (Int32.ofInt i).toNatClampNeg < (tm_n σ a).toNat := by rw [tm_I_cl hi, hn]; omega
  refine W.aald (v := tm_rv K (tm_a σ a i)) (ty := ty) cx.1 cx.2.1 hat ((tm_ch_ cx ix hty) (tm_n σ a).toNat (fun j => va_rf (tm_ro K (tm_a σ a (j : Int))))) href (fun q => by cases q) (by show ¬ (_ < 0 ∨ (arrV _ _ _).slots.size ≤ _); rw [arrV_size, hn]; exact tm_I_in hg hi) ?_ rfl rfl d k1
  show (arrV _ _ _).slots[_]? = _
  rw [arrV_read _ _ hlt]
  show some (va_rf (tm_ro K (tm_a σ a (((Int32.ofInt i).toNatClampNeg : Nat) : Int)))) = _
  rw [h9]
  rfl
end TMK
