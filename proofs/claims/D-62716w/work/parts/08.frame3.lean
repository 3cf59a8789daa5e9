/-! ROWS OF THE JUDGEMENT -/
theorem tm_rv_cat (K : tm_K) (r : Int) : (tm_rv K r).category = 1 := by
  unfold tm_rv tm_ro
  split <;> rfl
theorem tm_rv_or (K : tm_K) (r : Int) : tm_rv K r = .null ∨ ∃ a, tm_rv K r = .ref a := by
  unfold tm_rv tm_ro
  split
  · exact Or.inl rfl
  · exact Or.inr ⟨_, rfl⟩
theorem tm_rv_pos {K : tm_K} {r : Int} (h : 0 ≤ r) : tm_rv K r = .ref (tm_ad K r) := by
  unfold tm_rv tm_ro
  rw [if_neg (by omega)]
  rfl
theorem tm_args_r (K : tm_K) (i : Nat) (r : Int) (vs : List Value) : lv_args i (tm_rv K r :: vs) = (i, tm_rv K r) :: lv_args (i + 1) vs := by
  show (i, tm_rv K r) :: lv_args (if (tm_rv K r).category = 2 then i + 2 else i + 1) vs = _
  rw [tm_rv_cat]
  rfl
theorem tm_args_i (i : Nat) (x : Int) (vs : List Value) : lv_args i (tm_iv x :: vs) = (i, tm_iv x) :: lv_args (i + 1) vs := rfl
theorem tm_args_l (i : Nat) (x : Int) (vs : List Value) : lv_args i (tm_lv x :: vs) = (i, tm_lv x) :: lv_args (i + 2) vs := rfl
theorem tm_args_n (i : Nat) : lv_args i [] = [] := rfl
theorem tm_sl_r (K : tm_K) (r : Int) (vs : List Value) (n : Nat) (h : (lg_sl vs).length ≤ n) : (lg_sl (tm_rv K r :: vs)).length ≤ n + 1 := by
  have e : lg_sl (tm_rv K r :: vs) = .val (tm_rv K r) :: lg_sl vs := by
    show (if (tm_rv K r).category = 2 then [Slot.val (tm_rv K r), .second] else [.val (tm_rv K r)]) ++ lg_sl vs = _
    rw [tm_rv_cat]
    rfl
  rw [e]
  exact Nat.succ_le_succ h
theorem tm_sl_i (x : Int) (vs : List Value) (n : Nat) (h : (lg_sl vs).length ≤ n) : (lg_sl (tm_iv x :: vs)).length ≤ n + 1 := Nat.succ_le_succ h
theorem tm_sl_l (x : Int) (vs : List Value) (n : Nat) (h : (lg_sl vs).length ≤ n) : (lg_sl (tm_lv x :: vs)).length ≤ n + 2 := Nat.succ_le_succ (Nat.succ_le_succ h)
theorem tm_sl_n (n : Nat) : (lg_sl []).length ≤ n := Nat.zero_le _
/-- the locals: longs at the places 1 and 3 alone, if any -/
def tm_has (lg : Nat) (ls : Array Slot) (nL : Nat) (l : List (Nat × Value)) : Prop := lv_has ls nL l ∧ ∀ q ∈ l, q.2.category = 1 ∨ (0 < lg ∧ q.1 = 1) ∨ (1 < lg ∧ q.1 = 3)
theorem tm_has_sub {lg : Nat} {ls : Array Slot} {nL : Nat} {l l' : List (Nat × Value)} (h : tm_has lg ls nL l) (ks : List Nat) (hl : lv_pick l ks = l') : tm_has lg ls nL l' := by
  refine ⟨lv_sub h.1 ks hl, fun q hq => ?_⟩
  rw [← hl] at hq
  obtain ⟨k, -, hk⟩ := List.mem_filterMap.mp hq
  exact h.2 q (List.mem_of_getElem? hk)
theorem tm_has_at {lg : Nat} {ls : Array Slot} {nL : Nat} {l : List (Nat × Value)} (h : tm_has lg ls nL l) (k : Nat) {i : Nat} {v : Value} (hk : l[k]? = some (i, v)) : ls[i]? = some (.val v) := lv_at h.1 k hk
theorem tm_fil {lg : Nat} {ls : Array Slot} {nL i : Nat} {l : List (Nat × Value)} (h : tm_has lg ls nL l) (hi : (lg = 0 ∨ i ≠ 2) ∧ (lg ≤ 1 ∨ i ≠ 4)) : l.filter (fun q => !(q.1 == i) && !(q.1 + 1 == i && q.2.category == 2)) = l.filter (fun q => q.1 != i) := by
  apply List.filter_congr
  intro q hq
  have h9 : (q.1 + 1 == i && q.2.category == 2) = false := by
    rcases h.2 q hq with h1 | h1
    · rw [h1]; simp
    · have : (q.1 + 1 == i) = false := by
        simp only [beq_eq_false_iff_ne, ne_eq]
        omega
      rw [this]
      rfl
  rw [h9]
  simp [bne]
theorem tm_has_new {lg : Nat} {ls ls' : Array Slot} {nL i : Nat} {l l' : List (Nat × Value)} {v : Value} (h : tm_has lg ls nL l) (hv : v.category = 1) (hl : (i, v) :: l.filter (fun q => q.1 != i) = l') (h' : lv_has ls' nL l') : tm_has lg ls' nL l' := by
  refine ⟨h', fun q hq => ?_⟩
  rw [← hl] at hq
  rcases List.mem_cons.mp hq with e | e
  · rw [e]; exact Or.inl hv
  · exact h.2 q (List.mem_filter.mp e).1
theorem tm_I {x : Int} (h : tm_in x) : (Int32.ofInt x).toInt = x := Int32.toInt_ofInt_of_le (by have := h.1; omega) (by have := h.2; omega)
theorem tm_I_eq {x y : Int} (hx : tm_in x) (hy : tm_in y) : Int32.ofInt x = Int32.ofInt y ↔ x = y := by
  rw [← Int32.toInt_inj, tm_I hx, tm_I hy]
theorem tm_I_lt {x y : Int} (hx : tm_in x) (hy : tm_in y) : Int32.ofInt x < Int32.ofInt y ↔ x < y := by
  rw [Int32.lt_iff_toInt_lt, tm_I hx, tm_I hy]
theorem tm_I_le {x y : Int} (hx : tm_in x) (hy : tm_in y) : Int32.ofInt x ≤ Int32.ofInt y ↔ x ≤ y := by
  rw [Int32.le_iff_toInt_le, tm_I hx, tm_I hy]
theorem tm_I_0 : Int32.ofInt 0 = 0 := rfl
theorem tm_I_cl {x : Int} (h : tm_in x) : (Int32.ofInt x).toNatClampNeg = x.toNat := Int32.toNatClampNeg_ofInt_of_le (by have := h.1; omega) (by have := h.2; omega)
theorem tm_I_in {i n : Int} (h : 0 ≤ i ∧ i < n) (hi : tm_in i) : vp_in (Int32.ofInt i) n.toNat := by
  unfold vp_in
  rw [show (0 : Int32) = Int32.ofInt 0 from rfl, tm_I_lt hi (by decide), tm_I_cl hi]
  omega
theorem tm_ent_obj {K : tm_K} {σ : tm_S} {r : Int} {ci : Nat} (h : tm_k σ r = ci + 1) (hc : ci < 19) : tm_ent K σ r = .inr (ci, tm_fl K σ r ci) := by
  unfold tm_ent
  rw [if_pos (by omega), h]
  rfl
theorem tm_ent_int {K : tm_K} {σ : tm_S} {r : Int} {k : Nat} (h : tm_k σ r = k) (h1 : 20 ≤ k) (h2 : k < 25) : tm_ent K σ r = .inl (tm_CA K k, (tm_n σ r).toNat, .inl fun j => Int32.ofInt (tm_a σ r (j : Int))) := by
  unfold tm_ent
  rw [if_neg (by omega), if_pos (by omega), h]
theorem tm_ent_ref {K : tm_K} {σ : tm_S} {r : Int} {k : Nat} (h : tm_k σ r = k) (h1 : 25 ≤ k) : tm_ent K σ r = .inl (tm_CA K k, (tm_n σ r).toNat, .inr (.inr (.inr (.inr fun j => tm_ro K (tm_a σ r (j : Int)))))) := by
  unfold tm_ent
  rw [if_neg (by omega), if_neg (by omega), h]
theorem tm_fl_at (K : tm_K) (σ : tm_S) (r : Int) {ci j : Nat} (hj : j < tm_nf (ci + 1)) : (tm_fl K σ r ci)[j]? = some (tm_fv K (64 * ci + j) (tm_f σ (64 * ci + j) r)) := by
  unfold tm_fl
  rw [List.getElem?_map, List.getElem?_range hj]
  rfl
theorem tm_fl_len (K : tm_K) (σ : tm_S) (r : Int) (ci : Nat) : (tm_fl K σ r ci).length = tm_nf (ci + 1) := by simp [tm_fl]
theorem tm_nf_le (k : Nat) : tm_nf k ≤ 41 := by
  unfold tm_nf
  split <;> omega
theorem tm_ent_congr {K : tm_K} {σ τ : tm_S} {q : Int} (hk : tm_k τ q = tm_k σ q) (hn : tm_n τ q = tm_n σ q) (hf : ∀ k, tm_f τ k q = tm_f σ k q) (ha : ∀ i, tm_a τ q i = tm_a σ q i) : tm_ent K τ q = tm_ent K σ q := by
  unfold tm_ent tm_fl
  rw [hk, hn]
  simp only [hf, ha]
theorem tm_W_put {K : tm_K} {σ τ : tm_S} {H H1 : Heap} {r : Int} (hw : tm_W K σ H) (hk : tm_k σ r ≠ 0) (e : va_at (tm_D K) tm_cl (tm_ad K r, tm_ent K τ r) H1) (z : H1.size = H.size) (oq : ∀ q : Nat, q ≠ tm_ad K r → H1[q]? = H[q]?)
    (hkk : ∀ q, tm_k τ q = tm_k σ q) (hnn : ∀ q, tm_n τ q = tm_n σ q) (hent : ∀ q, q ≠ r → (∀ k, tm_f τ k q = tm_f σ k q) ∧ ∀ i, tm_a τ q i = tm_a σ q i) (hrf : ∀ (k : Nat) (q : Int), tm_in (tm_f τ k q)) (hra : ∀ a i : Int, tm_in (tm_a τ a i)) : tm_W K τ H1 := by
  refine ⟨fun q hq => ?_, fun a b ha hb hab => hw.2.1 a b (by rw [← hkk]; exact ha) (by rw [← hkk]; exact hb) hab, hrf, hra, fun a => by rw [hnn]; exact hw.2.2.2.2 a⟩
  rw [hkk] at hq
  obtain ⟨g1, g2, g3, g4⟩ := hw.1 q hq
  refine ⟨g1, by rw [z]; exact g2, fun h9 => ?_, fun h9 => g4.1 (by rw [← hkk]; exact h9), fun h9 => g4.2 (by rw [← hkk]; exact h9)⟩
  rw [hkk] at h9
  refine ⟨?_, (g3 h9).2⟩
  by_cases hqr : q = r
  · subst hqr
    exact e
  · have hne : tm_ad K q ≠ tm_ad K r := fun h => hqr (hw.2.1 q r hq hk h)
    rw [tm_ent_congr (hkk q) (hnn q) (hent q hqr).1 (hent q hqr).2]
    exact (g3 h9).1.kept (oq _ hne)
theorem tm_W_kept {K : tm_K} {σ : tm_S} {H H1 : Heap} (hw : tm_W K σ H) (hz : H.size ≤ H1.size) (hq : ∀ q : Nat, q < H.size → H1[q]? = H[q]?) : tm_W K σ H1 := by
  refine ⟨fun r hr => ?_, hw.2⟩
  obtain ⟨g1, g2, g3, g4⟩ := hw.1 r hr
  exact ⟨g1, Nat.lt_of_lt_of_le g2 hz, fun h => ⟨(g3 h).1.kept (hq _ g2), (g3 h).2⟩, g4⟩
theorem tm_rf_wf {σ : tm_S} {j : Nat} {r v : Int} (h : ∀ (k : Nat) (q : Int), tm_in (tm_f σ k q)) (hv : tm_in v) (k : Nat) (q : Int) : tm_in (tm_f (tm_wf σ j r v) k q) := by
  rw [tm_f_wf]
  split
  · exact hv
  · exact h k q
theorem tm_ra_wa {σ : tm_S} {a i v : Int} (h : ∀ b j : Int, tm_in (tm_a σ b j)) (hv : tm_in v) (b j : Int) : tm_in (tm_a (tm_wa σ a i v) b j) := by
  rw [tm_a_wa]
  split
  · exact hv
  · exact h b j
theorem tm_hf_wf {FX : tm_X0} {σ : tm_S} {k : Nat} {r v : Int} (h : tm_hf FX σ) (hk : (FX.1.all fun q => q.1 != k) = true) : tm_hf FX (tm_wf σ k r v) := by
  refine ⟨fun q hq => ?_, h.2.1, h.2.2⟩
  have h1 := List.all_eq_true.mp hk q hq
  rw [tm_f_wf, if_neg (fun h9 => by rw [h9.1] at h1; simp at h1)]
  exact h.1 q hq
theorem tm_hf_wa {FX : tm_X0} {σ : tm_S} {a i v : Int} (h : tm_hf FX σ) (hk : ∀ q ∈ FX.2.2, q.1 ≠ a) : tm_hf FX (tm_wa σ a i v) := by
  refine ⟨h.1, h.2.1, fun q hq j hj => ?_⟩
  rw [tm_a_wa, if_neg (fun h9 => hk q hq h9.1)]
  exact h.2.2 q hq j hj
section TMR
variable {p : Program} {l : Launch} {e : Env} {R : Room} {s : State} {m : MethodId} {args : Array Value} {below : List Frame} {meth : Method} {c : Code} {K : tm_K} {FX : tm_X0} {rt : Nat} {cc : ByteArray} {nL : Nat} {own mn : String} {ret : Option FieldType} {fr lo : Nat} {pc : Nat} {ls : Array Slot} {rest : List Value} {X A B : tm_R} {σ : tm_S} {lg : Nat}
theorem tm_iconst (cx : tm_C p l R s m args meth c K cc nL own mn ret fr lo) {n : Int} (d : decode cc pc = .ok (.iconst n, 1)) (k : tm_J p l e R s m args below meth c K FX rt X σ (F0 m (pc + 1) ls (tm_iv n :: rest))) : tm_J p l e R s m args below meth c K FX rt X σ (F0 m pc ls rest) :=
  fun o t h H locs w v => lv_iconst cx.1 cx.2.1 d rfl (k o t h H locs w v)
theorem tm_bipush (cx : tm_C p l R s m args meth c K cc nL own mn ret fr lo) {n : Int} (d : decode cc pc = .ok (.bipush n, 2)) (hv : (Int8.ofInt n).toInt32 = Int32.ofInt n) (k : tm_J p l e R s m args below meth c K FX rt X σ (F0 m (pc + 2) ls (tm_iv n :: rest))) : tm_J p l e R s m args below meth c K FX rt X σ (F0 m pc ls rest) :=
  fun o t h H locs w v => lv_bipush cx.1 cx.2.1 d hv (k o t h H locs w v)
theorem tm_sipush (cx : tm_C p l R s m args meth c K cc nL own mn ret fr lo) {n : Int} (d : decode cc pc = .ok (.sipush n, 3)) (hv : (Int16.ofInt n).toInt32 = Int32.ofInt n) (k : tm_J p l e R s m args below meth c K FX rt X σ (F0 m (pc + 3) ls (tm_iv n :: rest))) : tm_J p l e R s m args below meth c K FX rt X σ (F0 m pc ls rest) :=
  fun o t h H locs w v => lv_sipush cx.1 cx.2.1 d hv (k o t h H locs w v)
theorem tm_null (cx : tm_C p l R s m args meth c K cc nL own mn ret fr lo) (d : decode cc pc = .ok (.aconst_null, 1)) (k : tm_J p l e R s m args below meth c K FX rt X σ (F0 m (pc + 1) ls (tm_rv K (-1) :: rest))) : tm_J p l e R s m args below meth c K FX rt X σ (F0 m pc ls rest) :=
  fun o t h H locs w v => lv_null cx.1 cx.2.1 d (k o t h H locs w v)
theorem tm_iload_n (cx : tm_C p l R s m args meth c K cc nL own mn ret fr lo) {k : Fin 4} {x : Int} (d : decode cc pc = .ok (.iload_n k, 1)) (hl : ls[(k : Nat)]? = some (.val (tm_iv x))) (kk : tm_J p l e R s m args below meth c K FX rt X σ (F0 m (pc + 1) ls (tm_iv x :: rest))) : tm_J p l e R s m args below meth c K FX rt X σ (F0 m pc ls rest) :=
  fun o t h H locs w v => lv_iload_n cx.1 cx.2.1 d rfl hl (kk o t h H locs w v)
theorem tm_iload (cx : tm_C p l R s m args meth c K cc nL own mn ret fr lo) {i : Nat} {x : Int} (d : decode cc pc = .ok (.iload i, 2)) (hl : ls[i]? = some (.val (tm_iv x))) (kk : tm_J p l e R s m args below meth c K FX rt X σ (F0 m (pc + 2) ls (tm_iv x :: rest))) : tm_J p l e R s m args below meth c K FX rt X σ (F0 m pc ls rest) :=
  fun o t h H locs w v => lv_iload cx.1 cx.2.1 d hl (kk o t h H locs w v)
theorem tm_lload_n (cx : tm_C p l R s m args meth c K cc nL own mn ret fr lo) {k : Fin 4} {x : Int} (d : decode cc pc = .ok (.lload_n k, 1)) (hl : ls[(k : Nat)]? = some (.val (tm_lv x))) (kk : tm_J p l e R s m args below meth c K FX rt X σ (F0 m (pc + 1) ls (tm_lv x :: rest))) : tm_J p l e R s m args below meth c K FX rt X σ (F0 m pc ls rest) :=
  fun o t h H locs w v => lv_lload_n cx.1 cx.2.1 d rfl hl (kk o t h H locs w v)
theorem tm_aload_n (cx : tm_C p l R s m args meth c K cc nL own mn ret fr lo) {k : Fin 4} {x : Int} (d : decode cc pc = .ok (.aload_n k, 1)) (hl : ls[(k : Nat)]? = some (.val (tm_rv K x))) (kk : tm_J p l e R s m args below meth c K FX rt X σ (F0 m (pc + 1) ls (tm_rv K x :: rest))) : tm_J p l e R s m args below meth c K FX rt X σ (F0 m pc ls rest) := by
  intro o t h H locs w v
  have k1 := kk o t h H locs w v
  rcases tm_rv_or K x with e | ⟨a, e⟩
  · rw [e] at hl k1
    exact lv_aload_nN cx.1 cx.2.1 d rfl hl k1
  · rw [e] at hl k1
    exact lv_aload_n cx.1 cx.2.1 d rfl hl k1
theorem tm_aload (cx : tm_C p l R s m args meth c K cc nL own mn ret fr lo) {i : Nat} {x : Int} (d : decode cc pc = .ok (.aload i, 2)) (hl : ls[i]? = some (.val (tm_rv K x))) (kk : tm_J p l e R s m args below meth c K FX rt X σ (F0 m (pc + 2) ls (tm_rv K x :: rest))) : tm_J p l e R s m args below meth c K FX rt X σ (F0 m pc ls rest) := by
  intro o t h H locs w v
  have k1 := kk o t h H locs w v
  rcases tm_rv_or K x with e | ⟨a, e⟩
  · rw [e] at hl k1
    exact lv_aloadN cx.1 cx.2.1 d hl k1
  · rw [e] at hl k1
    exact lv_aload cx.1 cx.2.1 d hl k1
theorem tm_istore_n (cx : tm_C p l R s m args meth c K cc nL own mn ret fr lo) {k : Fin 4} {x : Int} {lv lv' : List (Nat × Value)} (d : decode cc pc = .ok (.istore_n k, 1)) (hs : tm_has lg ls nL lv) (hn : (k : Nat) < nL) (hi : (lg = 0 ∨ (k : Nat) ≠ 2) ∧ (lg ≤ 1 ∨ (k : Nat) ≠ 4)) (hl : ((k : Nat), tm_iv x) :: lv.filter (fun q => q.1 != (k : Nat)) = lv')
    (kk : ∀ ls' : Array Slot, tm_has lg ls' nL lv' → tm_J p l e R s m args below meth c K FX rt X σ (F0 m (pc + 1) ls' rest)) : tm_J p l e R s m args below meth c K FX rt X σ (F0 m pc ls (tm_iv x :: rest)) :=
  fun o t h H locs w v => lv_istore_n cx.1 cx.2.1 d rfl hs.1 hn (by rw [tm_fil hs hi]; exact hl) (fun ls' h' => kk ls' (tm_has_new hs rfl hl h') o t h H locs w v)
theorem tm_istore (cx : tm_C p l R s m args meth c K cc nL own mn ret fr lo) {i : Nat} {x : Int} {lv lv' : List (Nat × Value)} (d : decode cc pc = .ok (.istore i, 2)) (hs : tm_has lg ls nL lv) (hn : i < nL) (hi : (lg = 0 ∨ i ≠ 2) ∧ (lg ≤ 1 ∨ i ≠ 4)) (hl : (i, tm_iv x) :: lv.filter (fun q => q.1 != i) = lv')
    (kk : ∀ ls' : Array Slot, tm_has lg ls' nL lv' → tm_J p l e R s m args below meth c K FX rt X σ (F0 m (pc + 2) ls' rest)) : tm_J p l e R s m args below meth c K FX rt X σ (F0 m pc ls (tm_iv x :: rest)) :=
  fun o t h H locs w v => lv_istore cx.1 cx.2.1 d hs.1 hn (by rw [tm_fil hs hi]; exact hl) (fun ls' h' => kk ls' (tm_has_new hs rfl hl h') o t h H locs w v)
theorem tm_astore_n (cx : tm_C p l R s m args meth c K cc nL own mn ret fr lo) {k : Fin 4} {x : Int} {lv lv' : List (Nat × Value)} (d : decode cc pc = .ok (.astore_n k, 1)) (hs : tm_has lg ls nL lv) (hn : (k : Nat) < nL) (hi : (lg = 0 ∨ (k : Nat) ≠ 2) ∧ (lg ≤ 1 ∨ (k : Nat) ≠ 4)) (hl : ((k : Nat), tm_rv K x) :: lv.filter (fun q => q.1 != (k : Nat)) = lv')
    (kk : ∀ ls' : Array Slot, tm_has lg ls' nL lv' → tm_J p l e R s m args below meth c K FX rt X σ (F0 m (pc + 1) ls' rest)) : tm_J p l e R s m args below meth c K FX rt X σ (F0 m pc ls (tm_rv K x :: rest)) := by
  intro o t h H locs w v
  rcases tm_rv_or K x with e | ⟨a, e⟩
  · have hl9 := hl
    rw [e] at hl ⊢
    exact lv_astore_nN cx.1 cx.2.1 d rfl hs.1 hn (by rw [tm_fil hs hi]; exact hl) (fun ls' h' => kk ls' (tm_has_new hs (tm_rv_cat K x) hl9 h') o t h H locs w v)
  · have hl9 := hl
    rw [e] at hl ⊢
    exact lv_astore_n cx.1 cx.2.1 d rfl hs.1 hn (by rw [tm_fil hs hi]; exact hl) (fun ls' h' => kk ls' (tm_has_new hs (tm_rv_cat K x) hl9 h') o t h H locs w v)
theorem tm_astore (cx : tm_C p l R s m args meth c K cc nL own mn ret fr lo) {i : Nat} {x : Int} {lv lv' : List (Nat × Value)} (d : decode cc pc = .ok (.astore i, 2)) (hs : tm_has lg ls nL lv) (hn : i < nL) (hi : (lg = 0 ∨ i ≠ 2) ∧ (lg ≤ 1 ∨ i ≠ 4)) (hl : (i, tm_rv K x) :: lv.filter (fun q => q.1 != i) = lv')
    (kk : ∀ ls' : Array Slot, tm_has lg ls' nL lv' → tm_J p l e R s m args below meth c K FX rt X σ (F0 m (pc + 2) ls' rest)) : tm_J p l e R s m args below meth c K FX rt X σ (F0 m pc ls (tm_rv K x :: rest)) := by
  intro o t h H locs w v
  rcases tm_rv_or K x with e | ⟨a, e⟩
  · have hl9 := hl
    rw [e] at hl ⊢
    exact lv_astoreN cx.1 cx.2.1 d hs.1 hn (by rw [tm_fil hs hi]; exact hl) (fun ls' h' => kk ls' (tm_has_new hs (tm_rv_cat K x) hl9 h') o t h H locs w v)
  · have hl9 := hl
    rw [e] at hl ⊢
    exact lv_astore cx.1 cx.2.1 d hs.1 hn (by rw [tm_fil hs hi]; exact hl) (fun ls' h' => kk ls' (tm_has_new hs (tm_rv_cat K x) hl9 h') o t h H locs w v)
theorem tm_iinc (cx : tm_C p l R s m args meth c K cc nL own mn ret fr lo) {i j : Nat} {n x : Int} {lv lv' : List (Nat × Value)} (d : decode cc pc = .ok (.iinc i n, 3)) (hs : tm_has lg ls nL lv) (hk : lv[j]? = some (i, tm_iv x)) (hn : i < nL) (hi : (lg = 0 ∨ i ≠ 2) ∧ (lg ≤ 1 ∨ i ≠ 4)) (hl : (i, tm_iv (x + n)) :: lv.filter (fun q => q.1 != i) = lv')
    (kk : tm_in (x + n) → ∀ ls' : Array Slot, tm_has lg ls' nL lv' → tm_J p l e R s m args below meth c K FX rt X σ (F0 m (pc + 3) ls' rest)) : tm_J p l e R s m args below meth c K FX rt (tm_gi (x + n) X) σ (F0 m pc ls rest) :=
  tm_gi_ fun hr => fun o t h H locs w v => lv_iinc (v := Int32.ofInt (x + n)) cx.1 cx.2.1 d hs.1 hk (Int32.ofInt_add x n).symm hn (by rw [tm_fil hs hi]; exact hl) (fun ls' h' => kk hr ls' (tm_has_new hs rfl hl h') o t h H locs w v)
theorem tm_iadd (cx : tm_C p l R s m args meth c K cc nL own mn ret fr lo) {x y : Int} (d : decode cc pc = .ok (.iadd, 1)) (k : tm_in (x + y) → tm_J p l e R s m args below meth c K FX rt X σ (F0 m (pc + 1) ls (tm_iv (x + y) :: rest))) : tm_J p l e R s m args below meth c K FX rt (tm_gi (x + y) X) σ (F0 m pc ls (tm_iv y :: tm_iv x :: rest)) :=
  tm_gi_ fun hr => fun o t h H locs w v => lv_iadd cx.1 cx.2.1 d (by rw [← Int32.ofInt_add]; exact k hr o t h H locs w v)
theorem tm_isub (cx : tm_C p l R s m args meth c K cc nL own mn ret fr lo) {x y : Int} (d : decode cc pc = .ok (.isub, 1)) (k : tm_in (x - y) → tm_J p l e R s m args below meth c K FX rt X σ (F0 m (pc + 1) ls (tm_iv (x - y) :: rest))) : tm_J p l e R s m args below meth c K FX rt (tm_gi (x - y) X) σ (F0 m pc ls (tm_iv y :: tm_iv x :: rest)) :=
  tm_gi_ fun hr => fun o t h H locs w v => lv_isub cx.1 cx.2.1 d (by rw [← Int32.ofInt_sub]; exact k hr o t h H locs w v)
theorem tm_imul (cx : tm_C p l R s m args meth c K cc nL own mn ret fr lo) {x y : Int} (d : decode cc pc = .ok (.imul, 1)) (k : tm_in (x * y) → tm_J p l e R s m args below meth c K FX rt X σ (F0 m (pc + 1) ls (tm_iv (x * y) :: rest))) : tm_J p l e R s m args below meth c K FX rt (tm_gi (x * y) X) σ (F0 m pc ls (tm_iv y :: tm_iv x :: rest)) :=
  tm_gi_ fun hr => fun o t h H locs w v => lv_imul cx.1 cx.2.1 d (by rw [← Int32.ofInt_mul]; exact k hr o t h H locs w v)
theorem tm_ineg (cx : tm_C p l R s m args meth c K cc nL own mn ret fr lo) {x : Int} (d : decode cc pc = .ok (.ineg, 1)) (k : tm_in (-x) → tm_J p l e R s m args below meth c K FX rt X σ (F0 m (pc + 1) ls (tm_iv (-x) :: rest))) : tm_J p l e R s m args below meth c K FX rt (tm_gi (-x) X) σ (F0 m pc ls (tm_iv x :: rest)) :=
  tm_gi_ fun hr => fun o t h H locs w v => lv_ineg cx.1 cx.2.1 d (by rw [← Int32.ofInt_neg]; exact k hr o t h H locs w v)
theorem tm_pop_i (cx : tm_C p l R s m args meth c K cc nL own mn ret fr lo) {x : Int} (d : decode cc pc = .ok (.pop, 1)) (k : tm_J p l e R s m args below meth c K FX rt X σ (F0 m (pc + 1) ls rest)) : tm_J p l e R s m args below meth c K FX rt X σ (F0 m pc ls (tm_iv x :: rest)) :=
  fun o t h H locs w v => lv_pop cx.1 cx.2.1 d rfl (k o t h H locs w v)
theorem tm_pop_r (cx : tm_C p l R s m args meth c K cc nL own mn ret fr lo) {x : Int} (d : decode cc pc = .ok (.pop, 1)) (k : tm_J p l e R s m args below meth c K FX rt X σ (F0 m (pc + 1) ls rest)) : tm_J p l e R s m args below meth c K FX rt X σ (F0 m pc ls (tm_rv K x :: rest)) :=
  fun o t h H locs w v => lv_pop cx.1 cx.2.1 d (tm_rv_cat K x) (k o t h H locs w v)
theorem tm_dup_i (cx : tm_C p l R s m args meth c K cc nL own mn ret fr lo) {x : Int} (d : decode cc pc = .ok (.dup, 1)) (k : tm_J p l e R s m args below meth c K FX rt X σ (F0 m (pc + 1) ls (tm_iv x :: tm_iv x :: rest))) : tm_J p l e R s m args below meth c K FX rt X σ (F0 m pc ls (tm_iv x :: rest)) :=
  fun o t h H locs w v => lv_dup cx.1 cx.2.1 d rfl (k o t h H locs w v)
theorem tm_dup_r (cx : tm_C p l R s m args meth c K cc nL own mn ret fr lo) {x : Int} (d : decode cc pc = .ok (.dup, 1)) (k : tm_J p l e R s m args below meth c K FX rt X σ (F0 m (pc + 1) ls (tm_rv K x :: tm_rv K x :: rest))) : tm_J p l e R s m args below meth c K FX rt X σ (F0 m pc ls (tm_rv K x :: rest)) :=
  fun o t h H locs w v => lv_dup cx.1 cx.2.1 d (tm_rv_cat K x) (k o t h H locs w v)
theorem tm_dup2_ir (cx : tm_C p l R s m args meth c K cc nL own mn ret fr lo) {x y : Int} (d : decode cc pc = .ok (.dup2, 1)) (k : tm_J p l e R s m args below meth c K FX rt X σ (F0 m (pc + 1) ls (tm_iv x :: tm_rv K y :: tm_iv x :: tm_rv K y :: rest))) : tm_J p l e R s m args below meth c K FX rt X σ (F0 m pc ls (tm_iv x :: tm_rv K y :: rest)) :=
  fun o t h H locs w v => lv_dup2_11 cx.1 cx.2.1 d rfl (tm_rv_cat K y) (k o t h H locs w v)
theorem tm_dup_x1_ir (cx : tm_C p l R s m args meth c K cc nL own mn ret fr lo) {x y : Int} (d : decode cc pc = .ok (.dup_x1, 1)) (k : tm_J p l e R s m args below meth c K FX rt X σ (F0 m (pc + 1) ls (tm_iv x :: tm_rv K y :: tm_iv x :: rest))) : tm_J p l e R s m args below meth c K FX rt X σ (F0 m pc ls (tm_iv x :: tm_rv K y :: rest)) :=
  fun o t h H locs w v => lv_dup_x1 cx.1 cx.2.1 d rfl (tm_rv_cat K y) (k o t h H locs w v)
theorem tm_goto (cx : tm_C p l R s m args meth c K cc nL own mn ret fr lo) {off : Int} {tgt : Nat} (d : decode cc pc = .ok (.goto off, 3)) (ht : (pc : Int) + off = (tgt : Int)) (k : tm_J p l e R s m args below meth c K FX rt X σ (F0 m tgt ls rest)) : tm_J p l e R s m args below meth c K FX rt X σ (F0 m pc ls rest) :=
  fun o t h H locs w v => lv_goto cx.1 cx.2.1 d ht (k o t h H locs w v)
theorem tm_Z_eq {x : Int} (h : tm_in x) : Int32.ofInt x = 0 ↔ x = 0 := tm_I_eq (y := 0) h (by decide)
theorem tm_Z_lt {x : Int} (h : tm_in x) : Int32.ofInt x < 0 ↔ x < 0 := tm_I_lt (y := 0) h (by decide)
theorem tm_Z_gt {x : Int} (h : tm_in x) : 0 < Int32.ofInt x ↔ 0 < x := tm_I_lt (x := 0) (by decide) h
theorem tm_Z_le {x : Int} (h : tm_in x) : Int32.ofInt x ≤ 0 ↔ x ≤ 0 := tm_I_le (y := 0) h (by decide)
theorem tm_Z_ge {x : Int} (h : tm_in x) : 0 ≤ Int32.ofInt x ↔ 0 ≤ x := tm_I_le (x := 0) (by decide) h
theorem tm_if_eq (cx : tm_C p l R s m args meth c K cc nL own mn ret fr lo) {x : Int} {off : Int} {tgt : Nat} (hx : tm_in x) (d : decode cc pc = .ok (.ifCond .eq off, 3)) (ht : (pc : Int) + off = (tgt : Int)) (kt : x = 0 → tm_J p l e R s m args below meth c K FX rt A σ (F0 m tgt ls rest)) (kf : ¬ x = 0 → tm_J p l e R s m args below meth c K FX rt B σ (F0 m (pc + 3) ls rest)) : tm_J p l e R s m args below meth c K FX rt (if x = 0 then A else B) σ (F0 m pc ls (tm_iv x :: rest)) := by
  intro o t h H locs w v
  exact lv_if_eq cx.1 cx.2.1 d ht (fun q => by have q := (tm_Z_eq hx).mp q; rw [if_pos q] at h; exact kt q o t h H locs w v) (fun q => by have q : ¬ (x = 0) := fun z => q ((tm_Z_eq hx).mpr z); rw [if_neg q] at h; exact kf q o t h H locs w v)
theorem tm_if_eq_t (cx : tm_C p l R s m args meth c K cc nL own mn ret fr lo) {x : Int} {off : Int} {tgt : Nat} (hx : tm_in x) (hp : x = 0) (d : decode cc pc = .ok (.ifCond .eq off, 3)) (ht : (pc : Int) + off = (tgt : Int)) (k : tm_J p l e R s m args below meth c K FX rt X σ (F0 m tgt ls rest)) : tm_J p l e R s m args below meth c K FX rt X σ (F0 m pc ls (tm_iv x :: rest)) := by
  have h9 := tm_if_eq (A := X) (B := X) cx hx d ht (fun _ => k) (fun q => absurd hp q)
  rwa [ite_self] at h9
theorem tm_if_eq_f (cx : tm_C p l R s m args meth c K cc nL own mn ret fr lo) {x : Int} {off : Int} {tgt : Nat} (hx : tm_in x) (hp : ¬ x = 0) (d : decode cc pc = .ok (.ifCond .eq off, 3)) (ht : (pc : Int) + off = (tgt : Int)) (k : tm_J p l e R s m args below meth c K FX rt X σ (F0 m (pc + 3) ls rest)) : tm_J p l e R s m args below meth c K FX rt X σ (F0 m pc ls (tm_iv x :: rest)) := by
  have h9 := tm_if_eq (A := X) (B := X) cx hx d ht (fun q => absurd q hp) (fun _ => k)
  rwa [ite_self] at h9
theorem tm_icmp_eq (cx : tm_C p l R s m args meth c K cc nL own mn ret fr lo) {x y : Int} {off : Int} {tgt : Nat} (hx : tm_in x) (hy : tm_in y) (d : decode cc pc = .ok (.if_icmp .eq off, 3)) (ht : (pc : Int) + off = (tgt : Int)) (kt : x = y → tm_J p l e R s m args below meth c K FX rt A σ (F0 m tgt ls rest)) (kf : ¬ x = y → tm_J p l e R s m args below meth c K FX rt B σ (F0 m (pc + 3) ls rest)) : tm_J p l e R s m args below meth c K FX rt (if x = y then A else B) σ (F0 m pc ls (tm_iv y :: tm_iv x :: rest)) := by
  intro o t h H locs w v
  exact lv_icmp_eq cx.1 cx.2.1 d ht (fun q => by have q := (tm_I_eq hx hy).mp q; rw [if_pos q] at h; exact kt q o t h H locs w v) (fun q => by have q : ¬ (x = y) := fun z => q ((tm_I_eq hx hy).mpr z); rw [if_neg q] at h; exact kf q o t h H locs w v)
theorem tm_icmp_eq_t (cx : tm_C p l R s m args meth c K cc nL own mn ret fr lo) {x y : Int} {off : Int} {tgt : Nat} (hx : tm_in x) (hy : tm_in y) (hp : x = y) (d : decode cc pc = .ok (.if_icmp .eq off, 3)) (ht : (pc : Int) + off = (tgt : Int)) (k : tm_J p l e R s m args below meth c K FX rt X σ (F0 m tgt ls rest)) : tm_J p l e R s m args below meth c K FX rt X σ (F0 m pc ls (tm_iv y :: tm_iv x :: rest)) := by
  have h9 := tm_icmp_eq (A := X) (B := X) cx hx hy d ht (fun _ => k) (fun q => absurd hp q)
  rwa [ite_self] at h9
theorem tm_icmp_eq_f (cx : tm_C p l R s m args meth c K cc nL own mn ret fr lo) {x y : Int} {off : Int} {tgt : Nat} (hx : tm_in x) (hy : tm_in y) (hp : ¬ x = y) (d : decode cc pc = .ok (.if_icmp .eq off, 3)) (ht : (pc : Int) + off = (tgt : Int)) (k : tm_J p l e R s m args below meth c K FX rt X σ (F0 m (pc + 3) ls rest)) : tm_J p l e R s m args below meth c K FX rt X σ (F0 m pc ls (tm_iv y :: tm_iv x :: rest)) := by
  have h9 := tm_icmp_eq (A := X) (B := X) cx hx hy d ht (fun q => absurd q hp) (fun _ => k)
  rwa [ite_self] at h9
theorem tm_if_ne (cx : tm_C p l R s m args meth c K cc nL own mn ret fr lo) {x : Int} {off : Int} {tgt : Nat} (hx : tm_in x) (d : decode cc pc = .ok (.ifCond .ne off, 3)) (ht : (pc : Int) + off = (tgt : Int)) (kt : x = 0 → tm_J p l e R s m args below meth c K FX rt A σ (F0 m (pc + 3) ls rest)) (kf : ¬ x = 0 → tm_J p l e R s m args below meth c K FX rt B σ (F0 m tgt ls rest)) : tm_J p l e R s m args below meth c K FX rt (if x = 0 then A else B) σ (F0 m pc ls (tm_iv x :: rest)) := by
  intro o t h H locs w v
  exact lv_if_ne cx.1 cx.2.1 d ht (fun q => by have q : ¬ (x = 0) := fun z => q ((tm_Z_eq hx).mpr z); rw [if_neg q] at h; exact kf q o t h H locs w v) (fun q => by have q : x = 0 := (tm_Z_eq hx).mp (q); rw [if_pos q] at h; exact kt q o t h H locs w v)
theorem tm_if_ne_t (cx : tm_C p l R s m args meth c K cc nL own mn ret fr lo) {x : Int} {off : Int} {tgt : Nat} (hx : tm_in x) (hp : x = 0) (d : decode cc pc = .ok (.ifCond .ne off, 3)) (ht : (pc : Int) + off = (tgt : Int)) (k : tm_J p l e R s m args below meth c K FX rt X σ (F0 m (pc + 3) ls rest)) : tm_J p l e R s m args below meth c K FX rt X σ (F0 m pc ls (tm_iv x :: rest)) := by
  have h9 := tm_if_ne (A := X) (B := X) cx hx d ht (fun _ => k) (fun q => absurd hp q)
  rwa [ite_self] at h9
theorem tm_if_ne_f (cx : tm_C p l R s m args meth c K cc nL own mn ret fr lo) {x : Int} {off : Int} {tgt : Nat} (hx : tm_in x) (hp : ¬ x = 0) (d : decode cc pc = .ok (.ifCond .ne off, 3)) (ht : (pc : Int) + off = (tgt : Int)) (k : tm_J p l e R s m args below meth c K FX rt X σ (F0 m tgt ls rest)) : tm_J p l e R s m args below meth c K FX rt X σ (F0 m pc ls (tm_iv x :: rest)) := by
  have h9 := tm_if_ne (A := X) (B := X) cx hx d ht (fun q => absurd q hp) (fun _ => k)
  rwa [ite_self] at h9
theorem tm_icmp_ne (cx : tm_C p l R s m args meth c K cc nL own mn ret fr lo) {x y : Int} {off : Int} {tgt : Nat} (hx : tm_in x) (hy : tm_in y) (d : decode cc pc = .ok (.if_icmp .ne off, 3)) (ht : (pc : Int) + off = (tgt : Int)) (kt : x = y → tm_J p l e R s m args below meth c K FX rt A σ (F0 m (pc + 3) ls rest)) (kf : ¬ x = y → tm_J p l e R s m args below meth c K FX rt B σ (F0 m tgt ls rest)) : tm_J p l e R s m args below meth c K FX rt (if x = y then A else B) σ (F0 m pc ls (tm_iv y :: tm_iv x :: rest)) := by
  intro o t h H locs w v
  exact lv_icmp_ne cx.1 cx.2.1 d ht (fun q => by have q : ¬ (x = y) := fun z => q ((tm_I_eq hx hy).mpr z); rw [if_neg q] at h; exact kf q o t h H locs w v) (fun q => by have q : x = y := (tm_I_eq hx hy).mp (q); rw [if_pos q] at h; exact kt q o t h H locs w v)
theorem tm_icmp_ne_t (cx : tm_C p l R s m args meth c K cc nL own mn ret fr lo) {x y : Int} {off : Int} {tgt : Nat} (hx : tm_in x) (hy : tm_in y) (hp : x = y) (d : decode cc pc = .ok (.if_icmp .ne off, 3)) (ht : (pc : Int) + off = (tgt : Int)) (k : tm_J p l e R s m args below meth c K FX rt X σ (F0 m (pc + 3) ls rest)) : tm_J p l e R s m args below meth c K FX rt X σ (F0 m pc ls (tm_iv y :: tm_iv x :: rest)) := by
  have h9 := tm_icmp_ne (A := X) (B := X) cx hx hy d ht (fun _ => k) (fun q => absurd hp q)
  rwa [ite_self] at h9
theorem tm_icmp_ne_f (cx : tm_C p l R s m args meth c K cc nL own mn ret fr lo) {x y : Int} {off : Int} {tgt : Nat} (hx : tm_in x) (hy : tm_in y) (hp : ¬ x = y) (d : decode cc pc = .ok (.if_icmp .ne off, 3)) (ht : (pc : Int) + off = (tgt : Int)) (k : tm_J p l e R s m args below meth c K FX rt X σ (F0 m tgt ls rest)) : tm_J p l e R s m args below meth c K FX rt X σ (F0 m pc ls (tm_iv y :: tm_iv x :: rest)) := by
  have h9 := tm_icmp_ne (A := X) (B := X) cx hx hy d ht (fun q => absurd q hp) (fun _ => k)
  rwa [ite_self] at h9
theorem tm_if_lt (cx : tm_C p l R s m args meth c K cc nL own mn ret fr lo) {x : Int} {off : Int} {tgt : Nat} (hx : tm_in x) (d : decode cc pc = .ok (.ifCond .lt off, 3)) (ht : (pc : Int) + off = (tgt : Int)) (kt : x < 0 → tm_J p l e R s m args below meth c K FX rt A σ (F0 m tgt ls rest)) (kf : ¬ x < 0 → tm_J p l e R s m args below meth c K FX rt B σ (F0 m (pc + 3) ls rest)) : tm_J p l e R s m args below meth c K FX rt (if x < 0 then A else B) σ (F0 m pc ls (tm_iv x :: rest)) := by
  intro o t h H locs w v
  exact lv_if_lt cx.1 cx.2.1 d ht (fun q => by have q := (tm_Z_lt hx).mp q; rw [if_pos q] at h; exact kt q o t h H locs w v) (fun q => by have q : ¬ (x < 0) := fun z => q ((tm_Z_lt hx).mpr z); rw [if_neg q] at h; exact kf q o t h H locs w v)
theorem tm_if_lt_t (cx : tm_C p l R s m args meth c K cc nL own mn ret fr lo) {x : Int} {off : Int} {tgt : Nat} (hx : tm_in x) (hp : x < 0) (d : decode cc pc = .ok (.ifCond .lt off, 3)) (ht : (pc : Int) + off = (tgt : Int)) (k : tm_J p l e R s m args below meth c K FX rt X σ (F0 m tgt ls rest)) : tm_J p l e R s m args below meth c K FX rt X σ (F0 m pc ls (tm_iv x :: rest)) := by
  have h9 := tm_if_lt (A := X) (B := X) cx hx d ht (fun _ => k) (fun q => absurd hp q)
  rwa [ite_self] at h9
theorem tm_if_lt_f (cx : tm_C p l R s m args meth c K cc nL own mn ret fr lo) {x : Int} {off : Int} {tgt : Nat} (hx : tm_in x) (hp : ¬ x < 0) (d : decode cc pc = .ok (.ifCond .lt off, 3)) (ht : (pc : Int) + off = (tgt : Int)) (k : tm_J p l e R s m args below meth c K FX rt X σ (F0 m (pc + 3) ls rest)) : tm_J p l e R s m args below meth c K FX rt X σ (F0 m pc ls (tm_iv x :: rest)) := by
  have h9 := tm_if_lt (A := X) (B := X) cx hx d ht (fun q => absurd q hp) (fun _ => k)
  rwa [ite_self] at h9
theorem tm_icmp_lt (cx : tm_C p l R s m args meth c K cc nL own mn ret fr lo) {x y : Int} {off : Int} {tgt : Nat} (hx : tm_in x) (hy : tm_in y) (d : decode cc pc = .ok (.if_icmp .lt off, 3)) (ht : (pc : Int) + off = (tgt : Int)) (kt : x < y → tm_J p l e R s m args below meth c K FX rt A σ (F0 m tgt ls rest)) (kf : ¬ x < y → tm_J p l e R s m args below meth c K FX rt B σ (F0 m (pc + 3) ls rest)) : tm_J p l e R s m args below meth c K FX rt (if x < y then A else B) σ (F0 m pc ls (tm_iv y :: tm_iv x :: rest)) := by
  intro o t h H locs w v
  exact lv_icmp_lt cx.1 cx.2.1 d ht (fun q => by have q := (tm_I_lt hx hy).mp q; rw [if_pos q] at h; exact kt q o t h H locs w v) (fun q => by have q : ¬ (x < y) := fun z => q ((tm_I_lt hx hy).mpr z); rw [if_neg q] at h; exact kf q o t h H locs w v)
theorem tm_icmp_lt_t (cx : tm_C p l R s m args meth c K cc nL own mn ret fr lo) {x y : Int} {off : Int} {tgt : Nat} (hx : tm_in x) (hy : tm_in y) (hp : x < y) (d : decode cc pc = .ok (.if_icmp .lt off, 3)) (ht : (pc : Int) + off = (tgt : Int)) (k : tm_J p l e R s m args below meth c K FX rt X σ (F0 m tgt ls rest)) : tm_J p l e R s m args below meth c K FX rt X σ (F0 m pc ls (tm_iv y :: tm_iv x :: rest)) := by
  have h9 := tm_icmp_lt (A := X) (B := X) cx hx hy d ht (fun _ => k) (fun q => absurd hp q)
  rwa [ite_self] at h9
theorem tm_icmp_lt_f (cx : tm_C p l R s m args meth c K cc nL own mn ret fr lo) {x y : Int} {off : Int} {tgt : Nat} (hx : tm_in x) (hy : tm_in y) (hp : ¬ x < y) (d : decode cc pc = .ok (.if_icmp .lt off, 3)) (ht : (pc : Int) + off = (tgt : Int)) (k : tm_J p l e R s m args below meth c K FX rt X σ (F0 m (pc + 3) ls rest)) : tm_J p l e R s m args below meth c K FX rt X σ (F0 m pc ls (tm_iv y :: tm_iv x :: rest)) := by
  have h9 := tm_icmp_lt (A := X) (B := X) cx hx hy d ht (fun q => absurd q hp) (fun _ => k)
  rwa [ite_self] at h9
theorem tm_if_ge (cx : tm_C p l R s m args meth c K cc nL own mn ret fr lo) {x : Int} {off : Int} {tgt : Nat} (hx : tm_in x) (d : decode cc pc = .ok (.ifCond .ge off, 3)) (ht : (pc : Int) + off = (tgt : Int)) (kt : x < 0 → tm_J p l e R s m args below meth c K FX rt A σ (F0 m (pc + 3) ls rest)) (kf : ¬ x < 0 → tm_J p l e R s m args below meth c K FX rt B σ (F0 m tgt ls rest)) : tm_J p l e R s m args below meth c K FX rt (if x < 0 then A else B) σ (F0 m pc ls (tm_iv x :: rest)) := by
  intro o t h H locs w v
  exact lv_if_ge cx.1 cx.2.1 d ht (fun q => (by have q9 : ¬ (x < 0) := (by have q8 : 0 ≤ x := (tm_Z_ge hx).mp q; omega); rw [if_neg q9] at h; exact kf q9 o t h H locs w v)) (fun q => (by have q9 : x < 0 := (by have q8 : ¬ (0 ≤ x) := fun z => q ((tm_Z_ge hx).mpr z); omega); rw [if_pos q9] at h; exact kt q9 o t h H locs w v))
theorem tm_if_ge_t (cx : tm_C p l R s m args meth c K cc nL own mn ret fr lo) {x : Int} {off : Int} {tgt : Nat} (hx : tm_in x) (hp : x < 0) (d : decode cc pc = .ok (.ifCond .ge off, 3)) (ht : (pc : Int) + off = (tgt : Int)) (k : tm_J p l e R s m args below meth c K FX rt X σ (F0 m (pc + 3) ls rest)) : tm_J p l e R s m args below meth c K FX rt X σ (F0 m pc ls (tm_iv x :: rest)) := by
  have h9 := tm_if_ge (A := X) (B := X) cx hx d ht (fun _ => k) (fun q => absurd hp q)
  rwa [ite_self] at h9
theorem tm_if_ge_f (cx : tm_C p l R s m args meth c K cc nL own mn ret fr lo) {x : Int} {off : Int} {tgt : Nat} (hx : tm_in x) (hp : ¬ x < 0) (d : decode cc pc = .ok (.ifCond .ge off, 3)) (ht : (pc : Int) + off = (tgt : Int)) (k : tm_J p l e R s m args below meth c K FX rt X σ (F0 m tgt ls rest)) : tm_J p l e R s m args below meth c K FX rt X σ (F0 m pc ls (tm_iv x :: rest)) := by
  have h9 := tm_if_ge (A := X) (B := X) cx hx d ht (fun q => absurd q hp) (fun _ => k)
  rwa [ite_self] at h9
theorem tm_icmp_ge (cx : tm_C p l R s m args meth c K cc nL own mn ret fr lo) {x y : Int} {off : Int} {tgt : Nat} (hx : tm_in x) (hy : tm_in y) (d : decode cc pc = .ok (.if_icmp .ge off, 3)) (ht : (pc : Int) + off = (tgt : Int)) (kt : x < y → tm_J p l e R s m args below meth c K FX rt A σ (F0 m (pc + 3) ls rest)) (kf : ¬ x < y → tm_J p l e R s m args below meth c K FX rt B σ (F0 m tgt ls rest)) : tm_J p l e R s m args below meth c K FX rt (if x < y then A else B) σ (F0 m pc ls (tm_iv y :: tm_iv x :: rest)) := by
  intro o t h H locs w v
  exact lv_icmp_ge cx.1 cx.2.1 d ht (fun q => (by have q9 : ¬ (x < y) := (by have q8 : y ≤ x := (tm_I_le hy hx).mp q; omega); rw [if_neg q9] at h; exact kf q9 o t h H locs w v)) (fun q => (by have q9 : x < y := (by have q8 : ¬ (y ≤ x) := fun z => q ((tm_I_le hy hx).mpr z); omega); rw [if_pos q9] at h; exact kt q9 o t h H locs w v))
theorem tm_icmp_ge_t (cx : tm_C p l R s m args meth c K cc nL own mn ret fr lo) {x y : Int} {off : Int} {tgt : Nat} (hx : tm_in x) (hy : tm_in y) (hp : x < y) (d : decode cc pc = .ok (.if_icmp .ge off, 3)) (ht : (pc : Int) + off = (tgt : Int)) (k : tm_J p l e R s m args below meth c K FX rt X σ (F0 m (pc + 3) ls rest)) : tm_J p l e R s m args below meth c K FX rt X σ (F0 m pc ls (tm_iv y :: tm_iv x :: rest)) := by
  have h9 := tm_icmp_ge (A := X) (B := X) cx hx hy d ht (fun _ => k) (fun q => absurd hp q)
  rwa [ite_self] at h9
theorem tm_icmp_ge_f (cx : tm_C p l R s m args meth c K cc nL own mn ret fr lo) {x y : Int} {off : Int} {tgt : Nat} (hx : tm_in x) (hy : tm_in y) (hp : ¬ x < y) (d : decode cc pc = .ok (.if_icmp .ge off, 3)) (ht : (pc : Int) + off = (tgt : Int)) (k : tm_J p l e R s m args below meth c K FX rt X σ (F0 m tgt ls rest)) : tm_J p l e R s m args below meth c K FX rt X σ (F0 m pc ls (tm_iv y :: tm_iv x :: rest)) := by
  have h9 := tm_icmp_ge (A := X) (B := X) cx hx hy d ht (fun q => absurd q hp) (fun _ => k)
  rwa [ite_self] at h9
theorem tm_if_gt (cx : tm_C p l R s m args meth c K cc nL own mn ret fr lo) {x : Int} {off : Int} {tgt : Nat} (hx : tm_in x) (d : decode cc pc = .ok (.ifCond .gt off, 3)) (ht : (pc : Int) + off = (tgt : Int)) (kt : 0 < x → tm_J p l e R s m args below meth c K FX rt A σ (F0 m tgt ls rest)) (kf : ¬ 0 < x → tm_J p l e R s m args below meth c K FX rt B σ (F0 m (pc + 3) ls rest)) : tm_J p l e R s m args below meth c K FX rt (if 0 < x then A else B) σ (F0 m pc ls (tm_iv x :: rest)) := by
  intro o t h H locs w v
  exact lv_if_gt cx.1 cx.2.1 d ht (fun q => by have q := (tm_Z_gt hx).mp q; rw [if_pos q] at h; exact kt q o t h H locs w v) (fun q => by have q : ¬ (0 < x) := fun z => q ((tm_Z_gt hx).mpr z); rw [if_neg q] at h; exact kf q o t h H locs w v)
theorem tm_if_gt_t (cx : tm_C p l R s m args meth c K cc nL own mn ret fr lo) {x : Int} {off : Int} {tgt : Nat} (hx : tm_in x) (hp : 0 < x) (d : decode cc pc = .ok (.ifCond .gt off, 3)) (ht : (pc : Int) + off = (tgt : Int)) (k : tm_J p l e R s m args below meth c K FX rt X σ (F0 m tgt ls rest)) : tm_J p l e R s m args below meth c K FX rt X σ (F0 m pc ls (tm_iv x :: rest)) := by
  have h9 := tm_if_gt (A := X) (B := X) cx hx d ht (fun _ => k) (fun q => absurd hp q)
  rwa [ite_self] at h9
theorem tm_if_gt_f (cx : tm_C p l R s m args meth c K cc nL own mn ret fr lo) {x : Int} {off : Int} {tgt : Nat} (hx : tm_in x) (hp : ¬ 0 < x) (d : decode cc pc = .ok (.ifCond .gt off, 3)) (ht : (pc : Int) + off = (tgt : Int)) (k : tm_J p l e R s m args below meth c K FX rt X σ (F0 m (pc + 3) ls rest)) : tm_J p l e R s m args below meth c K FX rt X σ (F0 m pc ls (tm_iv x :: rest)) := by
  have h9 := tm_if_gt (A := X) (B := X) cx hx d ht (fun q => absurd q hp) (fun _ => k)
  rwa [ite_self] at h9
theorem tm_icmp_gt (cx : tm_C p l R s m args meth c K cc nL own mn ret fr lo) {x y : Int} {off : Int} {tgt : Nat} (hx : tm_in x) (hy : tm_in y) (d : decode cc pc = .ok (.if_icmp .gt off, 3)) (ht : (pc : Int) + off = (tgt : Int)) (kt : y < x → tm_J p l e R s m args below meth c K FX rt A σ (F0 m tgt ls rest)) (kf : ¬ y < x → tm_J p l e R s m args below meth c K FX rt B σ (F0 m (pc + 3) ls rest)) : tm_J p l e R s m args below meth c K FX rt (if y < x then A else B) σ (F0 m pc ls (tm_iv y :: tm_iv x :: rest)) := by
  intro o t h H locs w v
  exact lv_icmp_gt cx.1 cx.2.1 d ht (fun q => by have q := (tm_I_lt hy hx).mp q; rw [if_pos q] at h; exact kt q o t h H locs w v) (fun q => by have q : ¬ (y < x) := fun z => q ((tm_I_lt hy hx).mpr z); rw [if_neg q] at h; exact kf q o t h H locs w v)
theorem tm_icmp_gt_t (cx : tm_C p l R s m args meth c K cc nL own mn ret fr lo) {x y : Int} {off : Int} {tgt : Nat} (hx : tm_in x) (hy : tm_in y) (hp : y < x) (d : decode cc pc = .ok (.if_icmp .gt off, 3)) (ht : (pc : Int) + off = (tgt : Int)) (k : tm_J p l e R s m args below meth c K FX rt X σ (F0 m tgt ls rest)) : tm_J p l e R s m args below meth c K FX rt X σ (F0 m pc ls (tm_iv y :: tm_iv x :: rest)) := by
  have h9 := tm_icmp_gt (A := X) (B := X) cx hx hy d ht (fun _ => k) (fun q => absurd hp q)
  rwa [ite_self] at h9
theorem tm_icmp_gt_f (cx : tm_C p l R s m args meth c K cc nL own mn ret fr lo) {x y : Int} {off : Int} {tgt : Nat} (hx : tm_in x) (hy : tm_in y) (hp : ¬ y < x) (d : decode cc pc = .ok (.if_icmp .gt off, 3)) (ht : (pc : Int) + off = (tgt : Int)) (k : tm_J p l e R s m args below meth c K FX rt X σ (F0 m (pc + 3) ls rest)) : tm_J p l e R s m args below meth c K FX rt X σ (F0 m pc ls (tm_iv y :: tm_iv x :: rest)) := by
  have h9 := tm_icmp_gt (A := X) (B := X) cx hx hy d ht (fun q => absurd q hp) (fun _ => k)
  rwa [ite_self] at h9
theorem tm_if_le (cx : tm_C p l R s m args meth c K cc nL own mn ret fr lo) {x : Int} {off : Int} {tgt : Nat} (hx : tm_in x) (d : decode cc pc = .ok (.ifCond .le off, 3)) (ht : (pc : Int) + off = (tgt : Int)) (kt : 0 < x → tm_J p l e R s m args below meth c K FX rt A σ (F0 m (pc + 3) ls rest)) (kf : ¬ 0 < x → tm_J p l e R s m args below meth c K FX rt B σ (F0 m tgt ls rest)) : tm_J p l e R s m args below meth c K FX rt (if 0 < x then A else B) σ (F0 m pc ls (tm_iv x :: rest)) := by
  intro o t h H locs w v
  exact lv_if_le cx.1 cx.2.1 d ht (fun q => (by have q9 : ¬ (0 < x) := (by have q8 : x ≤ 0 := (tm_Z_le hx).mp q; omega); rw [if_neg q9] at h; exact kf q9 o t h H locs w v)) (fun q => (by have q9 : 0 < x := (by have q8 : ¬ (x ≤ 0) := fun z => q ((tm_Z_le hx).mpr z); omega); rw [if_pos q9] at h; exact kt q9 o t h H locs w v))
theorem tm_if_le_t (cx : tm_C p l R s m args meth c K cc nL own mn ret fr lo) {x : Int} {off : Int} {tgt : Nat} (hx : tm_in x) (hp : 0 < x) (d : decode cc pc = .ok (.ifCond .le off, 3)) (ht : (pc : Int) + off = (tgt : Int)) (k : tm_J p l e R s m args below meth c K FX rt X σ (F0 m (pc + 3) ls rest)) : tm_J p l e R s m args below meth c K FX rt X σ (F0 m pc ls (tm_iv x :: rest)) := by
  have h9 := tm_if_le (A := X) (B := X) cx hx d ht (fun _ => k) (fun q => absurd hp q)
  rwa [ite_self] at h9
theorem tm_if_le_f (cx : tm_C p l R s m args meth c K cc nL own mn ret fr lo) {x : Int} {off : Int} {tgt : Nat} (hx : tm_in x) (hp : ¬ 0 < x) (d : decode cc pc = .ok (.ifCond .le off, 3)) (ht : (pc : Int) + off = (tgt : Int)) (k : tm_J p l e R s m args below meth c K FX rt X σ (F0 m tgt ls rest)) : tm_J p l e R s m args below meth c K FX rt X σ (F0 m pc ls (tm_iv x :: rest)) := by
  have h9 := tm_if_le (A := X) (B := X) cx hx d ht (fun q => absurd q hp) (fun _ => k)
  rwa [ite_self] at h9
theorem tm_icmp_le (cx : tm_C p l R s m args meth c K cc nL own mn ret fr lo) {x y : Int} {off : Int} {tgt : Nat} (hx : tm_in x) (hy : tm_in y) (d : decode cc pc = .ok (.if_icmp .le off, 3)) (ht : (pc : Int) + off = (tgt : Int)) (kt : y < x → tm_J p l e R s m args below meth c K FX rt A σ (F0 m (pc + 3) ls rest)) (kf : ¬ y < x → tm_J p l e R s m args below meth c K FX rt B σ (F0 m tgt ls rest)) : tm_J p l e R s m args below meth c K FX rt (if y < x then A else B) σ (F0 m pc ls (tm_iv y :: tm_iv x :: rest)) := by
  intro o t h H locs w v
  exact lv_icmp_le cx.1 cx.2.1 d ht (fun q => (by have q9 : ¬ (y < x) := (by have q8 : x ≤ y := (tm_I_le hx hy).mp q; omega); rw [if_neg q9] at h; exact kf q9 o t h H locs w v)) (fun q => (by have q9 : y < x := (by have q8 : ¬ (x ≤ y) := fun z => q ((tm_I_le hx hy).mpr z); omega); rw [if_pos q9] at h; exact kt q9 o t h H locs w v))
theorem tm_icmp_le_t (cx : tm_C p l R s m args meth c K cc nL own mn ret fr lo) {x y : Int} {off : Int} {tgt : Nat} (hx : tm_in x) (hy : tm_in y) (hp : y < x) (d : decode cc pc = .ok (.if_icmp .le off, 3)) (ht : (pc : Int) + off = (tgt : Int)) (k : tm_J p l e R s m args below meth c K FX rt X σ (F0 m (pc + 3) ls rest)) : tm_J p l e R s m args below meth c K FX rt X σ (F0 m pc ls (tm_iv y :: tm_iv x :: rest)) := by
  have h9 := tm_icmp_le (A := X) (B := X) cx hx hy d ht (fun _ => k) (fun q => absurd hp q)
  rwa [ite_self] at h9
theorem tm_icmp_le_f (cx : tm_C p l R s m args meth c K cc nL own mn ret fr lo) {x y : Int} {off : Int} {tgt : Nat} (hx : tm_in x) (hy : tm_in y) (hp : ¬ y < x) (d : decode cc pc = .ok (.if_icmp .le off, 3)) (ht : (pc : Int) + off = (tgt : Int)) (k : tm_J p l e R s m args below meth c K FX rt X σ (F0 m tgt ls rest)) : tm_J p l e R s m args below meth c K FX rt X σ (F0 m pc ls (tm_iv y :: tm_iv x :: rest)) := by
  have h9 := tm_icmp_le (A := X) (B := X) cx hx hy d ht (fun q => absurd q hp) (fun _ => k)
  rwa [ite_self] at h9
end TMR
