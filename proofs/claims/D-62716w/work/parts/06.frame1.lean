/-! THE TYPED HEAP: objects and arrays by number, ints as Int; and its picture in the machine's heap -/
set_option maxRecDepth 100000
abbrev tm_S : Type := (Nat → Int → Int) × (Int → Int → Int) × (Int → Int) × (Int → Nat) × Nat × Nat × Nat × Nat
def tm_f (σ : tm_S) (k : Nat) (r : Int) : Int := σ.1 k r
def tm_a (σ : tm_S) (a i : Int) : Int := σ.2.1 a i
def tm_n (σ : tm_S) (a : Int) : Int := σ.2.2.1 a
def tm_k (σ : tm_S) (r : Int) : Nat := σ.2.2.2.1 r
def tm_c (σ : tm_S) : Nat := σ.2.2.2.2.1
def tm_z (σ : tm_S) : Nat := σ.2.2.2.2.2.1
/-- the limits: so many cells, so many slots in all -/
def tm_u (σ : tm_S) : Nat := σ.2.2.2.2.2.2.1
def tm_v (σ : tm_S) : Nat := σ.2.2.2.2.2.2.2
def tm_wf (σ : tm_S) (k : Nat) (r v : Int) : tm_S := (fun j q => if j = k ∧ q = r then v else tm_f σ j q, σ.2)
def tm_wa (σ : tm_S) (a i v : Int) : tm_S := (σ.1, fun b j => if b = a ∧ j = i then v else tm_a σ b j, σ.2.2)
theorem tm_f_wf (σ : tm_S) (k j : Nat) (r q v : Int) : tm_f (tm_wf σ k r v) j q = if j = k ∧ q = r then v else tm_f σ j q := rfl
theorem tm_f_wa (σ : tm_S) (j : Nat) (a i q v : Int) : tm_f (tm_wa σ a i v) j q = tm_f σ j q := rfl
theorem tm_a_wf (σ : tm_S) (k : Nat) (r b j v : Int) : tm_a (tm_wf σ k r v) b j = tm_a σ b j := rfl
theorem tm_a_wa (σ : tm_S) (a i b j v : Int) : tm_a (tm_wa σ a i v) b j = if b = a ∧ j = i then v else tm_a σ b j := rfl
theorem tm_n_wf (σ : tm_S) (k : Nat) (r b v : Int) : tm_n (tm_wf σ k r v) b = tm_n σ b := rfl
theorem tm_n_wa (σ : tm_S) (a i b v : Int) : tm_n (tm_wa σ a i v) b = tm_n σ b := rfl
theorem tm_k_wf (σ : tm_S) (k : Nat) (r b v : Int) : tm_k (tm_wf σ k r v) b = tm_k σ b := rfl
theorem tm_k_wa (σ : tm_S) (a i b v : Int) : tm_k (tm_wa σ a i v) b = tm_k σ b := rfl
theorem tm_c_wf (σ : tm_S) (k : Nat) (r v : Int) : tm_c (tm_wf σ k r v) = tm_c σ := rfl
theorem tm_c_wa (σ : tm_S) (a i v : Int) : tm_c (tm_wa σ a i v) = tm_c σ := rfl
theorem tm_z_wf (σ : tm_S) (k : Nat) (r v : Int) : tm_z (tm_wf σ k r v) = tm_z σ := rfl
theorem tm_z_wa (σ : tm_S) (a i v : Int) : tm_z (tm_wa σ a i v) = tm_z σ := rfl
theorem tm_u_wf (σ : tm_S) (k : Nat) (r v : Int) : tm_u (tm_wf σ k r v) = tm_u σ := rfl
theorem tm_u_wa (σ : tm_S) (a i v : Int) : tm_u (tm_wa σ a i v) = tm_u σ := rfl
theorem tm_v_wf (σ : tm_S) (k : Nat) (r v : Int) : tm_v (tm_wf σ k r v) = tm_v σ := rfl
theorem tm_v_wa (σ : tm_S) (a i v : Int) : tm_v (tm_wa σ a i v) = tm_v σ := rfl
abbrev tm_in (x : Int) : Prop := -2147483648 ≤ x ∧ x ≤ 2147483647
abbrev tm_inl (x : Int) : Prop := -9223372036854775808 ≤ x ∧ x ≤ 9223372036854775807
/-- what a method comes to: stuck, or an answer, or a thrown exception's number, with the heap -/
abbrev tm_R : Type := Option ((Int ⊕ Nat) × tm_S)
def tm_rt (v : Int) (σ : tm_S) : tm_R := some (.inl v, σ)
def tm_th (e : Nat) (σ : tm_S) : tm_R := some (.inr e, σ)
def tm_bd (x : tm_R) (k : Int → tm_S → tm_R) : tm_R := match x with
  | none => none
  | some (.inl v, σ) => k v σ
  | some (.inr e, σ) => some (.inr e, σ)
def tm_gi (x : Int) (X : tm_R) : tm_R := if -2147483648 ≤ x ∧ x ≤ 2147483647 then X else none
def tm_gx (i n : Int) (X : tm_R) : tm_R := if 0 ≤ i ∧ i < n then X else none
def tm_gb (x : Int) (X : tm_R) : tm_R := if -128 ≤ x ∧ x ≤ 127 then X else none
def tm_gs (x : Int) (X : tm_R) : tm_R := if -32768 ≤ x ∧ x ≤ 32767 then X else none
def tm_gz (x : Int) (X : tm_R) : tm_R := if x = 0 ∨ x = 1 then X else none
def tm_gk (a b : Nat) (X : tm_R) : tm_R := if a = b then X else none
def tm_lt (x : Int) (k : Int → tm_R) : tm_R := k x
def tm_ls (σ : tm_S) (k : tm_S → tm_R) : tm_R := k σ
def tm_FU : Nat := 100000
/-- the picture: which cells are its own, where the numbered objects stand, the classes, the arrays' classes, how many cells and slots there may be -/
abbrev tm_K : Type := (Nat → Prop) × (Nat → Nat) × va_G × (Nat → ClassId) × Nat × Nat
abbrev tm_A (K : tm_K) : Nat → Prop := K.1
abbrev tm_D (K : tm_K) : va_G := K.2.2.1
abbrev tm_CA (K : tm_K) : Nat → ClassId := K.2.2.2.1
abbrev tm_LC (K : tm_K) : Nat := K.2.2.2.2.1
abbrev tm_LS (K : tm_K) : Nat := K.2.2.2.2.2
def tm_ad (K : tm_K) (r : Int) : Nat := if r < 1000 then K.2.1 r.toNat else (r - 1000).toNat
def tm_ro (K : tm_K) (r : Int) : Option Nat := if r < 0 then none else some (tm_ad K r)
def tm_rv (K : tm_K) (r : Int) : Value := va_rf (tm_ro K r)
abbrev tm_iv (x : Int) : Value := Value.int (Int32.ofInt x)
abbrev tm_lv (x : Int) : Value := Value.long (Int64.ofInt x)
def tm_cl : List vw_C := [(RX1, TX1, 26), (RX4, TX4, 5), (RX3, TX3, 2), (RX5, TX5, 4), (RX8, TX8, 1), (RX7, TX7, 3), (RJ3, TJ3, 3), (RX6, TX6, 41)]
def tm_nf (k : Nat) : Nat := match k with
  | 1 => 26 | 2 => 5 | 3 => 2 | 4 => 4 | 5 => 1 | 6 => 3 | 7 => 3 | 8 => 41 | _ => 0
/-- the fields that hold references: 64 times the class's place and the field's -/
def tm_rc (k : Nat) : Bool := [0, 4, 5, 6, 7, 8, 9, 11, 19, 21, 23, 24, 25, 64, 65, 128, 192, 195, 320, 321, 385, 450, 456, 458, 460, 461, 462, 463, 465, 468, 469, 470, 472, 473, 474, 475, 476, 478, 480, 481, 482, 483, 484, 486, 487, 488].contains k
/-- a new object or array: number 1000 and its address -/
def tm_ne (σ : tm_S) (k : Nat) (n : Int) (z : Nat) : tm_S := (fun j q => if q = 1000 + (tm_c σ : Int) then (if tm_rc j = true then -1 else 0) else tm_f σ j q, fun b j => if b = 1000 + (tm_c σ : Int) then (if 25 ≤ k then -1 else 0) else tm_a σ b j, fun b => if b = 1000 + (tm_c σ : Int) then n else tm_n σ b, fun q => if q = 1000 + (tm_c σ : Int) then k else tm_k σ q, tm_c σ + 1, tm_z σ + z, tm_u σ, tm_v σ)
theorem tm_f_ne (σ : tm_S) (k j : Nat) (n q : Int) (z : Nat) : tm_f (tm_ne σ k n z) j q = if q = 1000 + (tm_c σ : Int) then (if tm_rc j = true then -1 else 0) else tm_f σ j q := rfl
theorem tm_a_ne (σ : tm_S) (k : Nat) (n b j : Int) (z : Nat) : tm_a (tm_ne σ k n z) b j = if b = 1000 + (tm_c σ : Int) then (if 25 ≤ k then -1 else 0) else tm_a σ b j := rfl
theorem tm_n_ne (σ : tm_S) (k : Nat) (n b : Int) (z : Nat) : tm_n (tm_ne σ k n z) b = if b = 1000 + (tm_c σ : Int) then n else tm_n σ b := rfl
theorem tm_k_ne (σ : tm_S) (k : Nat) (n q : Int) (z : Nat) : tm_k (tm_ne σ k n z) q = if q = 1000 + (tm_c σ : Int) then k else tm_k σ q := rfl
theorem tm_c_ne (σ : tm_S) (k : Nat) (n : Int) (z : Nat) : tm_c (tm_ne σ k n z) = tm_c σ + 1 := rfl
theorem tm_z_ne (σ : tm_S) (k : Nat) (n : Int) (z : Nat) : tm_z (tm_ne σ k n z) = tm_z σ + z := rfl
theorem tm_u_ne (σ : tm_S) (k : Nat) (n : Int) (z : Nat) : tm_u (tm_ne σ k n z) = tm_u σ := rfl
theorem tm_v_ne (σ : tm_S) (k : Nat) (n : Int) (z : Nat) : tm_v (tm_ne σ k n z) = tm_v σ := rfl
def tm_gn (σ : tm_S) (z : Nat) (X : tm_R) : tm_R := if tm_c σ + 1 ≤ tm_u σ ∧ tm_z σ + z ≤ tm_v σ then X else none
/-- a reference that is null or known -/
def tm_gq (σ : tm_S) (r : Int) (X : tm_R) : tm_R := if r = -1 ∨ tm_k σ r ≠ 0 then X else none
/-- a meaning, or null -/
def tm_gm (σ : tm_S) (r : Int) (X : tm_R) : tm_R := if r < 0 ∨ tm_k σ r = 5 ∨ tm_k σ r = 6 ∨ tm_k σ r = 39 then X else none
/-- a meaning's method, by its class -/
def tm_m3 (k : Nat) (A B C : tm_R) : tm_R := if k = 39 then A else if k = 5 then B else if k = 6 then C else none
def tm_fv (K : tm_K) (k : Nat) (x : Int) : Value := if tm_rc k = true then tm_rv K x else tm_iv x
def tm_fl (K : tm_K) (σ : tm_S) (r : Int) (ci : Nat) : List Value := (List.range (tm_nf (ci + 1))).map fun j => tm_fv K (64 * ci + j) (tm_f σ (64 * ci + j) r)
def tm_ent (K : tm_K) (σ : tm_S) (r : Int) : va_E :=
  if tm_k σ r < 20 then .inr (tm_k σ r - 1, tm_fl K σ r (tm_k σ r - 1))
  else if tm_k σ r < 25 then .inl (tm_CA K (tm_k σ r), (tm_n σ r).toNat, .inl fun j => Int32.ofInt (tm_a σ r (j : Int)))
  else .inl (tm_CA K (tm_k σ r), (tm_n σ r).toNat, .inr (.inr (.inr (.inr fun j => tm_ro K (tm_a σ r (j : Int))))))
/-- objects with their number: kinds from 38 on are constants that nobody writes; 39 the commands, 400 to 417 -/
def tm_W (K : tm_K) (σ : tm_S) (H : Heap) : Prop :=
  (∀ r : Int, tm_k σ r ≠ 0 → 0 ≤ r ∧ tm_ad K r < H.size ∧ (tm_k σ r < 38 → va_at (tm_D K) tm_cl (tm_ad K r, tm_ent K σ r) H ∧ tm_A K (tm_ad K r)) ∧ (38 ≤ tm_k σ r → ¬ tm_A K (tm_ad K r)) ∧ (tm_k σ r = 39 → 0 ≤ r - 400 ∧ r - 400 < 18)) ∧
  (∀ r q : Int, tm_k σ r ≠ 0 → tm_k σ q ≠ 0 → tm_ad K r = tm_ad K q → r = q) ∧
  (∀ (k : Nat) (r : Int), tm_in (tm_f σ k r)) ∧ (∀ a i : Int, tm_in (tm_a σ a i)) ∧ ∀ a : Int, 0 ≤ tm_n σ a ∧ tm_n σ a ≤ 2147483647
/-- what never changes: reference fields of object 0; objects with kind and length; arrays of numbered objects -/
abbrev tm_X0 : Type := List (Nat × Int) × List (Int × Nat × Int) × List (Int × Int × Nat)
def tm_hf (FX : tm_X0) (σ : tm_S) : Prop := (∀ q ∈ FX.1, tm_f σ q.1 0 = q.2) ∧ (∀ q ∈ FX.2.1, tm_k σ q.1 = q.2.1 ∧ tm_n σ q.1 = q.2.2) ∧ (∀ q ∈ FX.2.2, ∀ i : Nat, i < q.2.2 → tm_a σ q.1 (i : Int) = q.2.1 + (i : Int))
/-- a heap's slots -/
def tm_hs (H : Heap) : Nat := (H.toList.map (fun c : Cell => c.slots.size)).sum
def tm_Wd (K : tm_K) (FX : tm_X0) (σ : tm_S) (H : Heap) : Prop := tm_W K σ H ∧ tm_hf FX σ ∧ H.size = tm_c σ ∧ tm_hs H = tm_z σ ∧ tm_c σ ≤ tm_LC K ∧ tm_z σ ≤ tm_LS K ∧ (∀ q : Nat, H.size ≤ q → tm_A K q) ∧ tm_u σ = tm_LC K ∧ tm_v σ = tm_LS K ∧ tm_LC K ≤ 1000000000
theorem tm_hs_of {H H1 : Heap} (h : ∀ i : Nat, (H1[i]?).map (fun c : Cell => c.slots.size) = (H[i]?).map (fun c : Cell => c.slots.size)) : tm_hs H1 = tm_hs H := by
  unfold tm_hs
  congr 1
  apply List.ext_getElem?
  intro i
  rw [List.getElem?_map, List.getElem?_map, Array.getElem?_toList, Array.getElem?_toList]
  exact h i
theorem tm_hs_put {H H1 : Heap} {a : Nat} {c c1 : Cell} (h1 : H[a]? = some c) (h2 : H1[a]? = some c1) (h3 : c1.slots.size = c.slots.size) (h4 : ∀ q : Nat, q ≠ a → H1[q]? = H[q]?) : tm_hs H1 = tm_hs H := by
  refine tm_hs_of fun i => ?_
  by_cases hi : i = a
  · subst hi
    rw [h1, h2]
    exact congrArg some h3
  · rw [h4 i hi]
theorem tm_hs_new {H H1 : Heap} {c : Cell} {h : Nat} (hh : H.size = h) (h1 : H1.size = h + 1) (h2 : H1[h]? = some c) (h3 : ∀ q : Nat, q < h → H1[q]? = H[q]?) : tm_hs H1 = tm_hs H + c.slots.size := by
  subst hh
  have e : H1.toList = H.toList ++ [c] := by
    apply List.ext_getElem?
    intro i
    rw [Array.getElem?_toList, List.getElem?_append, Array.length_toList]
    by_cases hi : i < H.size
    · rw [if_pos hi, h3 i hi, Array.getElem?_toList]
    · rw [if_neg hi]
      by_cases h9 : i = H.size
      · subst h9
        rw [h2, Nat.sub_self]
        rfl
      · have g1 : H1[i]? = none := by rw [Array.getElem?_eq_none_iff]; omega
        rw [g1]
        have : i - H.size = (i - H.size - 1) + 1 := by omega
        rw [this]
        rfl
  unfold tm_hs
  rw [e, List.map_append, List.sum_append]
  simp
theorem tm_hs_split {H0 H : Heap} (hz : H0.size ≤ H.size) (h : ∀ (a : Nat) (c : Cell), H0[a]? = some c → ∃ c' : Cell, H[a]? = some c' ∧ c'.slots.size = c.slots.size) : tm_hs H = tm_hs H0 + ((H.toList.drop H0.size).map (fun c : Cell => c.slots.size)).sum := by
  have e : (H.toList.take H0.size).map (fun c : Cell => c.slots.size) = H0.toList.map (fun c : Cell => c.slots.size) := by
    apply List.ext_getElem?
    intro i
    rw [List.getElem?_map, List.getElem?_map, List.getElem?_take, Array.getElem?_toList]
    by_cases hi : i < H0.size
    · rw [if_pos hi, Array.getElem?_toList]
      obtain ⟨c', h1, h2⟩ := h i _ (Array.getElem?_eq_getElem hi)
      rw [h1, Array.getElem?_eq_getElem hi]
      exact congrArg some h2
    · rw [if_neg hi]
      have : H0[i]? = none := by rw [Array.getElem?_eq_none_iff]; omega
      rw [Array.getElem?_toList, this]
  unfold tm_hs
  rw [← e, ← List.sum_append, ← List.map_append, List.take_append_drop]
section TML
variable {p : Program} {l : Launch} {e : Env} {R : Room} {s : State} {m : MethodId} {args : Array Value} {below : List Frame} {meth : Method} {c : Code} {H : Heap} {locs : List Loc} {cells slots : Nat} {Q : State → Prop}
/-- the book of new cells and slots, read off the heap again -/
theorem tm_lower {g : JFrame} (k : W p l e R s m args below meth c H locs (H.size - s.heap.size) (tm_hs H - tm_hs s.heap) Q g) : W p l e R s m args below meth c H locs cells slots Q g := by
  intro T hT X
  refine k T hT { X with same := ?_ }
  obtain ⟨h1, h2, h3, h4, h5, h6⟩ := X.same
  subst hT
  have h2' : s.heap.size ≤ T.heap.size := h2
  have hsp : tm_hs T.heap = tm_hs s.heap + ((T.heap.toList.drop s.heap.size).map (fun c : Cell => c.slots.size)).sum := tm_hs_split h2' fun a c9 ha => by
    obtain ⟨c', e1, -, e3, -⟩ := h6 a c9 ha
    exact ⟨c', e1, e3⟩
  refine ⟨h1, h2, ?_, h4, ?_, h6⟩
  · show T.heap.size ≤ s.heap.size + (T.heap.size - s.heap.size)
    omega
  · show ((T.heap.toList.drop s.heap.size).map (fun c : Cell => c.slots.size)).sum ≤ tm_hs T.heap - tm_hs s.heap
    omega
theorem tm_low {H0 : Heap} {A : Nat → Prop} {T : State} (X : Stand p l e R s m args below meth c T locs cells slots) : tm_hs s.heap ≤ tm_hs T.heap ∧ s.heap.size ≤ T.heap.size := by
  obtain ⟨h1, h2, h3, h4, h5, h6⟩ := X.same
  have h2' : s.heap.size ≤ T.heap.size := h2
  have hsp : tm_hs T.heap = tm_hs s.heap + ((T.heap.toList.drop s.heap.size).map (fun c : Cell => c.slots.size)).sum := tm_hs_split h2' fun a c9 ha => by
    obtain ⟨c', e1, -, e3, -⟩ := h6 a c9 ha
    exact ⟨c', e1, e3⟩
  exact ⟨by omega, h2'⟩
end TML
