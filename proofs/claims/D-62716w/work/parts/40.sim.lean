/-! THE PLAIN LAW: what the component's functions and the model's come to, side by side -/
set_option maxRecDepth 100000
theorem tm_bd_rt (v : Int) (σ : tm_S) (k : Int → tm_S → tm_R) : tm_bd (tm_rt v σ) k = k v σ := rfl
theorem tm_bd_th (e : Nat) (σ : tm_S) (k : Int → tm_S → tm_R) : tm_bd (tm_th e σ) k = tm_th e σ := rfl
theorem tm_lt_e (x : Int) (k : Int → tm_R) : tm_lt x k = k x := rfl
theorem tm_ls_e (σ : tm_S) (k : tm_S → tm_R) : tm_ls σ k = k σ := rfl
theorem tm_gi_t {x : Int} {X : tm_R} (h : -2147483648 ≤ x ∧ x ≤ 2147483647) : tm_gi x X = X := if_pos h
theorem tm_gx_t {i n : Int} {X : tm_R} (h : 0 ≤ i ∧ i < n) : tm_gx i n X = X := if_pos h
theorem tm_gb_t {x : Int} {X : tm_R} (h : -128 ≤ x ∧ x ≤ 127) : tm_gb x X = X := if_pos h
theorem tm_gs_t {x : Int} {X : tm_R} (h : -32768 ≤ x ∧ x ≤ 32767) : tm_gs x X = X := if_pos h
theorem tm_gz_t {x : Int} {X : tm_R} (h : x = 0 ∨ x = 1) : tm_gz x X = X := if_pos h
theorem tm_gk_t {a b : Nat} {X : tm_R} (h : a = b) : tm_gk a b X = X := if_pos h
theorem tm_gq_t {σ : tm_S} {r : Int} {X : tm_R} (h : r = -1 ∨ tm_k σ r ≠ 0) : tm_gq σ r X = X := if_pos h
theorem tm_gm_t {σ : tm_S} {r : Int} {X : tm_R} (h : r < 0 ∨ tm_k σ r = 5 ∨ tm_k σ r = 6 ∨ tm_k σ r = 39) : tm_gm σ r X = X := if_pos h
theorem tm_gn_t {σ : tm_S} {z : Nat} {X : tm_R} (h : tm_c σ + 1 ≤ tm_u σ ∧ tm_z σ + z ≤ tm_v σ) : tm_gn σ z X = X := if_pos h
/-- both come back with P; or the component throws and the model comes back with D -/
def tm_RR (P : Int → tm_S → Int → tm_S → Prop) (D : tm_S → Int → tm_S → Prop) (x y : tm_R) : Prop :=
  (∃ v σ w τ, x = tm_rt v σ ∧ y = tm_rt w τ ∧ P v σ w τ) ∨ ∃ σ w τ, x = tm_th 0 σ ∧ y = tm_rt w τ ∧ D σ w τ
section TMRR
variable {P P' : Int → tm_S → Int → tm_S → Prop} {D D' : tm_S → Int → tm_S → Prop} {x y X Y A B : tm_R} {k k' : Int → tm_S → tm_R}
theorem tm_RRrt {v w : Int} {σ τ : tm_S} (h : P v σ w τ) : tm_RR P D (tm_rt v σ) (tm_rt w τ) := Or.inl ⟨v, σ, w, τ, rfl, rfl, h⟩
theorem tm_RRth {w : Int} {σ τ : tm_S} (h : D σ w τ) : tm_RR P D (tm_th 0 σ) (tm_rt w τ) := Or.inr ⟨σ, w, τ, rfl, rfl, h⟩
theorem tm_RRbd (h : tm_RR P D x y) (h1 : ∀ v σ w τ, P v σ w τ → tm_RR P' D' (k v σ) (k' w τ)) (h2 : ∀ σ w τ, D σ w τ → ∃ w' τ', k' w τ = tm_rt w' τ' ∧ D' σ w' τ') : tm_RR P' D' (tm_bd x k) (tm_bd y k') := by
  rcases h with ⟨v, σ, w, τ, rfl, rfl, h⟩ | ⟨σ, w, τ, rfl, rfl, h⟩
  · exact h1 v σ w τ h
  · obtain ⟨w', τ', e, h'⟩ := h2 σ w τ h
    refine Or.inr ⟨σ, w', τ', rfl, ?_, h'⟩
    show k' w τ = _
    exact e
theorem tm_RRweak (h : tm_RR P D x y) (h1 : ∀ v σ w τ, P v σ w τ → P' v σ w τ) (h2 : ∀ σ w τ, D σ w τ → D' σ w τ) : tm_RR P' D' x y := by
  rcases h with ⟨v, σ, w, τ, e1, e2, h⟩ | ⟨σ, w, τ, e1, e2, h⟩
  · exact Or.inl ⟨v, σ, w, τ, e1, e2, h1 _ _ _ _ h⟩
  · exact Or.inr ⟨σ, w, τ, e1, e2, h2 _ _ _ h⟩
theorem tm_RRgi {n : Int} (h : -2147483648 ≤ n ∧ n ≤ 2147483647) (k : tm_RR P D X y) : tm_RR P D (tm_gi n X) y := by rw [tm_gi_t h]; exact k
theorem tm_RRgx {i n : Int} (h : 0 ≤ i ∧ i < n) (k : tm_RR P D X y) : tm_RR P D (tm_gx i n X) y := by rw [tm_gx_t h]; exact k
theorem tm_RRgb {n : Int} (h : -128 ≤ n ∧ n ≤ 127) (k : tm_RR P D X y) : tm_RR P D (tm_gb n X) y := by rw [tm_gb_t h]; exact k
theorem tm_RRgs {n : Int} (h : -32768 ≤ n ∧ n ≤ 32767) (k : tm_RR P D X y) : tm_RR P D (tm_gs n X) y := by rw [tm_gs_t h]; exact k
theorem tm_RRgz {n : Int} (h : n = 0 ∨ n = 1) (k : tm_RR P D X y) : tm_RR P D (tm_gz n X) y := by rw [tm_gz_t h]; exact k
theorem tm_RRgk {a b : Nat} (h : a = b) (k : tm_RR P D X y) : tm_RR P D (tm_gk a b X) y := by rw [tm_gk_t h]; exact k
theorem tm_RRgq {σ : tm_S} {r : Int} (h : r = -1 ∨ tm_k σ r ≠ 0) (k : tm_RR P D X y) : tm_RR P D (tm_gq σ r X) y := by rw [tm_gq_t h]; exact k
theorem tm_RRgm {σ : tm_S} {r : Int} (h : r < 0 ∨ tm_k σ r = 5 ∨ tm_k σ r = 6 ∨ tm_k σ r = 39) (k : tm_RR P D X y) : tm_RR P D (tm_gm σ r X) y := by rw [tm_gm_t h]; exact k
theorem tm_RRgn {σ : tm_S} {z : Nat} (h : tm_c σ + 1 ≤ tm_u σ ∧ tm_z σ + z ≤ tm_v σ) (k : tm_RR P D X y) : tm_RR P D (tm_gn σ z X) y := by rw [tm_gn_t h]; exact k
theorem tm_RRgiR {n : Int} (h : -2147483648 ≤ n ∧ n ≤ 2147483647) (k : tm_RR P D x Y) : tm_RR P D x (tm_gi n Y) := by rw [tm_gi_t h]; exact k
theorem tm_RRgxR {i n : Int} (h : 0 ≤ i ∧ i < n) (k : tm_RR P D x Y) : tm_RR P D x (tm_gx i n Y) := by rw [tm_gx_t h]; exact k
theorem tm_RRgzR {n : Int} (h : n = 0 ∨ n = 1) (k : tm_RR P D x Y) : tm_RR P D x (tm_gz n Y) := by rw [tm_gz_t h]; exact k
theorem tm_RRif {c : Prop} [Decidable c] (h1 : c → tm_RR P D A y) (h2 : ¬c → tm_RR P D B y) : tm_RR P D (if c then A else B) y := by
  by_cases h : c
  · rw [if_pos h]; exact h1 h
  · rw [if_neg h]; exact h2 h
theorem tm_RRt {c : Prop} [Decidable c] (h : c) (h1 : tm_RR P D A y) : tm_RR P D (if c then A else B) y := by rw [if_pos h]; exact h1
theorem tm_RRf {c : Prop} [Decidable c] (h : ¬c) (h1 : tm_RR P D B y) : tm_RR P D (if c then A else B) y := by rw [if_neg h]; exact h1
theorem tm_RRifR {c : Prop} [Decidable c] (h1 : c → tm_RR P D x A) (h2 : ¬c → tm_RR P D x B) : tm_RR P D x (if c then A else B) := by
  by_cases h : c
  · rw [if_pos h]; exact h1 h
  · rw [if_neg h]; exact h2 h
theorem tm_RRtR {c : Prop} [Decidable c] (h : c) (h1 : tm_RR P D x A) : tm_RR P D x (if c then A else B) := by rw [if_pos h]; exact h1
theorem tm_RRfR {c : Prop} [Decidable c] (h : ¬c) (h1 : tm_RR P D x B) : tm_RR P D x (if c then A else B) := by rw [if_neg h]; exact h1
end TMRR
/-! WHAT STANDS FOR WHAT -/
/-- a sign's code -/
def tm_ch (y : Int) : Prop := y = 10 ∨ 32 ≤ y ∧ y ≤ 126
/-- a character's token -/
def tm_tc (y : Int) : Prop := 0 ≤ y ∧ y < 4096 ∧ tm_ch (y % 256)
/-- tokens: the component's x, the model's y; N names -/
def tm_TR (N x y : Int) : Prop := (x = y ∧ tm_tc y) ∨ (4096 ≤ y ∧ y < 4096 + N ∧ x = 2 * y - 4096) ∨ (12288 ≤ y ∧ y < 12288 + N ∧ x = 2 * y - 20479)
/-- a token without a mark, or one of p parameters -/
def tm_PR (N p x y : Int) : Prop := (x = y ∧ tm_tc y) ∨ (4096 ≤ y ∧ y < 4096 + N ∧ x = 2 * y - 4096) ∨ (16385 ≤ y ∧ y ≤ 16384 + p ∧ x = 16384 - y)
/-- a macro: the component's object r, the model's number j -/
def tm_Ma (N : Int) (σ τ : tm_S) (r j : Int) : Prop :=
  (1000 ≤ tm_f σ 320 r ∧ tm_f σ 320 r < 1000 + (tm_c σ : Int)) ∧
  (tm_k σ (tm_f σ 320 r) = 21) ∧
  (tm_n σ (tm_f σ 320 r) = tm_a τ 124 j ∧ 0 ≤ tm_a τ 124 j ∧ tm_a τ 124 j ≤ 12) ∧
  (∀ i : Int, 0 ≤ i → i < tm_a τ 124 j → tm_PR N 4 (tm_a σ (tm_f σ 320 r) i) (tm_a τ 125 (13 * j + i)) ∧ ¬ (256 ≤ tm_a τ 125 (13 * j + i) ∧ tm_a τ 125 (13 * j + i) < 768)) ∧
  (1000 ≤ tm_f σ 321 r ∧ tm_f σ 321 r < 1000 + (tm_c σ : Int)) ∧
  (tm_k σ (tm_f σ 321 r) = 21) ∧
  (tm_n σ (tm_f σ 321 r) = tm_a τ 126 j ∧ 0 ≤ tm_a τ 126 j ∧ tm_a τ 126 j ≤ 40) ∧
  (∀ i : Int, 0 ≤ i → i < tm_a τ 126 j → tm_PR N (tm_a τ 128 j) (tm_a σ (tm_f σ 321 r) i) (tm_a τ 127 (41 * j + i))) ∧
  (tm_f σ 322 r = tm_a τ 128 j ∧ 0 ≤ tm_a τ 128 j ∧ tm_a τ 128 j ≤ 4)
theorem tm_Ma.mk {N : Int} {σ τ : tm_S} {r j : Int} (t0 : 1000 ≤ tm_f σ 320 r ∧ tm_f σ 320 r < 1000 + (tm_c σ : Int)) (t1 : tm_k σ (tm_f σ 320 r) = 21) (t2 : tm_n σ (tm_f σ 320 r) = tm_a τ 124 j ∧ 0 ≤ tm_a τ 124 j ∧ tm_a τ 124 j ≤ 12) (t3 : ∀ i : Int, 0 ≤ i → i < tm_a τ 124 j → tm_PR N 4 (tm_a σ (tm_f σ 320 r) i) (tm_a τ 125 (13 * j + i)) ∧ ¬ (256 ≤ tm_a τ 125 (13 * j + i) ∧ tm_a τ 125 (13 * j + i) < 768)) (b0 : 1000 ≤ tm_f σ 321 r ∧ tm_f σ 321 r < 1000 + (tm_c σ : Int)) (b1 : tm_k σ (tm_f σ 321 r) = 21) (b2 : tm_n σ (tm_f σ 321 r) = tm_a τ 126 j ∧ 0 ≤ tm_a τ 126 j ∧ tm_a τ 126 j ≤ 40) (b3 : ∀ i : Int, 0 ≤ i → i < tm_a τ 126 j → tm_PR N (tm_a τ 128 j) (tm_a σ (tm_f σ 321 r) i) (tm_a τ 127 (41 * j + i))) (p : tm_f σ 322 r = tm_a τ 128 j ∧ 0 ≤ tm_a τ 128 j ∧ tm_a τ 128 j ≤ 4) : tm_Ma N σ τ r j := ⟨t0, t1, t2, t3, b0, b1, b2, b3, p⟩
theorem tm_Ma.t0 {N : Int} {σ τ : tm_S} {r j : Int} (h : tm_Ma N σ τ r j) : 1000 ≤ tm_f σ 320 r ∧ tm_f σ 320 r < 1000 + (tm_c σ : Int) := h.1
theorem tm_Ma.t1 {N : Int} {σ τ : tm_S} {r j : Int} (h : tm_Ma N σ τ r j) : tm_k σ (tm_f σ 320 r) = 21 := h.2.1
theorem tm_Ma.t2 {N : Int} {σ τ : tm_S} {r j : Int} (h : tm_Ma N σ τ r j) : tm_n σ (tm_f σ 320 r) = tm_a τ 124 j ∧ 0 ≤ tm_a τ 124 j ∧ tm_a τ 124 j ≤ 12 := h.2.2.1
theorem tm_Ma.t3 {N : Int} {σ τ : tm_S} {r j : Int} (h : tm_Ma N σ τ r j) : ∀ i : Int, 0 ≤ i → i < tm_a τ 124 j → tm_PR N 4 (tm_a σ (tm_f σ 320 r) i) (tm_a τ 125 (13 * j + i)) ∧ ¬ (256 ≤ tm_a τ 125 (13 * j + i) ∧ tm_a τ 125 (13 * j + i) < 768) := h.2.2.2.1
theorem tm_Ma.b0 {N : Int} {σ τ : tm_S} {r j : Int} (h : tm_Ma N σ τ r j) : 1000 ≤ tm_f σ 321 r ∧ tm_f σ 321 r < 1000 + (tm_c σ : Int) := h.2.2.2.2.1
theorem tm_Ma.b1 {N : Int} {σ τ : tm_S} {r j : Int} (h : tm_Ma N σ τ r j) : tm_k σ (tm_f σ 321 r) = 21 := h.2.2.2.2.2.1
theorem tm_Ma.b2 {N : Int} {σ τ : tm_S} {r j : Int} (h : tm_Ma N σ τ r j) : tm_n σ (tm_f σ 321 r) = tm_a τ 126 j ∧ 0 ≤ tm_a τ 126 j ∧ tm_a τ 126 j ≤ 40 := h.2.2.2.2.2.2.1
theorem tm_Ma.b3 {N : Int} {σ τ : tm_S} {r j : Int} (h : tm_Ma N σ τ r j) : ∀ i : Int, 0 ≤ i → i < tm_a τ 126 j → tm_PR N (tm_a τ 128 j) (tm_a σ (tm_f σ 321 r) i) (tm_a τ 127 (41 * j + i)) := h.2.2.2.2.2.2.2.1
theorem tm_Ma.p {N : Int} {σ τ : tm_S} {r j : Int} (h : tm_Ma N σ τ r j) : tm_f σ 322 r = tm_a τ 128 j ∧ 0 ≤ tm_a τ 128 j ∧ tm_a τ 128 j ≤ 4 := h.2.2.2.2.2.2.2.2
/-- meanings: the component's reference r, the model's number m; M macros -/
def tm_MR (N M : Int) (σ τ : tm_S) (r m : Int) : Prop :=
  (r = -1 ∧ m = 0) ∨ (1 ≤ m ∧ m ≤ 18 ∧ r = 399 + m) ∨ (1000 ≤ r ∧ r < 1000 + (tm_c σ : Int) ∧ tm_k σ r = 5 ∧ tm_tc (tm_f σ 256 r) ∧ m = 1000 + tm_f σ 256 r) ∨ (1000 ≤ r ∧ r < 1000 + (tm_c σ : Int) ∧ tm_k σ r = 6 ∧ 6000 ≤ m ∧ m < 6000 + M ∧ tm_Ma N σ τ r (m - 6000))
/-- the k-th name's object -/
def tm_nr (σ : tm_S) (k : Int) : Int := tm_a σ (tm_f σ 385 106) k
/-- a name: the component's object r, the model's number k -/
def tm_Na (N M : Int) (σ τ : tm_S) (r k : Int) : Prop :=
  (1000 ≤ r ∧ r < 1000 + (tm_c σ : Int)) ∧
  (tm_k σ r = 4) ∧
  (tm_f σ 194 r = k) ∧
  (1000 ≤ tm_f σ 192 r ∧ tm_f σ 192 r < 1000 + (tm_c σ : Int)) ∧
  (tm_k σ (tm_f σ 192 r) = 20) ∧
  (tm_n σ (tm_f σ 192 r) = tm_a τ 113 k ∧ 1 ≤ tm_a τ 113 k ∧ tm_a τ 113 k ≤ 11) ∧
  (∀ i : Int, 0 ≤ i → i < tm_a τ 113 k → tm_a σ (tm_f σ 192 r) i = tm_a τ 112 (11 * k + i) ∧ tm_ch (tm_a τ 112 (11 * k + i))) ∧
  (tm_f σ 193 r = tm_a τ 114 k ∧ (tm_a τ 114 k = 0 ∨ tm_a τ 114 k = 1)) ∧
  (tm_MR N M σ τ (tm_f σ 195 r) (tm_a τ 115 k))
theorem tm_Na.mk {N M : Int} {σ τ : tm_S} {r k : Int} (r0 : 1000 ≤ r ∧ r < 1000 + (tm_c σ : Int)) (kd : tm_k σ r = 4) (nu : tm_f σ 194 r = k) (l0 : 1000 ≤ tm_f σ 192 r ∧ tm_f σ 192 r < 1000 + (tm_c σ : Int)) (l1 : tm_k σ (tm_f σ 192 r) = 20) (l2 : tm_n σ (tm_f σ 192 r) = tm_a τ 113 k ∧ 1 ≤ tm_a τ 113 k ∧ tm_a τ 113 k ≤ 11) (l3 : ∀ i : Int, 0 ≤ i → i < tm_a τ 113 k → tm_a σ (tm_f σ 192 r) i = tm_a τ 112 (11 * k + i) ∧ tm_ch (tm_a τ 112 (11 * k + i))) (ac : tm_f σ 193 r = tm_a τ 114 k ∧ (tm_a τ 114 k = 0 ∨ tm_a τ 114 k = 1)) (me : tm_MR N M σ τ (tm_f σ 195 r) (tm_a τ 115 k)) : tm_Na N M σ τ r k := ⟨r0, kd, nu, l0, l1, l2, l3, ac, me⟩
theorem tm_Na.r0 {N M : Int} {σ τ : tm_S} {r k : Int} (h : tm_Na N M σ τ r k) : 1000 ≤ r ∧ r < 1000 + (tm_c σ : Int) := h.1
theorem tm_Na.kd {N M : Int} {σ τ : tm_S} {r k : Int} (h : tm_Na N M σ τ r k) : tm_k σ r = 4 := h.2.1
theorem tm_Na.nu {N M : Int} {σ τ : tm_S} {r k : Int} (h : tm_Na N M σ τ r k) : tm_f σ 194 r = k := h.2.2.1
theorem tm_Na.l0 {N M : Int} {σ τ : tm_S} {r k : Int} (h : tm_Na N M σ τ r k) : 1000 ≤ tm_f σ 192 r ∧ tm_f σ 192 r < 1000 + (tm_c σ : Int) := h.2.2.2.1
theorem tm_Na.l1 {N M : Int} {σ τ : tm_S} {r k : Int} (h : tm_Na N M σ τ r k) : tm_k σ (tm_f σ 192 r) = 20 := h.2.2.2.2.1
theorem tm_Na.l2 {N M : Int} {σ τ : tm_S} {r k : Int} (h : tm_Na N M σ τ r k) : tm_n σ (tm_f σ 192 r) = tm_a τ 113 k ∧ 1 ≤ tm_a τ 113 k ∧ tm_a τ 113 k ≤ 11 := h.2.2.2.2.2.1
theorem tm_Na.l3 {N M : Int} {σ τ : tm_S} {r k : Int} (h : tm_Na N M σ τ r k) : ∀ i : Int, 0 ≤ i → i < tm_a τ 113 k → tm_a σ (tm_f σ 192 r) i = tm_a τ 112 (11 * k + i) ∧ tm_ch (tm_a τ 112 (11 * k + i)) := h.2.2.2.2.2.2.1
theorem tm_Na.ac {N M : Int} {σ τ : tm_S} {r k : Int} (h : tm_Na N M σ τ r k) : tm_f σ 193 r = tm_a τ 114 k ∧ (tm_a τ 114 k = 0 ∨ tm_a τ 114 k = 1) := h.2.2.2.2.2.2.2.1
theorem tm_Na.me {N M : Int} {σ τ : tm_S} {r k : Int} (h : tm_Na N M σ τ r k) : tm_MR N M σ τ (tm_f σ 195 r) (tm_a τ 115 k) := h.2.2.2.2.2.2.2.2
/-- what was changed: the i-th -/
def tm_Ch (N M : Int) (σ τ : tm_S) (i : Int) : Prop :=
  (0 ≤ tm_a τ 121 i ∧ tm_a τ 121 i < N ∧ tm_f σ 64 (200 + i) = tm_nr σ (tm_a τ 121 i) ∧ tm_f σ 66 (200 + i) = 0 ∧ tm_MR N M σ τ (tm_f σ 65 (200 + i)) (tm_a τ 122 i)) ∨
  (200 ≤ tm_a τ 121 i ∧ tm_a τ 121 i < 328 ∧ tm_f σ 64 (200 + i) = -1 ∧ tm_f σ 66 (200 + i) = tm_a τ 121 i - 200 ∧ tm_f σ 67 (200 + i) = tm_a τ 122 i ∧ 0 ≤ tm_a τ 122 i ∧ tm_a τ 122 i ≤ 15)
/-- the names -/
def tm_Ns (N M : Int) (σ τ : tm_S) : Prop :=
  (1000 ≤ tm_f σ 385 106 ∧ tm_f σ 385 106 < 1000 + (tm_c σ : Int)) ∧
  (tm_k σ (tm_f σ 385 106) = 25) ∧
  (N ≤ tm_n σ (tm_f σ 385 106) ∧ tm_n σ (tm_f σ 385 106) ≤ 200) ∧
  (∀ k : Int, 0 ≤ k → k < N → tm_Na N M σ τ (tm_nr σ k) k)
theorem tm_Ns.mk {N M : Int} {σ τ : tm_S} (e0 : 1000 ≤ tm_f σ 385 106 ∧ tm_f σ 385 106 < 1000 + (tm_c σ : Int)) (e1 : tm_k σ (tm_f σ 385 106) = 25) (e2 : N ≤ tm_n σ (tm_f σ 385 106) ∧ tm_n σ (tm_f σ 385 106) ≤ 200) (nm : ∀ k : Int, 0 ≤ k → k < N → tm_Na N M σ τ (tm_nr σ k) k) : tm_Ns N M σ τ := ⟨e0, e1, e2, nm⟩
theorem tm_Ns.e0 {N M : Int} {σ τ : tm_S} (h : tm_Ns N M σ τ) : 1000 ≤ tm_f σ 385 106 ∧ tm_f σ 385 106 < 1000 + (tm_c σ : Int) := h.1
theorem tm_Ns.e1 {N M : Int} {σ τ : tm_S} (h : tm_Ns N M σ τ) : tm_k σ (tm_f σ 385 106) = 25 := h.2.1
theorem tm_Ns.e2 {N M : Int} {σ τ : tm_S} (h : tm_Ns N M σ τ) : N ≤ tm_n σ (tm_f σ 385 106) ∧ tm_n σ (tm_f σ 385 106) ≤ 200 := h.2.2.1
theorem tm_Ns.nm {N M : Int} {σ τ : tm_S} (h : tm_Ns N M σ τ) : ∀ k : Int, 0 ≤ k → k < N → tm_Na N M σ τ (tm_nr σ k) k := h.2.2.2
/-- the changes: groups rise -/
def tm_Cs (N M C G : Int) (σ τ : tm_S) : Prop :=
  (∀ i : Int, 0 ≤ i → i < C → tm_f σ 68 (200 + i) = tm_a τ 120 i ∧ 1 ≤ tm_a τ 120 i ∧ tm_a τ 120 i ≤ G) ∧
  (∀ i j : Int, 0 ≤ i → i ≤ j → j < C → tm_a τ 120 i ≤ tm_a τ 120 j) ∧
  (∀ i : Int, 0 ≤ i → i < C → tm_Ch N M σ τ i)
theorem tm_Cs.mk {N M C G : Int} {σ τ : tm_S} (gr : ∀ i : Int, 0 ≤ i → i < C → tm_f σ 68 (200 + i) = tm_a τ 120 i ∧ 1 ≤ tm_a τ 120 i ∧ tm_a τ 120 i ≤ G) (up : ∀ i j : Int, 0 ≤ i → i ≤ j → j < C → tm_a τ 120 i ≤ tm_a τ 120 j) (of : ∀ i : Int, 0 ≤ i → i < C → tm_Ch N M σ τ i) : tm_Cs N M C G σ τ := ⟨gr, up, of⟩
theorem tm_Cs.gr {N M C G : Int} {σ τ : tm_S} (h : tm_Cs N M C G σ τ) : ∀ i : Int, 0 ≤ i → i < C → tm_f σ 68 (200 + i) = tm_a τ 120 i ∧ 1 ≤ tm_a τ 120 i ∧ tm_a τ 120 i ≤ G := h.1
theorem tm_Cs.up {N M C G : Int} {σ τ : tm_S} (h : tm_Cs N M C G σ τ) : ∀ i j : Int, 0 ≤ i → i ≤ j → j < C → tm_a τ 120 i ≤ tm_a τ 120 j := h.2.1
theorem tm_Cs.of {N M C G : Int} {σ τ : tm_S} (h : tm_Cs N M C G σ τ) : ∀ i : Int, 0 ≤ i → i < C → tm_Ch N M σ τ i := h.2.2
/-- what stands fixed -/
def tm_Fx (σ : tm_S) : Prop :=
  (∀ i : Int, 400 ≤ i → i < 418 → tm_k σ i = 39) ∧
  (∀ i : Int, 0 ≤ i → i < 60 → tm_k σ (200 + i) = 2) ∧
  (∀ i : Int, 0 ≤ i → i < 30 → tm_k σ (300 + i) = 20 ∧ tm_n σ (300 + i) = 11) ∧
  (tm_k σ 107 = 20 ∧ tm_n σ 107 = 11) ∧
  (∀ r : Int, r = 124 ∨ r = 125 ∨ (130 ≤ r ∧ r < 134) → tm_k σ r = 3 ∧ tm_f σ 128 r = r + 20 ∧ tm_k σ (r + 20) = 21 ∧ tm_n σ (r + 20) = 48) ∧
  (tm_k σ 106 = 7) ∧
  (tm_k σ (-1) = 0)
theorem tm_Fx.mk {σ : tm_S} (cm : ∀ i : Int, 400 ≤ i → i < 418 → tm_k σ i = 39) (ch : ∀ i : Int, 0 ≤ i → i < 60 → tm_k σ (200 + i) = 2) (sp : ∀ i : Int, 0 ≤ i → i < 30 → tm_k σ (300 + i) = 20 ∧ tm_n σ (300 + i) = 11) (lt : tm_k σ 107 = 20 ∧ tm_n σ 107 = 11) (rw : ∀ r : Int, r = 124 ∨ r = 125 ∨ (130 ≤ r ∧ r < 134) → tm_k σ r = 3 ∧ tm_f σ 128 r = r + 20 ∧ tm_k σ (r + 20) = 21 ∧ tm_n σ (r + 20) = 48) (ls : tm_k σ 106 = 7) (nu : tm_k σ (-1) = 0) : tm_Fx σ := ⟨cm, ch, sp, lt, rw, ls, nu⟩
theorem tm_Fx.cm {σ : tm_S} (h : tm_Fx σ) : ∀ i : Int, 400 ≤ i → i < 418 → tm_k σ i = 39 := h.1
theorem tm_Fx.ch {σ : tm_S} (h : tm_Fx σ) : ∀ i : Int, 0 ≤ i → i < 60 → tm_k σ (200 + i) = 2 := h.2.1
theorem tm_Fx.sp {σ : tm_S} (h : tm_Fx σ) : ∀ i : Int, 0 ≤ i → i < 30 → tm_k σ (300 + i) = 20 ∧ tm_n σ (300 + i) = 11 := h.2.2.1
theorem tm_Fx.lt {σ : tm_S} (h : tm_Fx σ) : tm_k σ 107 = 20 ∧ tm_n σ 107 = 11 := h.2.2.2.1
theorem tm_Fx.rw {σ : tm_S} (h : tm_Fx σ) : ∀ r : Int, r = 124 ∨ r = 125 ∨ (130 ≤ r ∧ r < 134) → tm_k σ r = 3 ∧ tm_f σ 128 r = r + 20 ∧ tm_k σ (r + 20) = 21 ∧ tm_n σ (r + 20) = 48 := h.2.2.2.2.1
theorem tm_Fx.ls {σ : tm_S} (h : tm_Fx σ) : tm_k σ 106 = 7 := h.2.2.2.2.2.1
theorem tm_Fx.nu {σ : tm_S} (h : tm_Fx σ) : tm_k σ (-1) = 0 := h.2.2.2.2.2.2
/-- what goes on: the step's count ahead, sums that may not be passed, how deep, the frames, a conditional that is tested; what must stay -/
def tm_Pm : Type := Int × Int × Int × Int × Int × tm_S × tm_S
def tm_Pm.d (q : tm_Pm) : Int := q.1
def tm_Pm.S (q : tm_Pm) : Int := q.2.1
def tm_Pm.D (q : tm_Pm) : Int := q.2.2.1
def tm_Pm.F (q : tm_Pm) : Int := q.2.2.2.1
def tm_Pm.lo (q : tm_Pm) : Int := q.2.2.2.2.1
def tm_Pm.s0 (q : tm_Pm) : tm_S := q.2.2.2.2.2.1
def tm_Pm.t0 (q : tm_Pm) : tm_S := q.2.2.2.2.2.2
/-- what lasts, in the component's heap: kinds, lengths, what is never written again -/
def tm_Kh (σ0 σ : tm_S) : Prop :=
  (tm_c σ0 ≤ tm_c σ) ∧
  (∀ r : Int, r < 1000 + (tm_c σ0 : Int) → tm_k σ r = tm_k σ0 r ∧ tm_n σ r = tm_n σ0 r) ∧
  (∀ r : Int, 1000 ≤ r → r < 1000 + (tm_c σ0 : Int) → tm_f σ 256 r = tm_f σ0 256 r ∧ tm_f σ 320 r = tm_f σ0 320 r ∧ tm_f σ 321 r = tm_f σ0 321 r ∧ tm_f σ 322 r = tm_f σ0 322 r ∧ tm_f σ 192 r = tm_f σ0 192 r ∧ tm_f σ 193 r = tm_f σ0 193 r ∧ tm_f σ 194 r = tm_f σ0 194 r) ∧
  (∀ r i : Int, 1000 ≤ r → r < 1000 + (tm_c σ0 : Int) → tm_k σ0 r < 25 → tm_a σ r i = tm_a σ0 r i)
theorem tm_Kh.mk {σ0 σ : tm_S} (c : tm_c σ0 ≤ tm_c σ) (k : ∀ r : Int, r < 1000 + (tm_c σ0 : Int) → tm_k σ r = tm_k σ0 r ∧ tm_n σ r = tm_n σ0 r) (f : ∀ r : Int, 1000 ≤ r → r < 1000 + (tm_c σ0 : Int) → tm_f σ 256 r = tm_f σ0 256 r ∧ tm_f σ 320 r = tm_f σ0 320 r ∧ tm_f σ 321 r = tm_f σ0 321 r ∧ tm_f σ 322 r = tm_f σ0 322 r ∧ tm_f σ 192 r = tm_f σ0 192 r ∧ tm_f σ 193 r = tm_f σ0 193 r ∧ tm_f σ 194 r = tm_f σ0 194 r) (a : ∀ r i : Int, 1000 ≤ r → r < 1000 + (tm_c σ0 : Int) → tm_k σ0 r < 25 → tm_a σ r i = tm_a σ0 r i) : tm_Kh σ0 σ := ⟨c, k, f, a⟩
theorem tm_Kh.c {σ0 σ : tm_S} (h : tm_Kh σ0 σ) : tm_c σ0 ≤ tm_c σ := h.1
theorem tm_Kh.k {σ0 σ : tm_S} (h : tm_Kh σ0 σ) : ∀ r : Int, r < 1000 + (tm_c σ0 : Int) → tm_k σ r = tm_k σ0 r ∧ tm_n σ r = tm_n σ0 r := h.2.1
theorem tm_Kh.f {σ0 σ : tm_S} (h : tm_Kh σ0 σ) : ∀ r : Int, 1000 ≤ r → r < 1000 + (tm_c σ0 : Int) → tm_f σ 256 r = tm_f σ0 256 r ∧ tm_f σ 320 r = tm_f σ0 320 r ∧ tm_f σ 321 r = tm_f σ0 321 r ∧ tm_f σ 322 r = tm_f σ0 322 r ∧ tm_f σ 192 r = tm_f σ0 192 r ∧ tm_f σ 193 r = tm_f σ0 193 r ∧ tm_f σ 194 r = tm_f σ0 194 r := h.2.2.1
theorem tm_Kh.a {σ0 σ : tm_S} (h : tm_Kh σ0 σ) : ∀ r i : Int, 1000 ≤ r → r < 1000 + (tm_c σ0 : Int) → tm_k σ0 r < 25 → tm_a σ r i = tm_a σ0 r i := h.2.2.2
/-- names' objects too, and letters of csname further out -/
def tm_Kp (D : Int) (σ0 σ : tm_S) : Prop :=
  (tm_Kh σ0 σ) ∧
  (tm_f σ0 386 106 ≤ tm_f σ 386 106) ∧
  (∀ k : Int, 0 ≤ k → k < tm_f σ0 386 106 → tm_nr σ k = tm_nr σ0 k) ∧
  (∀ i j : Int, 0 ≤ i → i < D → tm_a σ (300 + i) j = tm_a σ0 (300 + i) j)
theorem tm_Kp.mk {D : Int} {σ0 σ : tm_S} (h : tm_Kh σ0 σ) (n : tm_f σ0 386 106 ≤ tm_f σ 386 106) (nr : ∀ k : Int, 0 ≤ k → k < tm_f σ0 386 106 → tm_nr σ k = tm_nr σ0 k) (sp : ∀ i j : Int, 0 ≤ i → i < D → tm_a σ (300 + i) j = tm_a σ0 (300 + i) j) : tm_Kp D σ0 σ := ⟨h, n, nr, sp⟩
theorem tm_Kp.h {D : Int} {σ0 σ : tm_S} (h : tm_Kp D σ0 σ) : tm_Kh σ0 σ := h.1
theorem tm_Kp.n {D : Int} {σ0 σ : tm_S} (h : tm_Kp D σ0 σ) : tm_f σ0 386 106 ≤ tm_f σ 386 106 := h.2.1
theorem tm_Kp.nr {D : Int} {σ0 σ : tm_S} (h : tm_Kp D σ0 σ) : ∀ k : Int, 0 ≤ k → k < tm_f σ0 386 106 → tm_nr σ k = tm_nr σ0 k := h.2.2.1
theorem tm_Kp.sp {D : Int} {σ0 σ : tm_S} (h : tm_Kp D σ0 σ) : ∀ i j : Int, 0 ≤ i → i < D → tm_a σ (300 + i) j = tm_a σ0 (300 + i) j := h.2.2.2
/-- macros in the model's tables -/
def tm_Tk (M : Int) (τ0 τ : tm_S) : Prop := ∀ j : Int, 0 ≤ j → j < M → tm_a τ 124 j = tm_a τ0 124 j ∧ tm_a τ 126 j = tm_a τ0 126 j ∧ tm_a τ 128 j = tm_a τ0 128 j ∧ (∀ i : Int, 0 ≤ i → i < 12 → tm_a τ 125 (13 * j + i) = tm_a τ0 125 (13 * j + i)) ∧ ∀ i : Int, 0 ≤ i → i < 40 → tm_a τ 127 (41 * j + i) = tm_a τ0 127 (41 * j + i)
/-- what lasts, in the model -/
def tm_Kt (F lo : Int) (τ0 τ : tm_S) : Prop :=
  (tm_f τ0 459 0 ≤ tm_f τ 459 0) ∧
  (tm_f τ0 471 0 ≤ tm_f τ 471 0) ∧
  (tm_Tk (tm_f τ0 471 0) τ0 τ) ∧
  (∀ i : Int, 0 ≤ i → i < F → tm_a τ 132 i = tm_a τ0 132 i ∧ tm_a τ 133 i = tm_a τ0 133 i ∧ tm_a τ 134 i = tm_a τ0 134 i ∧ tm_a τ 135 i = tm_a τ0 135 i) ∧
  (∀ i : Int, 0 ≤ i → i < 12 * F → tm_a τ 136 i = tm_a τ0 136 i) ∧
  (∀ i : Int, 0 ≤ i → i < lo → tm_a τ 130 i = tm_a τ0 130 i)
theorem tm_Kt.mk {F lo : Int} {τ0 τ : tm_S} (n : tm_f τ0 459 0 ≤ tm_f τ 459 0) (m : tm_f τ0 471 0 ≤ tm_f τ 471 0) (t : tm_Tk (tm_f τ0 471 0) τ0 τ) (fr : ∀ i : Int, 0 ≤ i → i < F → tm_a τ 132 i = tm_a τ0 132 i ∧ tm_a τ 133 i = tm_a τ0 133 i ∧ tm_a τ 134 i = tm_a τ0 134 i ∧ tm_a τ 135 i = tm_a τ0 135 i) (sp : ∀ i : Int, 0 ≤ i → i < 12 * F → tm_a τ 136 i = tm_a τ0 136 i) (cd : ∀ i : Int, 0 ≤ i → i < lo → tm_a τ 130 i = tm_a τ0 130 i) : tm_Kt F lo τ0 τ := ⟨n, m, t, fr, sp, cd⟩
theorem tm_Kt.n {F lo : Int} {τ0 τ : tm_S} (h : tm_Kt F lo τ0 τ) : tm_f τ0 459 0 ≤ tm_f τ 459 0 := h.1
theorem tm_Kt.m {F lo : Int} {τ0 τ : tm_S} (h : tm_Kt F lo τ0 τ) : tm_f τ0 471 0 ≤ tm_f τ 471 0 := h.2.1
theorem tm_Kt.t {F lo : Int} {τ0 τ : tm_S} (h : tm_Kt F lo τ0 τ) : tm_Tk (tm_f τ0 471 0) τ0 τ := h.2.2.1
theorem tm_Kt.fr {F lo : Int} {τ0 τ : tm_S} (h : tm_Kt F lo τ0 τ) : ∀ i : Int, 0 ≤ i → i < F → tm_a τ 132 i = tm_a τ0 132 i ∧ tm_a τ 133 i = tm_a τ0 133 i ∧ tm_a τ 134 i = tm_a τ0 134 i ∧ tm_a τ 135 i = tm_a τ0 135 i := h.2.2.2.1
theorem tm_Kt.sp {F lo : Int} {τ0 τ : tm_S} (h : tm_Kt F lo τ0 τ) : ∀ i : Int, 0 ≤ i → i < 12 * F → tm_a τ 136 i = tm_a τ0 136 i := h.2.2.2.2.1
theorem tm_Kt.cd {F lo : Int} {τ0 τ : tm_S} (h : tm_Kt F lo τ0 τ) : ∀ i : Int, 0 ≤ i → i < lo → tm_a τ 130 i = tm_a τ0 130 i := h.2.2.2.2.2
/-- side by side, between two moves; e the fault, b what may still be spent -/
def tm_Si (q : tm_Pm) (b : Int) (e : Int) (σ τ : tm_S) : Prop :=
  (tm_f σ 16 0 = e ∧ tm_f τ 453 0 = e) ∧
  (tm_f σ 1 0 = tm_f τ 449 0 ∧ 0 ≤ tm_f τ 449 0 ∧ tm_f τ 449 0 ≤ 160) ∧
  (tm_f σ 2 0 = tm_f τ 451 0 ∧ 0 ≤ tm_f τ 451 0 ∧ tm_f τ 451 0 ≤ tm_f τ 449 0) ∧
  (tm_f σ 3 0 = tm_f τ 452 0 ∧ 0 ≤ tm_f τ 452 0 ∧ tm_f τ 452 0 ≤ 2) ∧
  (tm_f σ 13 0 = tm_f τ 454 0 + q.d ∧ 0 ≤ tm_f τ 454 0 ∧ tm_f τ 454 0 + b + 1 ≤ q.S ∧ q.S ≤ 1000000 ∧ 0 ≤ b ∧ 0 ≤ q.d ∧ q.d ≤ 1) ∧
  (tm_f σ 14 0 = tm_f τ 466 0 ∧ 0 ≤ tm_f τ 466 0 ∧ tm_f τ 466 0 ≤ 30) ∧
  (tm_f σ 15 0 = tm_f τ 471 0 ∧ 0 ≤ tm_f τ 471 0 ∧ tm_f τ 471 0 ≤ 60) ∧
  (tm_f σ 17 0 = tm_f τ 455 0 ∧ 0 ≤ tm_f τ 455 0 ∧ tm_f τ 455 0 ≤ 200) ∧
  (tm_f σ 12 0 = tm_f τ 485 0 ∧ 0 ≤ tm_f τ 485 0 ∧ tm_f τ 485 0 ≤ 200) ∧
  (tm_f σ 10 0 = tm_f τ 457 0 ∧ 0 ≤ tm_f τ 457 0 ∧ tm_f τ 457 0 ≤ 300) ∧
  (tm_f σ 20 0 = tm_f τ 477 0 ∧ 0 ≤ tm_f τ 477 0 ∧ tm_f τ 477 0 ≤ 12) ∧
  (tm_f σ 22 0 = tm_f τ 467 0 ∧ 0 ≤ tm_f τ 467 0 ∧ tm_f τ 467 0 ≤ 60) ∧
  (tm_f σ 386 106 = tm_f τ 459 0 ∧ 18 ≤ tm_f τ 459 0 ∧ tm_f τ 459 0 ≤ 118) ∧
  (tm_f σ 18 0 = q.D ∧ tm_f τ 479 0 = q.F ∧ 0 ≤ q.D ∧ q.D ≤ 30 ∧ 0 ≤ q.F ∧ q.F ≤ 30) ∧
  (0 ≤ tm_f σ 384 106 ∧ tm_f σ 384 106 + 118 - tm_f τ 459 0 ≤ q.S) ∧
  ((tm_c σ : Int) + 3 * (118 - tm_f τ 459 0) + 3 * (60 - tm_f τ 471 0) + b + 1 ≤ (tm_u σ : Int)) ∧
  ((tm_z σ : Int) + 220 * (118 - tm_f τ 459 0) + 60 * (60 - tm_f τ 471 0) + b + 6 ≤ (tm_v σ : Int)) ∧
  (∀ i : Int, 0 ≤ i → i < tm_f τ 449 0 → tm_a σ 100 i = tm_a τ 102 i ∧ tm_ch (tm_a τ 102 i)) ∧
  (∀ i : Int, 0 ≤ i → i < 128 → tm_a σ 104 i = tm_a τ 108 i ∧ 0 ≤ tm_a τ 108 i ∧ tm_a τ 108 i ≤ 15) ∧
  (∀ i : Int, 0 ≤ i → i < tm_f τ 457 0 → tm_TR (tm_f τ 459 0) (tm_a σ 109 i) (tm_a τ 110 i)) ∧
  (∀ i : Int, 0 ≤ i → i < tm_f τ 485 0 → tm_a σ 111 i = tm_a τ 138 i) ∧
  (∀ i : Int, 0 ≤ i → i < tm_f τ 477 0 → tm_a σ 119 i = tm_a τ 130 i ∧ 0 ≤ tm_a τ 130 i ∧ tm_a τ 130 i ≤ 2) ∧
  (0 ≤ q.lo ∧ q.lo ≤ tm_f τ 477 0 ∧ (0 < q.lo → tm_a q.t0 130 (q.lo - 1) = 0)) ∧
  (tm_Ns (tm_f τ 459 0) (tm_f τ 471 0) σ τ) ∧
  (tm_Cs (tm_f τ 459 0) (tm_f τ 471 0) (tm_f τ 467 0) (tm_f τ 466 0) σ τ) ∧
  (tm_Fx σ) ∧
  (tm_Kp q.D q.s0 σ) ∧
  (tm_Kt q.F q.lo q.t0 τ)
theorem tm_Si.mk {q : tm_Pm} {b : Int} {e : Int} {σ τ : tm_S} (fl : tm_f σ 16 0 = e ∧ tm_f τ 453 0 = e) (sz : tm_f σ 1 0 = tm_f τ 449 0 ∧ 0 ≤ tm_f τ 449 0 ∧ tm_f τ 449 0 ≤ 160) (pl : tm_f σ 2 0 = tm_f τ 451 0 ∧ 0 ≤ tm_f τ 451 0 ∧ tm_f τ 451 0 ≤ tm_f τ 449 0) (st : tm_f σ 3 0 = tm_f τ 452 0 ∧ 0 ≤ tm_f τ 452 0 ∧ tm_f τ 452 0 ≤ 2) (sp : tm_f σ 13 0 = tm_f τ 454 0 + q.d ∧ 0 ≤ tm_f τ 454 0 ∧ tm_f τ 454 0 + b + 1 ≤ q.S ∧ q.S ≤ 1000000 ∧ 0 ≤ b ∧ 0 ≤ q.d ∧ q.d ≤ 1) (gr : tm_f σ 14 0 = tm_f τ 466 0 ∧ 0 ≤ tm_f τ 466 0 ∧ tm_f τ 466 0 ≤ 30) (mc : tm_f σ 15 0 = tm_f τ 471 0 ∧ 0 ≤ tm_f τ 471 0 ∧ tm_f τ 471 0 ≤ 60) (ex : tm_f σ 17 0 = tm_f τ 455 0 ∧ 0 ≤ tm_f τ 455 0 ∧ tm_f τ 455 0 ≤ 200) (oc : tm_f σ 12 0 = tm_f τ 485 0 ∧ 0 ≤ tm_f τ 485 0 ∧ tm_f τ 485 0 ≤ 200) (wt : tm_f σ 10 0 = tm_f τ 457 0 ∧ 0 ≤ tm_f τ 457 0 ∧ tm_f τ 457 0 ≤ 300) (op : tm_f σ 20 0 = tm_f τ 477 0 ∧ 0 ≤ tm_f τ 477 0 ∧ tm_f τ 477 0 ≤ 12) (cg : tm_f σ 22 0 = tm_f τ 467 0 ∧ 0 ≤ tm_f τ 467 0 ∧ tm_f τ 467 0 ≤ 60) (nn : tm_f σ 386 106 = tm_f τ 459 0 ∧ 18 ≤ tm_f τ 459 0 ∧ tm_f τ 459 0 ≤ 118) (dp : tm_f σ 18 0 = q.D ∧ tm_f τ 479 0 = q.F ∧ 0 ≤ q.D ∧ q.D ≤ 30 ∧ 0 ≤ q.F ∧ q.F ≤ 30) (md : 0 ≤ tm_f σ 384 106 ∧ tm_f σ 384 106 + 118 - tm_f τ 459 0 ≤ q.S) (bc : (tm_c σ : Int) + 3 * (118 - tm_f τ 459 0) + 3 * (60 - tm_f τ 471 0) + b + 1 ≤ (tm_u σ : Int)) (bz : (tm_z σ : Int) + 220 * (118 - tm_f τ 459 0) + 60 * (60 - tm_f τ 471 0) + b + 6 ≤ (tm_v σ : Int)) (tx : ∀ i : Int, 0 ≤ i → i < tm_f τ 449 0 → tm_a σ 100 i = tm_a τ 102 i ∧ tm_ch (tm_a τ 102 i)) (ca : ∀ i : Int, 0 ≤ i → i < 128 → tm_a σ 104 i = tm_a τ 108 i ∧ 0 ≤ tm_a τ 108 i ∧ tm_a τ 108 i ≤ 15) (pe : ∀ i : Int, 0 ≤ i → i < tm_f τ 457 0 → tm_TR (tm_f τ 459 0) (tm_a σ 109 i) (tm_a τ 110 i)) (ou : ∀ i : Int, 0 ≤ i → i < tm_f τ 485 0 → tm_a σ 111 i = tm_a τ 138 i) (cd : ∀ i : Int, 0 ≤ i → i < tm_f τ 477 0 → tm_a σ 119 i = tm_a τ 130 i ∧ 0 ≤ tm_a τ 130 i ∧ tm_a τ 130 i ≤ 2) (lo : 0 ≤ q.lo ∧ q.lo ≤ tm_f τ 477 0 ∧ (0 < q.lo → tm_a q.t0 130 (q.lo - 1) = 0)) (ns : tm_Ns (tm_f τ 459 0) (tm_f τ 471 0) σ τ) (cs : tm_Cs (tm_f τ 459 0) (tm_f τ 471 0) (tm_f τ 467 0) (tm_f τ 466 0) σ τ) (fx : tm_Fx σ) (kp : tm_Kp q.D q.s0 σ) (kt : tm_Kt q.F q.lo q.t0 τ) : tm_Si q b e σ τ := ⟨fl, sz, pl, st, sp, gr, mc, ex, oc, wt, op, cg, nn, dp, md, bc, bz, tx, ca, pe, ou, cd, lo, ns, cs, fx, kp, kt⟩
theorem tm_Si.fl {q : tm_Pm} {b : Int} {e : Int} {σ τ : tm_S} (h : tm_Si q b e σ τ) : tm_f σ 16 0 = e ∧ tm_f τ 453 0 = e := h.1
theorem tm_Si.sz {q : tm_Pm} {b : Int} {e : Int} {σ τ : tm_S} (h : tm_Si q b e σ τ) : tm_f σ 1 0 = tm_f τ 449 0 ∧ 0 ≤ tm_f τ 449 0 ∧ tm_f τ 449 0 ≤ 160 := h.2.1
theorem tm_Si.pl {q : tm_Pm} {b : Int} {e : Int} {σ τ : tm_S} (h : tm_Si q b e σ τ) : tm_f σ 2 0 = tm_f τ 451 0 ∧ 0 ≤ tm_f τ 451 0 ∧ tm_f τ 451 0 ≤ tm_f τ 449 0 := h.2.2.1
theorem tm_Si.st {q : tm_Pm} {b : Int} {e : Int} {σ τ : tm_S} (h : tm_Si q b e σ τ) : tm_f σ 3 0 = tm_f τ 452 0 ∧ 0 ≤ tm_f τ 452 0 ∧ tm_f τ 452 0 ≤ 2 := h.2.2.2.1
theorem tm_Si.sp {q : tm_Pm} {b : Int} {e : Int} {σ τ : tm_S} (h : tm_Si q b e σ τ) : tm_f σ 13 0 = tm_f τ 454 0 + q.d ∧ 0 ≤ tm_f τ 454 0 ∧ tm_f τ 454 0 + b + 1 ≤ q.S ∧ q.S ≤ 1000000 ∧ 0 ≤ b ∧ 0 ≤ q.d ∧ q.d ≤ 1 := h.2.2.2.2.1
theorem tm_Si.gr {q : tm_Pm} {b : Int} {e : Int} {σ τ : tm_S} (h : tm_Si q b e σ τ) : tm_f σ 14 0 = tm_f τ 466 0 ∧ 0 ≤ tm_f τ 466 0 ∧ tm_f τ 466 0 ≤ 30 := h.2.2.2.2.2.1
theorem tm_Si.mc {q : tm_Pm} {b : Int} {e : Int} {σ τ : tm_S} (h : tm_Si q b e σ τ) : tm_f σ 15 0 = tm_f τ 471 0 ∧ 0 ≤ tm_f τ 471 0 ∧ tm_f τ 471 0 ≤ 60 := h.2.2.2.2.2.2.1
theorem tm_Si.ex {q : tm_Pm} {b : Int} {e : Int} {σ τ : tm_S} (h : tm_Si q b e σ τ) : tm_f σ 17 0 = tm_f τ 455 0 ∧ 0 ≤ tm_f τ 455 0 ∧ tm_f τ 455 0 ≤ 200 := h.2.2.2.2.2.2.2.1
theorem tm_Si.oc {q : tm_Pm} {b : Int} {e : Int} {σ τ : tm_S} (h : tm_Si q b e σ τ) : tm_f σ 12 0 = tm_f τ 485 0 ∧ 0 ≤ tm_f τ 485 0 ∧ tm_f τ 485 0 ≤ 200 := h.2.2.2.2.2.2.2.2.1
theorem tm_Si.wt {q : tm_Pm} {b : Int} {e : Int} {σ τ : tm_S} (h : tm_Si q b e σ τ) : tm_f σ 10 0 = tm_f τ 457 0 ∧ 0 ≤ tm_f τ 457 0 ∧ tm_f τ 457 0 ≤ 300 := h.2.2.2.2.2.2.2.2.2.1
theorem tm_Si.op {q : tm_Pm} {b : Int} {e : Int} {σ τ : tm_S} (h : tm_Si q b e σ τ) : tm_f σ 20 0 = tm_f τ 477 0 ∧ 0 ≤ tm_f τ 477 0 ∧ tm_f τ 477 0 ≤ 12 := h.2.2.2.2.2.2.2.2.2.2.1
theorem tm_Si.cg {q : tm_Pm} {b : Int} {e : Int} {σ τ : tm_S} (h : tm_Si q b e σ τ) : tm_f σ 22 0 = tm_f τ 467 0 ∧ 0 ≤ tm_f τ 467 0 ∧ tm_f τ 467 0 ≤ 60 := h.2.2.2.2.2.2.2.2.2.2.2.1
theorem tm_Si.nn {q : tm_Pm} {b : Int} {e : Int} {σ τ : tm_S} (h : tm_Si q b e σ τ) : tm_f σ 386 106 = tm_f τ 459 0 ∧ 18 ≤ tm_f τ 459 0 ∧ tm_f τ 459 0 ≤ 118 := h.2.2.2.2.2.2.2.2.2.2.2.2.1
theorem tm_Si.dp {q : tm_Pm} {b : Int} {e : Int} {σ τ : tm_S} (h : tm_Si q b e σ τ) : tm_f σ 18 0 = q.D ∧ tm_f τ 479 0 = q.F ∧ 0 ≤ q.D ∧ q.D ≤ 30 ∧ 0 ≤ q.F ∧ q.F ≤ 30 := h.2.2.2.2.2.2.2.2.2.2.2.2.2.1
theorem tm_Si.md {q : tm_Pm} {b : Int} {e : Int} {σ τ : tm_S} (h : tm_Si q b e σ τ) : 0 ≤ tm_f σ 384 106 ∧ tm_f σ 384 106 + 118 - tm_f τ 459 0 ≤ q.S := h.2.2.2.2.2.2.2.2.2.2.2.2.2.2.1
theorem tm_Si.bc {q : tm_Pm} {b : Int} {e : Int} {σ τ : tm_S} (h : tm_Si q b e σ τ) : (tm_c σ : Int) + 3 * (118 - tm_f τ 459 0) + 3 * (60 - tm_f τ 471 0) + b + 1 ≤ (tm_u σ : Int) := h.2.2.2.2.2.2.2.2.2.2.2.2.2.2.2.1
theorem tm_Si.bz {q : tm_Pm} {b : Int} {e : Int} {σ τ : tm_S} (h : tm_Si q b e σ τ) : (tm_z σ : Int) + 220 * (118 - tm_f τ 459 0) + 60 * (60 - tm_f τ 471 0) + b + 6 ≤ (tm_v σ : Int) := h.2.2.2.2.2.2.2.2.2.2.2.2.2.2.2.2.1
theorem tm_Si.tx {q : tm_Pm} {b : Int} {e : Int} {σ τ : tm_S} (h : tm_Si q b e σ τ) : ∀ i : Int, 0 ≤ i → i < tm_f τ 449 0 → tm_a σ 100 i = tm_a τ 102 i ∧ tm_ch (tm_a τ 102 i) := h.2.2.2.2.2.2.2.2.2.2.2.2.2.2.2.2.2.1
theorem tm_Si.ca {q : tm_Pm} {b : Int} {e : Int} {σ τ : tm_S} (h : tm_Si q b e σ τ) : ∀ i : Int, 0 ≤ i → i < 128 → tm_a σ 104 i = tm_a τ 108 i ∧ 0 ≤ tm_a τ 108 i ∧ tm_a τ 108 i ≤ 15 := h.2.2.2.2.2.2.2.2.2.2.2.2.2.2.2.2.2.2.1
theorem tm_Si.pe {q : tm_Pm} {b : Int} {e : Int} {σ τ : tm_S} (h : tm_Si q b e σ τ) : ∀ i : Int, 0 ≤ i → i < tm_f τ 457 0 → tm_TR (tm_f τ 459 0) (tm_a σ 109 i) (tm_a τ 110 i) := h.2.2.2.2.2.2.2.2.2.2.2.2.2.2.2.2.2.2.2.1
theorem tm_Si.ou {q : tm_Pm} {b : Int} {e : Int} {σ τ : tm_S} (h : tm_Si q b e σ τ) : ∀ i : Int, 0 ≤ i → i < tm_f τ 485 0 → tm_a σ 111 i = tm_a τ 138 i := h.2.2.2.2.2.2.2.2.2.2.2.2.2.2.2.2.2.2.2.2.1
theorem tm_Si.cd {q : tm_Pm} {b : Int} {e : Int} {σ τ : tm_S} (h : tm_Si q b e σ τ) : ∀ i : Int, 0 ≤ i → i < tm_f τ 477 0 → tm_a σ 119 i = tm_a τ 130 i ∧ 0 ≤ tm_a τ 130 i ∧ tm_a τ 130 i ≤ 2 := h.2.2.2.2.2.2.2.2.2.2.2.2.2.2.2.2.2.2.2.2.2.1
theorem tm_Si.lo {q : tm_Pm} {b : Int} {e : Int} {σ τ : tm_S} (h : tm_Si q b e σ τ) : 0 ≤ q.lo ∧ q.lo ≤ tm_f τ 477 0 ∧ (0 < q.lo → tm_a q.t0 130 (q.lo - 1) = 0) := h.2.2.2.2.2.2.2.2.2.2.2.2.2.2.2.2.2.2.2.2.2.2.1
theorem tm_Si.ns {q : tm_Pm} {b : Int} {e : Int} {σ τ : tm_S} (h : tm_Si q b e σ τ) : tm_Ns (tm_f τ 459 0) (tm_f τ 471 0) σ τ := h.2.2.2.2.2.2.2.2.2.2.2.2.2.2.2.2.2.2.2.2.2.2.2.1
theorem tm_Si.cs {q : tm_Pm} {b : Int} {e : Int} {σ τ : tm_S} (h : tm_Si q b e σ τ) : tm_Cs (tm_f τ 459 0) (tm_f τ 471 0) (tm_f τ 467 0) (tm_f τ 466 0) σ τ := h.2.2.2.2.2.2.2.2.2.2.2.2.2.2.2.2.2.2.2.2.2.2.2.2.1
theorem tm_Si.fx {q : tm_Pm} {b : Int} {e : Int} {σ τ : tm_S} (h : tm_Si q b e σ τ) : tm_Fx σ := h.2.2.2.2.2.2.2.2.2.2.2.2.2.2.2.2.2.2.2.2.2.2.2.2.2.1
theorem tm_Si.kp {q : tm_Pm} {b : Int} {e : Int} {σ τ : tm_S} (h : tm_Si q b e σ τ) : tm_Kp q.D q.s0 σ := h.2.2.2.2.2.2.2.2.2.2.2.2.2.2.2.2.2.2.2.2.2.2.2.2.2.2.1
theorem tm_Si.kt {q : tm_Pm} {b : Int} {e : Int} {σ τ : tm_S} (h : tm_Si q b e σ τ) : tm_Kt q.F q.lo q.t0 τ := h.2.2.2.2.2.2.2.2.2.2.2.2.2.2.2.2.2.2.2.2.2.2.2.2.2.2.2
/-- after a fault -/
def tm_De (q : tm_Pm) (σ τ : tm_S) : Prop :=
  (tm_f σ 16 0 = tm_f τ 453 0 ∧ 1 ≤ tm_f τ 453 0 ∧ tm_f τ 453 0 ≤ 8) ∧
  (tm_f σ 1 0 = tm_f τ 449 0 ∧ 0 ≤ tm_f τ 449 0 ∧ tm_f τ 449 0 ≤ 160) ∧
  (tm_f σ 2 0 = tm_f τ 451 0 ∧ 0 ≤ tm_f τ 451 0 ∧ tm_f τ 451 0 ≤ tm_f τ 449 0) ∧
  (tm_f σ 13 0 = tm_f τ 454 0 + q.d ∧ 0 ≤ tm_f τ 454 0 ∧ tm_f τ 454 0 + q.d ≤ q.S ∧ q.S ≤ 1000000) ∧
  (tm_f σ 14 0 = tm_f τ 466 0) ∧
  (tm_f σ 15 0 = tm_f τ 471 0 ∧ 0 ≤ tm_f τ 471 0 ∧ tm_f τ 471 0 ≤ 60) ∧
  (tm_f σ 12 0 = tm_f τ 485 0 ∧ 0 ≤ tm_f τ 485 0 ∧ tm_f τ 485 0 ≤ 200) ∧
  (tm_f σ 20 0 = tm_f τ 477 0) ∧
  (tm_f σ 386 106 = tm_f τ 459 0 ∧ 18 ≤ tm_f τ 459 0 ∧ tm_f τ 459 0 ≤ 118) ∧
  (0 ≤ tm_f σ 384 106 ∧ tm_f σ 384 106 + 118 - tm_f τ 459 0 ≤ q.S) ∧
  (∀ i : Int, 0 ≤ i → i < tm_f τ 449 0 → tm_a σ 100 i = tm_a τ 102 i ∧ tm_ch (tm_a τ 102 i)) ∧
  (∀ i : Int, 0 ≤ i → i < 128 → tm_a σ 104 i = tm_a τ 108 i ∧ 0 ≤ tm_a τ 108 i ∧ tm_a τ 108 i ≤ 15) ∧
  (∀ i : Int, 0 ≤ i → i < tm_f τ 485 0 → tm_a σ 111 i = tm_a τ 138 i) ∧
  (tm_Ns (tm_f τ 459 0) (tm_f τ 471 0) σ τ) ∧
  (tm_Fx σ) ∧
  (tm_Kt q.F q.lo q.t0 τ)
theorem tm_De.mk {q : tm_Pm} {σ τ : tm_S} (fl : tm_f σ 16 0 = tm_f τ 453 0 ∧ 1 ≤ tm_f τ 453 0 ∧ tm_f τ 453 0 ≤ 8) (sz : tm_f σ 1 0 = tm_f τ 449 0 ∧ 0 ≤ tm_f τ 449 0 ∧ tm_f τ 449 0 ≤ 160) (pl : tm_f σ 2 0 = tm_f τ 451 0 ∧ 0 ≤ tm_f τ 451 0 ∧ tm_f τ 451 0 ≤ tm_f τ 449 0) (sp : tm_f σ 13 0 = tm_f τ 454 0 + q.d ∧ 0 ≤ tm_f τ 454 0 ∧ tm_f τ 454 0 + q.d ≤ q.S ∧ q.S ≤ 1000000) (gr : tm_f σ 14 0 = tm_f τ 466 0) (mc : tm_f σ 15 0 = tm_f τ 471 0 ∧ 0 ≤ tm_f τ 471 0 ∧ tm_f τ 471 0 ≤ 60) (oc : tm_f σ 12 0 = tm_f τ 485 0 ∧ 0 ≤ tm_f τ 485 0 ∧ tm_f τ 485 0 ≤ 200) (op : tm_f σ 20 0 = tm_f τ 477 0) (nn : tm_f σ 386 106 = tm_f τ 459 0 ∧ 18 ≤ tm_f τ 459 0 ∧ tm_f τ 459 0 ≤ 118) (md : 0 ≤ tm_f σ 384 106 ∧ tm_f σ 384 106 + 118 - tm_f τ 459 0 ≤ q.S) (tx : ∀ i : Int, 0 ≤ i → i < tm_f τ 449 0 → tm_a σ 100 i = tm_a τ 102 i ∧ tm_ch (tm_a τ 102 i)) (ca : ∀ i : Int, 0 ≤ i → i < 128 → tm_a σ 104 i = tm_a τ 108 i ∧ 0 ≤ tm_a τ 108 i ∧ tm_a τ 108 i ≤ 15) (ou : ∀ i : Int, 0 ≤ i → i < tm_f τ 485 0 → tm_a σ 111 i = tm_a τ 138 i) (ns : tm_Ns (tm_f τ 459 0) (tm_f τ 471 0) σ τ) (fx : tm_Fx σ) (kt : tm_Kt q.F q.lo q.t0 τ) : tm_De q σ τ := ⟨fl, sz, pl, sp, gr, mc, oc, op, nn, md, tx, ca, ou, ns, fx, kt⟩
theorem tm_De.fl {q : tm_Pm} {σ τ : tm_S} (h : tm_De q σ τ) : tm_f σ 16 0 = tm_f τ 453 0 ∧ 1 ≤ tm_f τ 453 0 ∧ tm_f τ 453 0 ≤ 8 := h.1
theorem tm_De.sz {q : tm_Pm} {σ τ : tm_S} (h : tm_De q σ τ) : tm_f σ 1 0 = tm_f τ 449 0 ∧ 0 ≤ tm_f τ 449 0 ∧ tm_f τ 449 0 ≤ 160 := h.2.1
theorem tm_De.pl {q : tm_Pm} {σ τ : tm_S} (h : tm_De q σ τ) : tm_f σ 2 0 = tm_f τ 451 0 ∧ 0 ≤ tm_f τ 451 0 ∧ tm_f τ 451 0 ≤ tm_f τ 449 0 := h.2.2.1
theorem tm_De.sp {q : tm_Pm} {σ τ : tm_S} (h : tm_De q σ τ) : tm_f σ 13 0 = tm_f τ 454 0 + q.d ∧ 0 ≤ tm_f τ 454 0 ∧ tm_f τ 454 0 + q.d ≤ q.S ∧ q.S ≤ 1000000 := h.2.2.2.1
theorem tm_De.gr {q : tm_Pm} {σ τ : tm_S} (h : tm_De q σ τ) : tm_f σ 14 0 = tm_f τ 466 0 := h.2.2.2.2.1
theorem tm_De.mc {q : tm_Pm} {σ τ : tm_S} (h : tm_De q σ τ) : tm_f σ 15 0 = tm_f τ 471 0 ∧ 0 ≤ tm_f τ 471 0 ∧ tm_f τ 471 0 ≤ 60 := h.2.2.2.2.2.1
theorem tm_De.oc {q : tm_Pm} {σ τ : tm_S} (h : tm_De q σ τ) : tm_f σ 12 0 = tm_f τ 485 0 ∧ 0 ≤ tm_f τ 485 0 ∧ tm_f τ 485 0 ≤ 200 := h.2.2.2.2.2.2.1
theorem tm_De.op {q : tm_Pm} {σ τ : tm_S} (h : tm_De q σ τ) : tm_f σ 20 0 = tm_f τ 477 0 := h.2.2.2.2.2.2.2.1
theorem tm_De.nn {q : tm_Pm} {σ τ : tm_S} (h : tm_De q σ τ) : tm_f σ 386 106 = tm_f τ 459 0 ∧ 18 ≤ tm_f τ 459 0 ∧ tm_f τ 459 0 ≤ 118 := h.2.2.2.2.2.2.2.2.1
theorem tm_De.md {q : tm_Pm} {σ τ : tm_S} (h : tm_De q σ τ) : 0 ≤ tm_f σ 384 106 ∧ tm_f σ 384 106 + 118 - tm_f τ 459 0 ≤ q.S := h.2.2.2.2.2.2.2.2.2.1
theorem tm_De.tx {q : tm_Pm} {σ τ : tm_S} (h : tm_De q σ τ) : ∀ i : Int, 0 ≤ i → i < tm_f τ 449 0 → tm_a σ 100 i = tm_a τ 102 i ∧ tm_ch (tm_a τ 102 i) := h.2.2.2.2.2.2.2.2.2.2.1
theorem tm_De.ca {q : tm_Pm} {σ τ : tm_S} (h : tm_De q σ τ) : ∀ i : Int, 0 ≤ i → i < 128 → tm_a σ 104 i = tm_a τ 108 i ∧ 0 ≤ tm_a τ 108 i ∧ tm_a τ 108 i ≤ 15 := h.2.2.2.2.2.2.2.2.2.2.2.1
theorem tm_De.ou {q : tm_Pm} {σ τ : tm_S} (h : tm_De q σ τ) : ∀ i : Int, 0 ≤ i → i < tm_f τ 485 0 → tm_a σ 111 i = tm_a τ 138 i := h.2.2.2.2.2.2.2.2.2.2.2.2.1
theorem tm_De.ns {q : tm_Pm} {σ τ : tm_S} (h : tm_De q σ τ) : tm_Ns (tm_f τ 459 0) (tm_f τ 471 0) σ τ := h.2.2.2.2.2.2.2.2.2.2.2.2.2.1
theorem tm_De.fx {q : tm_Pm} {σ τ : tm_S} (h : tm_De q σ τ) : tm_Fx σ := h.2.2.2.2.2.2.2.2.2.2.2.2.2.2.1
theorem tm_De.kt {q : tm_Pm} {σ τ : tm_S} (h : tm_De q σ τ) : tm_Kt q.F q.lo q.t0 τ := h.2.2.2.2.2.2.2.2.2.2.2.2.2.2.2
theorem tm_Si.die {q : tm_Pm} {b e : Int} {σ τ : tm_S} (h : tm_Si q b 0 σ τ) (he : 1 ≤ e ∧ e ≤ 8) : tm_De q (tm_wf σ 16 0 e) (tm_wf τ 453 0 e) :=
  tm_De.mk (fl := ⟨rfl, he⟩) (sz := h.sz) (pl := h.pl) (sp := by have := h.sp; (simp only [tm_f_wf, tm_f_wa, tm_a_wf, tm_a_wa, tm_n_wf, tm_n_wa, tm_k_wf, tm_k_wa, tm_c_wf, tm_c_wa, tm_z_wf, tm_z_wa, tm_u_wf, tm_u_wa, tm_v_wf, tm_v_wa, tm_lt_e, tm_ls_e, tm_bd_rt, tm_bd_th, Nat.reduceEqDiff, Int.reduceEq, Int.reduceNeg, false_and, and_false, true_and, and_true, and_self, if_false, if_true, reduceIte, ite_true, ite_false, reduceCtorEq]); omega) (gr := h.gr.1) (mc := h.mc) (oc := h.oc) (op := h.op.1) (nn := h.nn) (md := h.md) (tx := h.tx) (ca := h.ca) (ou := h.ou) (ns := h.ns) (fx := h.fx) (kt := h.kt)
