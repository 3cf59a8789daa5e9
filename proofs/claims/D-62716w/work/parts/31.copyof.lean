/-- an array's first places copied to a new array -/
def tm_cp (τ : tm_S) (r a k : Int) : tm_S := (τ.1, fun b j => if b = r ∧ 0 ≤ j ∧ j < k then tm_a τ a j else tm_a τ b j, τ.2.2)
def tm_gp (P : Prop) [Decidable P] (X : tm_R) : tm_R := if P then X else none
def fc_J10_copyOf (a n : Int) (σ : tm_S) : tm_R :=
  tm_gk (tm_k σ a) 25 <|
  tm_gx n 1000000 <|
  tm_gp (tm_n σ a ≤ n ∧ (List.range (tm_n σ a).toNat).all (fun j => decide (tm_a σ a (j : Int) < 0) || decide (tm_k σ (tm_a σ a (j : Int)) = 4)) = true) <|
  tm_gn σ (Int.toNat n) <|
  tm_rt (1000 + (tm_c σ : Int)) (tm_cp (tm_ne σ 25 n (Int.toNat n)) (1000 + (tm_c σ : Int)) a (tm_n σ a))
theorem cc_J10_copyOf (K : tm_K) (l : Launch) (hst : l.stackTraces = false) (a1 : Int) (g1 : tm_in a1) (a2 : Int) (g2 : tm_in a2) : tm_ct K tm_xC l yJ10_copyOf cJ10_copyOf 2 (some (.array (.object "java/lang/Object"))) 2 [tm_rv K a1, tm_iv a2] (fc_J10_copyOf a1 a2) 3 100 := by
  sorry
