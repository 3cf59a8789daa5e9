/-! BITS, BYTES OF LONGS, AND SMALL ROWS -/
theorem tm_in0 {n : Int} (h : 0 ≤ n ∧ n ≤ 2147483647) : tm_in n := ⟨by omega, h.2⟩
theorem tm_narO (K : tm_K) (t : String) (x : Int) : narrow (.object t) (tm_rv K x) = tm_rv K x := by
  rcases tm_rv_or K x with e | ⟨a, e⟩ <;> rw [e] <;> rfl
theorem tm_fitO (K : tm_K) (t : String) (x : Int) : fits (.object t) (tm_rv K x) = true := by
  rcases tm_rv_or K x with e | ⟨a, e⟩ <;> rw [e] <;> rfl
theorem tm_bv (x : Int) : (Int32.ofInt x).toBitVec.toNat = (x % 4294967296).toNat := by
  rw [Int32.toBitVec_ofInt, BitVec.toNat_ofInt]
  rfl
theorem tm_nIc (n : Nat) : nI n = Int32.ofInt (n : Int) := (Int32.ofInt_eq_ofNat).symm
theorem tm_and255 (x : Int) : Int32.ofInt x &&& Int32.ofInt 255 = Int32.ofInt (x % 256) := by
  rw [pk_and _ 8 (by decide), tm_bv, tm_nIc]
  congr 1
  omega
theorem tm_and1 (x : Int) : Int32.ofInt x &&& Int32.ofInt 1 = Int32.ofInt (x % 2) := by
  rw [pk_and _ 1 (by decide), tm_bv, tm_nIc]
  congr 1
  omega
theorem tm_and15 (x : Int) : Int32.ofInt x &&& Int32.ofInt 15 = Int32.ofInt (x % 16) := by
  rw [pk_and _ 4 (by decide), tm_bv, tm_nIc]
  congr 1
  omega
theorem tm_and8192 (x : Int) : Int32.ofInt x &&& Int32.ofInt 8192 = Int32.ofInt (x / 8192 % 2 * 8192) := by
  apply Int32.toBitVec_inj.mp
  rw [Int32.toBitVec_and, show (Int32.ofInt 8192).toBitVec = BitVec.twoPow 32 13 by decide, BitVec.and_twoPow]
  have h : (Int32.ofInt x).toBitVec.getLsbD 13 = decide ((x % 4294967296).toNat / 8192 % 2 = 1) := by
    rw [← tm_bv, BitVec.getLsbD, Nat.testBit_eq_decide_div_mod_eq]
  rw [h]
  by_cases h9 : (x % 4294967296).toNat / 8192 % 2 = 1
  · rw [if_pos (by simpa using h9), show x / 8192 % 2 * 8192 = 8192 by omega]
    decide
  · rw [if_neg (by simpa using h9), show x / 8192 % 2 * 8192 = 0 by omega]
    decide
theorem tm_andm2 (x : Int) : Int32.ofInt x &&& Int32.ofInt (-2) = Int32.ofInt (x - x % 2) := by
  have h1 : Int32.ofInt x &&& Int32.ofInt (-2) = Int32.ofInt x - (Int32.ofInt x &&& Int32.ofInt 1) := by
    apply Int32.toBitVec_inj.mp
    rw [Int32.toBitVec_and, Int32.toBitVec_sub, Int32.toBitVec_and, show (Int32.ofInt (-2)).toBitVec = ~~~(1#32) by decide, show (Int32.ofInt 1).toBitVec = 1#32 by decide]
    generalize (Int32.ofInt x).toBitVec = b
    apply BitVec.eq_of_toNat_eq
    have hb := b.isLt
    have e1 : (b &&& 1#32).toNat = b.toNat % 2 := by
      rw [BitVec.toNat_and, show (1#32).toNat = 1 from rfl, Nat.and_one_is_mod]
    have e2 : b.toNat = (b &&& ~~~(1#32)).toNat + (b &&& 1#32).toNat := by
      have h9 : (b &&& ~~~(1#32)) + (b &&& 1#32) = b := by
        have h8 : (b &&& ~~~(1#32)) + (b &&& 1#32) = (b &&& ~~~(1#32)) ||| (b &&& 1#32) := by
          apply BitVec.add_eq_or_of_and_eq_zero
          apply BitVec.eq_of_getLsbD_eq
          intro i hi
          simp only [BitVec.getLsbD_and, BitVec.getLsbD_not, BitVec.getLsbD_zero]
          cases b.getLsbD i <;> cases (1#32).getLsbD i <;> simp
        rw [h8]
        apply BitVec.eq_of_getLsbD_eq
        intro i hi
        simp only [BitVec.getLsbD_and, BitVec.getLsbD_not, BitVec.getLsbD_or, hi, decide_true, Bool.true_and]
        cases b.getLsbD i <;> cases (1#32).getLsbD i <;> rfl
      have h7 := congrArg BitVec.toNat h9
      rw [BitVec.toNat_add_of_not_uaddOverflow] at h7
      · exact h7.symm
      · unfold BitVec.uaddOverflow
        have h6 : (b &&& ~~~(1#32)).toNat ≤ b.toNat - b.toNat % 2 := by
          have h5 : (b &&& ~~~(1#32)).toNat = b.toNat &&& (~~~(1#32)).toNat := BitVec.toNat_and _ _
          have h4 : (b &&& ~~~(1#32)).toNat ≤ b.toNat := by rw [h5]; exact Nat.and_le_left
          have h3 : (b &&& ~~~(1#32)).toNat % 2 = 0 := by
            have : (b &&& ~~~(1#32)).getLsbD 0 = false := by simp [BitVec.getLsbD_and, BitVec.getLsbD_not]
            rw [BitVec.getLsbD, Nat.testBit_zero] at this
            have := of_decide_eq_false this
            omega
          omega
        rw [e1]
        simp only [ge_iff_le, decide_eq_true_eq]
        omega
    rw [BitVec.toNat_sub, e1]
    rw [e1] at e2
    omega
  rw [h1, tm_and1, ← Int32.ofInt_sub]
theorem tm_or1 (x : Int) : Int32.ofInt x ||| Int32.ofInt 1 = Int32.ofInt (x - x % 2 + 1) := by
  have h1 : Int32.ofInt x ||| Int32.ofInt 1 = (Int32.ofInt x &&& Int32.ofInt (-2)) + Int32.ofInt 1 := by
    apply Int32.toBitVec_inj.mp
    rw [Int32.toBitVec_or, Int32.toBitVec_add, Int32.toBitVec_and, show (Int32.ofInt (-2)).toBitVec = ~~~(1#32) by decide, show (Int32.ofInt 1).toBitVec = 1#32 by decide]
    generalize (Int32.ofInt x).toBitVec = b
    rw [BitVec.add_eq_or_of_and_eq_zero]
    · apply BitVec.eq_of_getLsbD_eq
      intro i hi
      simp only [BitVec.getLsbD_and, BitVec.getLsbD_not, BitVec.getLsbD_or, hi, decide_true, Bool.true_and]
      cases b.getLsbD i <;> cases (1#32).getLsbD i <;> rfl
    · apply BitVec.eq_of_getLsbD_eq
      intro i hi
      simp only [BitVec.getLsbD_and, BitVec.getLsbD_not, BitVec.getLsbD_zero]
      cases b.getLsbD i <;> cases (1#32).getLsbD i <;> simp
  rw [h1, tm_andm2, ← Int32.ofInt_add]
theorem tm_shr {x : Int} (h : tm_in x) (k : Nat) (y : Int32) (hk : ((y &&& 31).toBitVec.smod 32).toNat = k) (hk9 : k < 31) : Int32.ofInt x >>> (y &&& 31) = Int32.ofInt (x / 2 ^ k) := by
  apply Int32.toInt_inj.mp
  have h1 : (0 : Int) < 2 ^ k := Int.pow_pos (by decide)
  have h2 : x / 2 ^ k ≤ 2147483647 := by
    have := Int.ediv_le_of_le_mul (a := x) (b := 2147483647) h1 (by
      have : (2147483647 : Int) * 1 ≤ 2147483647 * 2 ^ k := Int.mul_le_mul_of_nonneg_left (by omega) (by decide)
      omega)
    exact this
  have h3 : -2147483648 ≤ x / 2 ^ k := Int.le_ediv_of_mul_le h1 (by
      have : (2147483648 : Int) * 1 ≤ 2147483648 * 2 ^ k := Int.mul_le_mul_of_nonneg_left (by omega) (by decide)
      omega)
  rw [pk_shr _ _ k hk, tm_I h, tm_I ⟨h3, h2⟩, Int.shiftRight_eq_div_pow]
  rfl
/-- some bits of a long -/
def tm_by (w k n : Int) : Int := w / 2 ^ k.toNat % n
theorem tm_L {x : Int} (h : tm_inl x) : (Int64.ofInt x).toInt = x := Int64.toInt_ofInt_of_le (by have := h.1; omega) (by have := h.2; omega)
theorem tm_bv64 (x : Int) : (Int64.ofInt x).toBitVec.toNat = (x % 18446744073709551616).toNat := by
  rw [Int64.toBitVec_ofInt, BitVec.toNat_ofInt]
  rfl
theorem tm_sh6 : ∀ k : Fin 64, (((nI k.val).toInt64 &&& 63).toBitVec.smod 64).toNat = k.val := by decide +kernel
theorem tm_sh6u : ∀ k : Fin 64, (((nI k.val).toInt64.toUInt64 &&& Int64.toUInt64 63).toNat % 64) = k.val := by decide +kernel
theorem tm_Iof {k : Int} (h : 0 ≤ k) : Int32.ofInt k = nI k.toNat := by
  rw [tm_nIc]
  congr 1
  omega
theorem tm_byS {w k : Int} {c : Nat} (hw : tm_inl w) (hk : 0 ≤ k ∧ k < 64) (j : Nat) (hc : c = 2 ^ j - 1) (hj : j < 31) (C : Int64) (hC : C = Int64.ofInt c) : ((Int64.ofInt w >>> ((Int32.ofInt k).toInt64 &&& 63)) &&& C).toInt32 = Int32.ofInt (tm_by w k (c + 1)) := by
  subst hC
  have hk9 := tm_sh6 ⟨k.toNat, by omega⟩
  have hk9 : (((Int32.ofInt k).toInt64 &&& 63).toBitVec.smod 64).toNat = k.toNat := by rw [tm_Iof hk.1]; exact hk9
  have h2 : (0 : Int) < 2 ^ k.toNat := Int.pow_pos (by decide)
  generalize hy : (Int32.ofInt k).toInt64 &&& 63 = y at hk9 ⊢
  have e1 : Int64.ofInt w >>> y = Int64.ofInt (w / 2 ^ k.toNat) := by
    apply Int64.toInt_inj.mp
    have g1 : w / 2 ^ k.toNat ≤ 9223372036854775807 := Int.ediv_le_of_le_mul h2 (by
      have : (9223372036854775807 : Int) * 1 ≤ 9223372036854775807 * 2 ^ k.toNat := Int.mul_le_mul_of_nonneg_left (by omega) (by decide)
      omega)
    have g2 : -9223372036854775808 ≤ w / 2 ^ k.toNat := Int.le_ediv_of_mul_le h2 (by
      have : (9223372036854775808 : Int) * 1 ≤ 9223372036854775808 * 2 ^ k.toNat := Int.mul_le_mul_of_nonneg_left (by omega) (by decide)
      omega)
    rw [tm_L ⟨g2, g1⟩]
    show ((Int64.ofInt w >>> y).toBitVec).toInt = _
    rw [Int64.toBitVec_shiftRight, BitVec.sshiftRight_eq', hk9, BitVec.toInt_sshiftRight]
    show (Int64.ofInt w).toInt >>> k.toNat = _
    rw [tm_L hw, Int.shiftRight_eq_div_pow]
    rfl
  rw [e1]
  unfold tm_by
  generalize w / 2 ^ k.toNat = u
  have e2 : Int64.ofInt u &&& Int64.ofInt c = Int64.ofInt (u % ((c : Int) + 1)) := by
    apply Int64.toBitVec_inj.mp
    rw [Int64.toBitVec_and]
    apply BitVec.eq_of_toNat_eq
    rw [BitVec.toNat_and, tm_bv64, tm_bv64, tm_bv64]
    have hp : 2 ^ j ≤ 2 ^ 30 := Nat.pow_le_pow_right (by decide) (by omega)
    have hp1 : 1 ≤ 2 ^ j := Nat.one_le_two_pow
    have hp2 : (2 : Nat) ^ 30 = 1073741824 := by decide
    have e3 : ((c : Int) % 18446744073709551616).toNat = 2 ^ j - 1 := by omega
    rw [e3, Nat.and_two_pow_sub_one_eq_mod]
    have e4 : (u % ((c : Int) + 1)) % 18446744073709551616 = u % ((c : Int) + 1) := by
      have g1 := Int.emod_nonneg u (b := (c : Int) + 1) (by omega)
      have g2 := Int.emod_lt_of_pos u (b := (c : Int) + 1) (by omega)
      omega
    rw [e4]
    have e5 : ((c : Int) + 1) = ((2 ^ j : Nat) : Int) := by omega
    rw [e5]
    have hd : ((2 ^ j : Nat) : Int) ∣ 18446744073709551616 := by
      have : (2 : Nat) ^ j ∣ 2 ^ 64 := Nat.pow_dvd_pow 2 (by omega)
      exact Int.natCast_dvd_natCast.mpr this
    have e6 : u % ((2 ^ j : Nat) : Int) = (u % 18446744073709551616) % ((2 ^ j : Nat) : Int) := (Int.emod_emod_of_dvd u hd).symm
    rw [e6]
    have g0 := Int.emod_nonneg u (b := 18446744073709551616) (by decide)
    generalize u % 18446744073709551616 = t at g0 ⊢
    obtain ⟨n, rfl⟩ := Int.eq_ofNat_of_zero_le g0
    rfl
  rw [e2, Int64.toInt32_ofInt]
theorem tm_byU {w k : Int} (hw : tm_inl w) (hk : 0 ≤ k ∧ k < 57) : ((Int64.ofInt w).toUInt64 >>> ((Int32.ofInt k).toInt64.toUInt64 &&& Int64.toUInt64 63)).toInt64.toInt32 &&& Int32.ofInt 255 = Int32.ofInt (tm_by w k 256) := by
  have hk9 := tm_sh6u ⟨k.toNat, by omega⟩
  have hk9 : (((Int32.ofInt k).toInt64.toUInt64 &&& Int64.toUInt64 63).toNat % 64) = k.toNat := by rw [tm_Iof hk.1]; exact hk9
  generalize hy : (Int32.ofInt k).toInt64.toUInt64 &&& Int64.toUInt64 63 = y at hk9 ⊢
  have e1 : ((Int64.ofInt w).toUInt64 >>> y).toInt64.toBitVec.toNat = (w % 18446744073709551616).toNat / 2 ^ k.toNat := by
    show ((Int64.ofInt w).toUInt64 >>> y).toNat = _
    rw [UInt64.toNat_shiftRight, hk9, Nat.shiftRight_eq_div_pow]
    exact congrArg (fun z => z / 2 ^ k.toNat) (tm_bv64 w)
  have e2 : (((Int64.ofInt w).toUInt64 >>> y).toInt64.toInt32).toBitVec.toNat = (w % 18446744073709551616).toNat / 2 ^ k.toNat % 4294967296 := by
    show ((((Int64.ofInt w).toUInt64 >>> y).toInt64).toBitVec.signExtend 32).toNat = _
    rw [BitVec.signExtend_eq_setWidth_of_le _ (by decide), BitVec.toNat_setWidth, e1]
  rw [pk_and _ 8 (by decide), e2, tm_nIc]
  congr 1
  unfold tm_by
  have g0 := Int.emod_nonneg w (b := 18446744073709551616) (by decide)
  have hd : w = 18446744073709551616 * (w / 18446744073709551616) + w % 18446744073709551616 := (Int.mul_ediv_add_emod w 18446744073709551616).symm
  generalize hA : w % 18446744073709551616 = A at g0 hd ⊢
  generalize w / 18446744073709551616 = B at hd
  obtain ⟨n, rfl⟩ := Int.eq_ofNat_of_zero_le g0
  have h2 : (0 : Int) < 2 ^ k.toNat := Int.pow_pos (by decide)
  have hK : k.toNat ≤ 56 := by omega
  generalize k.toNat = q at h2 hK ⊢
  have h64 : (18446744073709551616 : Int) = 2 ^ q * (256 * 2 ^ (56 - q)) := by
    have : (18446744073709551616 : Int) = 2 ^ 56 * 256 := by decide
    have h56 : (2 : Int) ^ 56 = 2 ^ q * 2 ^ (56 - q) := by
      rw [← Int.pow_add]
      congr 1
      omega
    rw [this, h56, Int.mul_assoc, Int.mul_comm (2 ^ (56 - q)) 256]
  rw [hd, h64]
  have e5 : (2 ^ q * (256 * 2 ^ (56 - q)) * B + (n : Int)) / 2 ^ q = 256 * (2 ^ (56 - q) * B) + (n : Int) / 2 ^ q := by
    rw [Int.add_comm, Int.mul_assoc, Int.add_mul_ediv_left _ _ (by omega), Int.add_comm, Int.mul_assoc]
  rw [e5, Int.add_comm, Int.add_mul_emod_self_left]
  show ((n / 2 ^ q % 4294967296 % 2 ^ 8 : Nat) : Int) = ((n : Int) / 2 ^ q) % 256
  have e6 : n / 2 ^ q % 4294967296 % 2 ^ 8 = n / 2 ^ q % 256 := by
    show n / 2 ^ q % 4294967296 % 256 = _
    omega
  rw [e6]
  rfl
section TMB
variable {p : Program} {l : Launch} {e : Env} {R : Room} {s : State} {m : MethodId} {args : Array Value} {below : List Frame} {meth : Method} {c : Code} {K : tm_K} {FX : tm_X0} {rt : Nat} {cc : ByteArray} {nL : Nat} {own mn : String} {ret : Option FieldType} {fr lo : Nat} {pc : Nat} {ls : Array Slot} {rest : List Value} {X A B : tm_R} {σ : tm_S} {lg : Nat}
theorem tm_hst (cx : tm_C p l R s m args meth c K cc nL own mn ret fr lo) : l.stackTraces = false := cx.2.2.2.2.2.2.2.2.2.2.1
theorem tm_iand255 (cx : tm_C p l R s m args meth c K cc nL own mn ret fr lo) {x : Int} (hx : tm_in x) (d : decode cc pc = .ok (.iand, 1)) (k : tm_in (x % 256) → tm_J p l e R s m args below meth c K FX rt X σ (F0 m (pc + 1) ls (tm_iv (x % 256) :: rest))) : tm_J p l e R s m args below meth c K FX rt X σ (F0 m pc ls (tm_iv 255 :: tm_iv x :: rest)) :=
  fun o t h H locs w v => lv_iand cx.1 cx.2.1 d (by rw [tm_and255]; exact k (by omega) o t h H locs w v)
theorem tm_iand1 (cx : tm_C p l R s m args meth c K cc nL own mn ret fr lo) {x : Int} (hx : tm_in x) (d : decode cc pc = .ok (.iand, 1)) (k : tm_in (x % 2) → tm_J p l e R s m args below meth c K FX rt X σ (F0 m (pc + 1) ls (tm_iv (x % 2) :: rest))) : tm_J p l e R s m args below meth c K FX rt X σ (F0 m pc ls (tm_iv 1 :: tm_iv x :: rest)) :=
  fun o t h H locs w v => lv_iand cx.1 cx.2.1 d (by rw [tm_and1]; exact k (by omega) o t h H locs w v)
theorem tm_iand15 (cx : tm_C p l R s m args meth c K cc nL own mn ret fr lo) {x : Int} (hx : tm_in x) (d : decode cc pc = .ok (.iand, 1)) (k : tm_in (x % 16) → tm_J p l e R s m args below meth c K FX rt X σ (F0 m (pc + 1) ls (tm_iv (x % 16) :: rest))) : tm_J p l e R s m args below meth c K FX rt X σ (F0 m pc ls (tm_iv 15 :: tm_iv x :: rest)) :=
  fun o t h H locs w v => lv_iand cx.1 cx.2.1 d (by rw [tm_and15]; exact k (by omega) o t h H locs w v)
theorem tm_iand8192 (cx : tm_C p l R s m args meth c K cc nL own mn ret fr lo) {x : Int} (hx : tm_in x) (d : decode cc pc = .ok (.iand, 1)) (k : tm_in (x / 8192 % 2 * 8192) → tm_J p l e R s m args below meth c K FX rt X σ (F0 m (pc + 1) ls (tm_iv (x / 8192 % 2 * 8192) :: rest))) : tm_J p l e R s m args below meth c K FX rt X σ (F0 m pc ls (tm_iv 8192 :: tm_iv x :: rest)) :=
  fun o t h H locs w v => lv_iand cx.1 cx.2.1 d (by rw [tm_and8192]; exact k (by omega) o t h H locs w v)
theorem tm_iandm2 (cx : tm_C p l R s m args meth c K cc nL own mn ret fr lo) {x : Int} (hx : tm_in x) (d : decode cc pc = .ok (.iand, 1)) (k : tm_in (x - x % 2) → tm_J p l e R s m args below meth c K FX rt X σ (F0 m (pc + 1) ls (tm_iv (x - x % 2) :: rest))) : tm_J p l e R s m args below meth c K FX rt X σ (F0 m pc ls (tm_iv (-2) :: tm_iv x :: rest)) :=
  fun o t h H locs w v => lv_iand cx.1 cx.2.1 d (by rw [tm_andm2]; exact k (by omega) o t h H locs w v)
theorem tm_ior1 (cx : tm_C p l R s m args meth c K cc nL own mn ret fr lo) {x : Int} (hx : tm_in x) (d : decode cc pc = .ok (.ior, 1)) (k : tm_in (x - x % 2 + 1) → tm_J p l e R s m args below meth c K FX rt X σ (F0 m (pc + 1) ls (tm_iv (x - x % 2 + 1) :: rest))) : tm_J p l e R s m args below meth c K FX rt X σ (F0 m pc ls (tm_iv 1 :: tm_iv x :: rest)) :=
  fun o t h H locs w v => lv_ior cx.1 cx.2.1 d (by rw [tm_or1]; exact k (by omega) o t h H locs w v)
theorem tm_ishr8 (cx : tm_C p l R s m args meth c K cc nL own mn ret fr lo) {x : Int} (hx : tm_in x) (d : decode cc pc = .ok (.ishr, 1)) (k : tm_in (x / 256) → tm_J p l e R s m args below meth c K FX rt X σ (F0 m (pc + 1) ls (tm_iv (x / 256) :: rest))) : tm_J p l e R s m args below meth c K FX rt X σ (F0 m pc ls (tm_iv 8 :: tm_iv x :: rest)) :=
  fun o t h H locs w v => lv_ishr cx.1 cx.2.1 d (by rw [tm_shr hx 8 (Int32.ofInt 8) (by decide) (by decide)]; exact k (by omega) o t h H locs w v)
theorem tm_ishr1 (cx : tm_C p l R s m args meth c K cc nL own mn ret fr lo) {x : Int} (hx : tm_in x) (d : decode cc pc = .ok (.ishr, 1)) (k : tm_in (x / 2) → tm_J p l e R s m args below meth c K FX rt X σ (F0 m (pc + 1) ls (tm_iv (x / 2) :: rest))) : tm_J p l e R s m args below meth c K FX rt X σ (F0 m pc ls (tm_iv 1 :: tm_iv x :: rest)) :=
  fun o t h H locs w v => lv_ishr cx.1 cx.2.1 d (by rw [tm_shr hx 1 (Int32.ofInt 1) (by decide) (by decide)]; exact k (by omega) o t h H locs w v)
theorem tm_i2b (cx : tm_C p l R s m args meth c K cc nL own mn ret fr lo) {x : Int} (d : decode cc pc = .ok (.i2b, 1)) (k : tm_J p l e R s m args below meth c K FX rt X σ (F0 m (pc + 1) ls (tm_iv x :: rest))) : tm_J p l e R s m args below meth c K FX rt (tm_gb x X) σ (F0 m pc ls (tm_iv x :: rest)) :=
  tm_gb_ fun h9 => fun o t h H locs w v => lv_i2b (v := Int32.ofInt x) cx.1 cx.2.1 d (by rw [Int32.toInt8_ofInt, Int8.toInt32_ofInt (by show -128 ≤ x; omega) (by show x ≤ 127; omega)]) (k o t h H locs w v)
theorem tm_i2s (cx : tm_C p l R s m args meth c K cc nL own mn ret fr lo) {x : Int} (d : decode cc pc = .ok (.i2s, 1)) (k : tm_J p l e R s m args below meth c K FX rt X σ (F0 m (pc + 1) ls (tm_iv x :: rest))) : tm_J p l e R s m args below meth c K FX rt (tm_gs x X) σ (F0 m pc ls (tm_iv x :: rest)) :=
  tm_gs_ fun h9 => fun o t h H locs w v => lv_i2s (v := Int32.ofInt x) cx.1 cx.2.1 d (by rw [Int32.toInt16_ofInt, Int16.toInt32_ofInt (by show -32768 ≤ x; omega) (by show x ≤ 32767; omega)]) (k o t h H locs w v)
theorem tm_l2i (cx : tm_C p l R s m args meth c K cc nL own mn ret fr lo) {x : Int} (d : decode cc pc = .ok (.l2i, 1)) (k : tm_in x → tm_J p l e R s m args below meth c K FX rt X σ (F0 m (pc + 1) ls (tm_iv x :: rest))) : tm_J p l e R s m args below meth c K FX rt (tm_gi x X) σ (F0 m pc ls (tm_lv x :: rest)) :=
  tm_gi_ fun h9 => fun o t h H locs w v => lv_l2i (v := Int32.ofInt x) cx.1 cx.2.1 d Int64.toInt32_ofInt (k h9 o t h H locs w v)
theorem tm_ldc2 (cx : tm_C p l R s m args meth c K cc nL own mn ret fr lo) {n : Int} {index : Nat} {v9 : Int64} (hq : Cond.constantLong own index v9 ∈ lw_all) (d : decode cc pc = .ok (.ldc2_w index, 3)) (hv : v9 = Int64.ofInt n) (k : tm_J p l e R s m args below meth c K FX rt X σ (F0 m (pc + 3) ls (tm_lv n :: rest))) : tm_J p l e R s m args below meth c K FX rt X σ (F0 m pc ls rest) := by
  subst hv
  exact fun o t h H locs w v => lv_ldc2 cx.1 cx.2.1 cx.2.2.2.1 (cx.2.2.2.2.1 _ hq) d (k o t h H locs w v)
theorem tm_by_in (w k n : Int) (hn : 0 < n) (hn2 : n ≤ 1000) : tm_in (tm_by w k n) := by
  unfold tm_by
  generalize w / 2 ^ k.toNat = u
  have g1 := Int.emod_nonneg u (b := n) (by omega)
  have g2 := Int.emod_lt_of_pos u (b := n) hn
  omega
theorem tm_byrow (cx : tm_C p l R s m args meth c K cc nL own mn ret fr lo) {w k : Int} {c9 : Nat} {index : Nat} {C : Int64} (hw : tm_inl w) (hq : Cond.constantLong own index C ∈ lw_all) (j : Nat) (hc : c9 = 2 ^ j - 1) (hj : j < 31) (h9 : c9 < 1000) (hC : C = Int64.ofInt c9) (d0 : decode cc pc = .ok (.lshr, 1)) (d1 : decode cc (pc + 1) = .ok (.ldc2_w index, 3)) (d2 : decode cc (pc + 4) = .ok (.land, 1)) (d3 : decode cc (pc + 5) = .ok (.l2i, 1))
    (kk : tm_in (tm_by w k (c9 + 1)) → tm_J p l e R s m args below meth c K FX rt X σ (F0 m (pc + 6) ls (tm_iv (tm_by w k (c9 + 1)) :: rest))) : tm_J p l e R s m args below meth c K FX rt (tm_gx k 64 X) σ (F0 m pc ls (tm_iv k :: tm_lv w :: rest)) := by
  refine tm_gx_ fun hg => ?_
  intro o t h H locs wd v
  refine lv_lshr cx.1 cx.2.1 d0 rfl ?_
  refine lv_ldc2 cx.1 cx.2.1 cx.2.2.2.1 (cx.2.2.2.2.1 _ hq) d1 ?_
  refine lv_land cx.1 cx.2.1 d2 ?_
  exact lv_l2i cx.1 cx.2.1 d3 (tm_byS hw hg j hc hj C hC) (kk (tm_by_in _ _ _ (by omega) (by omega)) o t h H locs wd v)
theorem tm_by255 (cx : tm_C p l R s m args meth c K cc nL own mn ret fr lo) {w k : Int} {index : Nat} (hw : tm_inl w) (hk : tm_in k) (hq : Cond.constantLong own index 255 ∈ lw_all) (d0 : decode cc pc = .ok (.lshr, 1)) (d1 : decode cc (pc + 1) = .ok (.ldc2_w index, 3)) (d2 : decode cc (pc + 4) = .ok (.land, 1)) (d3 : decode cc (pc + 5) = .ok (.l2i, 1))
    (kk : tm_in (tm_by w k 256) → tm_J p l e R s m args below meth c K FX rt X σ (F0 m (pc + 6) ls (tm_iv (tm_by w k 256) :: rest))) : tm_J p l e R s m args below meth c K FX rt (tm_gx k 64 X) σ (F0 m pc ls (tm_iv k :: tm_lv w :: rest)) := tm_byrow cx (c9 := 255) hw hq 8 rfl (by decide) (by decide) rfl d0 d1 d2 d3 kk
theorem tm_by31 (cx : tm_C p l R s m args meth c K cc nL own mn ret fr lo) {w k : Int} {index : Nat} (hw : tm_inl w) (hk : tm_in k) (hq : Cond.constantLong own index 31 ∈ lw_all) (d0 : decode cc pc = .ok (.lshr, 1)) (d1 : decode cc (pc + 1) = .ok (.ldc2_w index, 3)) (d2 : decode cc (pc + 4) = .ok (.land, 1)) (d3 : decode cc (pc + 5) = .ok (.l2i, 1))
    (kk : tm_in (tm_by w k 32) → tm_J p l e R s m args below meth c K FX rt X σ (F0 m (pc + 6) ls (tm_iv (tm_by w k 32) :: rest))) : tm_J p l e R s m args below meth c K FX rt (tm_gx k 64 X) σ (F0 m pc ls (tm_iv k :: tm_lv w :: rest)) := tm_byrow cx (c9 := 31) hw hq 5 rfl (by decide) (by decide) rfl d0 d1 d2 d3 kk
theorem tm_byu (cx : tm_C p l R s m args meth c K cc nL own mn ret fr lo) {w k : Int} (hw : tm_inl w) (hk : tm_in k) (d0 : decode cc pc = .ok (.lushr, 1)) (d1 : decode cc (pc + 1) = .ok (.l2i, 1)) (d2 : decode cc (pc + 2) = .ok (.sipush 255, 3)) (d3 : decode cc (pc + 5) = .ok (.iand, 1))
    (kk : tm_in (tm_by w k 256) → tm_J p l e R s m args below meth c K FX rt X σ (F0 m (pc + 6) ls (tm_iv (tm_by w k 256) :: rest))) : tm_J p l e R s m args below meth c K FX rt (tm_gx k 57 X) σ (F0 m pc ls (tm_iv k :: tm_lv w :: rest)) := by
  refine tm_gx_ fun hg => ?_
  intro o t h H locs wd v
  refine lv_lushr cx.1 cx.2.1 d0 rfl ?_
  refine lv_l2i cx.1 cx.2.1 d1 rfl ?_
  refine lv_sipush (v := Int32.ofInt 255) cx.1 cx.2.1 d2 (by decide) ?_
  refine lv_iand cx.1 cx.2.1 d3 ?_
  rw [tm_byU hw hg]
  exact kk (tm_by_in _ _ _ (by decide) (by decide)) o t h H locs wd v
end TMB
