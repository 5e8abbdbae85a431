/-! the mean wait: a quotient of whole numbers is a number -/
theorem fp_b : FP.Core.b64.tails = 4503599627370496 ∧ FP.Core.b64.exps = 2048 ∧ FP.Core.b64.qmin = -1074 ∧ FP.Core.b64.qmax = 971 ∧ FP.Core.b64.p = 53 := by decide
theorem fp_asm (s : Bool) (e t : Nat) : FP.Core.assemble FP.Core.b64 s e t = (s.toNat * 2048 + e) * 4503599627370496 + t := by
  unfold FP.Core.assemble
  rw [fp_b.1, fp_b.2.1]
theorem fp_s (s : Bool) : s.toNat ≤ 1 := by cases s <;> decide
theorem fp_dec {s : Bool} {e t : Nat} (he : e < 2047) (ht : t < 4503599627370496) : ∃ s' c q, FP.Core.decode FP.Core.b64 ((s.toNat * 2048 + e) * 4503599627370496 + t) = .fin s' c q ∧ (e ≠ 0 → c ≠ 0) := by
  have hE : FP.Core.fieldE FP.Core.b64 ((s.toNat * 2048 + e) * 4503599627370496 + t) = e := by
    unfold FP.Core.fieldE
    rw [fp_b.1, fp_b.2.1]
    omega
  unfold FP.Core.decode
  rw [hE, fp_b.2.1, if_neg (by omega)]
  by_cases h0 : e = 0
  · rw [if_pos h0]
    exact ⟨_, _, _, rfl, fun h => absurd h0 h⟩
  · rw [if_neg h0]
    exact ⟨_, _, _, rfl, fun _ => by rw [fp_b.1]; omega⟩
theorem fp_ei (s : Bool) : FP.Core.encode FP.Core.b64 (.inf s) = (s.toNat * 2048 + 2047) * 4503599627370496 := by
  show FP.Core.assemble FP.Core.b64 s (FP.Core.b64.exps - 1) 0 = _
  rw [fp_asm, fp_b.2.1, Nat.add_zero]
theorem fp_ef (s : Bool) (c : Nat) (q : Int) : FP.Core.encode FP.Core.b64 (.fin s c q) = if c < 4503599627370496 then (s.toNat * 2048 + 0) * 4503599627370496 + c else (s.toNat * 2048 + ((q - -1074).toNat + 1)) * 4503599627370496 + (c - 4503599627370496) := by
  show (if c < FP.Core.b64.tails then FP.Core.assemble FP.Core.b64 s 0 c else FP.Core.assemble FP.Core.b64 s ((q - FP.Core.b64.qmin).toNat + 1) (c - FP.Core.b64.tails)) = _
  simp only [fp_asm, fp_b.1, fp_b.2.2.1]
/-- the encoding of what is rounded is a number or an infinity -/
theorem fp_enc (s : Bool) (num den : Nat) (e : Int) : FP.Core.encode FP.Core.b64 (FP.Core.roundRatio FP.Core.b64 s num den e) % 9223372036854775808 ≤ 9218868437227405312 := by
  have hs := fp_s s
  have hinf : FP.Core.encode FP.Core.b64 (.inf s) % 9223372036854775808 ≤ 9218868437227405312 := by
    rw [fp_ei]
    omega
  have hfin : ∀ (c : Nat) (q : Int), c < 9007199254740992 → q ≤ 971 → FP.Core.encode FP.Core.b64 (.fin s c q) % 9223372036854775808 ≤ 9218868437227405312 := by
    intro c q hc hq
    rw [fp_ef]
    split
    · omega
    · omega
  unfold FP.Core.roundRatio
  split
  · exact hfin 0 _ (by omega) (by rw [fp_b.2.2.1]; omega)
  · unfold FP.Core.roundAt FP.Core.settle FP.Core.bound
    rw [fp_b.2.2.2.1, fp_b.2.2.2.2, fp_b.1]
    split
    · rename_i h1
      split
      · rename_i h2
        exact hfin _ _ (by have h3 : (2 : Nat) ^ 53 = 9007199254740992 := by decide
                           omega) h2
      · exact hinf
    · split
      · rename_i h2
        exact hfin _ _ (by omega) h2
      · exact hinf
theorem fp_i2d (x : Int32) : ∃ s c q, FP.Core.decode FP.Core.b64 (FP.Core.i2d x).toNat = .fin s c q ∧ (x.toInt ≠ 0 → c ≠ 0) := by
  have h1 := x.toInt_lt
  have h2 := x.le_toInt
  have key : ∃ (s : Bool) (e t : Nat), FP.Core.fromInt FP.Core.b64 x.toInt = (s.toNat * 2048 + e) * 4503599627370496 + t ∧ e < 2047 ∧ t < 4503599627370496 ∧ (x.toInt ≠ 0 → e ≠ 0) := by
    unfold FP.Core.fromInt FP.Core.ofInt FP.Core.round
    generalize decide (x.toInt < 0) = s
    by_cases hc : x.toInt.natAbs = 0
    · refine ⟨s, 0, 0, ?_, by omega, by omega, fun h => absurd h (by omega)⟩
      show FP.Core.encode FP.Core.b64 (FP.Core.roundRatio FP.Core.b64 s x.toInt.natAbs 1 0) = _
      unfold FP.Core.roundRatio
      rw [if_pos hc]
      rw [fp_ef, if_pos (by omega)]
    · have hL := Nat.log2_self_le hc
      have hL2 := @Nat.lt_log2_self x.toInt.natAbs
      generalize hcc : x.toInt.natAbs = c at *
      generalize hLL : c.log2 = L at *
      have hc31 : c ≤ 2147483648 := by omega
      have hL31 : L ≤ 31 := by
        rcases Nat.lt_or_ge 31 L with h | h
        · have h3 : 2 ^ 32 ≤ 2 ^ L := Nat.pow_le_pow_right (by omega) h
          omega
        · exact h
      have e52 : 2 ^ L * 2 ^ (52 - L) = 4503599627370496 := by
        rw [← Nat.pow_add, show L + (52 - L) = 52 by omega]
      have e53 : 2 ^ (L + 1) * 2 ^ (52 - L) = 9007199254740992 := by
        rw [← Nat.pow_add, show L + 1 + (52 - L) = 53 by omega]
      have hN1 : 4503599627370496 ≤ c * 2 ^ (52 - L) := by rw [← e52]; exact Nat.mul_le_mul_right _ hL
      have hN2 : c * 2 ^ (52 - L) < 9007199254740992 := by rw [← e53]; exact Nat.mul_lt_mul_of_pos_right hL2 (Nat.pow_pos (by omega))
      have hlead : FP.Core.leading c 1 = (L : Int) := by
        unfold FP.Core.leading
        have e1 : (Nat.log2 1 : Nat) = 0 := by decide
        rw [hLL, e1]
        show (if 1 * 2 ^ ((L : Int) - ((0 : Nat) : Int)).toNat ≤ c * 2 ^ (-((L : Int) - ((0 : Nat) : Int))).toNat then (L : Int) - ((0 : Nat) : Int) else (L : Int) - ((0 : Nat) : Int) - 1) = (L : Int)
        have e2 : ((L : Int) - ((0 : Nat) : Int)).toNat = L := by omega
        have e3 : (-((L : Int) - ((0 : Nat) : Int))).toNat = 0 := by omega
        rw [e2, e3, if_pos (by rw [Nat.one_mul, Nat.pow_zero, Nat.mul_one]; exact hL)]
        omega
      have hq : FP.Core.quantum FP.Core.b64 c 1 0 = (L : Int) - 52 := by
        unfold FP.Core.quantum
        rw [hlead, fp_b.2.2.1, fp_b.2.2.2.2]
        omega
      have hu1 : FP.Core.unitsNum c 0 ((L : Int) - 52) = c * 2 ^ (52 - L) := by
        unfold FP.Core.unitsNum
        rw [show ((0 : Int) - ((L : Int) - 52)).toNat = 52 - L by omega]
      have hu2 : FP.Core.unitsDen 1 0 ((L : Int) - 52) = 1 := by
        unfold FP.Core.unitsDen
        rw [show (((L : Int) - 52) - 0).toNat = 0 by omega]
      have hn : ∀ N, FP.Core.nearest N 1 = N := by
        intro N
        unfold FP.Core.nearest
        rw [Nat.mod_one, if_pos (by omega), Nat.div_one]
      refine ⟨s, L + 1023, c * 2 ^ (52 - L) - 4503599627370496, ?_, by omega, by omega, fun _ => by omega⟩
      show FP.Core.encode FP.Core.b64 (FP.Core.roundRatio FP.Core.b64 s c 1 0) = _
      unfold FP.Core.roundRatio
      rw [if_neg hc, hq]
      unfold FP.Core.roundAt
      rw [hu1, hu2, hn]
      unfold FP.Core.settle FP.Core.bound
      rw [if_pos (by rw [fp_b.2.2.2.2]; have h3 : (2 : Nat) ^ 53 = 9007199254740992 := by decide
                     omega), if_pos (by rw [fp_b.2.2.2.1]; omega)]
      rw [fp_ef, if_neg (by omega)]
      have e4 : ((L : Int) - 52 - -1074).toNat + 1 = L + 1023 := by omega
      rw [e4]
  obtain ⟨s, e, t, h3, h4, h5, h6⟩ := key
  have hs := fp_s s
  obtain ⟨s', c, q, h7, h8⟩ := fp_dec (s := s) h4 h5
  have e1 : (FP.Core.i2d x).toNat = (s.toNat * 2048 + e) * 4503599627370496 + t := by
    unfold FP.Core.i2d
    rw [UInt64.toNat_ofNat', h3]
    exact Nat.mod_eq_of_lt (by omega)
  rw [e1, h7]
  exact ⟨s', c, q, rfl, fun h => h8 (h6 h)⟩
theorem dv_ok {x y : Int32} (hy : ¬ y = 0) : vf_n64 (FP.ddiv (FP.i2d x) (FP.i2d y)) := by
  obtain ⟨s, c, q, e1, -⟩ := fp_i2d x
  obtain ⟨t, d, r, e2, hd⟩ := fp_i2d y
  have hd0 : ¬ d = 0 := hd (fun h => hy (Int32.toInt_inj.mp (by rw [h]; rfl)))
  show (FP.Core.ddiv (FP.Core.i2d x) (FP.Core.i2d y)) &&& 0x7fffffffffffffff ≤ 0x7ff0000000000000
  rw [UInt64.le_iff_toNat_le, UInt64.toNat_and]
  have e : (0x7fffffffffffffff : UInt64).toNat = 2 ^ 63 - 1 := by decide
  have e0 : (0x7ff0000000000000 : UInt64).toNat = 9218868437227405312 := by decide
  rw [e, Nat.and_two_pow_sub_one_eq_mod, e0]
  unfold FP.Core.ddiv FP.Core.div
  rw [e1, e2, UInt64.toNat_ofNat']
  have h := fp_enc (s != t) c d (q - r)
  have e3 : FP.Core.quotient FP.Core.b64 (.fin s c q) (.fin t d r) = FP.Core.roundRatio FP.Core.b64 (s != t) c d (q - r) := if_neg hd0
  rw [e3]
  have e4 : (2 : Nat) ^ 64 = 18446744073709551616 := by decide
  have e5 : (2 : Nat) ^ 63 = 9223372036854775808 := by decide
  rw [e4, e5]
  omega
