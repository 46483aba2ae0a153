/-! a quotient of whole numbers is a number -/
set_option maxRecDepth 100000
theorem fp_asm (s : Bool) (e t : Nat) : FP.Core.assemble FP.Core.b64 s e t = (s.toNat * 2048 + e) * 4503599627370496 + t := rfl
theorem fp_lt (s : Bool) {e t : Nat} (he : e < 2048) (ht : t < 4503599627370496) : (UInt64.ofNat (FP.Core.assemble FP.Core.b64 s e t)).toNat = (s.toNat * 2048 + e) * 4503599627370496 + t := by
  rw [fp_asm, UInt64.toNat_ofNat']
  refine Nat.mod_eq_of_lt ?_
  have : s.toNat ≤ 1 := by cases s <;> decide
  omega
theorem fp_fin (s : Bool) {e t : Nat} (h1 : e < 2047) (ht : t < 4503599627370496) : ∃ s' c q, FP.Core.decode FP.Core.b64 (UInt64.ofNat (FP.Core.assemble FP.Core.b64 s e t)).toNat = .fin s' c q ∧ (1 ≤ e → c ≠ 0) := by
  rw [fp_lt s (by omega) ht]
  have hE : FP.Core.fieldE FP.Core.b64 ((s.toNat * 2048 + e) * 4503599627370496 + t) = e := by
    show ((s.toNat * 2048 + e) * 4503599627370496 + t) / 4503599627370496 % 2048 = e
    omega
  have hT : FP.Core.fieldT FP.Core.b64 ((s.toNat * 2048 + e) * 4503599627370496 + t) = t := by
    show ((s.toNat * 2048 + e) * 4503599627370496 + t) % 4503599627370496 = t
    omega
  unfold FP.Core.decode
  rw [hE, hT, if_neg (show ¬ e = FP.Core.b64.exps - 1 by show ¬ e = 2047; omega)]
  split
  · exact ⟨_, _, _, rfl, fun z => by omega⟩
  · refine ⟨_, _, _, rfl, fun _ => ?_⟩
    show 4503599627370496 + t ≠ 0
    omega
theorem fp_qmin : FP.Core.b64.qmin = -1074 := by decide
theorem fp_enc (s : Bool) (c : Nat) (q : Int) : FP.Core.encode FP.Core.b64 (.fin s c q) = if c < 4503599627370496 then FP.Core.assemble FP.Core.b64 s 0 c else FP.Core.assemble FP.Core.b64 s ((q + 1074).toNat + 1) (c - 4503599627370496) := by
  show (if c < FP.Core.b64.tails then FP.Core.assemble FP.Core.b64 s 0 c else FP.Core.assemble FP.Core.b64 s ((q - FP.Core.b64.qmin).toNat + 1) (c - FP.Core.b64.tails)) = _
  rw [fp_qmin, show q - -1074 = q + 1074 by omega]
  rfl
theorem fp_lead {n : Nat} (h : n ≠ 0) : FP.Core.leading n 1 = (n.log2 : Int) := by
  unfold FP.Core.leading
  rw [show Nat.log2 1 = 0 by decide]
  have h2 := Nat.log2_self_le h
  simp only [Int.ofNat_zero, Int.sub_zero]
  rw [if_pos (by
    rw [show ((n.log2 : Int)).toNat = n.log2 by omega, show (-(n.log2 : Int)).toNat = 0 by omega]
    omega)]
theorem fp_round (s : Bool) {n : Nat} (h : n ≠ 0) (hn : n < 2 ^ 32) : ∃ e t, FP.Core.encode FP.Core.b64 (FP.Core.roundRatio FP.Core.b64 s n 1 0) = FP.Core.assemble FP.Core.b64 s e t ∧ (1 ≤ e ∧ e < 2047) ∧ t < 4503599627370496 := by
  have hL : n.log2 < 32 := (Nat.log2_lt h).mpr hn
  have h1 := Nat.log2_self_le h
  have h2 : n < 2 ^ (n.log2 + 1) := Nat.lt_log2_self
  have hq : FP.Core.quantum FP.Core.b64 n 1 0 = (n.log2 : Int) - 52 := by
    unfold FP.Core.quantum
    rw [fp_lead h]
    show max (-1074 : Int) ((n.log2 : Int) + 0 - ((53 : Int) - 1)) = _
    omega
  have hc : FP.Core.nearest (FP.Core.unitsNum n 0 ((n.log2 : Int) - 52)) (FP.Core.unitsDen 1 0 ((n.log2 : Int) - 52)) = n * 2 ^ (52 - n.log2) := by
    unfold FP.Core.unitsNum FP.Core.unitsDen FP.Core.nearest
    rw [show (0 - ((n.log2 : Int) - 52)).toNat = 52 - n.log2 by omega, show ((n.log2 : Int) - 52 - 0).toNat = 0 by omega]
    simp [Nat.mod_one]
  have hm1 : 4503599627370496 ≤ n * 2 ^ (52 - n.log2) := by
    have : 2 ^ n.log2 * 2 ^ (52 - n.log2) ≤ n * 2 ^ (52 - n.log2) := Nat.mul_le_mul_right _ h1
    rw [← Nat.pow_add, show n.log2 + (52 - n.log2) = 52 by omega] at this
    exact this
  have hm2 : n * 2 ^ (52 - n.log2) < 9007199254740992 := by
    have : n * 2 ^ (52 - n.log2) < 2 ^ (n.log2 + 1) * 2 ^ (52 - n.log2) := Nat.mul_lt_mul_of_pos_right h2 (Nat.two_pow_pos _)
    rw [← Nat.pow_add, show n.log2 + 1 + (52 - n.log2) = 53 by omega] at this
    exact this
  unfold FP.Core.roundRatio FP.Core.roundAt FP.Core.settle FP.Core.bound
  rw [if_neg h, hq, hc, if_pos (show n * 2 ^ (52 - n.log2) < 2 ^ FP.Core.b64.p from hm2), if_pos (show (n.log2 : Int) - 52 ≤ FP.Core.b64.qmax by show (n.log2 : Int) - 52 ≤ 971; omega)]
  rw [fp_enc, if_neg (by omega)]
  exact ⟨_, _, rfl, by omega, by omega⟩
theorem fp_i2d (v : Int32) : ∃ s c q, FP.Core.decode FP.Core.b64 (FP.i2d v).toNat = .fin s c q ∧ (v ≠ 0 → c ≠ 0) := by
  by_cases h : v.toInt = 0
  · have e : v = 0 := Int32.toInt_inj.mp (by rw [h]; rfl)
    subst e
    exact ⟨false, 0, -1074, by decide, fun z => absurd rfl z⟩
  · obtain ⟨e, t, h1, h2, h3⟩ := fp_round (decide (v.toInt < 0)) (n := v.toInt.natAbs) (by omega) (by have := Int32.toInt_lt v; have := Int32.le_toInt v; omega)
    obtain ⟨s, c, q, h4, h5⟩ := fp_fin (decide (v.toInt < 0)) h2.2 h3
    refine ⟨s, c, q, ?_, fun _ => h5 h2.1⟩
    rw [← h4, ← h1]
    rfl
/-- what rounding leaves -/
theorem fp_ok (f : FP.Core.Datum) (h : (∃ s, f = .inf s) ∨ ∃ s c q, f = .fin s c q ∧ c < 9007199254740992 ∧ q ≤ 971) : (UInt64.ofNat (FP.Core.encode FP.Core.b64 f)).toNat % 9223372036854775808 ≤ 9218868437227405312 := by
  rcases h with ⟨s, rfl⟩ | ⟨s, c, q, rfl, hc, hq⟩
  · show (UInt64.ofNat (FP.Core.assemble FP.Core.b64 s 2047 0)).toNat % _ ≤ _
    rw [fp_lt s (by decide) (by decide)]
    have : s.toNat ≤ 1 := by cases s <;> decide
    omega
  · rw [fp_enc]
    have : s.toNat ≤ 1 := by cases s <;> decide
    split
    · next hx =>
      rw [fp_lt s (by decide) hx]
      omega
    · next hx =>
      rw [fp_lt s (by omega) (by omega)]
      omega
theorem fp_rr (s : Bool) (n m : Nat) (e : Int) : (∃ s', FP.Core.roundRatio FP.Core.b64 s n m e = .inf s') ∨ ∃ s' c q, FP.Core.roundRatio FP.Core.b64 s n m e = .fin s' c q ∧ c < 9007199254740992 ∧ q ≤ 971 := by
  unfold FP.Core.roundRatio FP.Core.roundAt FP.Core.settle FP.Core.bound
  generalize FP.Core.quantum FP.Core.b64 n m e = q
  generalize FP.Core.nearest (FP.Core.unitsNum n e q) (FP.Core.unitsDen m e q) = c
  split
  · exact Or.inr ⟨_, _, _, rfl, by decide, by decide⟩
  · split
    · next hc =>
      split
      · next hq => exact Or.inr ⟨_, _, _, rfl, hc, hq⟩
      · exact Or.inl ⟨_, rfl⟩
    · split
      · next hq => exact Or.inr ⟨_, _, _, rfl, (by decide : FP.Core.b64.tails < 9007199254740992), hq⟩
      · exact Or.inl ⟨_, rfl⟩
theorem n64_div {a b : Int32} (h : b ≠ 0) : vf_n64 (FP.ddiv (FP.i2d a) (FP.i2d b)) := by
  unfold vf_n64
  rw [UInt64.le_iff_toNat_le, UInt64.toNat_and]
  have h1 : (0x7fffffffffffffff : UInt64).toNat = 2 ^ 63 - 1 := by decide
  have h2 : (0x7ff0000000000000 : UInt64).toNat = 9218868437227405312 := by decide
  rw [h1, h2, Nat.and_two_pow_sub_one_eq_mod]
  obtain ⟨s, c, q, ha, -⟩ := fp_i2d a
  obtain ⟨t, d, r, hb, hd⟩ := fp_i2d b
  show (UInt64.ofNat (FP.Core.encode FP.Core.b64 (FP.Core.quotient FP.Core.b64 (FP.Core.decode FP.Core.b64 (FP.i2d a).toNat) (FP.Core.decode FP.Core.b64 (FP.i2d b).toNat)))).toNat % 9223372036854775808 ≤ _
  rw [ha, hb]
  refine fp_ok _ ?_
  show (∃ s', (if d = 0 then _ else _) = _) ∨ ∃ s' c' q', (if d = 0 then _ else _) = _ ∧ _
  rw [if_neg (hd h)]
  exact fp_rr _ _ _ _
