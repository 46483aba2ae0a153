/-! CameraMovesModel: names said -/
set_option maxRecDepth 100000
theorem sh_r {z : Int} (h : 0 ≤ z ∧ z < 1099511627776) {j : Nat} (hj : j < 8) : Int64.ofInt z >>> ((Int32.ofInt (5 * (j : Int))).toInt64 &&& 63) = Int64.ofInt (z / (32 : Int) ^ j) := by
  apply Int64.toInt_inj.mp
  have hz : (Int64.ofInt z).toInt = z := j_to (by omega)
  rcases (by omega : j = 0 ∨ j = 1 ∨ j = 2 ∨ j = 3 ∨ j = 4 ∨ j = 5 ∨ j = 6 ∨ j = 7) with e | e | e | e | e | e | e | e <;> subst e
  · rw [show (Int32.ofInt (5 * ((0 : Nat) : Int))).toInt64 &&& 63 = 0 by decide, show ((32 : Int) ^ 0) = 1 by decide, j_to (by omega)]
    show ((Int64.ofInt z).toBitVec.sshiftRight 0).toInt = _
    rw [BitVec.toInt_sshiftRight]
    show (Int64.ofInt z).toInt >>> 0 = _
    rw [hz, Int.shiftRight_eq_div_pow]
    omega
  · rw [show (Int32.ofInt (5 * ((1 : Nat) : Int))).toInt64 &&& 63 = 5 by decide, show ((32 : Int) ^ 1) = 32 by decide, j_to (by omega)]
    show ((Int64.ofInt z).toBitVec.sshiftRight 5).toInt = _
    rw [BitVec.toInt_sshiftRight]
    show (Int64.ofInt z).toInt >>> 5 = _
    rw [hz, Int.shiftRight_eq_div_pow]
    omega
  · rw [show (Int32.ofInt (5 * ((2 : Nat) : Int))).toInt64 &&& 63 = 10 by decide, show ((32 : Int) ^ 2) = 1024 by decide, j_to (by omega)]
    show ((Int64.ofInt z).toBitVec.sshiftRight 10).toInt = _
    rw [BitVec.toInt_sshiftRight]
    show (Int64.ofInt z).toInt >>> 10 = _
    rw [hz, Int.shiftRight_eq_div_pow]
    omega
  · rw [show (Int32.ofInt (5 * ((3 : Nat) : Int))).toInt64 &&& 63 = 15 by decide, show ((32 : Int) ^ 3) = 32768 by decide, j_to (by omega)]
    show ((Int64.ofInt z).toBitVec.sshiftRight 15).toInt = _
    rw [BitVec.toInt_sshiftRight]
    show (Int64.ofInt z).toInt >>> 15 = _
    rw [hz, Int.shiftRight_eq_div_pow]
    omega
  · rw [show (Int32.ofInt (5 * ((4 : Nat) : Int))).toInt64 &&& 63 = 20 by decide, show ((32 : Int) ^ 4) = 1048576 by decide, j_to (by omega)]
    show ((Int64.ofInt z).toBitVec.sshiftRight 20).toInt = _
    rw [BitVec.toInt_sshiftRight]
    show (Int64.ofInt z).toInt >>> 20 = _
    rw [hz, Int.shiftRight_eq_div_pow]
    omega
  · rw [show (Int32.ofInt (5 * ((5 : Nat) : Int))).toInt64 &&& 63 = 25 by decide, show ((32 : Int) ^ 5) = 33554432 by decide, j_to (by omega)]
    show ((Int64.ofInt z).toBitVec.sshiftRight 25).toInt = _
    rw [BitVec.toInt_sshiftRight]
    show (Int64.ofInt z).toInt >>> 25 = _
    rw [hz, Int.shiftRight_eq_div_pow]
    omega
  · rw [show (Int32.ofInt (5 * ((6 : Nat) : Int))).toInt64 &&& 63 = 30 by decide, show ((32 : Int) ^ 6) = 1073741824 by decide, j_to (by omega)]
    show ((Int64.ofInt z).toBitVec.sshiftRight 30).toInt = _
    rw [BitVec.toInt_sshiftRight]
    show (Int64.ofInt z).toInt >>> 30 = _
    rw [hz, Int.shiftRight_eq_div_pow]
    omega
  · rw [show (Int32.ofInt (5 * ((7 : Nat) : Int))).toInt64 &&& 63 = 35 by decide, show ((32 : Int) ^ 7) = 34359738368 by decide, j_to (by omega)]
    show ((Int64.ofInt z).toBitVec.sshiftRight 35).toInt = _
    rw [BitVec.toInt_sshiftRight]
    show (Int64.ofInt z).toInt >>> 35 = _
    rw [hz, Int.shiftRight_eq_div_pow]
    omega
theorem and31 {x : Int} (h : 0 ≤ x ∧ x < 1099511627776) : Int64.ofInt x &&& Int64.ofInt 31 = Int64.ofInt (x % 32) := by
  apply Int64.toBitVec_inj.mp
  show BitVec.ofInt 64 x &&& 31#64 = BitVec.ofInt 64 (x % 32)
  apply BitVec.eq_of_toNat_eq
  rw [BitVec.toNat_and, BitVec.toNat_ofInt, BitVec.toNat_ofInt, show (31#64).toNat = 2 ^ 5 - 1 from rfl, Nat.and_two_pow_sub_one_eq_mod]
  omega
theorem l2i_ok {x : Int} (h : Rg x) : (Int64.ofInt x).toInt32 = Int32.ofInt x := by
  apply Int32.toInt_inj.mp
  rw [Int64.toInt_toInt32, j_to (by omega), i_to h]
  exact Int.bmod_eq_of_le (by show -(4294967296 / 2 : Int) ≤ x; omega) (by show x < ((4294967296 : Int) + 1) / 2; omega)
/-- the letters of a name, from the n-th place from the end on -/
def nmL (z : Int) : Nat → List Int
  | 0 => []
  | n + 1 => (if 0 < z / (32 : Int) ^ n % 32 then [z / (32 : Int) ^ n % 32 + 96] else []) ++ nmL z n
theorem nmL_len (z : Int) : ∀ n : Nat, (nmL z n).length ≤ n := by
  intro n
  induction n with
  | zero => exact Nat.le_refl 0
  | succ n ih =>
    simp only [nmL, List.length_append]
    split <;> simp <;> omega
theorem l_name {l : Launch} {g : AG} {C : MCx} (hC : MOK C) {R : Option Value} {H1 : AH} (z : Int) (hz : 0 ≤ z ∧ z < 1099511627776) : ∀ (n : Nat) (σ : MSt) (o : Option Value), n ≤ 8 → 0 ≤ σ.1 14 ∧ σ.1 14 + n ≤ 120 → R = none → H1 = mh C (k_says (nmL z n) σ) → AWc l g miX4_sayName 11 0 0 (fun r2 h2 => r2 = R ∧ h2 = H1) (fun _ _ _ => False) 0 0 (mh C σ) 3 [some (.ref C.1), some (jv z), none, some (iv (5 * ((n : Int) - 1))), o] [] := by
  intro n
  induction n with
  | zero =>
    intro σ o hn hl hR hH
    subst hR
    refine aw_iload_n 4 dX4_sayName_3 rfl rfl ?_
    refine aw_if_lt 37 7 (by omega) dX4_sayName_4 rfl rfl (fun c_4 => ?_) (fun c_4 => absurd c_4 (by omega))
    exact aw_xv (hH.symm) rfl dX4_sayName_37
  | succ n ih =>
    intro σ o hn hl hR hH
    rw [show ((n + 1 : Nat) : Int) - 1 = n by omega]
    have hp : 0 < (32 : Int) ^ n := Int.pow_pos (by decide)
    have hq : 0 ≤ z / (32 : Int) ^ n := Int.ediv_nonneg hz.1 (by omega)
    have hq2 : z / (32 : Int) ^ n ≤ z := Int.ediv_le_self _ hz.1
    have ih := fun τ o => ih τ o (by omega)
    refine aw_iload_n 4 dX4_sayName_3 rfl rfl ?_
    refine aw_if_lt 37 7 (by omega) dX4_sayName_4 rfl rfl (fun c_4 => absurd c_4 (by omega)) (fun c_4 => ?_)
    refine aw_lload_n 8 dX4_sayName_7 rfl rfl ?_
    refine aw_iload_n 9 dX4_sayName_8 rfl rfl ?_
    refine aw_lshr 10 (z / (32 : Int) ^ n) dX4_sayName_9 rfl (by exact sh_r hz (by omega)) ?_
    refine aw_ldc2 13 (31) q2643 (by decide) dX4_sayName_10 rfl ?_
    refine aw_land 14 (z / (32 : Int) ^ n % 32) dX4_sayName_13 rfl (by exact and31 (by omega)) ?_
    refine aw_l2i 15 dX4_sayName_14 rfl (by exact l2i_ok (by omega)) ?_
    refine aw_istore 17 dX4_sayName_15 rfl (as_4 rfl) (by decide) ?_
    refine aw_iload 19 dX4_sayName_17 rfl rfl ?_
    refine aw_if_le 31 22 (by omega) dX4_sayName_19 rfl rfl (fun c_19 => ?_) (fun c_19 => ?_)
    · refine aw_iinc 34 dX4_sayName_31 rfl rfl (as_3 rfl) (by decide) ?_
      refine aw_goto 3 dX4_sayName_34 rfl ?_
      rw [show 5 * (n : Int) + -5 = 5 * ((n : Int) - 1) by omega]; first | (have e : nmL z (n + 1) = [z / (32 : Int) ^ n % 32 + 96] ++ nmL z n := (congrArg (· ++ nmL z n) (if_pos (by assumption)))); rw [e] at hH; exact ih (k_say (z / (32 : Int) ^ n % 32 + 96) σ) _ (by show 0 ≤ σ.1 14 + 1 ∧ σ.1 14 + 1 + n ≤ 120; omega) hR hH | (have e : nmL z (n + 1) = nmL z n := (congrArg (· ++ nmL z n) (if_neg (by omega)))); rw [e] at hH; exact ih σ _ (by omega) hR hH
    · refine aw_aload_n 23 dX4_sayName_22 rfl rfl ?_
      refine aw_iload 25 dX4_sayName_23 rfl rfl ?_
      refine aw_bipush 27 dX4_sayName_25 rfl (by decide) ?_
      refine aw_iadd 28 dX4_sayName_27 rfl ?_
      refine aw_xVv 31 (m_say hC _ _ (by omega) (by omega)) mvX4_say q2635 (rdl (mh_obj _ _)) rfl rfl rfl (by decide) (by decide) (Nat.le_refl _) (Nat.le_refl _) rfl (Nat.le_of_ble_eq_true rfl) dX4_sayName_28 rfl ?_
      refine aw_iinc 34 dX4_sayName_31 rfl rfl (as_3 rfl) (by decide) ?_
      refine aw_goto 3 dX4_sayName_34 rfl ?_
      rw [show 5 * (n : Int) + -5 = 5 * ((n : Int) - 1) by omega]; first | (have e : nmL z (n + 1) = [z / (32 : Int) ^ n % 32 + 96] ++ nmL z n := (congrArg (· ++ nmL z n) (if_pos (by assumption)))); rw [e] at hH; exact ih (k_say (z / (32 : Int) ^ n % 32 + 96) σ) _ (by show 0 ≤ σ.1 14 + 1 ∧ σ.1 14 + 1 + n ≤ 120; omega) hR hH | (have e : nmL z (n + 1) = nmL z n := (congrArg (· ++ nmL z n) (if_neg (by omega)))); rw [e] at hH; exact ih σ _ (by omega) hR hH
theorem m_sayName {l : Launch} {g : AG} {C : MCx} (hC : MOK C) (σ : MSt) (z : Int) (hz : 0 ≤ z ∧ z < 1099511627776) (hl : 0 ≤ σ.1 14 ∧ σ.1 14 + 8 ≤ 120): AMx l g miX4_sayName 11 [.ref C.1, jv z] (mh C σ) (none) (mh C (k_says (nmL z 8) σ)) := by
  refine aw_start 2 (by decide) rfl (Nat.le_of_ble_eq_true rfl) ?_
  show AWc l g miX4_sayName 11 0 0 _ _ 0 0 (mh C σ) 0 [some (.ref C.1), some (jv z), none, none, none] []
  refine aw_bipush 2 dX4_sayName_0 rfl (by decide) ?_
  refine aw_istore_n 3 dX4_sayName_2 rfl (as_3 rfl) (by decide) ?_
  exact l_name hC z hz 8 σ _ (by decide) (by omega) rfl rfl
