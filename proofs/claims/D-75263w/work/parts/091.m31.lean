/-! CameraMovesModel: formatted text -/
set_option maxRecDepth 100000
def k_say (c : Int) (σ : MSt) : MSt := sF (sR σ 13 (va_up (σ.2 13) (σ.1 14).toNat c)) 14 (σ.1 14 + 1)
theorem i2c_nar {c : Int} (hc : 0 ≤ c ∧ c ≤ 65535) : vp_nar .char (Int32.ofInt c) = Int32.ofInt c := by
  rw [vp_nar_char]
  apply Int32.toBitVec_inj.mp
  show ((BitVec.ofInt 32 c).setWidth 16).setWidth 32 = BitVec.ofInt 32 c
  apply BitVec.eq_of_toNat_eq
  rw [BitVec.toNat_setWidth, BitVec.toNat_setWidth, BitVec.toNat_ofInt]
  omega
theorem i2c_ok {c : Int} (hc : 0 ≤ c ∧ c ≤ 65535) : ((Int32.ofInt c).toUInt32 % 65536).toInt32 = Int32.ofInt c := by
  apply Int32.toBitVec_inj.mp
  show (BitVec.ofInt 32 c) % 65536#32 = BitVec.ofInt 32 c
  apply BitVec.eq_of_toNat_eq
  rw [BitVec.toNat_umod, BitVec.toNat_ofInt, BitVec.toNat_ofNat, show (65536 % 2 ^ 32 : Nat) = 65536 from rfl]
  omega
theorem m_say {l : Launch} {g : AG} {C : MCx} (hC : MOK C) (σ : MSt) (c : Int) (hl : 0 ≤ σ.1 14 ∧ σ.1 14 < 120) (hc : 0 ≤ c ∧ c ≤ 65535): AMx l g miX4_say 10 [.ref C.1, iv c] (mh C σ) (none) (mh C (k_say c σ)) := by
  refine aw_start 0 (by decide) rfl (Nat.le_of_ble_eq_true rfl) ?_
  show AWc l g miX4_say 10 0 0 _ _ 0 0 (mh C σ) 0 [some (.ref C.1), some (iv c)] []
  refine aw_aload_n 1 dX4_say_0 rfl rfl ?_
  refine aw_get 4 ci4 13 (by decide) q2044 (Or.inl rfl) (rdl (mh_obj _ _)) rfl dX4_say_1 rfl ?_
  refine aw_aload_n 5 dX4_say_4 rfl rfl ?_
  refine aw_get 8 ci4 14 (by decide) q2045 (Or.inl rfl) (rdl (mh_obj _ _)) rfl dX4_say_5 rfl ?_
  refine aw_iload_n 9 dX4_say_8 rfl rfl ?_
  refine aw_i2c 10 c dX4_say_9 rfl (by exact i2c_ok hc) ?_
  refine aw_cast_ 11 (mh_13 hC _) (by omega) (by exact i2c_nar hc) dX4_say_10 rfl (by decide) ?_
  refine aw_h (mhs_13 hC _ _) ?_
  refine aw_aload_n 12 dX4_say_11 rfl rfl ?_
  refine aw_dup 13 dX4_say_12 rfl rfl ?_
  refine aw_get 16 ci4 14 (by decide) q2045 (Or.inl rfl) (rdl (mh_obj _ _)) rfl dX4_say_13 rfl ?_
  refine aw_iconst 17 dX4_say_16 rfl ?_
  refine aw_iadd 18 dX4_say_17 rfl ?_
  refine aw_put 21 ci4 14 (by decide) q2045 (Or.inl rfl) rfl rfl rfl (Nat.le_of_ble_eq_true rfl) (mh_obj _ _) dX4_say_18 rfl ?_
  refine aw_h (mhp_14 _ _ _) ?_
  exact aw_xv (rfl) rfl dX4_say_21
def k_says : List Int → MSt → MSt
  | [], σ => σ
  | c :: L, σ => k_says L (k_say c σ)
theorem k_says_app (L M : List Int) : ∀ σ, k_says (L ++ M) σ = k_says M (k_says L σ) := by
  induction L with
  | nil => intro σ; rfl
  | cons c L ih => intro σ; exact ih (k_say c σ)
theorem k_says_ok : ∀ (L : List Int) (σ : MSt), (k_says L σ).1 14 = σ.1 14 + L.length ∧ (∀ j, j ≠ 14 → (k_says L σ).1 j = σ.1 j) ∧ ∀ k, k ≠ 13 → (k_says L σ).2 k = σ.2 k := by
  intro L
  induction L with
  | nil => intro σ; exact ⟨(Int.add_zero _).symm, fun _ _ => rfl, fun _ _ => rfl⟩
  | cons c L ih =>
    intro σ
    obtain ⟨h1, h2, h3⟩ := ih (k_say c σ)
    refine ⟨h1.trans ?_, fun j hj => (h2 j hj).trans (if_neg hj), fun k hk => (h3 k hk).trans (if_neg hk)⟩
    show σ.1 14 + 1 + (L.length : Int) = σ.1 14 + ((L.length + 1 : Nat) : Int)
    omega
theorem pw_rg {k : Nat} (h : k ≤ 9) : 1 ≤ (10 : Int) ^ k ∧ (10 : Int) ^ k ≤ 1000000000 := by
  rcases (by omega : k = 0 ∨ k = 1 ∨ k = 2 ∨ k = 3 ∨ k = 4 ∨ k = 5 ∨ k = 6 ∨ k = 7 ∨ k = 8 ∨ k = 9) with h | h | h | h | h | h | h | h | h | h <;> subst h <;> decide
/-- digits from place k on -/
def dg (n : Int) : Nat → List Int
  | 0 => [48 + n / (10 : Int) ^ 0 % 10]
  | k + 1 => (48 + n / (10 : Int) ^ (k + 1) % 10) :: dg n k
theorem dg_len (n : Int) : ∀ k : Nat, (dg n k).length = k + 1 := by
  intro k
  induction k with
  | zero => rfl
  | succ k ih => simp [dg, ih]
/-- the place of the first digit -/
def kdF (n : Int) : Nat → Nat → Nat
  | 0, k => k
  | f + 1, k => if 9 < n / (10 : Int) ^ k then kdF n f (k + 1) else k
def kd (n : Int) : Nat := kdF n 9 0
theorem kdF_le (n : Int) (m : Nat) (h : n / (10 : Int) ^ m ≤ 9) : ∀ (f k : Nat), k ≤ m → kdF n f k ≤ m := by
  intro f
  induction f with
  | zero => intro k hk; exact hk
  | succ f ih =>
    intro k hk
    simp only [kdF]
    split
    · next hc =>
      refine ih (k + 1) ?_
      rcases Nat.lt_or_ge k m with z | z
      · exact z
      · rw [show k = m by omega] at hc
        omega
    · exact hk
def dgs (n : Int) : List Int := dg n (kd n)
theorem l_num2 {l : Launch} {g : AG} {C : MCx} (hC : MOK C) {R : Option Value} {H1 : AH} (n : Int) (hn : 0 ≤ n ∧ n ≤ 999999999) : ∀ (k : Nat) (σ : MSt), k ≤ 8 → 0 ≤ σ.1 14 ∧ σ.1 14 + k + 1 ≤ 120 → R = none → H1 = mh C (k_says (dg n k) σ) → AWc l g miX4_sayNumber 11 0 0 (fun r2 h2 => r2 = R ∧ h2 = H1) (fun _ _ _ => False) 0 0 (mh C σ) 18 [some (.ref C.1), some (iv n), some (iv ((10 : Int) ^ k))] [] := by
  intro k
  induction k with
  | zero =>
    intro σ hk hl hR hH
    subst hR
    have hq : 0 ≤ n / (10 : Int) ^ 0 := by omega
    refine aw_iload_n 19 dX4_sayNumber_18 rfl rfl ?_
    refine aw_if_le 43 22 (by omega) dX4_sayNumber_19 rfl rfl (fun c_19 => absurd c_19 (by omega)) (fun c_19 => ?_)
    refine aw_aload_n 23 dX4_sayNumber_22 rfl rfl ?_
    refine aw_bipush 25 dX4_sayNumber_23 rfl (by decide) ?_
    refine aw_iload_n 26 dX4_sayNumber_25 rfl rfl ?_
    refine aw_iload_n 27 dX4_sayNumber_26 rfl rfl ?_
    refine aw_idivP 28 (by omega) dX4_sayNumber_27 rfl ?_
    refine aw_bipush 30 dX4_sayNumber_28 rfl (by decide) ?_
    refine aw_iremP 31 (by omega) dX4_sayNumber_30 rfl ?_
    refine aw_iadd 32 dX4_sayNumber_31 rfl ?_
    refine aw_xVv 35 (m_say hC _ _ (by omega) (by omega)) mvX4_say q2635 (rdl (mh_obj _ _)) rfl rfl rfl (by decide) (by decide) (Nat.le_refl _) (Nat.le_refl _) rfl (Nat.le_of_ble_eq_true rfl) dX4_sayNumber_32 rfl ?_
    refine aw_iload_n 36 dX4_sayNumber_35 rfl rfl ?_
    refine aw_bipush 38 dX4_sayNumber_36 rfl (by decide) ?_
    refine aw_idivP 39 (by omega) dX4_sayNumber_38 rfl ?_
    refine aw_istore_n 40 dX4_sayNumber_39 rfl (as_2 rfl) (by decide) ?_
    refine aw_goto 18 dX4_sayNumber_40 rfl ?_
    skip
    refine aw_iload_n 19 dX4_sayNumber_18 rfl rfl ?_
    refine aw_if_le 43 22 (by omega) dX4_sayNumber_19 rfl rfl (fun e_19 => ?_) (fun e_19 => absurd e_19 (by omega))
    exact aw_xv (hH.symm) rfl dX4_sayNumber_43
  | succ k ih =>
    intro σ hk hl hR hH
    have hp := pw_rg (k := k + 1) (by omega)
    have hp2 := pw_rg (k := k) (by omega)
    have hpe : (10 : Int) ^ (k + 1) = 10 ^ k * 10 := Int.pow_succ 10 k
    have hq : 0 ≤ n / (10 : Int) ^ (k + 1) := Int.ediv_nonneg hn.1 (by omega)
    have hq2 : n / (10 : Int) ^ (k + 1) ≤ n := Int.ediv_le_self _ hn.1
    have ih := ih (k_say (48 + n / (10 : Int) ^ (k + 1) % 10) σ) (by omega) (by show 0 ≤ σ.1 14 + 1 ∧ σ.1 14 + 1 + k + 1 ≤ 120; omega) hR hH
    refine aw_iload_n 19 dX4_sayNumber_18 rfl rfl ?_
    refine aw_if_le 43 22 (by omega) dX4_sayNumber_19 rfl rfl (fun c_19 => absurd c_19 (by omega)) (fun c_19 => ?_)
    refine aw_aload_n 23 dX4_sayNumber_22 rfl rfl ?_
    refine aw_bipush 25 dX4_sayNumber_23 rfl (by decide) ?_
    refine aw_iload_n 26 dX4_sayNumber_25 rfl rfl ?_
    refine aw_iload_n 27 dX4_sayNumber_26 rfl rfl ?_
    refine aw_idivP 28 (by omega) dX4_sayNumber_27 rfl ?_
    refine aw_bipush 30 dX4_sayNumber_28 rfl (by decide) ?_
    refine aw_iremP 31 (by omega) dX4_sayNumber_30 rfl ?_
    refine aw_iadd 32 dX4_sayNumber_31 rfl ?_
    refine aw_xVv 35 (m_say hC _ _ (by omega) (by omega)) mvX4_say q2635 (rdl (mh_obj _ _)) rfl rfl rfl (by decide) (by decide) (Nat.le_refl _) (Nat.le_refl _) rfl (Nat.le_of_ble_eq_true rfl) dX4_sayNumber_32 rfl ?_
    refine aw_iload_n 36 dX4_sayNumber_35 rfl rfl ?_
    refine aw_bipush 38 dX4_sayNumber_36 rfl (by decide) ?_
    refine aw_idivP 39 (by omega) dX4_sayNumber_38 rfl ?_
    refine aw_istore_n 40 dX4_sayNumber_39 rfl (as_2 rfl) (by decide) ?_
    refine aw_goto 18 dX4_sayNumber_40 rfl ?_
    rw [show (10 : Int) ^ (k + 1) / 10 = 10 ^ k by omega]; exact ih
theorem l_num1 {l : Launch} {g : AG} {C : MCx} (hC : MOK C) (n : Int) (hn : 0 ≤ n ∧ n ≤ 999999999) (σ : MSt) (hl : 0 ≤ σ.1 14 ∧ σ.1 14 + kd n + 1 ≤ 120) : ∀ (f k : Nat), k + f = 9 → kdF n f k = kd n → AWc l g miX4_sayNumber 11 0 0 (fun r2 h2 => r2 = none ∧ h2 = mh C (k_says (dgs n) σ)) (fun _ _ _ => False) 0 0 (mh C σ) 2 [some (.ref C.1), some (iv n), some (iv ((10 : Int) ^ k))] [] := by
  intro f
  induction f with
  | zero =>
    intro k hk hkd
    have hk : k = 9 := by omega
    subst hk
    have h8 : kd n ≤ 8 := kdF_le n 8 (by rw [show (10 : Int) ^ 8 = 100000000 by decide]; omega) 9 0 (by decide)
    have hkd : 9 = kd n := hkd
    omega
  | succ f ih =>
    intro k hk hkd
    have hp := pw_rg (k := k) (by omega)
    have hpe : (10 : Int) ^ (k + 1) = 10 ^ k * 10 := Int.pow_succ 10 k
    have hq : 0 ≤ n / (10 : Int) ^ k := Int.ediv_nonneg hn.1 (by omega)
    have hq2 : n / (10 : Int) ^ k ≤ n := Int.ediv_le_self _ hn.1
    by_cases hx : 9 < n / (10 : Int) ^ k
    · rw [show kdF n (f + 1) k = kdF n f (k + 1) from if_pos hx] at hkd
      refine aw_iload_n 3 dX4_sayNumber_2 rfl rfl ?_
      refine aw_iload_n 4 dX4_sayNumber_3 rfl rfl ?_
      refine aw_idivP 5 (by omega) dX4_sayNumber_4 rfl ?_
      refine aw_bipush 7 dX4_sayNumber_5 rfl (by decide) ?_
      refine aw_icmp_le 18 10 (by omega) dX4_sayNumber_7 rfl rfl (fun c_7 => absurd c_7 (by omega)) (fun c_7 => ?_)
      refine aw_iload_n 11 dX4_sayNumber_10 rfl rfl ?_
      refine aw_bipush 13 dX4_sayNumber_11 rfl (by decide) ?_
      refine aw_imul 14 dX4_sayNumber_13 rfl ?_
      refine aw_istore_n 15 dX4_sayNumber_14 rfl (as_2 rfl) (by decide) ?_
      refine aw_goto 2 dX4_sayNumber_15 rfl ?_
      rw [← hpe]; exact ih (k + 1) (by omega) hkd
    · rw [show kdF n (f + 1) k = k from if_neg hx] at hkd
      refine aw_iload_n 3 dX4_sayNumber_2 rfl rfl ?_
      refine aw_iload_n 4 dX4_sayNumber_3 rfl rfl ?_
      refine aw_idivP 5 (by omega) dX4_sayNumber_4 rfl ?_
      refine aw_bipush 7 dX4_sayNumber_5 rfl (by decide) ?_
      refine aw_icmp_le 18 10 (by omega) dX4_sayNumber_7 rfl rfl (fun c_7 => ?_) (fun c_7 => absurd c_7 (by omega))
      rw [hkd]; exact l_num2 hC n hn (kd n) σ (by omega) (by omega) rfl rfl
theorem m_sayNumber {l : Launch} {g : AG} {C : MCx} (hC : MOK C) (σ : MSt) (n : Int) (hn : 0 ≤ n ∧ n ≤ 999999999) (hl : 0 ≤ σ.1 14 ∧ σ.1 14 + kd n + 1 ≤ 120): AMx l g miX4_sayNumber 11 [.ref C.1, iv n] (mh C σ) (none) (mh C (k_says (dgs n) σ)) := by
  refine aw_start 1 (by decide) rfl (Nat.le_of_ble_eq_true rfl) ?_
  show AWc l g miX4_sayNumber 11 0 0 _ _ 0 0 (mh C σ) 0 [some (.ref C.1), some (iv n), none] []
  refine aw_iconst 1 dX4_sayNumber_0 rfl ?_
  refine aw_istore_n 2 dX4_sayNumber_1 rfl (as_2 rfl) (by decide) ?_
  exact l_num1 hC n hn σ hl 9 0 rfl rfl
