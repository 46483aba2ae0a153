/-! CameraMovesModel: the text's bytes and tokens. k_.. is what a method does to the state, row by row -/
set_option maxRecDepth 100000
/-- a byte of a word, as the cast makes it -/
def by8 (w : Int) (s : Int) : Int := ((Int32.ofInt w >>> (Int32.ofInt s &&& 31)).toInt8.toInt32).toInt
theorem by8_rg (w s : Int) : -128 ≤ by8 w s ∧ by8 w s ≤ 127 := by
  unfold by8
  rw [Int8.toInt_toInt32]
  have h1 := Int8.le_toInt (Int32.ofInt w >>> (Int32.ofInt s &&& 31)).toInt8
  have h2 := Int8.toInt_lt (Int32.ofInt w >>> (Int32.ofInt s &&& 31)).toInt8
  omega
theorem by8_e (w s : Int) : (Int32.ofInt w >>> (Int32.ofInt s &&& 31)).toInt8.toInt32 = Int32.ofInt (by8 w s) := i_of _
theorem by8_0 (w : Int) : (Int32.ofInt w).toInt8.toInt32 = Int32.ofInt (by8 w 0) := by
  rw [← by8_e]
  congr 1
  congr 1
  exact (sb_shr0 _).symm
theorem ofInt_toInt_shr (a b : Int32) : a >>> b = Int32.ofInt (a >>> b).toInt := i_of _
theorem nar_b {z : Int} (h1 : -128 ≤ z) (h2 : z ≤ 127) : vp_nar .byte (Int32.ofInt z) = Int32.ofInt z := by
  rw [vp_nar_byte]
  apply Int32.toInt_inj.mp
  rw [Int8.toInt_toInt32, Int32.toInt_toInt8, i_to (by omega)]
  exact Int.bmod_eq_of_le (by omega) (by omega)
def k_put (σ : MSt) (w : Int) : MSt := sF (sR (sR (sR (sR σ 10 (va_up (σ.2 10) (σ.1 11).toNat (by8 w 24))) 10 (va_up (va_up (σ.2 10) (σ.1 11).toNat (by8 w 24)) (σ.1 11 + 1).toNat (by8 w 16))) 10 (va_up (va_up (va_up (σ.2 10) (σ.1 11).toNat (by8 w 24)) (σ.1 11 + 1).toNat (by8 w 16)) (σ.1 11 + 2).toNat (by8 w 8))) 10 (va_up (va_up (va_up (va_up (σ.2 10) (σ.1 11).toNat (by8 w 24)) (σ.1 11 + 1).toNat (by8 w 16)) (σ.1 11 + 2).toNat (by8 w 8)) (σ.1 11 + 3).toNat (by8 w 0))) 11 (σ.1 11 + 4)
theorem m_put {l : Launch} {g : AG} {C : MCx} (hC : MOK C) (σ : MSt) (w : Int) (hb : 0 ≤ σ.1 11 ∧ σ.1 11 ≤ 596): AMx l g miX4_put 10 [.ref C.1, iv w] (mh C σ) (none) (mh C (k_put σ w)) := by
  refine aw_start 0 (by decide) rfl (Nat.le_of_ble_eq_true rfl) ?_
  show AWc l g miX4_put 10 0 0 _ _ 0 0 (mh C σ) 0 [some (.ref C.1), some (iv w)] []
  refine aw_aload_n 1 dX4_put_0 rfl rfl ?_
  refine aw_get 4 ci4 10 (by decide) q2041 (Or.inl rfl) (rdl (mh_obj _ _)) rfl dX4_put_1 rfl ?_
  refine aw_aload_n 5 dX4_put_4 rfl rfl ?_
  refine aw_get 8 ci4 11 (by decide) q2042 (Or.inl rfl) (rdl (mh_obj _ _)) rfl dX4_put_5 rfl ?_
  refine aw_iload_n 9 dX4_put_8 rfl rfl ?_
  refine aw_bipush 11 dX4_put_9 rfl (by decide) ?_
  refine aw_ishr 12 (Int32.ofInt w >>> (Int32.ofInt 24 &&& 31)).toInt dX4_put_11 rfl (by exact i_of _) ?_
  refine aw_i2b 13 (by8 w 24) dX4_put_12 rfl (by rw [← i_of]; exact by8_e w 24) ?_
  refine aw_bast 14 (mh_10 hC _) (by (first | omega | (simp only [sR_1]; omega))) (by exact nar_b (by8_rg _ _).1 (by8_rg _ _).2) dX4_put_13 rfl (by decide) ?_
  refine aw_h (mhs_10 hC _ _) ?_
  refine aw_aload_n 15 dX4_put_14 rfl rfl ?_
  refine aw_get 18 ci4 10 (by decide) q2041 (Or.inl rfl) (rdl (mh_obj _ _)) rfl dX4_put_15 rfl ?_
  refine aw_aload_n 19 dX4_put_18 rfl rfl ?_
  refine aw_get 22 ci4 11 (by decide) q2042 (Or.inl rfl) (rdl (mh_obj _ _)) rfl dX4_put_19 rfl ?_
  refine aw_iconst 23 dX4_put_22 rfl ?_
  refine aw_iadd 24 dX4_put_23 rfl ?_
  refine aw_iload_n 25 dX4_put_24 rfl rfl ?_
  refine aw_bipush 27 dX4_put_25 rfl (by decide) ?_
  refine aw_ishr 28 (Int32.ofInt w >>> (Int32.ofInt 16 &&& 31)).toInt dX4_put_27 rfl (by exact i_of _) ?_
  refine aw_i2b 29 (by8 w 16) dX4_put_28 rfl (by rw [← i_of]; exact by8_e w 16) ?_
  refine aw_bast 30 (mh_10 hC _) (by (first | omega | (simp only [sR_1]; omega))) (by exact nar_b (by8_rg _ _).1 (by8_rg _ _).2) dX4_put_29 rfl (by decide) ?_
  refine aw_h (mhs_10 hC _ _) ?_
  refine aw_aload_n 31 dX4_put_30 rfl rfl ?_
  refine aw_get 34 ci4 10 (by decide) q2041 (Or.inl rfl) (rdl (mh_obj _ _)) rfl dX4_put_31 rfl ?_
  refine aw_aload_n 35 dX4_put_34 rfl rfl ?_
  refine aw_get 38 ci4 11 (by decide) q2042 (Or.inl rfl) (rdl (mh_obj _ _)) rfl dX4_put_35 rfl ?_
  refine aw_iconst 39 dX4_put_38 rfl ?_
  refine aw_iadd 40 dX4_put_39 rfl ?_
  refine aw_iload_n 41 dX4_put_40 rfl rfl ?_
  refine aw_bipush 43 dX4_put_41 rfl (by decide) ?_
  refine aw_ishr 44 (Int32.ofInt w >>> (Int32.ofInt 8 &&& 31)).toInt dX4_put_43 rfl (by exact i_of _) ?_
  refine aw_i2b 45 (by8 w 8) dX4_put_44 rfl (by rw [← i_of]; exact by8_e w 8) ?_
  refine aw_bast 46 (mh_10 hC _) (by (first | omega | (simp only [sR_1]; omega))) (by exact nar_b (by8_rg _ _).1 (by8_rg _ _).2) dX4_put_45 rfl (by decide) ?_
  refine aw_h (mhs_10 hC _ _) ?_
  refine aw_aload_n 47 dX4_put_46 rfl rfl ?_
  refine aw_get 50 ci4 10 (by decide) q2041 (Or.inl rfl) (rdl (mh_obj _ _)) rfl dX4_put_47 rfl ?_
  refine aw_aload_n 51 dX4_put_50 rfl rfl ?_
  refine aw_get 54 ci4 11 (by decide) q2042 (Or.inl rfl) (rdl (mh_obj _ _)) rfl dX4_put_51 rfl ?_
  refine aw_iconst 55 dX4_put_54 rfl ?_
  refine aw_iadd 56 dX4_put_55 rfl ?_
  refine aw_iload_n 57 dX4_put_56 rfl rfl ?_
  refine aw_i2b 58 (by8 w 0) dX4_put_57 rfl (by exact by8_0 w) ?_
  refine aw_bast 59 (mh_10 hC _) (by (first | omega | (simp only [sR_1]; omega))) (by exact nar_b (by8_rg _ _).1 (by8_rg _ _).2) dX4_put_58 rfl (by decide) ?_
  refine aw_h (mhs_10 hC _ _) ?_
  refine aw_aload_n 60 dX4_put_59 rfl rfl ?_
  refine aw_dup 61 dX4_put_60 rfl rfl ?_
  refine aw_get 64 ci4 11 (by decide) q2042 (Or.inl rfl) (rdl (mh_obj _ _)) rfl dX4_put_61 rfl ?_
  refine aw_iconst 65 dX4_put_64 rfl ?_
  refine aw_iadd 66 dX4_put_65 rfl ?_
  refine aw_put 69 ci4 11 (by decide) q2042 (Or.inl rfl) rfl rfl rfl (Nat.le_of_ble_eq_true rfl) (mh_obj _ _) dX4_put_66 rfl ?_
  refine aw_h (mhp_11 _ _ _) ?_
  exact aw_xv (rfl) rfl dX4_put_69
theorem k_put_11 (σ : MSt) (w : Int) : (k_put σ w).1 11 = σ.1 11 + 4 := rfl
def k_append (σ : MSt) (w0 w1 w2 w3 w4 : Int) : MSt := k_put (k_put (k_put (k_put (k_put (sF σ 0 0) w0) w1) w2) w3) w4
theorem m_append {l : Launch} {g : AG} {C : MCx} (hC : MOK C) (σ : MSt) (w0 w1 w2 w3 w4 : Int) (hb : 0 ≤ σ.1 11 ∧ σ.1 11 ≤ 600): AMx l g miX4_append 12 [.ref C.1, iv w0, iv w1, iv w2, iv w3, iv w4] (mh C σ) (some (iv (if σ.1 11 ≤ 580 then σ.1 11 + 20 else 0))) (mh C (if σ.1 11 ≤ 580 then k_append σ w0 w1 w2 w3 w4 else sF σ 0 1)) := by
  refine aw_start 0 (by decide) rfl (Nat.le_of_ble_eq_true rfl) ?_
  show AWc l g miX4_append 12 0 0 _ _ 0 0 (mh C σ) 0 [some (.ref C.1), some (iv w0), some (iv w1), some (iv w2), some (iv w3), some (iv w4)] []
  have e11 : (sF σ 0 0).1 11 = σ.1 11 := rfl
  refine aw_aload_n 1 dX4_append_0 rfl rfl ?_
  refine aw_iconst 2 dX4_append_1 rfl ?_
  refine aw_put 5 ci4 0 (by decide) q2031 (Or.inl rfl) rfl rfl rfl (Nat.le_of_ble_eq_true rfl) (mh_obj _ _) dX4_append_2 rfl ?_
  refine aw_h (mhp_0 _ _ _) ?_
  refine aw_aload_n 6 dX4_append_5 rfl rfl ?_
  refine aw_get 9 ci4 11 (by decide) q2042 (Or.inl rfl) (rdl (mh_obj _ _)) rfl dX4_append_6 rfl ?_
  refine aw_bipush 11 dX4_append_9 rfl (by decide) ?_
  refine aw_iadd 12 dX4_append_11 rfl ?_
  refine aw_sipush 15 dX4_append_12 rfl (by decide) ?_
  refine aw_icmp_le 24 18 (by (first | omega | (simp only [sF_1]; omega))) dX4_append_15 rfl rfl (fun c_15 => ?_) (fun c_15 => ?_)
  · refine aw_aload_n 25 dX4_append_24 rfl rfl ?_
    refine aw_iload_n 26 dX4_append_25 rfl rfl ?_
    refine aw_xVv 29 (m_put hC _ _ (by simp only [k_put_11, sF_1]; omega)) mvX4_put q2155 (rdl (mh_obj _ _)) rfl rfl rfl (by decide) (by decide) (Nat.le_refl _) (Nat.le_refl _) rfl (Nat.le_of_ble_eq_true rfl) dX4_append_26 rfl ?_
    refine aw_aload_n 30 dX4_append_29 rfl rfl ?_
    refine aw_iload_n 31 dX4_append_30 rfl rfl ?_
    refine aw_xVv 34 (m_put hC _ _ (by simp only [k_put_11, sF_1]; omega)) mvX4_put q2155 (rdl (mh_obj _ _)) rfl rfl rfl (by decide) (by decide) (Nat.le_refl _) (Nat.le_refl _) rfl (Nat.le_of_ble_eq_true rfl) dX4_append_31 rfl ?_
    refine aw_aload_n 35 dX4_append_34 rfl rfl ?_
    refine aw_iload_n 36 dX4_append_35 rfl rfl ?_
    refine aw_xVv 39 (m_put hC _ _ (by simp only [k_put_11, sF_1]; omega)) mvX4_put q2155 (rdl (mh_obj _ _)) rfl rfl rfl (by decide) (by decide) (Nat.le_refl _) (Nat.le_refl _) rfl (Nat.le_of_ble_eq_true rfl) dX4_append_36 rfl ?_
    refine aw_aload_n 40 dX4_append_39 rfl rfl ?_
    refine aw_iload 42 dX4_append_40 rfl rfl ?_
    refine aw_xVv 45 (m_put hC _ _ (by simp only [k_put_11, sF_1]; omega)) mvX4_put q2155 (rdl (mh_obj _ _)) rfl rfl rfl (by decide) (by decide) (Nat.le_refl _) (Nat.le_refl _) rfl (Nat.le_of_ble_eq_true rfl) dX4_append_42 rfl ?_
    refine aw_aload_n 46 dX4_append_45 rfl rfl ?_
    refine aw_iload 48 dX4_append_46 rfl rfl ?_
    refine aw_xVv 51 (m_put hC _ _ (by simp only [k_put_11, sF_1]; omega)) mvX4_put q2155 (rdl (mh_obj _ _)) rfl rfl rfl (by decide) (by decide) (Nat.le_refl _) (Nat.le_refl _) rfl (Nat.le_of_ble_eq_true rfl) dX4_append_48 rfl ?_
    refine aw_aload_n 52 dX4_append_51 rfl rfl ?_
    refine aw_get 55 ci4 11 (by decide) q2042 (Or.inl rfl) (rdl (mh_obj _ _)) rfl dX4_append_52 rfl ?_
    exact aw_xi (by rw [if_pos (by omega)]; simp only [k_put_11, sF_1]; omega) (by rw [if_pos (by omega)]; rfl) rfl dX4_append_55
  · refine aw_aload_n 19 dX4_append_18 rfl rfl ?_
    refine aw_iconst 20 dX4_append_19 rfl ?_
    refine aw_xV 23 (m_fails hC _ _) mvX4_fails q2151 (rdl (mh_obj _ _)) rfl rfl rfl (by decide) (by decide) (Nat.le_refl _) (Nat.le_refl _) rfl (Nat.le_of_ble_eq_true rfl) dX4_append_20 rfl ?_
    exact aw_xi (by rw [if_neg (by omega)]) (by rw [if_neg (by omega), sF_sF]) rfl dX4_append_23
theorem m_truncate {l : Launch} {g : AG} {C : MCx} (hC : MOK C) (σ : MSt) (n : Int) (hn : Rg n) (hb : 0 ≤ σ.1 11 ∧ σ.1 11 ≤ 600): AMx l g miX4_truncate 11 [.ref C.1, iv n] (mh C σ) (none) (mh C (if 0 ≤ n ∧ n ≤ σ.1 11 then sF (sF σ 0 0) 11 n else sF σ 0 1)) := by
  refine aw_start 0 (by decide) rfl (Nat.le_of_ble_eq_true rfl) ?_
  show AWc l g miX4_truncate 11 0 0 _ _ 0 0 (mh C σ) 0 [some (.ref C.1), some (iv n)] []
  have e11 : (sF σ 0 0).1 11 = σ.1 11 := rfl
  refine aw_aload_n 1 dX4_truncate_0 rfl rfl ?_
  refine aw_iconst 2 dX4_truncate_1 rfl ?_
  refine aw_put 5 ci4 0 (by decide) q2031 (Or.inl rfl) rfl rfl rfl (Nat.le_of_ble_eq_true rfl) (mh_obj _ _) dX4_truncate_2 rfl ?_
  refine aw_h (mhp_0 _ _ _) ?_
  refine aw_iload_n 6 dX4_truncate_5 rfl rfl ?_
  refine aw_iconst 7 dX4_truncate_6 rfl ?_
  refine aw_aload_n 8 dX4_truncate_7 rfl rfl ?_
  refine aw_get 11 ci4 11 (by decide) q2042 (Or.inl rfl) (rdl (mh_obj _ _)) rfl dX4_truncate_8 rfl ?_
  refine aw_xS 14 (m_isIn _ _ _ (by omega) (by omega) (by omega)) msX4_isIn q2163 rfl (by decide) (by decide) (Nat.le_refl _) (Nat.le_refl _) rfl (Nat.le_of_ble_eq_true rfl) dX4_truncate_11 rfl ?_
  refine aw_if_neB 23 17 dX4_truncate_14 rfl rfl (fun c_14 => ?_) (fun c_14 => ?_)
  · refine aw_aload_n 24 dX4_truncate_23 rfl rfl ?_
    refine aw_iload_n 25 dX4_truncate_24 rfl rfl ?_
    refine aw_put 28 ci4 11 (by decide) q2042 (Or.inl rfl) rfl rfl rfl (Nat.le_of_ble_eq_true rfl) (mh_obj _ _) dX4_truncate_25 rfl ?_
    refine aw_h (mhp_11 _ _ _) ?_
    exact aw_xv (by rw [if_pos (by omega)]) rfl dX4_truncate_28
  · refine aw_aload_n 18 dX4_truncate_17 rfl rfl ?_
    refine aw_iconst 19 dX4_truncate_18 rfl ?_
    refine aw_put 22 ci4 0 (by decide) q2031 (Or.inl rfl) rfl rfl rfl (Nat.le_of_ble_eq_true rfl) (mh_obj _ _) dX4_truncate_19 rfl ?_
    refine aw_h (mhp_0 _ _ _) ?_
    exact aw_xv (by rw [if_neg (by omega), sF_sF]) rfl dX4_truncate_22
/-- the byte at k of the text -/
def bya (σ : MSt) (k : Int) : Int := if k < σ.1 15 then σ.2 10 k.toNat else 0
/-- what the reader of the text keeps -/
def mTx (σ : MSt) : Prop := (0 ≤ σ.1 16 ∧ σ.1 16 ≤ σ.1 15) ∧ (0 ≤ σ.1 15 ∧ σ.1 15 ≤ 600) ∧ ∀ k, -128 ≤ σ.2 10 k ∧ σ.2 10 k ≤ 127
theorem bya_rg {σ : MSt} (h : mTx σ) (k : Int) : -128 ≤ bya σ k ∧ bya σ k ≤ 127 := by
  unfold bya
  split
  · exact h.2.2 _
  · omega
theorem m_byteAt {l : Launch} {g : AG} {C : MCx} (hC : MOK C) (σ : MSt) (k : Int) (ht : mTx σ) (hk : 0 ≤ k ∧ k ≤ 600): AMx l g miX4_byteAt 10 [.ref C.1, iv k] (mh C σ) (some (iv (bya σ k))) (mh C σ) := by
  refine aw_start 0 (by decide) rfl (Nat.le_of_ble_eq_true rfl) ?_
  show AWc l g miX4_byteAt 10 0 0 _ _ 0 0 (mh C σ) 0 [some (.ref C.1), some (iv k)] []
  have ht2 := ht.2.1
  refine aw_iload_n 1 dX4_byteAt_0 rfl rfl ?_
  refine aw_aload_n 2 dX4_byteAt_1 rfl rfl ?_
  refine aw_get 5 ci4 15 (by decide) q2046 (Or.inl rfl) (rdl (mh_obj _ _)) rfl dX4_byteAt_2 rfl ?_
  refine aw_icmp_ge 17 8 (by omega) dX4_byteAt_5 rfl rfl (fun c_5 => ?_) (fun c_5 => ?_)
  · refine aw_iconst 18 dX4_byteAt_17 rfl ?_
    exact aw_xi (by unfold bya; first | rw [if_pos (by omega)] | rw [if_neg (by omega)]) (rfl) rfl dX4_byteAt_18
  · refine aw_aload_n 9 dX4_byteAt_8 rfl rfl ?_
    refine aw_get 12 ci4 10 (by decide) q2041 (Or.inl rfl) (rdl (mh_obj _ _)) rfl dX4_byteAt_9 rfl ?_
    refine aw_iload_n 13 dX4_byteAt_12 rfl rfl ?_
    refine aw_bald 14 (rdl (mh_10 hC _)) (by omega) dX4_byteAt_13 rfl (by decide) ?_
    refine aw_goto 18 dX4_byteAt_14 rfl ?_
    exact aw_xi (by unfold bya; first | rw [if_pos (by omega)] | rw [if_neg (by omega)]) (rfl) rfl dX4_byteAt_18
abbrev isLe (σ : MSt) (k : Int) : Prop := 97 ≤ bya σ k ∧ bya σ k ≤ 122
abbrev isDi (σ : MSt) (k : Int) : Prop := 48 ≤ bya σ k ∧ bya σ k ≤ 57
abbrev isBl (σ : MSt) (k : Int) : Prop := bya σ k = 32 ∨ bya σ k = 10
theorem m_isLetter {l : Launch} {g : AG} {C : MCx} (hC : MOK C) (σ : MSt) (k : Int) (ht : mTx σ) (hk : 0 ≤ k ∧ k ≤ 600): AMx l g miX4_isLetter 11 [.ref C.1, iv k] (mh C σ) (some (iv (bI (isLe σ k)))) (mh C σ) := by
  refine aw_start 0 (by decide) rfl (Nat.le_of_ble_eq_true rfl) ?_
  show AWc l g miX4_isLetter 11 0 0 _ _ 0 0 (mh C σ) 0 [some (.ref C.1), some (iv k)] []
  have hb := bya_rg ht k
  refine aw_aload_n 1 dX4_isLetter_0 rfl rfl ?_
  refine aw_iload_n 2 dX4_isLetter_1 rfl rfl ?_
  refine aw_xV 5 (m_byteAt hC _ _ (by assumption) (by omega)) mvX4_byteAt q2178 (rdl (mh_obj _ _)) rfl rfl rfl (by decide) (by decide) (Nat.le_refl _) (Nat.le_refl _) rfl (Nat.le_of_ble_eq_true rfl) dX4_isLetter_2 rfl ?_
  refine aw_bipush 7 dX4_isLetter_5 rfl (by decide) ?_
  refine aw_bipush 9 dX4_isLetter_7 rfl (by decide) ?_
  refine aw_xS 12 (m_isIn _ _ _ (by omega) (by omega) (by omega)) msX4_isIn q2163 rfl (by decide) (by decide) (Nat.le_refl _) (Nat.le_refl _) rfl (Nat.le_of_ble_eq_true rfl) dX4_isLetter_9 rfl ?_
  exact aw_xz (by exact Iff.rfl) (rfl) rfl dX4_isLetter_12
theorem m_isDigit {l : Launch} {g : AG} {C : MCx} (hC : MOK C) (σ : MSt) (k : Int) (ht : mTx σ) (hk : 0 ≤ k ∧ k ≤ 600): AMx l g miX4_isDigit 11 [.ref C.1, iv k] (mh C σ) (some (iv (bI (isDi σ k)))) (mh C σ) := by
  refine aw_start 0 (by decide) rfl (Nat.le_of_ble_eq_true rfl) ?_
  show AWc l g miX4_isDigit 11 0 0 _ _ 0 0 (mh C σ) 0 [some (.ref C.1), some (iv k)] []
  have hb := bya_rg ht k
  refine aw_aload_n 1 dX4_isDigit_0 rfl rfl ?_
  refine aw_iload_n 2 dX4_isDigit_1 rfl rfl ?_
  refine aw_xV 5 (m_byteAt hC _ _ (by assumption) (by omega)) mvX4_byteAt q2178 (rdl (mh_obj _ _)) rfl rfl rfl (by decide) (by decide) (Nat.le_refl _) (Nat.le_refl _) rfl (Nat.le_of_ble_eq_true rfl) dX4_isDigit_2 rfl ?_
  refine aw_bipush 7 dX4_isDigit_5 rfl (by decide) ?_
  refine aw_bipush 9 dX4_isDigit_7 rfl (by decide) ?_
  refine aw_xS 12 (m_isIn _ _ _ (by omega) (by omega) (by omega)) msX4_isIn q2163 rfl (by decide) (by decide) (Nat.le_refl _) (Nat.le_refl _) rfl (Nat.le_of_ble_eq_true rfl) dX4_isDigit_9 rfl ?_
  exact aw_xz (by exact Iff.rfl) (rfl) rfl dX4_isDigit_12
theorem m_isBlank {l : Launch} {g : AG} {C : MCx} (hC : MOK C) (σ : MSt) (k : Int) (ht : mTx σ) (hk : 0 ≤ k ∧ k ≤ 600): AMx l g miX4_isBlank 11 [.ref C.1, iv k] (mh C σ) (some (iv (bI (isBl σ k)))) (mh C σ) := by
  refine aw_start 0 (by decide) rfl (Nat.le_of_ble_eq_true rfl) ?_
  show AWc l g miX4_isBlank 11 0 0 _ _ 0 0 (mh C σ) 0 [some (.ref C.1), some (iv k)] []
  have hb := bya_rg ht k
  refine aw_aload_n 1 dX4_isBlank_0 rfl rfl ?_
  refine aw_iload_n 2 dX4_isBlank_1 rfl rfl ?_
  refine aw_xV 5 (m_byteAt hC _ _ (by assumption) (by omega)) mvX4_byteAt q2178 (rdl (mh_obj _ _)) rfl rfl rfl (by decide) (by decide) (Nat.le_refl _) (Nat.le_refl _) rfl (Nat.le_of_ble_eq_true rfl) dX4_isBlank_2 rfl ?_
  refine aw_bipush 7 dX4_isBlank_5 rfl (by decide) ?_
  refine aw_icmp_eq 20 10 (by omega) dX4_isBlank_7 rfl rfl (fun c_7 => ?_) (fun c_7 => ?_)
  · refine aw_iconst 21 dX4_isBlank_20 rfl ?_
    refine aw_goto 25 dX4_isBlank_21 rfl ?_
    exact aw_xz1 (by unfold isBl; omega) (rfl) rfl dX4_isBlank_25
  · refine aw_aload_n 11 dX4_isBlank_10 rfl rfl ?_
    refine aw_iload_n 12 dX4_isBlank_11 rfl rfl ?_
    refine aw_xV 15 (m_byteAt hC _ _ (by assumption) (by omega)) mvX4_byteAt q2178 (rdl (mh_obj _ _)) rfl rfl rfl (by decide) (by decide) (Nat.le_refl _) (Nat.le_refl _) rfl (Nat.le_of_ble_eq_true rfl) dX4_isBlank_12 rfl ?_
    refine aw_bipush 17 dX4_isBlank_15 rfl (by decide) ?_
    refine aw_icmp_ne 24 20 (by omega) dX4_isBlank_17 rfl rfl (fun c_17 => ?_) (fun c_17 => ?_)
    · refine aw_iconst 25 dX4_isBlank_24 rfl ?_
      exact aw_xz0 (by unfold isBl; omega) (rfl) rfl dX4_isBlank_25
    · refine aw_iconst 21 dX4_isBlank_20 rfl ?_
      refine aw_goto 25 dX4_isBlank_21 rfl ?_
      exact aw_xz1 (by unfold isBl; omega) (rfl) rfl dX4_isBlank_25
theorem mTx_F {σ : MSt} (h : mTx σ) {k : Nat} (z : Int) (h1 : k ≠ 15) (h2 : k ≠ 16) : mTx (sF σ k z) := by
  refine ⟨?_, ?_, h.2.2⟩
  · show 0 ≤ (if 16 = k then z else σ.1 16) ∧ (if 16 = k then z else σ.1 16) ≤ (if 15 = k then z else σ.1 15)
    rw [if_neg (Ne.symm h2), if_neg (Ne.symm h1)]
    exact h.1
  · show 0 ≤ (if 15 = k then z else σ.1 15) ∧ (if 15 = k then z else σ.1 15) ≤ 600
    rw [if_neg (Ne.symm h1)]
    exact h.2.1
theorem mTx_N {σ : MSt} (h : mTx σ) (z : Int) (hz : 0 ≤ z ∧ z ≤ σ.1 15) : mTx (sF σ 16 z) := ⟨hz, h.2.1, h.2.2⟩
theorem isLe_lt {σ : MSt} {k : Int} (h : isLe σ k) : k < σ.1 15 := by
  unfold isLe bya at h
  split at h
  · assumption
  · omega
theorem isDi_lt {σ : MSt} {k : Int} (h : isDi σ k) : k < σ.1 15 := by
  unfold isDi bya at h
  split at h
  · assumption
  · omega
def k_rw : Nat → MSt → Int → MSt × Int
  | 0, σ, n => (σ, n)
  | f + 1, σ, n => if isLe σ (σ.1 16) then k_rw f (sF (if n < 8 then sF σ 20 (32 * σ.1 20 + bya σ (σ.1 16) - 97 + 1) else σ) 16 (σ.1 16 + 1)) (n + 1) else (σ, n)
def k_rwE (p : MSt × Int) : MSt := sF p.1 18 (if 8 < p.2 then 5 else 1)
theorem l_readWord {l : Launch} {g : AG} {C : MCx} (hC : MOK C) : ∀ (f : Nat) (σ : MSt) (n : Int), mTx σ → σ.1 15 - σ.1 16 < f → 0 ≤ n ∧ n ≤ σ.1 16 → AWc l g miX4_readWord 12 0 0 (fun r2 h2 => r2 = none ∧ h2 = mh C (k_rwE (k_rw f σ n))) (fun _ _ _ => False) 0 0 (mh C σ) 7 [some (.ref C.1), some (iv n)] [] := by
  intro f
  induction f with
  | zero => intro σ n ht hf hn; exact absurd ht.1 (by omega)
  | succ f ih =>
    intro σ n ht hf hn
    have h1 := ht.1
    have h2 := ht.2.1
    by_cases hL : isLe σ (σ.1 16)
    · rw [show k_rw (f + 1) σ n = k_rw f (sF (if n < 8 then sF σ 20 (32 * σ.1 20 + bya σ (σ.1 16) - 97 + 1) else σ) 16 (σ.1 16 + 1)) (n + 1) from if_pos hL]
      have hlt := isLe_lt hL
      have hb := bya_rg ht (σ.1 16)
      refine aw_aload_n 8 dX4_readWord_7 rfl rfl ?_
      refine aw_aload_n 9 dX4_readWord_8 rfl rfl ?_
      refine aw_get 12 ci4 16 (by decide) q2047 (Or.inl rfl) (rdl (mh_obj _ _)) rfl dX4_readWord_9 rfl ?_
      refine aw_xV 15 (m_isLetter hC _ _ (by assumption) (by omega)) mvX4_isLetter q2182 (rdl (mh_obj _ _)) rfl rfl rfl (by decide) (by decide) (Nat.le_refl _) (Nat.le_refl _) rfl (Nat.le_of_ble_eq_true rfl) dX4_readWord_12 rfl ?_
      refine aw_if_eqB 68 18 dX4_readWord_15 rfl rfl (fun c_15 => (absurd hL c_15)) (fun c_15 => ?_)
      refine aw_iload_n 19 dX4_readWord_18 rfl rfl ?_
      refine aw_bipush 21 dX4_readWord_19 rfl (by decide) ?_
      refine aw_icmp_ge 52 24 (by omega) dX4_readWord_21 rfl rfl (fun c_21 => ?_) (fun c_21 => ?_)
      · rw [if_neg (show ¬ n < 8 by omega)]
        refine aw_iinc 55 dX4_readWord_52 rfl rfl (as_1 rfl) (by decide) ?_
        refine aw_aload_n 56 dX4_readWord_55 rfl rfl ?_
        refine aw_dup 57 dX4_readWord_56 rfl rfl ?_
        refine aw_get 60 ci4 16 (by decide) q2047 (Or.inl rfl) (rdl (mh_obj _ _)) rfl dX4_readWord_57 rfl ?_
        refine aw_iconst 61 dX4_readWord_60 rfl ?_
        refine aw_iadd 62 dX4_readWord_61 rfl ?_
        refine aw_put 65 ci4 16 (by decide) q2047 (Or.inl rfl) rfl rfl rfl (Nat.le_of_ble_eq_true rfl) (mh_obj _ _) dX4_readWord_62 rfl ?_
        refine aw_h (mhp_16 _ _ _) ?_
        refine aw_goto 7 dX4_readWord_65 rfl ?_
        exact ih _ _ (mTx_N (by first | exact ht | exact mTx_F ht _ (by decide) (by decide)) _ (show 0 ≤ σ.1 16 + 1 ∧ σ.1 16 + 1 ≤ σ.1 15 by omega)) (show σ.1 15 - (σ.1 16 + 1) < (f : Int) by omega) (show 0 ≤ n + 1 ∧ n + 1 ≤ σ.1 16 + 1 by omega)
      · rw [if_pos (show n < 8 by omega)]
        refine aw_aload_n 25 dX4_readWord_24 rfl rfl ?_
        refine aw_ldc2 28 (32) q2190 (by decide) dX4_readWord_25 rfl ?_
        refine aw_aload_n 29 dX4_readWord_28 rfl rfl ?_
        refine aw_get 32 ci4 20 (by decide) q2051 (Or.inl rfl) (rdl (mh_obj _ _)) rfl dX4_readWord_29 rfl ?_
        refine aw_lmul 33 dX4_readWord_32 rfl ?_
        refine aw_aload_n 34 dX4_readWord_33 rfl rfl ?_
        refine aw_aload_n 35 dX4_readWord_34 rfl rfl ?_
        refine aw_get 38 ci4 16 (by decide) q2047 (Or.inl rfl) (rdl (mh_obj _ _)) rfl dX4_readWord_35 rfl ?_
        refine aw_xV 41 (m_byteAt hC _ _ (by assumption) (by omega)) mvX4_byteAt q2178 (rdl (mh_obj _ _)) rfl rfl rfl (by decide) (by decide) (Nat.le_refl _) (Nat.le_refl _) rfl (Nat.le_of_ble_eq_true rfl) dX4_readWord_38 rfl ?_
        refine aw_i2l 42 dX4_readWord_41 rfl (by exact i2l_ok (by omega)) ?_
        refine aw_ladd 43 dX4_readWord_42 rfl ?_
        refine aw_ldc2 46 (97) q2191 (by decide) dX4_readWord_43 rfl ?_
        refine aw_lsub 47 dX4_readWord_46 rfl ?_
        refine aw_lconst 48 1 dX4_readWord_47 rfl (by decide) ?_
        refine aw_ladd 49 dX4_readWord_48 rfl ?_
        refine aw_put 52 ci4 20 (by decide) q2051 (Or.inl rfl) rfl rfl rfl (Nat.le_of_ble_eq_true rfl) (mh_obj _ _) dX4_readWord_49 rfl ?_
        refine aw_h (mhp_20 _ _ _) ?_
        refine aw_iinc 55 dX4_readWord_52 rfl rfl (as_1 rfl) (by decide) ?_
        refine aw_aload_n 56 dX4_readWord_55 rfl rfl ?_
        refine aw_dup 57 dX4_readWord_56 rfl rfl ?_
        refine aw_get 60 ci4 16 (by decide) q2047 (Or.inl rfl) (rdl (mh_obj _ _)) rfl dX4_readWord_57 rfl ?_
        refine aw_iconst 61 dX4_readWord_60 rfl ?_
        refine aw_iadd 62 dX4_readWord_61 rfl ?_
        refine aw_put 65 ci4 16 (by decide) q2047 (Or.inl rfl) rfl rfl rfl (Nat.le_of_ble_eq_true rfl) (mh_obj _ _) dX4_readWord_62 rfl ?_
        refine aw_h (mhp_16 _ _ _) ?_
        refine aw_goto 7 dX4_readWord_65 rfl ?_
        exact ih _ _ (mTx_N (by first | exact ht | exact mTx_F ht _ (by decide) (by decide)) _ (show 0 ≤ σ.1 16 + 1 ∧ σ.1 16 + 1 ≤ σ.1 15 by omega)) (show σ.1 15 - (σ.1 16 + 1) < (f : Int) by omega) (show 0 ≤ n + 1 ∧ n + 1 ≤ σ.1 16 + 1 by omega)
    · rw [show k_rw (f + 1) σ n = (σ, n) from if_neg hL]
      refine aw_aload_n 8 dX4_readWord_7 rfl rfl ?_
      refine aw_aload_n 9 dX4_readWord_8 rfl rfl ?_
      refine aw_get 12 ci4 16 (by decide) q2047 (Or.inl rfl) (rdl (mh_obj _ _)) rfl dX4_readWord_9 rfl ?_
      refine aw_xV 15 (m_isLetter hC _ _ (by assumption) (by omega)) mvX4_isLetter q2182 (rdl (mh_obj _ _)) rfl rfl rfl (by decide) (by decide) (Nat.le_refl _) (Nat.le_refl _) rfl (Nat.le_of_ble_eq_true rfl) dX4_readWord_12 rfl ?_
      refine aw_if_eqB 68 18 dX4_readWord_15 rfl rfl (fun c_15 => ?_) (fun c_15 => absurd c_15 (hL))
      refine aw_aload_n 69 dX4_readWord_68 rfl rfl ?_
      refine aw_iload_n 70 dX4_readWord_69 rfl rfl ?_
      refine aw_bipush 72 dX4_readWord_70 rfl (by decide) ?_
      refine aw_icmp_le 79 75 (by omega) dX4_readWord_72 rfl rfl (fun c_72 => ?_) (fun c_72 => ?_)
      · refine aw_iconst 80 dX4_readWord_79 rfl ?_
        refine aw_put 83 ci4 18 (by decide) q2049 (Or.inl rfl) rfl rfl rfl (Nat.le_of_ble_eq_true rfl) (mh_obj _ _) dX4_readWord_80 rfl ?_
        refine aw_h (mhp_18 _ _ _) ?_
        exact aw_xv (by unfold k_rwE; first | rw [if_pos (by omega)] | rw [if_neg (by omega)]) rfl dX4_readWord_83
      · refine aw_iconst 76 dX4_readWord_75 rfl ?_
        refine aw_goto 80 dX4_readWord_76 rfl ?_
        refine aw_put 83 ci4 18 (by decide) q2049 (Or.inl rfl) rfl rfl rfl (Nat.le_of_ble_eq_true rfl) (mh_obj _ _) dX4_readWord_80 rfl ?_
        refine aw_h (mhp_18 _ _ _) ?_
        exact aw_xv (by unfold k_rwE; first | rw [if_pos (by omega)] | rw [if_neg (by omega)]) rfl dX4_readWord_83
def k_readWord (σ : MSt) : MSt := k_rwE (k_rw 601 (sF σ 20 0) 0)
theorem m_readWord {l : Launch} {g : AG} {C : MCx} (hC : MOK C) (σ : MSt)  (ht : mTx σ): AMx l g miX4_readWord 12 [.ref C.1] (mh C σ) (none) (mh C (k_readWord σ)) := by
  refine aw_start 1 (by decide) rfl (Nat.le_of_ble_eq_true rfl) ?_
  show AWc l g miX4_readWord 12 0 0 _ _ 0 0 (mh C σ) 0 [some (.ref C.1), none] []
  refine aw_aload_n 1 dX4_readWord_0 rfl rfl ?_
  refine aw_lconst 2 0 dX4_readWord_1 rfl (by decide) ?_
  refine aw_put 5 ci4 20 (by decide) q2051 (Or.inl rfl) rfl rfl rfl (Nat.le_of_ble_eq_true rfl) (mh_obj _ _) dX4_readWord_2 rfl ?_
  refine aw_h (mhp_20 _ _ _) ?_
  refine aw_iconst 6 dX4_readWord_5 rfl ?_
  refine aw_istore_n 7 dX4_readWord_6 rfl (as_1 rfl) (by decide) ?_
  exact l_readWord hC 601 _ 0 (mTx_F ht _ (by decide) (by decide)) (show σ.1 15 - σ.1 16 < 601 by have := ht.1; have := ht.2.1; omega) (show (0 : Int) ≤ 0 ∧ 0 ≤ σ.1 16 by have := ht.1; omega)
def k_rn : Nat → MSt → Int → MSt × Int
  | 0, σ, n => (σ, n)
  | f + 1, σ, n => if isDi σ (σ.1 16) then k_rn f (sF (if n < 4 then sF σ 19 (10 * σ.1 19 + bya σ (σ.1 16) - 48) else σ) 16 (σ.1 16 + 1)) (n + 1) else (σ, n)
def k_rnE (p : MSt × Int) : MSt := sF p.1 18 (if 4 < p.2 then 5 else 2)
theorem l_readNumber {l : Launch} {g : AG} {C : MCx} (hC : MOK C) : ∀ (f : Nat) (σ : MSt) (n : Int), mTx σ → σ.1 15 - σ.1 16 < f → 0 ≤ n ∧ n ≤ σ.1 16 → AWc l g miX4_readNumber 12 0 0 (fun r2 h2 => r2 = none ∧ h2 = mh C (k_rnE (k_rn f σ n))) (fun _ _ _ => False) 0 0 (mh C σ) 7 [some (.ref C.1), some (iv n)] [] := by
  intro f
  induction f with
  | zero => intro σ n ht hf hn; exact absurd ht.1 (by omega)
  | succ f ih =>
    intro σ n ht hf hn
    have h1 := ht.1
    have h2 := ht.2.1
    by_cases hL : isDi σ (σ.1 16)
    · rw [show k_rn (f + 1) σ n = k_rn f (sF (if n < 4 then sF σ 19 (10 * σ.1 19 + bya σ (σ.1 16) - 48) else σ) 16 (σ.1 16 + 1)) (n + 1) from if_pos hL]
      have hlt := isDi_lt hL
      have hb := bya_rg ht (σ.1 16)
      refine aw_aload_n 8 dX4_readNumber_7 rfl rfl ?_
      refine aw_aload_n 9 dX4_readNumber_8 rfl rfl ?_
      refine aw_get 12 ci4 16 (by decide) q2047 (Or.inl rfl) (rdl (mh_obj _ _)) rfl dX4_readNumber_9 rfl ?_
      refine aw_xV 15 (m_isDigit hC _ _ (by assumption) (by omega)) mvX4_isDigit q2192 (rdl (mh_obj _ _)) rfl rfl rfl (by decide) (by decide) (Nat.le_refl _) (Nat.le_refl _) rfl (Nat.le_of_ble_eq_true rfl) dX4_readNumber_12 rfl ?_
      refine aw_if_eqB 62 18 dX4_readNumber_15 rfl rfl (fun c_15 => (absurd hL c_15)) (fun c_15 => ?_)
      refine aw_iload_n 19 dX4_readNumber_18 rfl rfl ?_
      refine aw_iconst 20 dX4_readNumber_19 rfl ?_
      refine aw_icmp_ge 46 23 (by omega) dX4_readNumber_20 rfl rfl (fun c_20 => ?_) (fun c_20 => ?_)
      · rw [if_neg (show ¬ n < 4 by omega)]
        refine aw_iinc 49 dX4_readNumber_46 rfl rfl (as_1 rfl) (by decide) ?_
        refine aw_aload_n 50 dX4_readNumber_49 rfl rfl ?_
        refine aw_dup 51 dX4_readNumber_50 rfl rfl ?_
        refine aw_get 54 ci4 16 (by decide) q2047 (Or.inl rfl) (rdl (mh_obj _ _)) rfl dX4_readNumber_51 rfl ?_
        refine aw_iconst 55 dX4_readNumber_54 rfl ?_
        refine aw_iadd 56 dX4_readNumber_55 rfl ?_
        refine aw_put 59 ci4 16 (by decide) q2047 (Or.inl rfl) rfl rfl rfl (Nat.le_of_ble_eq_true rfl) (mh_obj _ _) dX4_readNumber_56 rfl ?_
        refine aw_h (mhp_16 _ _ _) ?_
        refine aw_goto 7 dX4_readNumber_59 rfl ?_
        exact ih _ _ (mTx_N (by first | exact ht | exact mTx_F ht _ (by decide) (by decide)) _ (show 0 ≤ σ.1 16 + 1 ∧ σ.1 16 + 1 ≤ σ.1 15 by omega)) (show σ.1 15 - (σ.1 16 + 1) < (f : Int) by omega) (show 0 ≤ n + 1 ∧ n + 1 ≤ σ.1 16 + 1 by omega)
      · rw [if_pos (show n < 4 by omega)]
        refine aw_aload_n 24 dX4_readNumber_23 rfl rfl ?_
        refine aw_bipush 26 dX4_readNumber_24 rfl (by decide) ?_
        refine aw_aload_n 27 dX4_readNumber_26 rfl rfl ?_
        refine aw_get 30 ci4 19 (by decide) q2050 (Or.inl rfl) (rdl (mh_obj _ _)) rfl dX4_readNumber_27 rfl ?_
        refine aw_imul 31 dX4_readNumber_30 rfl ?_
        refine aw_aload_n 32 dX4_readNumber_31 rfl rfl ?_
        refine aw_aload_n 33 dX4_readNumber_32 rfl rfl ?_
        refine aw_get 36 ci4 16 (by decide) q2047 (Or.inl rfl) (rdl (mh_obj _ _)) rfl dX4_readNumber_33 rfl ?_
        refine aw_xV 39 (m_byteAt hC _ _ (by assumption) (by omega)) mvX4_byteAt q2178 (rdl (mh_obj _ _)) rfl rfl rfl (by decide) (by decide) (Nat.le_refl _) (Nat.le_refl _) rfl (Nat.le_of_ble_eq_true rfl) dX4_readNumber_36 rfl ?_
        refine aw_iadd 40 dX4_readNumber_39 rfl ?_
        refine aw_bipush 42 dX4_readNumber_40 rfl (by decide) ?_
        refine aw_isub 43 dX4_readNumber_42 rfl ?_
        refine aw_put 46 ci4 19 (by decide) q2050 (Or.inl rfl) rfl rfl rfl (Nat.le_of_ble_eq_true rfl) (mh_obj _ _) dX4_readNumber_43 rfl ?_
        refine aw_h (mhp_19 _ _ _) ?_
        refine aw_iinc 49 dX4_readNumber_46 rfl rfl (as_1 rfl) (by decide) ?_
        refine aw_aload_n 50 dX4_readNumber_49 rfl rfl ?_
        refine aw_dup 51 dX4_readNumber_50 rfl rfl ?_
        refine aw_get 54 ci4 16 (by decide) q2047 (Or.inl rfl) (rdl (mh_obj _ _)) rfl dX4_readNumber_51 rfl ?_
        refine aw_iconst 55 dX4_readNumber_54 rfl ?_
        refine aw_iadd 56 dX4_readNumber_55 rfl ?_
        refine aw_put 59 ci4 16 (by decide) q2047 (Or.inl rfl) rfl rfl rfl (Nat.le_of_ble_eq_true rfl) (mh_obj _ _) dX4_readNumber_56 rfl ?_
        refine aw_h (mhp_16 _ _ _) ?_
        refine aw_goto 7 dX4_readNumber_59 rfl ?_
        exact ih _ _ (mTx_N (by first | exact ht | exact mTx_F ht _ (by decide) (by decide)) _ (show 0 ≤ σ.1 16 + 1 ∧ σ.1 16 + 1 ≤ σ.1 15 by omega)) (show σ.1 15 - (σ.1 16 + 1) < (f : Int) by omega) (show 0 ≤ n + 1 ∧ n + 1 ≤ σ.1 16 + 1 by omega)
    · rw [show k_rn (f + 1) σ n = (σ, n) from if_neg hL]
      refine aw_aload_n 8 dX4_readNumber_7 rfl rfl ?_
      refine aw_aload_n 9 dX4_readNumber_8 rfl rfl ?_
      refine aw_get 12 ci4 16 (by decide) q2047 (Or.inl rfl) (rdl (mh_obj _ _)) rfl dX4_readNumber_9 rfl ?_
      refine aw_xV 15 (m_isDigit hC _ _ (by assumption) (by omega)) mvX4_isDigit q2192 (rdl (mh_obj _ _)) rfl rfl rfl (by decide) (by decide) (Nat.le_refl _) (Nat.le_refl _) rfl (Nat.le_of_ble_eq_true rfl) dX4_readNumber_12 rfl ?_
      refine aw_if_eqB 62 18 dX4_readNumber_15 rfl rfl (fun c_15 => ?_) (fun c_15 => absurd c_15 (hL))
      refine aw_aload_n 63 dX4_readNumber_62 rfl rfl ?_
      refine aw_iload_n 64 dX4_readNumber_63 rfl rfl ?_
      refine aw_iconst 65 dX4_readNumber_64 rfl ?_
      refine aw_icmp_le 72 68 (by omega) dX4_readNumber_65 rfl rfl (fun c_65 => ?_) (fun c_65 => ?_)
      · refine aw_iconst 73 dX4_readNumber_72 rfl ?_
        refine aw_put 76 ci4 18 (by decide) q2049 (Or.inl rfl) rfl rfl rfl (Nat.le_of_ble_eq_true rfl) (mh_obj _ _) dX4_readNumber_73 rfl ?_
        refine aw_h (mhp_18 _ _ _) ?_
        exact aw_xv (by unfold k_rnE; first | rw [if_pos (by omega)] | rw [if_neg (by omega)]) rfl dX4_readNumber_76
      · refine aw_iconst 69 dX4_readNumber_68 rfl ?_
        refine aw_goto 73 dX4_readNumber_69 rfl ?_
        refine aw_put 76 ci4 18 (by decide) q2049 (Or.inl rfl) rfl rfl rfl (Nat.le_of_ble_eq_true rfl) (mh_obj _ _) dX4_readNumber_73 rfl ?_
        refine aw_h (mhp_18 _ _ _) ?_
        exact aw_xv (by unfold k_rnE; first | rw [if_pos (by omega)] | rw [if_neg (by omega)]) rfl dX4_readNumber_76
def k_readNumber (σ : MSt) : MSt := k_rnE (k_rn 601 (sF σ 19 0) 0)
theorem m_readNumber {l : Launch} {g : AG} {C : MCx} (hC : MOK C) (σ : MSt)  (ht : mTx σ): AMx l g miX4_readNumber 12 [.ref C.1] (mh C σ) (none) (mh C (k_readNumber σ)) := by
  refine aw_start 1 (by decide) rfl (Nat.le_of_ble_eq_true rfl) ?_
  show AWc l g miX4_readNumber 12 0 0 _ _ 0 0 (mh C σ) 0 [some (.ref C.1), none] []
  refine aw_aload_n 1 dX4_readNumber_0 rfl rfl ?_
  refine aw_iconst 2 dX4_readNumber_1 rfl ?_
  refine aw_put 5 ci4 19 (by decide) q2050 (Or.inl rfl) rfl rfl rfl (Nat.le_of_ble_eq_true rfl) (mh_obj _ _) dX4_readNumber_2 rfl ?_
  refine aw_h (mhp_19 _ _ _) ?_
  refine aw_iconst 6 dX4_readNumber_5 rfl ?_
  refine aw_istore_n 7 dX4_readNumber_6 rfl (as_1 rfl) (by decide) ?_
  exact l_readNumber hC 601 _ 0 (mTx_F ht _ (by decide) (by decide)) (show σ.1 15 - σ.1 16 < 601 by have := ht.1; have := ht.2.1; omega) (show (0 : Int) ≤ 0 ∧ 0 ≤ σ.1 16 by have := ht.1; omega)
/-- behind the blanks -/
def k_sk : Nat → MSt → MSt
  | 0, σ => σ
  | f + 1, σ => if σ.1 16 < σ.1 15 ∧ isBl σ (σ.1 16) then k_sk f (sF σ 16 (σ.1 16 + 1)) else σ
/-- the token that begins at next -/
def k_tk (σ : MSt) : MSt := if σ.1 15 ≤ σ.1 16 then sF (sF σ 17 (σ.1 16)) 18 0 else if isLe σ (σ.1 16) then k_readWord (sF σ 17 (σ.1 16)) else if isDi σ (σ.1 16) then k_readNumber (sF σ 17 (σ.1 16)) else sF (sF (sF σ 17 (σ.1 16)) 18 (if bya σ (σ.1 16) = 59 then 3 else if bya σ (σ.1 16) = 45 then 4 else 5)) 16 (σ.1 16 + 1)
theorem l_readToken {l : Launch} {g : AG} {C : MCx} (hC : MOK C) : ∀ (f : Nat) (σ : MSt), mTx σ → σ.1 15 - σ.1 16 < f → AWc l g miX4_readToken 13 0 0 (fun r2 h2 => r2 = none ∧ h2 = mh C (k_tk (k_sk f σ))) (fun _ _ _ => False) 0 0 (mh C σ) 0 [some (.ref C.1)] [] := by
  intro f
  induction f with
  | zero => intro σ ht hf; exact absurd ht.1 (by omega)
  | succ f ih =>
    intro σ ht hf
    have h1 := ht.1
    have h2 := ht.2.1
    have hb := bya_rg ht (σ.1 16)
    have e15 : (sF σ 17 (σ.1 16)).1 15 = σ.1 15 := rfl
    have e16 : (sF σ 17 (σ.1 16)).1 16 = σ.1 16 := rfl
    have eb : bya (sF σ 17 (σ.1 16)) ((sF σ 17 (σ.1 16)).1 16) = bya σ (σ.1 16) := rfl
    have ht7 : mTx (sF σ 17 (σ.1 16)) := mTx_F ht _ (by decide) (by decide)
    by_cases hL : σ.1 16 < σ.1 15 ∧ isBl σ (σ.1 16)
    · rw [show k_sk (f + 1) σ = k_sk f (sF σ 16 (σ.1 16 + 1)) from if_pos hL]
      refine aw_aload_n 1 dX4_readToken_0 rfl rfl ?_
      refine aw_get 4 ci4 16 (by decide) q2047 (Or.inl rfl) (rdl (mh_obj _ _)) rfl dX4_readToken_1 rfl ?_
      refine aw_aload_n 5 dX4_readToken_4 rfl rfl ?_
      refine aw_get 8 ci4 15 (by decide) q2046 (Or.inl rfl) (rdl (mh_obj _ _)) rfl dX4_readToken_5 rfl ?_
      refine aw_icmp_ge 35 11 (by omega) dX4_readToken_8 rfl rfl (fun c_8 => absurd c_8 (absurd hL.1 (by omega))) (fun c_8 => ?_)
      refine aw_aload_n 12 dX4_readToken_11 rfl rfl ?_
      refine aw_aload_n 13 dX4_readToken_12 rfl rfl ?_
      refine aw_get 16 ci4 16 (by decide) q2047 (Or.inl rfl) (rdl (mh_obj _ _)) rfl dX4_readToken_13 rfl ?_
      refine aw_xV 19 (m_isBlank hC _ _ (by assumption) (by omega)) mvX4_isBlank q2174 (rdl (mh_obj _ _)) rfl rfl rfl (by decide) (by decide) (Nat.le_refl _) (Nat.le_refl _) rfl (Nat.le_of_ble_eq_true rfl) dX4_readToken_16 rfl ?_
      refine aw_if_eqB 35 22 dX4_readToken_19 rfl rfl (fun c_19 => (absurd hL.2 c_19)) (fun c_19 => ?_)
      refine aw_aload_n 23 dX4_readToken_22 rfl rfl ?_
      refine aw_dup 24 dX4_readToken_23 rfl rfl ?_
      refine aw_get 27 ci4 16 (by decide) q2047 (Or.inl rfl) (rdl (mh_obj _ _)) rfl dX4_readToken_24 rfl ?_
      refine aw_iconst 28 dX4_readToken_27 rfl ?_
      refine aw_iadd 29 dX4_readToken_28 rfl ?_
      refine aw_put 32 ci4 16 (by decide) q2047 (Or.inl rfl) rfl rfl rfl (Nat.le_of_ble_eq_true rfl) (mh_obj _ _) dX4_readToken_29 rfl ?_
      refine aw_h (mhp_16 _ _ _) ?_
      refine aw_goto 0 dX4_readToken_32 rfl ?_
      exact ih _ (mTx_N ht _ (show 0 ≤ σ.1 16 + 1 ∧ σ.1 16 + 1 ≤ σ.1 15 by omega)) (show σ.1 15 - (σ.1 16 + 1) < (f : Int) by omega)
    · rw [show k_sk (f + 1) σ = σ from if_neg hL]
      refine aw_aload_n 1 dX4_readToken_0 rfl rfl ?_
      refine aw_get 4 ci4 16 (by decide) q2047 (Or.inl rfl) (rdl (mh_obj _ _)) rfl dX4_readToken_1 rfl ?_
      refine aw_aload_n 5 dX4_readToken_4 rfl rfl ?_
      refine aw_get 8 ci4 15 (by decide) q2046 (Or.inl rfl) (rdl (mh_obj _ _)) rfl dX4_readToken_5 rfl ?_
      refine aw_icmp_ge 35 11 (by (first | omega | (simp [sF_1]; omega) | (show Rg (bya σ (σ.1 16)) ∧ Rg _; omega) | (show Rg (σ.1 16) ∧ Rg (σ.1 15); omega) | (show 0 ≤ σ.1 16 ∧ σ.1 16 ≤ 600; omega))) dX4_readToken_8 rfl rfl (fun c_8 => ?_) (fun c_8 => ?_)
      · refine aw_aload_n 36 dX4_readToken_35 rfl rfl ?_
        refine aw_aload_n 37 dX4_readToken_36 rfl rfl ?_
        refine aw_get 40 ci4 16 (by decide) q2047 (Or.inl rfl) (rdl (mh_obj _ _)) rfl dX4_readToken_37 rfl ?_
        refine aw_put 43 ci4 17 (by decide) q2048 (Or.inl rfl) rfl rfl rfl (Nat.le_of_ble_eq_true rfl) (mh_obj _ _) dX4_readToken_40 rfl ?_
        refine aw_h (mhp_17 _ _ _) ?_
        refine aw_aload_n 44 dX4_readToken_43 rfl rfl ?_
        refine aw_get 47 ci4 16 (by decide) q2047 (Or.inl rfl) (rdl (mh_obj _ _)) rfl dX4_readToken_44 rfl ?_
        refine aw_aload_n 48 dX4_readToken_47 rfl rfl ?_
        refine aw_get 51 ci4 15 (by decide) q2046 (Or.inl rfl) (rdl (mh_obj _ _)) rfl dX4_readToken_48 rfl ?_
        refine aw_icmp_lt 60 54 (by (first | omega | (simp [sF_1]; omega) | (show Rg (bya σ (σ.1 16)) ∧ Rg _; omega) | (show Rg (σ.1 16) ∧ Rg (σ.1 15); omega) | (show 0 ≤ σ.1 16 ∧ σ.1 16 ≤ 600; omega))) dX4_readToken_51 rfl rfl (fun c_51 => ?_) (fun c_51 => ?_)
        · refine aw_aload_n 61 dX4_readToken_60 rfl rfl ?_
          refine aw_aload_n 62 dX4_readToken_61 rfl rfl ?_
          refine aw_get 65 ci4 16 (by decide) q2047 (Or.inl rfl) (rdl (mh_obj _ _)) rfl dX4_readToken_62 rfl ?_
          refine aw_xV 68 (m_isLetter hC _ _ (by first | exact ht7 | exact ht) (by (first | omega | (simp [sF_1]; omega) | (show Rg (bya σ (σ.1 16)) ∧ Rg _; omega) | (show Rg (σ.1 16) ∧ Rg (σ.1 15); omega) | (show 0 ≤ σ.1 16 ∧ σ.1 16 ≤ 600; omega)))) mvX4_isLetter q2182 (rdl (mh_obj _ _)) rfl rfl rfl (by decide) (by decide) (Nat.le_refl _) (Nat.le_refl _) rfl (Nat.le_of_ble_eq_true rfl) dX4_readToken_65 rfl ?_
          refine aw_if_eqB 76 71 dX4_readToken_68 rfl rfl (fun c_68 => ?_) (fun c_68 => ?_)
          · refine aw_aload_n 77 dX4_readToken_76 rfl rfl ?_
            refine aw_aload_n 78 dX4_readToken_77 rfl rfl ?_
            refine aw_get 81 ci4 16 (by decide) q2047 (Or.inl rfl) (rdl (mh_obj _ _)) rfl dX4_readToken_78 rfl ?_
            refine aw_xV 84 (m_isDigit hC _ _ (by first | exact ht7 | exact ht) (by (first | omega | (simp [sF_1]; omega) | (show Rg (bya σ (σ.1 16)) ∧ Rg _; omega) | (show Rg (σ.1 16) ∧ Rg (σ.1 15); omega) | (show 0 ≤ σ.1 16 ∧ σ.1 16 ≤ 600; omega)))) mvX4_isDigit q2192 (rdl (mh_obj _ _)) rfl rfl rfl (by decide) (by decide) (Nat.le_refl _) (Nat.le_refl _) rfl (Nat.le_of_ble_eq_true rfl) dX4_readToken_81 rfl ?_
            refine aw_if_eqB 92 87 dX4_readToken_84 rfl rfl (fun c_84 => ?_) (fun c_84 => ?_)
            · refine aw_aload_n 93 dX4_readToken_92 rfl rfl ?_
              refine aw_aload_n 94 dX4_readToken_93 rfl rfl ?_
              refine aw_aload_n 95 dX4_readToken_94 rfl rfl ?_
              refine aw_get 98 ci4 16 (by decide) q2047 (Or.inl rfl) (rdl (mh_obj _ _)) rfl dX4_readToken_95 rfl ?_
              refine aw_xV 101 (m_byteAt hC _ _ (by first | exact ht7 | exact ht) (by (first | omega | (simp [sF_1]; omega) | (show Rg (bya σ (σ.1 16)) ∧ Rg _; omega) | (show Rg (σ.1 16) ∧ Rg (σ.1 15); omega) | (show 0 ≤ σ.1 16 ∧ σ.1 16 ≤ 600; omega)))) mvX4_byteAt q2178 (rdl (mh_obj _ _)) rfl rfl rfl (by decide) (by decide) (Nat.le_refl _) (Nat.le_refl _) rfl (Nat.le_of_ble_eq_true rfl) dX4_readToken_98 rfl ?_
              refine aw_bipush 103 dX4_readToken_101 rfl (by decide) ?_
              refine aw_icmp_ne 110 106 (by (first | omega | (simp [sF_1]; omega) | (show Rg (bya σ (σ.1 16)) ∧ Rg _; omega) | (show Rg (σ.1 16) ∧ Rg (σ.1 15); omega) | (show 0 ≤ σ.1 16 ∧ σ.1 16 ≤ 600; omega))) dX4_readToken_103 rfl rfl (fun c_103 => ?_) (fun c_103 => ?_)
              · refine aw_aload_n 111 dX4_readToken_110 rfl rfl ?_
                refine aw_aload_n 112 dX4_readToken_111 rfl rfl ?_
                refine aw_get 115 ci4 16 (by decide) q2047 (Or.inl rfl) (rdl (mh_obj _ _)) rfl dX4_readToken_112 rfl ?_
                refine aw_xV 118 (m_byteAt hC _ _ (by first | exact ht7 | exact ht) (by (first | omega | (simp [sF_1]; omega) | (show Rg (bya σ (σ.1 16)) ∧ Rg _; omega) | (show Rg (σ.1 16) ∧ Rg (σ.1 15); omega) | (show 0 ≤ σ.1 16 ∧ σ.1 16 ≤ 600; omega)))) mvX4_byteAt q2178 (rdl (mh_obj _ _)) rfl rfl rfl (by decide) (by decide) (Nat.le_refl _) (Nat.le_refl _) rfl (Nat.le_of_ble_eq_true rfl) dX4_readToken_115 rfl ?_
                refine aw_bipush 120 dX4_readToken_118 rfl (by decide) ?_
                refine aw_icmp_ne 127 123 (by (first | omega | (simp [sF_1]; omega) | (show Rg (bya σ (σ.1 16)) ∧ Rg _; omega) | (show Rg (σ.1 16) ∧ Rg (σ.1 15); omega) | (show 0 ≤ σ.1 16 ∧ σ.1 16 ≤ 600; omega))) dX4_readToken_120 rfl rfl (fun c_120 => ?_) (fun c_120 => ?_)
                · refine aw_iconst 128 dX4_readToken_127 rfl ?_
                  refine aw_put 131 ci4 18 (by decide) q2049 (Or.inl rfl) rfl rfl rfl (Nat.le_of_ble_eq_true rfl) (mh_obj _ _) dX4_readToken_128 rfl ?_
                  refine aw_h (mhp_18 _ _ _) ?_
                  refine aw_aload_n 132 dX4_readToken_131 rfl rfl ?_
                  refine aw_dup 133 dX4_readToken_132 rfl rfl ?_
                  refine aw_get 136 ci4 16 (by decide) q2047 (Or.inl rfl) (rdl (mh_obj _ _)) rfl dX4_readToken_133 rfl ?_
                  refine aw_iconst 137 dX4_readToken_136 rfl ?_
                  refine aw_iadd 138 dX4_readToken_137 rfl ?_
                  refine aw_put 141 ci4 16 (by decide) q2047 (Or.inl rfl) rfl rfl rfl (Nat.le_of_ble_eq_true rfl) (mh_obj _ _) dX4_readToken_138 rfl ?_
                  refine aw_h (mhp_16 _ _ _) ?_
                  exact aw_xv (by unfold k_tk; rw [if_neg (by omega), if_neg (by assumption), if_neg (by assumption)]; first | rw [if_pos (by assumption)]; rfl | rw [if_neg (by assumption), if_pos (by assumption)]; rfl | rw [if_neg (by assumption), if_neg (by assumption)]; rfl) rfl dX4_readToken_141
                · refine aw_iconst 124 dX4_readToken_123 rfl ?_
                  refine aw_goto 128 dX4_readToken_124 rfl ?_
                  refine aw_put 131 ci4 18 (by decide) q2049 (Or.inl rfl) rfl rfl rfl (Nat.le_of_ble_eq_true rfl) (mh_obj _ _) dX4_readToken_128 rfl ?_
                  refine aw_h (mhp_18 _ _ _) ?_
                  refine aw_aload_n 132 dX4_readToken_131 rfl rfl ?_
                  refine aw_dup 133 dX4_readToken_132 rfl rfl ?_
                  refine aw_get 136 ci4 16 (by decide) q2047 (Or.inl rfl) (rdl (mh_obj _ _)) rfl dX4_readToken_133 rfl ?_
                  refine aw_iconst 137 dX4_readToken_136 rfl ?_
                  refine aw_iadd 138 dX4_readToken_137 rfl ?_
                  refine aw_put 141 ci4 16 (by decide) q2047 (Or.inl rfl) rfl rfl rfl (Nat.le_of_ble_eq_true rfl) (mh_obj _ _) dX4_readToken_138 rfl ?_
                  refine aw_h (mhp_16 _ _ _) ?_
                  exact aw_xv (by unfold k_tk; rw [if_neg (by omega), if_neg (by assumption), if_neg (by assumption)]; first | rw [if_pos (by assumption)]; rfl | rw [if_neg (by assumption), if_pos (by assumption)]; rfl | rw [if_neg (by assumption), if_neg (by assumption)]; rfl) rfl dX4_readToken_141
              · refine aw_iconst 107 dX4_readToken_106 rfl ?_
                refine aw_goto 128 dX4_readToken_107 rfl ?_
                refine aw_put 131 ci4 18 (by decide) q2049 (Or.inl rfl) rfl rfl rfl (Nat.le_of_ble_eq_true rfl) (mh_obj _ _) dX4_readToken_128 rfl ?_
                refine aw_h (mhp_18 _ _ _) ?_
                refine aw_aload_n 132 dX4_readToken_131 rfl rfl ?_
                refine aw_dup 133 dX4_readToken_132 rfl rfl ?_
                refine aw_get 136 ci4 16 (by decide) q2047 (Or.inl rfl) (rdl (mh_obj _ _)) rfl dX4_readToken_133 rfl ?_
                refine aw_iconst 137 dX4_readToken_136 rfl ?_
                refine aw_iadd 138 dX4_readToken_137 rfl ?_
                refine aw_put 141 ci4 16 (by decide) q2047 (Or.inl rfl) rfl rfl rfl (Nat.le_of_ble_eq_true rfl) (mh_obj _ _) dX4_readToken_138 rfl ?_
                refine aw_h (mhp_16 _ _ _) ?_
                exact aw_xv (by unfold k_tk; rw [if_neg (by omega), if_neg (by assumption), if_neg (by assumption)]; first | rw [if_pos (by assumption)]; rfl | rw [if_neg (by assumption), if_pos (by assumption)]; rfl | rw [if_neg (by assumption), if_neg (by assumption)]; rfl) rfl dX4_readToken_141
            · refine aw_aload_n 88 dX4_readToken_87 rfl rfl ?_
              refine aw_xVv 91 (m_readNumber hC _ (by assumption)) mvX4_readNumber q2196 (rdl (mh_obj _ _)) rfl rfl rfl (by decide) (by decide) (Nat.le_refl _) (Nat.le_refl _) rfl (Nat.le_of_ble_eq_true rfl) dX4_readToken_88 rfl ?_
              exact aw_xv (by unfold k_tk; rw [if_neg (by omega), if_neg (by assumption), if_pos (by assumption)]) rfl dX4_readToken_91
          · refine aw_aload_n 72 dX4_readToken_71 rfl rfl ?_
            refine aw_xVv 75 (m_readWord hC _ (by assumption)) mvX4_readWord q2186 (rdl (mh_obj _ _)) rfl rfl rfl (by decide) (by decide) (Nat.le_refl _) (Nat.le_refl _) rfl (Nat.le_of_ble_eq_true rfl) dX4_readToken_72 rfl ?_
            exact aw_xv (by unfold k_tk; rw [if_neg (by omega), if_pos (by assumption)]) rfl dX4_readToken_75
        · refine aw_aload_n 55 dX4_readToken_54 rfl rfl ?_
          refine aw_iconst 56 dX4_readToken_55 rfl ?_
          refine aw_put 59 ci4 18 (by decide) q2049 (Or.inl rfl) rfl rfl rfl (Nat.le_of_ble_eq_true rfl) (mh_obj _ _) dX4_readToken_56 rfl ?_
          refine aw_h (mhp_18 _ _ _) ?_
          exact aw_xv (by unfold k_tk; rw [if_pos (by omega)]) rfl dX4_readToken_59
      · refine aw_aload_n 12 dX4_readToken_11 rfl rfl ?_
        refine aw_aload_n 13 dX4_readToken_12 rfl rfl ?_
        refine aw_get 16 ci4 16 (by decide) q2047 (Or.inl rfl) (rdl (mh_obj _ _)) rfl dX4_readToken_13 rfl ?_
        refine aw_xV 19 (m_isBlank hC _ _ (by first | exact ht7 | exact ht) (by (first | omega | (simp [sF_1]; omega) | (show Rg (bya σ (σ.1 16)) ∧ Rg _; omega) | (show Rg (σ.1 16) ∧ Rg (σ.1 15); omega) | (show 0 ≤ σ.1 16 ∧ σ.1 16 ≤ 600; omega)))) mvX4_isBlank q2174 (rdl (mh_obj _ _)) rfl rfl rfl (by decide) (by decide) (Nat.le_refl _) (Nat.le_refl _) rfl (Nat.le_of_ble_eq_true rfl) dX4_readToken_16 rfl ?_
        refine aw_if_eqB 35 22 dX4_readToken_19 rfl rfl (fun c_19 => ?_) (fun c_19 => absurd c_19 ((fun z => hL ⟨by omega, z⟩)))
        refine aw_aload_n 36 dX4_readToken_35 rfl rfl ?_
        refine aw_aload_n 37 dX4_readToken_36 rfl rfl ?_
        refine aw_get 40 ci4 16 (by decide) q2047 (Or.inl rfl) (rdl (mh_obj _ _)) rfl dX4_readToken_37 rfl ?_
        refine aw_put 43 ci4 17 (by decide) q2048 (Or.inl rfl) rfl rfl rfl (Nat.le_of_ble_eq_true rfl) (mh_obj _ _) dX4_readToken_40 rfl ?_
        refine aw_h (mhp_17 _ _ _) ?_
        refine aw_aload_n 44 dX4_readToken_43 rfl rfl ?_
        refine aw_get 47 ci4 16 (by decide) q2047 (Or.inl rfl) (rdl (mh_obj _ _)) rfl dX4_readToken_44 rfl ?_
        refine aw_aload_n 48 dX4_readToken_47 rfl rfl ?_
        refine aw_get 51 ci4 15 (by decide) q2046 (Or.inl rfl) (rdl (mh_obj _ _)) rfl dX4_readToken_48 rfl ?_
        refine aw_icmp_lt 60 54 (by (first | omega | (simp [sF_1]; omega) | (show Rg (bya σ (σ.1 16)) ∧ Rg _; omega) | (show Rg (σ.1 16) ∧ Rg (σ.1 15); omega) | (show 0 ≤ σ.1 16 ∧ σ.1 16 ≤ 600; omega))) dX4_readToken_51 rfl rfl (fun c_51 => ?_) (fun c_51 => ?_)
        · refine aw_aload_n 61 dX4_readToken_60 rfl rfl ?_
          refine aw_aload_n 62 dX4_readToken_61 rfl rfl ?_
          refine aw_get 65 ci4 16 (by decide) q2047 (Or.inl rfl) (rdl (mh_obj _ _)) rfl dX4_readToken_62 rfl ?_
          refine aw_xV 68 (m_isLetter hC _ _ (by first | exact ht7 | exact ht) (by (first | omega | (simp [sF_1]; omega) | (show Rg (bya σ (σ.1 16)) ∧ Rg _; omega) | (show Rg (σ.1 16) ∧ Rg (σ.1 15); omega) | (show 0 ≤ σ.1 16 ∧ σ.1 16 ≤ 600; omega)))) mvX4_isLetter q2182 (rdl (mh_obj _ _)) rfl rfl rfl (by decide) (by decide) (Nat.le_refl _) (Nat.le_refl _) rfl (Nat.le_of_ble_eq_true rfl) dX4_readToken_65 rfl ?_
          refine aw_if_eqB 76 71 dX4_readToken_68 rfl rfl (fun c_68 => ?_) (fun c_68 => ?_)
          · refine aw_aload_n 77 dX4_readToken_76 rfl rfl ?_
            refine aw_aload_n 78 dX4_readToken_77 rfl rfl ?_
            refine aw_get 81 ci4 16 (by decide) q2047 (Or.inl rfl) (rdl (mh_obj _ _)) rfl dX4_readToken_78 rfl ?_
            refine aw_xV 84 (m_isDigit hC _ _ (by first | exact ht7 | exact ht) (by (first | omega | (simp [sF_1]; omega) | (show Rg (bya σ (σ.1 16)) ∧ Rg _; omega) | (show Rg (σ.1 16) ∧ Rg (σ.1 15); omega) | (show 0 ≤ σ.1 16 ∧ σ.1 16 ≤ 600; omega)))) mvX4_isDigit q2192 (rdl (mh_obj _ _)) rfl rfl rfl (by decide) (by decide) (Nat.le_refl _) (Nat.le_refl _) rfl (Nat.le_of_ble_eq_true rfl) dX4_readToken_81 rfl ?_
            refine aw_if_eqB 92 87 dX4_readToken_84 rfl rfl (fun c_84 => ?_) (fun c_84 => ?_)
            · refine aw_aload_n 93 dX4_readToken_92 rfl rfl ?_
              refine aw_aload_n 94 dX4_readToken_93 rfl rfl ?_
              refine aw_aload_n 95 dX4_readToken_94 rfl rfl ?_
              refine aw_get 98 ci4 16 (by decide) q2047 (Or.inl rfl) (rdl (mh_obj _ _)) rfl dX4_readToken_95 rfl ?_
              refine aw_xV 101 (m_byteAt hC _ _ (by first | exact ht7 | exact ht) (by (first | omega | (simp [sF_1]; omega) | (show Rg (bya σ (σ.1 16)) ∧ Rg _; omega) | (show Rg (σ.1 16) ∧ Rg (σ.1 15); omega) | (show 0 ≤ σ.1 16 ∧ σ.1 16 ≤ 600; omega)))) mvX4_byteAt q2178 (rdl (mh_obj _ _)) rfl rfl rfl (by decide) (by decide) (Nat.le_refl _) (Nat.le_refl _) rfl (Nat.le_of_ble_eq_true rfl) dX4_readToken_98 rfl ?_
              refine aw_bipush 103 dX4_readToken_101 rfl (by decide) ?_
              refine aw_icmp_ne 110 106 (by (first | omega | (simp [sF_1]; omega) | (show Rg (bya σ (σ.1 16)) ∧ Rg _; omega) | (show Rg (σ.1 16) ∧ Rg (σ.1 15); omega) | (show 0 ≤ σ.1 16 ∧ σ.1 16 ≤ 600; omega))) dX4_readToken_103 rfl rfl (fun c_103 => ?_) (fun c_103 => ?_)
              · refine aw_aload_n 111 dX4_readToken_110 rfl rfl ?_
                refine aw_aload_n 112 dX4_readToken_111 rfl rfl ?_
                refine aw_get 115 ci4 16 (by decide) q2047 (Or.inl rfl) (rdl (mh_obj _ _)) rfl dX4_readToken_112 rfl ?_
                refine aw_xV 118 (m_byteAt hC _ _ (by first | exact ht7 | exact ht) (by (first | omega | (simp [sF_1]; omega) | (show Rg (bya σ (σ.1 16)) ∧ Rg _; omega) | (show Rg (σ.1 16) ∧ Rg (σ.1 15); omega) | (show 0 ≤ σ.1 16 ∧ σ.1 16 ≤ 600; omega)))) mvX4_byteAt q2178 (rdl (mh_obj _ _)) rfl rfl rfl (by decide) (by decide) (Nat.le_refl _) (Nat.le_refl _) rfl (Nat.le_of_ble_eq_true rfl) dX4_readToken_115 rfl ?_
                refine aw_bipush 120 dX4_readToken_118 rfl (by decide) ?_
                refine aw_icmp_ne 127 123 (by (first | omega | (simp [sF_1]; omega) | (show Rg (bya σ (σ.1 16)) ∧ Rg _; omega) | (show Rg (σ.1 16) ∧ Rg (σ.1 15); omega) | (show 0 ≤ σ.1 16 ∧ σ.1 16 ≤ 600; omega))) dX4_readToken_120 rfl rfl (fun c_120 => ?_) (fun c_120 => ?_)
                · refine aw_iconst 128 dX4_readToken_127 rfl ?_
                  refine aw_put 131 ci4 18 (by decide) q2049 (Or.inl rfl) rfl rfl rfl (Nat.le_of_ble_eq_true rfl) (mh_obj _ _) dX4_readToken_128 rfl ?_
                  refine aw_h (mhp_18 _ _ _) ?_
                  refine aw_aload_n 132 dX4_readToken_131 rfl rfl ?_
                  refine aw_dup 133 dX4_readToken_132 rfl rfl ?_
                  refine aw_get 136 ci4 16 (by decide) q2047 (Or.inl rfl) (rdl (mh_obj _ _)) rfl dX4_readToken_133 rfl ?_
                  refine aw_iconst 137 dX4_readToken_136 rfl ?_
                  refine aw_iadd 138 dX4_readToken_137 rfl ?_
                  refine aw_put 141 ci4 16 (by decide) q2047 (Or.inl rfl) rfl rfl rfl (Nat.le_of_ble_eq_true rfl) (mh_obj _ _) dX4_readToken_138 rfl ?_
                  refine aw_h (mhp_16 _ _ _) ?_
                  exact aw_xv (by unfold k_tk; rw [if_neg (by omega), if_neg (by assumption), if_neg (by assumption)]; first | rw [if_pos (by assumption)]; rfl | rw [if_neg (by assumption), if_pos (by assumption)]; rfl | rw [if_neg (by assumption), if_neg (by assumption)]; rfl) rfl dX4_readToken_141
                · refine aw_iconst 124 dX4_readToken_123 rfl ?_
                  refine aw_goto 128 dX4_readToken_124 rfl ?_
                  refine aw_put 131 ci4 18 (by decide) q2049 (Or.inl rfl) rfl rfl rfl (Nat.le_of_ble_eq_true rfl) (mh_obj _ _) dX4_readToken_128 rfl ?_
                  refine aw_h (mhp_18 _ _ _) ?_
                  refine aw_aload_n 132 dX4_readToken_131 rfl rfl ?_
                  refine aw_dup 133 dX4_readToken_132 rfl rfl ?_
                  refine aw_get 136 ci4 16 (by decide) q2047 (Or.inl rfl) (rdl (mh_obj _ _)) rfl dX4_readToken_133 rfl ?_
                  refine aw_iconst 137 dX4_readToken_136 rfl ?_
                  refine aw_iadd 138 dX4_readToken_137 rfl ?_
                  refine aw_put 141 ci4 16 (by decide) q2047 (Or.inl rfl) rfl rfl rfl (Nat.le_of_ble_eq_true rfl) (mh_obj _ _) dX4_readToken_138 rfl ?_
                  refine aw_h (mhp_16 _ _ _) ?_
                  exact aw_xv (by unfold k_tk; rw [if_neg (by omega), if_neg (by assumption), if_neg (by assumption)]; first | rw [if_pos (by assumption)]; rfl | rw [if_neg (by assumption), if_pos (by assumption)]; rfl | rw [if_neg (by assumption), if_neg (by assumption)]; rfl) rfl dX4_readToken_141
              · refine aw_iconst 107 dX4_readToken_106 rfl ?_
                refine aw_goto 128 dX4_readToken_107 rfl ?_
                refine aw_put 131 ci4 18 (by decide) q2049 (Or.inl rfl) rfl rfl rfl (Nat.le_of_ble_eq_true rfl) (mh_obj _ _) dX4_readToken_128 rfl ?_
                refine aw_h (mhp_18 _ _ _) ?_
                refine aw_aload_n 132 dX4_readToken_131 rfl rfl ?_
                refine aw_dup 133 dX4_readToken_132 rfl rfl ?_
                refine aw_get 136 ci4 16 (by decide) q2047 (Or.inl rfl) (rdl (mh_obj _ _)) rfl dX4_readToken_133 rfl ?_
                refine aw_iconst 137 dX4_readToken_136 rfl ?_
                refine aw_iadd 138 dX4_readToken_137 rfl ?_
                refine aw_put 141 ci4 16 (by decide) q2047 (Or.inl rfl) rfl rfl rfl (Nat.le_of_ble_eq_true rfl) (mh_obj _ _) dX4_readToken_138 rfl ?_
                refine aw_h (mhp_16 _ _ _) ?_
                exact aw_xv (by unfold k_tk; rw [if_neg (by omega), if_neg (by assumption), if_neg (by assumption)]; first | rw [if_pos (by assumption)]; rfl | rw [if_neg (by assumption), if_pos (by assumption)]; rfl | rw [if_neg (by assumption), if_neg (by assumption)]; rfl) rfl dX4_readToken_141
            · refine aw_aload_n 88 dX4_readToken_87 rfl rfl ?_
              refine aw_xVv 91 (m_readNumber hC _ (by assumption)) mvX4_readNumber q2196 (rdl (mh_obj _ _)) rfl rfl rfl (by decide) (by decide) (Nat.le_refl _) (Nat.le_refl _) rfl (Nat.le_of_ble_eq_true rfl) dX4_readToken_88 rfl ?_
              exact aw_xv (by unfold k_tk; rw [if_neg (by omega), if_neg (by assumption), if_pos (by assumption)]) rfl dX4_readToken_91
          · refine aw_aload_n 72 dX4_readToken_71 rfl rfl ?_
            refine aw_xVv 75 (m_readWord hC _ (by assumption)) mvX4_readWord q2186 (rdl (mh_obj _ _)) rfl rfl rfl (by decide) (by decide) (Nat.le_refl _) (Nat.le_refl _) rfl (Nat.le_of_ble_eq_true rfl) dX4_readToken_72 rfl ?_
            exact aw_xv (by unfold k_tk; rw [if_neg (by omega), if_pos (by assumption)]) rfl dX4_readToken_75
        · refine aw_aload_n 55 dX4_readToken_54 rfl rfl ?_
          refine aw_iconst 56 dX4_readToken_55 rfl ?_
          refine aw_put 59 ci4 18 (by decide) q2049 (Or.inl rfl) rfl rfl rfl (Nat.le_of_ble_eq_true rfl) (mh_obj _ _) dX4_readToken_56 rfl ?_
          refine aw_h (mhp_18 _ _ _) ?_
          exact aw_xv (by unfold k_tk; rw [if_pos (by omega)]) rfl dX4_readToken_59
def k_readToken (σ : MSt) : MSt := k_tk (k_sk 601 σ)
theorem m_readToken {l : Launch} {g : AG} {C : MCx} (hC : MOK C) (σ : MSt) (ht : mTx σ) : AMx l g miX4_readToken 13 [.ref C.1] (mh C σ) none (mh C (k_readToken σ)) := by
  refine aw_start 0 (by decide) rfl (Nat.le_of_ble_eq_true rfl) ?_
  exact l_readToken hC 601 σ ht (by have := ht.1; have := ht.2.1; omega)
