/-! CameraMovesModel: the small methods -/
set_option maxRecDepth 100000
theorem i2l_ok {a : Int} (ha : Rg a) : (Int32.ofInt a).toInt64 = Int64.ofInt a := by
  apply Int64.toInt_inj.mp
  rw [Int32.toInt_toInt64, i_to ha, j_to (by omega)]
theorem m_thrown {l : Launch} {g : AG} {C : MCx} (hC : MOK C) (σ : MSt)  : AMx l g miX4_thrown 10 [.ref C.1] (mh C σ) (some (iv (σ.1 0))) (mh C σ) := by
  refine aw_start 0 (by decide) rfl (Nat.le_of_ble_eq_true rfl) ?_
  show AWc l g miX4_thrown 10 0 0 _ _ 0 0 (mh C σ) 0 [some (.ref C.1)] []
  refine aw_aload_n 1 dX4_thrown_0 rfl rfl ?_
  refine aw_get 4 ci4 0 (by decide) q2031 (Or.inl rfl) (rdl (mh_obj _ _)) rfl dX4_thrown_1 rfl ?_
  exact aw_xi (by rfl) (rfl) rfl dX4_thrown_4
theorem m_fails {l : Launch} {g : AG} {C : MCx} (hC : MOK C) (σ : MSt) (w : Int) : AMx l g miX4_fails 10 [.ref C.1, iv w] (mh C σ) (some (iv 0)) (mh C (sF σ 0 w)) := by
  refine aw_start 0 (by decide) rfl (Nat.le_of_ble_eq_true rfl) ?_
  show AWc l g miX4_fails 10 0 0 _ _ 0 0 (mh C σ) 0 [some (.ref C.1), some (iv w)] []
  refine aw_aload_n 1 dX4_fails_0 rfl rfl ?_
  refine aw_iload_n 2 dX4_fails_1 rfl rfl ?_
  refine aw_put 5 ci4 0 (by decide) q2031 (Or.inl rfl) rfl rfl rfl (Nat.le_of_ble_eq_true rfl) (mh_obj _ _) dX4_fails_2 rfl ?_
  refine aw_h (mhp_0 _ _ _) ?_
  refine aw_iconst 6 dX4_fails_5 rfl ?_
  exact aw_xi (by rfl) (rfl) rfl dX4_fails_6
theorem m_isIn {l : Launch} {g : AG} {h : AH} (v lo hi : Int) (hv : Rg v) (h1 : Rg lo) (h2 : Rg hi): AMx l g miX4_isIn 10 [iv v, iv lo, iv hi] h (some (iv (bI (lo ≤ v ∧ v ≤ hi)))) h := by
  refine aw_start 0 (by decide) rfl (Nat.le_of_ble_eq_true rfl) ?_
  show AWc l g miX4_isIn 10 0 0 _ _ 0 0 h 0 [some (iv v), some (iv lo), some (iv hi)] []
  refine aw_iload_n 1 dX4_isIn_0 rfl rfl ?_
  refine aw_iload_n 2 dX4_isIn_1 rfl rfl ?_
  refine aw_icmp_lt 14 5 (by omega) dX4_isIn_2 rfl rfl (fun c_2 => ?_) (fun c_2 => ?_)
  · refine aw_iconst 15 dX4_isIn_14 rfl ?_
    exact aw_xz0 (by omega) (rfl) rfl dX4_isIn_15
  · refine aw_iload_n 6 dX4_isIn_5 rfl rfl ?_
    refine aw_iload_n 7 dX4_isIn_6 rfl rfl ?_
    refine aw_icmp_gt 14 10 (by omega) dX4_isIn_7 rfl rfl (fun c_7 => ?_) (fun c_7 => ?_)
    · refine aw_iconst 15 dX4_isIn_14 rfl ?_
      exact aw_xz0 (by omega) (rfl) rfl dX4_isIn_15
    · refine aw_iconst 11 dX4_isIn_10 rfl ?_
      refine aw_goto 15 dX4_isIn_11 rfl ?_
      exact aw_xz1 (by omega) (rfl) rfl dX4_isIn_15
theorem m_plain {l : Launch} {g : AG} {h : AH} (v : Int) (hv : Rg v): AMx l g miX4_plain 10 [iv v] h (some (iv (v.natAbs : Int))) h := by
  refine aw_start 0 (by decide) rfl (Nat.le_of_ble_eq_true rfl) ?_
  show AWc l g miX4_plain 10 0 0 _ _ 0 0 h 0 [some (iv v)] []
  refine aw_iload_n 1 dX4_plain_0 rfl rfl ?_
  refine aw_if_ge 9 4 (by omega) dX4_plain_1 rfl rfl (fun c_1 => ?_) (fun c_1 => ?_)
  · refine aw_iload_n 10 dX4_plain_9 rfl rfl ?_
    exact aw_xi (by omega) (rfl) rfl dX4_plain_10
  · refine aw_iload_n 5 dX4_plain_4 rfl rfl ?_
    refine aw_ineg 6 dX4_plain_5 rfl ?_
    refine aw_goto 10 dX4_plain_6 rfl ?_
    exact aw_xi (by omega) (rfl) rfl dX4_plain_10
theorem m_get {l : Launch} {g : AG} {C : MCx} (hC : MOK C) (σ : MSt) (k : Int) (hk : 0 ≤ σ.1 2 + k ∧ σ.1 2 + k < 2232): AMx l g miX4_get 10 [.ref C.1, iv k] (mh C σ) (some (iv (σ.2 1 (σ.1 2 + k).toNat))) (mh C σ) := by
  refine aw_start 0 (by decide) rfl (Nat.le_of_ble_eq_true rfl) ?_
  show AWc l g miX4_get 10 0 0 _ _ 0 0 (mh C σ) 0 [some (.ref C.1), some (iv k)] []
  refine aw_aload_n 1 dX4_get_0 rfl rfl ?_
  refine aw_get 4 ci4 1 (by decide) q2032 (Or.inl rfl) (rdl (mh_obj _ _)) rfl dX4_get_1 rfl ?_
  refine aw_aload_n 5 dX4_get_4 rfl rfl ?_
  refine aw_get 8 ci4 2 (by decide) q2033 (Or.inl rfl) (rdl (mh_obj _ _)) rfl dX4_get_5 rfl ?_
  refine aw_iload_n 9 dX4_get_8 rfl rfl ?_
  refine aw_iadd 10 dX4_get_9 rfl ?_
  refine aw_iald 11 (rdl (mh_1 hC _)) (by omega) dX4_get_10 rfl (by decide) ?_
  exact aw_xi (by rfl) (rfl) rfl dX4_get_11
theorem m_set {l : Launch} {g : AG} {C : MCx} (hC : MOK C) (σ : MSt) (k v : Int) (hk : 0 ≤ σ.1 2 + k ∧ σ.1 2 + k < 2232): AMx l g miX4_set 10 [.ref C.1, iv k, iv v] (mh C σ) (none) (mh C (sR σ 1 (va_up (σ.2 1) (σ.1 2 + k).toNat v))) := by
  refine aw_start 0 (by decide) rfl (Nat.le_of_ble_eq_true rfl) ?_
  show AWc l g miX4_set 10 0 0 _ _ 0 0 (mh C σ) 0 [some (.ref C.1), some (iv k), some (iv v)] []
  refine aw_aload_n 1 dX4_set_0 rfl rfl ?_
  refine aw_get 4 ci4 1 (by decide) q2032 (Or.inl rfl) (rdl (mh_obj _ _)) rfl dX4_set_1 rfl ?_
  refine aw_aload_n 5 dX4_set_4 rfl rfl ?_
  refine aw_get 8 ci4 2 (by decide) q2033 (Or.inl rfl) (rdl (mh_obj _ _)) rfl dX4_set_5 rfl ?_
  refine aw_iload_n 9 dX4_set_8 rfl rfl ?_
  refine aw_iadd 10 dX4_set_9 rfl ?_
  refine aw_iload_n 11 dX4_set_10 rfl rfl ?_
  refine aw_iast 12 (mh_1 hC _) (by omega) dX4_set_11 rfl (by decide) ?_
  refine aw_h (mhs_1 hC _ _) ?_
  exact aw_xv (rfl) rfl dX4_set_12
/-- what all methods keep: where the row begins that is looked at -/
def mAt (σ : MSt) : Prop := σ.1 2 = 0 ∨ σ.1 2 = 186
/-- a place of the row that is looked at -/
def rw_ (σ : MSt) (k : Int) : Int := if 0 ≤ k ∧ k < 186 then σ.2 1 (σ.1 2 + k).toNat else 0
theorem m_cueMany {l : Launch} {g : AG} {C : MCx} (hC : MOK C) (σ : MSt)  (ha : mAt σ): AMx l g miX4_cueMany 11 [.ref C.1] (mh C σ) (some (iv (rw_ σ 8))) (mh C σ) := by
  refine aw_start 0 (by decide) rfl (Nat.le_of_ble_eq_true rfl) ?_
  show AWc l g miX4_cueMany 11 0 0 _ _ 0 0 (mh C σ) 0 [some (.ref C.1)] []
  have ha' : σ.1 2 = 0 ∨ σ.1 2 = 186 := ha
  refine aw_aload_n 1 dX4_cueMany_0 rfl rfl ?_
  refine aw_bipush 3 dX4_cueMany_1 rfl (by decide) ?_
  refine aw_xV 6 (m_get hC _ _ (by omega)) mvX4_get q2263 (rdl (mh_obj _ _)) rfl rfl rfl (by decide) (by decide) (Nat.le_refl _) (Nat.le_refl _) rfl (Nat.le_of_ble_eq_true rfl) dX4_cueMany_3 rfl ?_
  exact aw_xi (by exact (if_pos (by decide)).symm) (rfl) rfl dX4_cueMany_6
theorem m_of {l : Launch} {g : AG} {C : MCx} (hC : MOK C) (σ : MSt) (c w : Int) (ha : mAt σ) (hc : 0 ≤ c ∧ c < 20) (hw : 0 ≤ w ∧ w < 7): AMx l g miX4_of 11 [.ref C.1, iv c, iv w] (mh C σ) (some (iv (rw_ σ (9 + 7 * c + w)))) (mh C σ) := by
  refine aw_start 0 (by decide) rfl (Nat.le_of_ble_eq_true rfl) ?_
  show AWc l g miX4_of 11 0 0 _ _ 0 0 (mh C σ) 0 [some (.ref C.1), some (iv c), some (iv w)] []
  have ha' : σ.1 2 = 0 ∨ σ.1 2 = 186 := ha
  refine aw_aload_n 1 dX4_of_0 rfl rfl ?_
  refine aw_bipush 3 dX4_of_1 rfl (by decide) ?_
  refine aw_bipush 5 dX4_of_3 rfl (by decide) ?_
  refine aw_iload_n 6 dX4_of_5 rfl rfl ?_
  refine aw_imul 7 dX4_of_6 rfl ?_
  refine aw_iadd 8 dX4_of_7 rfl ?_
  refine aw_iload_n 9 dX4_of_8 rfl rfl ?_
  refine aw_iadd 10 dX4_of_9 rfl ?_
  refine aw_xV 13 (m_get hC _ _ (by omega)) mvX4_get q2263 (rdl (mh_obj _ _)) rfl rfl rfl (by decide) (by decide) (Nat.le_refl _) (Nat.le_refl _) rfl (Nat.le_of_ble_eq_true rfl) dX4_of_10 rfl ?_
  exact aw_xi (by exact (if_pos (by omega)).symm) (rfl) rfl dX4_of_13
theorem m_setOf {l : Launch} {g : AG} {C : MCx} (hC : MOK C) (σ : MSt) (c w v : Int) (ha : mAt σ) (hc : 0 ≤ c ∧ c < 20) (hw : 0 ≤ w ∧ w < 7): AMx l g miX4_setOf 11 [.ref C.1, iv c, iv w, iv v] (mh C σ) (none) (mh C (sR σ 1 (va_up (σ.2 1) (σ.1 2 + (9 + 7 * c + w)).toNat v))) := by
  refine aw_start 0 (by decide) rfl (Nat.le_of_ble_eq_true rfl) ?_
  show AWc l g miX4_setOf 11 0 0 _ _ 0 0 (mh C σ) 0 [some (.ref C.1), some (iv c), some (iv w), some (iv v)] []
  have ha' : σ.1 2 = 0 ∨ σ.1 2 = 186 := ha
  refine aw_aload_n 1 dX4_setOf_0 rfl rfl ?_
  refine aw_bipush 3 dX4_setOf_1 rfl (by decide) ?_
  refine aw_bipush 5 dX4_setOf_3 rfl (by decide) ?_
  refine aw_iload_n 6 dX4_setOf_5 rfl rfl ?_
  refine aw_imul 7 dX4_setOf_6 rfl ?_
  refine aw_iadd 8 dX4_setOf_7 rfl ?_
  refine aw_iload_n 9 dX4_setOf_8 rfl rfl ?_
  refine aw_iadd 10 dX4_setOf_9 rfl ?_
  refine aw_iload_n 11 dX4_setOf_10 rfl rfl ?_
  refine aw_xVv 14 (m_set hC _ _ _ (by omega)) mvX4_set q2547 (rdl (mh_obj _ _)) rfl rfl rfl (by decide) (by decide) (Nat.le_refl _) (Nat.le_refl _) rfl (Nat.le_of_ble_eq_true rfl) dX4_setOf_11 rfl ?_
  exact aw_xv (rfl) rfl dX4_setOf_14
theorem m_wallOf {l : Launch} {g : AG} {C : MCx} (hC : MOK C) (σ : MSt) (c w : Int) (ha : mAt σ) (hc : 0 ≤ c ∧ c < 6) (hw : 0 ≤ w ∧ w < 6): AMx l g miX4_wallOf 11 [.ref C.1, iv c, iv w] (mh C σ) (some (iv (rw_ σ (150 + 6 * c + w)))) (mh C σ) := by
  refine aw_start 0 (by decide) rfl (Nat.le_of_ble_eq_true rfl) ?_
  show AWc l g miX4_wallOf 11 0 0 _ _ 0 0 (mh C σ) 0 [some (.ref C.1), some (iv c), some (iv w)] []
  have ha' : σ.1 2 = 0 ∨ σ.1 2 = 186 := ha
  refine aw_aload_n 1 dX4_wallOf_0 rfl rfl ?_
  refine aw_sipush 4 dX4_wallOf_1 rfl (by decide) ?_
  refine aw_bipush 6 dX4_wallOf_4 rfl (by decide) ?_
  refine aw_iload_n 7 dX4_wallOf_6 rfl rfl ?_
  refine aw_imul 8 dX4_wallOf_7 rfl ?_
  refine aw_iadd 9 dX4_wallOf_8 rfl ?_
  refine aw_iload_n 10 dX4_wallOf_9 rfl rfl ?_
  refine aw_iadd 11 dX4_wallOf_10 rfl ?_
  refine aw_xV 14 (m_get hC _ _ (by omega)) mvX4_get q2263 (rdl (mh_obj _ _)) rfl rfl rfl (by decide) (by decide) (Nat.le_refl _) (Nat.le_refl _) rfl (Nat.le_of_ble_eq_true rfl) dX4_wallOf_11 rfl ?_
  exact aw_xi (by exact (if_pos (by omega)).symm) (rfl) rfl dX4_wallOf_14
