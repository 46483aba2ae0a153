/-! CameraMovesModel: what was told -/
set_option maxRecDepth 100000
theorem m_errorOffset {l : Launch} {g : AG} {C : MCx} (hC : MOK C) (σ : MSt)  : AMx l g miX4_errorOffset 11 [.ref C.1] (mh C σ) (some (iv (σ.1 12))) (mh C (sF σ 0 0)) := by
  refine aw_start 0 (by decide) rfl (Nat.le_of_ble_eq_true rfl) ?_
  show AWc l g miX4_errorOffset 11 0 0 _ _ 0 0 (mh C σ) 0 [some (.ref C.1)] []
  refine aw_aload_n 1 dX4_errorOffset_0 rfl rfl ?_
  refine aw_iconst 2 dX4_errorOffset_1 rfl ?_
  refine aw_put 5 ci4 0 (by decide) q2031 (Or.inl rfl) rfl rfl rfl (Nat.le_of_ble_eq_true rfl) (mh_obj _ _) dX4_errorOffset_2 rfl ?_
  refine aw_h (mhp_0 _ _ _) ?_
  refine aw_aload_n 6 dX4_errorOffset_5 rfl rfl ?_
  refine aw_get 9 ci4 12 (by decide) q2043 (Or.inl rfl) (rdl (mh_obj _ _)) rfl dX4_errorOffset_6 rfl ?_
  exact aw_xi (by rfl) (rfl) rfl dX4_errorOffset_9
/-- thrown and answered -/
def o_count (w : Int) (σ : MSt) : Int × Int := if 0 ≤ w ∧ w ≤ 3 then (0, if w = 0 then σ.1 5 else if w = 1 then r_nC (rw_ σ) else if w = 2 then r_nW (rw_ σ) else σ.1 8) else (1, 0)
theorem m_count {l : Launch} {g : AG} {C : MCx} (hC : MOK C) (σ : MSt) (w : Int) (hr : mR σ) (hw : Rg w): AMx l g miX4_count 13 [.ref C.1, iv w] (mh C σ) (some (iv (o_count w (sF σ 0 0)).2)) (mh C (sF (sF σ 0 0) 0 (o_count w (sF σ 0 0)).1)) := by
  refine aw_start 0 (by decide) rfl (Nat.le_of_ble_eq_true rfl) ?_
  show AWc l g miX4_count 13 0 0 _ _ 0 0 (mh C σ) 0 [some (.ref C.1), some (iv w)] []
  have h0 : (sF σ 0 0).1 0 = 0 := rfl
  have hr : mR (sF σ 0 0) := hr
  refine aw_aload_n 1 dX4_count_0 rfl rfl ?_
  refine aw_iconst 2 dX4_count_1 rfl ?_
  refine aw_put 5 ci4 0 (by decide) q2031 (Or.inl rfl) rfl rfl rfl (Nat.le_of_ble_eq_true rfl) (mh_obj _ _) dX4_count_2 rfl ?_
  refine aw_h (mhp_0 _ _ _) ?_
  generalize sF σ 0 0 = σ at h0 hr ⊢
  refine aw_iload_n 6 dX4_count_5 rfl rfl ?_
  refine aw_iconst 7 dX4_count_6 rfl ?_
  refine aw_iconst 8 dX4_count_7 rfl ?_
  refine aw_xS 11 (m_isIn _ _ _ (by omega) (by omega) (by omega)) msX4_isIn q2163 rfl (by decide) (by decide) (Nat.le_refl _) (Nat.le_refl _) rfl (Nat.le_of_ble_eq_true rfl) dX4_count_8 rfl ?_
  refine aw_if_neB 20 14 dX4_count_11 rfl rfl (fun c_11 => ?_) (fun c_11 => ?_)
  · refine aw_iload_n 21 dX4_count_20 rfl rfl ?_
    refine aw_if_ne 31 24 (by omega) dX4_count_21 rfl rfl (fun c_21 => ?_) (fun c_21 => ?_)
    · refine aw_iload_n 32 dX4_count_31 rfl rfl ?_
      refine aw_iconst 33 dX4_count_32 rfl ?_
      refine aw_icmp_ne 43 36 (by omega) dX4_count_33 rfl rfl (fun c_33 => ?_) (fun c_33 => ?_)
      · refine aw_iload_n 44 dX4_count_43 rfl rfl ?_
        refine aw_iconst 45 dX4_count_44 rfl ?_
        refine aw_icmp_ne 58 48 (by omega) dX4_count_45 rfl rfl (fun c_45 => ?_) (fun c_45 => ?_)
        · refine aw_aload_n 59 dX4_count_58 rfl rfl ?_
          refine aw_get 62 ci4 8 (by decide) q2039 (Or.inl rfl) (rdl (mh_obj _ _)) rfl dX4_count_59 rfl ?_
          exact aw_xi (by unfold o_count; (repeat' split) <;> first | rfl | omega | (exfalso; first | contradiction | omega)) (by unfold o_count; (repeat' split) <;> first | rfl | (exact congrArg (mh C) (sF_id h0).symm) | (rw [sF_sF]) | (exfalso; first | contradiction | omega)) rfl dX4_count_62
        · refine aw_aload_n 49 dX4_count_48 rfl rfl ?_
          refine aw_sipush 52 dX4_count_49 rfl (by decide) ?_
          refine aw_xV 55 (m_getW hC _ hr.1) mvX4_get q2263 (rdl (mh_obj _ _)) rfl rfl rfl (by decide) (by decide) (Nat.le_refl _) (Nat.le_refl _) rfl (Nat.le_of_ble_eq_true rfl) dX4_count_52 rfl ?_
          refine aw_goto 62 dX4_count_55 rfl ?_
          exact aw_xi (by unfold o_count; (repeat' split) <;> first | rfl | omega | (exfalso; first | contradiction | omega)) (by unfold o_count; (repeat' split) <;> first | rfl | (exact congrArg (mh C) (sF_id h0).symm) | (rw [sF_sF]) | (exfalso; first | contradiction | omega)) rfl dX4_count_62
      · refine aw_aload_n 37 dX4_count_36 rfl rfl ?_
        refine aw_xV 40 (m_nC hC _ hr.1) mvX4_cueMany q2259 (rdl (mh_obj _ _)) rfl rfl rfl (by decide) (by decide) (Nat.le_refl _) (Nat.le_refl _) rfl (Nat.le_of_ble_eq_true rfl) dX4_count_37 rfl ?_
        refine aw_goto 62 dX4_count_40 rfl ?_
        exact aw_xi (by unfold o_count; (repeat' split) <;> first | rfl | omega | (exfalso; first | contradiction | omega)) (by unfold o_count; (repeat' split) <;> first | rfl | (exact congrArg (mh C) (sF_id h0).symm) | (rw [sF_sF]) | (exfalso; first | contradiction | omega)) rfl dX4_count_62
    · refine aw_aload_n 25 dX4_count_24 rfl rfl ?_
      refine aw_get 28 ci4 5 (by decide) q2036 (Or.inl rfl) (rdl (mh_obj _ _)) rfl dX4_count_25 rfl ?_
      refine aw_goto 62 dX4_count_28 rfl ?_
      exact aw_xi (by unfold o_count; (repeat' split) <;> first | rfl | omega | (exfalso; first | contradiction | omega)) (by unfold o_count; (repeat' split) <;> first | rfl | (exact congrArg (mh C) (sF_id h0).symm) | (rw [sF_sF]) | (exfalso; first | contradiction | omega)) rfl dX4_count_62
  · refine aw_aload_n 15 dX4_count_14 rfl rfl ?_
    refine aw_iconst 16 dX4_count_15 rfl ?_
    refine aw_xV 19 (m_fails hC _ _) mvX4_fails q2151 (rdl (mh_obj _ _)) rfl rfl rfl (by decide) (by decide) (Nat.le_refl _) (Nat.le_refl _) rfl (Nat.le_of_ble_eq_true rfl) dX4_count_16 rfl ?_
    exact aw_xi (by unfold o_count; (repeat' split) <;> first | rfl | omega | (exfalso; first | contradiction | omega)) (by unfold o_count; (repeat' split) <;> first | rfl | (exact congrArg (mh C) (sF_id h0).symm) | (rw [sF_sF]) | (exfalso; first | contradiction | omega)) rfl dX4_count_19
def o_limit (a w : Int) (σ : MSt) : Int × Int := if isAx σ a then (if w = 0 then (0, σ.2 7 (3 * a).toNat) else if w = 1 then (0, σ.2 7 (3 * a + 1).toNat) else if w = 2 then (0, r_sp (rw_ σ) a) else if w = 3 then (0, r_rp (rw_ σ) a) else if w = 4 then (0, σ.2 7 (3 * a + 2).toNat) else (2, 0)) else (1, 0)
theorem m_limit {l : Launch} {g : AG} {C : MCx} (hC : MOK C) (σ : MSt) (a w : Int) (hr : mR σ) (ha : Rg a) (hw : Rg w): AMx l g miX4_limit 13 [.ref C.1, iv a, iv w] (mh C σ) (some (iv (o_limit a w (sF σ 0 0)).2)) (mh C (sF (sF σ 0 0) 0 (o_limit a w (sF σ 0 0)).1)) := by
  refine aw_start 0 (by decide) rfl (Nat.le_of_ble_eq_true rfl) ?_
  show AWc l g miX4_limit 13 0 0 _ _ 0 0 (mh C σ) 0 [some (.ref C.1), some (iv a), some (iv w)] []
  have h0 : (sF σ 0 0).1 0 = 0 := rfl
  have hr : mR (sF σ 0 0) := hr
  refine aw_aload_n 1 dX4_limit_0 rfl rfl ?_
  refine aw_iconst 2 dX4_limit_1 rfl ?_
  refine aw_put 5 ci4 0 (by decide) q2031 (Or.inl rfl) rfl rfl rfl (Nat.le_of_ble_eq_true rfl) (mh_obj _ _) dX4_limit_2 rfl ?_
  refine aw_h (mhp_0 _ _ _) ?_
  generalize sF σ 0 0 = σ at h0 hr ⊢
  have h5 := hr.2.1
  refine aw_aload_n 6 dX4_limit_5 rfl rfl ?_
  refine aw_iload_n 7 dX4_limit_6 rfl rfl ?_
  refine aw_xV 10 (m_isAxis hC _ _ (by omega) (by omega)) mvX4_isAxis q2279 (rdl (mh_obj _ _)) rfl rfl rfl (by decide) (by decide) (Nat.le_refl _) (Nat.le_refl _) rfl (Nat.le_of_ble_eq_true rfl) dX4_limit_7 rfl ?_
  refine aw_if_neB 19 13 dX4_limit_10 rfl rfl (fun c_10 => ?_) (fun c_10 => ?_)
  · refine aw_iload_n 20 dX4_limit_19 rfl rfl ?_
    rcases (by omega : w = 0 ∨ w = 1 ∨ w = 2 ∨ w = 3 ∨ w = 4 ∨ w < 0 ∨ 4 < w) with w_20 | w_20 | w_20 | w_20 | w_20 | w_20
    · refine aw_tableIn 56 (by omega) (by omega) (by omega) (by rw [w_20]; rfl) dX4_limit_20 rfl ?_
      refine aw_aload_n 57 dX4_limit_56 rfl rfl ?_
      refine aw_iload_n 58 dX4_limit_57 rfl rfl ?_
      refine aw_xV 61 (m_low hC _ _ (by omega)) mvX4_low q2283 (rdl (mh_obj _ _)) rfl rfl rfl (by decide) (by decide) (Nat.le_refl _) (Nat.le_refl _) rfl (Nat.le_of_ble_eq_true rfl) dX4_limit_58 rfl ?_
      exact aw_xi (by unfold o_limit; (repeat' split) <;> first | rfl | omega | (exfalso; first | contradiction | omega)) (by unfold o_limit; (repeat' split) <;> first | rfl | (exact congrArg (mh C) (sF_id h0).symm) | (rw [sF_sF]) | (exfalso; first | contradiction | omega)) rfl dX4_limit_61
    · refine aw_tableIn 62 (by omega) (by omega) (by omega) (by rw [w_20]; rfl) dX4_limit_20 rfl ?_
      refine aw_aload_n 63 dX4_limit_62 rfl rfl ?_
      refine aw_iload_n 64 dX4_limit_63 rfl rfl ?_
      refine aw_xV 67 (m_high hC _ _ (by omega)) mvX4_high q2287 (rdl (mh_obj _ _)) rfl rfl rfl (by decide) (by decide) (Nat.le_refl _) (Nat.le_refl _) rfl (Nat.le_of_ble_eq_true rfl) dX4_limit_64 rfl ?_
      exact aw_xi (by unfold o_limit; (repeat' split) <;> first | rfl | omega | (exfalso; first | contradiction | omega)) (by unfold o_limit; (repeat' split) <;> first | rfl | (exact congrArg (mh C) (sF_id h0).symm) | (rw [sF_sF]) | (exfalso; first | contradiction | omega)) rfl dX4_limit_67
    · refine aw_tableIn 68 (by omega) (by omega) (by omega) (by rw [w_20]; rfl) dX4_limit_20 rfl ?_
      refine aw_aload_n 69 dX4_limit_68 rfl rfl ?_
      refine aw_iconst 70 dX4_limit_69 rfl ?_
      refine aw_iload_n 71 dX4_limit_70 rfl rfl ?_
      refine aw_iadd 72 dX4_limit_71 rfl ?_
      refine aw_xV 75 (m_getS hC _ _ hr.1 (by omega)) mvX4_get q2263 (rdl (mh_obj _ _)) rfl rfl rfl (by decide) (by decide) (Nat.le_refl _) (Nat.le_refl _) rfl (Nat.le_of_ble_eq_true rfl) dX4_limit_72 rfl ?_
      exact aw_xi (by unfold o_limit; (repeat' split) <;> first | rfl | omega | (exfalso; first | contradiction | omega)) (by unfold o_limit; (repeat' split) <;> first | rfl | (exact congrArg (mh C) (sF_id h0).symm) | (rw [sF_sF]) | (exfalso; first | contradiction | omega)) rfl dX4_limit_75
    · refine aw_tableIn 76 (by omega) (by omega) (by omega) (by rw [w_20]; rfl) dX4_limit_20 rfl ?_
      refine aw_aload_n 77 dX4_limit_76 rfl rfl ?_
      refine aw_iconst 78 dX4_limit_77 rfl ?_
      refine aw_iload_n 79 dX4_limit_78 rfl rfl ?_
      refine aw_iadd 80 dX4_limit_79 rfl ?_
      refine aw_xV 83 (m_getR hC _ _ hr.1 (by omega)) mvX4_get q2263 (rdl (mh_obj _ _)) rfl rfl rfl (by decide) (by decide) (Nat.le_refl _) (Nat.le_refl _) rfl (Nat.le_of_ble_eq_true rfl) dX4_limit_80 rfl ?_
      exact aw_xi (by unfold o_limit; (repeat' split) <;> first | rfl | omega | (exfalso; first | contradiction | omega)) (by unfold o_limit; (repeat' split) <;> first | rfl | (exact congrArg (mh C) (sF_id h0).symm) | (rw [sF_sF]) | (exfalso; first | contradiction | omega)) rfl dX4_limit_83
    · refine aw_tableIn 84 (by omega) (by omega) (by omega) (by rw [w_20]; rfl) dX4_limit_20 rfl ?_
      refine aw_aload_n 85 dX4_limit_84 rfl rfl ?_
      refine aw_get 88 ci4 7 (by decide) q2038 (Or.inl rfl) (rdl (mh_obj _ _)) rfl dX4_limit_85 rfl ?_
      refine aw_iconst 89 dX4_limit_88 rfl ?_
      refine aw_iload_n 90 dX4_limit_89 rfl rfl ?_
      refine aw_imul 91 dX4_limit_90 rfl ?_
      refine aw_iconst 92 dX4_limit_91 rfl ?_
      refine aw_iadd 93 dX4_limit_92 rfl ?_
      refine aw_iald 94 (rdl (mh_7 hC _)) (by omega) dX4_limit_93 rfl (by decide) ?_
      exact aw_xi (by unfold o_limit; (repeat' split) <;> first | rfl | omega | (exfalso; first | contradiction | omega)) (by unfold o_limit; (repeat' split) <;> first | rfl | (exact congrArg (mh C) (sF_id h0).symm) | (rw [sF_sF]) | (exfalso; first | contradiction | omega)) rfl dX4_limit_94
    · refine aw_tableOut 95 (by omega) w_20 dX4_limit_20 rfl ?_
      refine aw_aload_n 96 dX4_limit_95 rfl rfl ?_
      refine aw_iconst 97 dX4_limit_96 rfl ?_
      refine aw_xV 100 (m_fails hC _ _) mvX4_fails q2151 (rdl (mh_obj _ _)) rfl rfl rfl (by decide) (by decide) (Nat.le_refl _) (Nat.le_refl _) rfl (Nat.le_of_ble_eq_true rfl) dX4_limit_97 rfl ?_
      exact aw_xi (by unfold o_limit; (repeat' split) <;> first | rfl | omega | (exfalso; first | contradiction | omega)) (by unfold o_limit; (repeat' split) <;> first | rfl | (exact congrArg (mh C) (sF_id h0).symm) | (rw [sF_sF]) | (exfalso; first | contradiction | omega)) rfl dX4_limit_100
  · refine aw_aload_n 14 dX4_limit_13 rfl rfl ?_
    refine aw_iconst 15 dX4_limit_14 rfl ?_
    refine aw_xV 18 (m_fails hC _ _) mvX4_fails q2151 (rdl (mh_obj _ _)) rfl rfl rfl (by decide) (by decide) (Nat.le_refl _) (Nat.le_refl _) rfl (Nat.le_of_ble_eq_true rfl) dX4_limit_15 rfl ?_
    exact aw_xi (by unfold o_limit; (repeat' split) <;> first | rfl | omega | (exfalso; first | contradiction | omega)) (by unfold o_limit; (repeat' split) <;> first | rfl | (exact congrArg (mh C) (sF_id h0).symm) | (rw [sF_sF]) | (exfalso; first | contradiction | omega)) rfl dX4_limit_18
def o_cueFrame (c : Int) (σ : MSt) : Int × Int := if isCu σ c then (0, r_fr (rw_ σ) c) else (1, 0)
theorem m_cueFrame {l : Launch} {g : AG} {C : MCx} (hC : MOK C) (σ : MSt) (c : Int) (hr : mR σ) (hc : Rg c): AMx l g miX4_cueFrame 13 [.ref C.1, iv c] (mh C σ) (some (iv (o_cueFrame c (sF σ 0 0)).2)) (mh C (sF (sF σ 0 0) 0 (o_cueFrame c (sF σ 0 0)).1)) := by
  refine aw_start 0 (by decide) rfl (Nat.le_of_ble_eq_true rfl) ?_
  show AWc l g miX4_cueFrame 13 0 0 _ _ 0 0 (mh C σ) 0 [some (.ref C.1), some (iv c)] []
  have h0 : (sF σ 0 0).1 0 = 0 := rfl
  have hr : mR (sF σ 0 0) := hr
  refine aw_aload_n 1 dX4_cueFrame_0 rfl rfl ?_
  refine aw_iconst 2 dX4_cueFrame_1 rfl ?_
  refine aw_put 5 ci4 0 (by decide) q2031 (Or.inl rfl) rfl rfl rfl (Nat.le_of_ble_eq_true rfl) (mh_obj _ _) dX4_cueFrame_2 rfl ?_
  refine aw_h (mhp_0 _ _ _) ?_
  generalize sF σ 0 0 = σ at h0 hr ⊢
  have n := hr.nC
  refine aw_aload_n 6 dX4_cueFrame_5 rfl rfl ?_
  refine aw_iload_n 7 dX4_cueFrame_6 rfl rfl ?_
  refine aw_xV 10 (m_isCue hC _ _ hr (by omega)) mvX4_isCue q2295 (rdl (mh_obj _ _)) rfl rfl rfl (by decide) (by decide) (Nat.le_refl _) (Nat.le_refl _) rfl (Nat.le_of_ble_eq_true rfl) dX4_cueFrame_7 rfl ?_
  refine aw_if_eqB 22 13 dX4_cueFrame_10 rfl rfl (fun c_10 => ?_) (fun c_10 => ?_)
  · refine aw_aload_n 23 dX4_cueFrame_22 rfl rfl ?_
    refine aw_iconst 24 dX4_cueFrame_23 rfl ?_
    refine aw_xV 27 (m_fails hC _ _) mvX4_fails q2151 (rdl (mh_obj _ _)) rfl rfl rfl (by decide) (by decide) (Nat.le_refl _) (Nat.le_refl _) rfl (Nat.le_of_ble_eq_true rfl) dX4_cueFrame_24 rfl ?_
    exact aw_xi (by unfold o_cueFrame; (repeat' split) <;> first | rfl | omega | (exfalso; first | contradiction | omega)) (by unfold o_cueFrame; (repeat' split) <;> first | rfl | (exact congrArg (mh C) (sF_id h0).symm) | (rw [sF_sF]) | (exfalso; first | contradiction | omega)) rfl dX4_cueFrame_27
  · refine aw_aload_n 14 dX4_cueFrame_13 rfl rfl ?_
    refine aw_iload_n 15 dX4_cueFrame_14 rfl rfl ?_
    refine aw_iconst 16 dX4_cueFrame_15 rfl ?_
    refine aw_xV 19 (m_of0 hC _ _ hr.1 (by omega)) mvX4_of q2299 (rdl (mh_obj _ _)) rfl rfl rfl (by decide) (by decide) (Nat.le_refl _) (Nat.le_refl _) rfl (Nat.le_of_ble_eq_true rfl) dX4_cueFrame_16 rfl ?_
    refine aw_goto 27 dX4_cueFrame_19 rfl ?_
    exact aw_xi (by unfold o_cueFrame; (repeat' split) <;> first | rfl | omega | (exfalso; first | contradiction | omega)) (by unfold o_cueFrame; (repeat' split) <;> first | rfl | (exact congrArg (mh C) (sF_id h0).symm) | (rw [sF_sF]) | (exfalso; first | contradiction | omega)) rfl dX4_cueFrame_27
def o_cueLength (c : Int) (σ : MSt) : Int × Int := if isCu σ c then (0, r_ln (rw_ σ) c) else (1, 0)
theorem m_cueLength {l : Launch} {g : AG} {C : MCx} (hC : MOK C) (σ : MSt) (c : Int) (hr : mR σ) (hc : Rg c): AMx l g miX4_cueLength 13 [.ref C.1, iv c] (mh C σ) (some (iv (o_cueLength c (sF σ 0 0)).2)) (mh C (sF (sF σ 0 0) 0 (o_cueLength c (sF σ 0 0)).1)) := by
  refine aw_start 0 (by decide) rfl (Nat.le_of_ble_eq_true rfl) ?_
  show AWc l g miX4_cueLength 13 0 0 _ _ 0 0 (mh C σ) 0 [some (.ref C.1), some (iv c)] []
  have h0 : (sF σ 0 0).1 0 = 0 := rfl
  have hr : mR (sF σ 0 0) := hr
  refine aw_aload_n 1 dX4_cueLength_0 rfl rfl ?_
  refine aw_iconst 2 dX4_cueLength_1 rfl ?_
  refine aw_put 5 ci4 0 (by decide) q2031 (Or.inl rfl) rfl rfl rfl (Nat.le_of_ble_eq_true rfl) (mh_obj _ _) dX4_cueLength_2 rfl ?_
  refine aw_h (mhp_0 _ _ _) ?_
  generalize sF σ 0 0 = σ at h0 hr ⊢
  have n := hr.nC
  refine aw_aload_n 6 dX4_cueLength_5 rfl rfl ?_
  refine aw_iload_n 7 dX4_cueLength_6 rfl rfl ?_
  refine aw_xV 10 (m_isCue hC _ _ hr (by omega)) mvX4_isCue q2295 (rdl (mh_obj _ _)) rfl rfl rfl (by decide) (by decide) (Nat.le_refl _) (Nat.le_refl _) rfl (Nat.le_of_ble_eq_true rfl) dX4_cueLength_7 rfl ?_
  refine aw_if_eqB 22 13 dX4_cueLength_10 rfl rfl (fun c_10 => ?_) (fun c_10 => ?_)
  · refine aw_aload_n 23 dX4_cueLength_22 rfl rfl ?_
    refine aw_iconst 24 dX4_cueLength_23 rfl ?_
    refine aw_xV 27 (m_fails hC _ _) mvX4_fails q2151 (rdl (mh_obj _ _)) rfl rfl rfl (by decide) (by decide) (Nat.le_refl _) (Nat.le_refl _) rfl (Nat.le_of_ble_eq_true rfl) dX4_cueLength_24 rfl ?_
    exact aw_xi (by unfold o_cueLength; (repeat' split) <;> first | rfl | omega | (exfalso; first | contradiction | omega)) (by unfold o_cueLength; (repeat' split) <;> first | rfl | (exact congrArg (mh C) (sF_id h0).symm) | (rw [sF_sF]) | (exfalso; first | contradiction | omega)) rfl dX4_cueLength_27
  · refine aw_aload_n 14 dX4_cueLength_13 rfl rfl ?_
    refine aw_iload_n 15 dX4_cueLength_14 rfl rfl ?_
    refine aw_iconst 16 dX4_cueLength_15 rfl ?_
    refine aw_xV 19 (m_of1 hC _ _ hr.1 (by omega)) mvX4_of q2299 (rdl (mh_obj _ _)) rfl rfl rfl (by decide) (by decide) (Nat.le_refl _) (Nat.le_refl _) rfl (Nat.le_of_ble_eq_true rfl) dX4_cueLength_16 rfl ?_
    refine aw_goto 27 dX4_cueLength_19 rfl ?_
    exact aw_xi (by unfold o_cueLength; (repeat' split) <;> first | rfl | omega | (exfalso; first | contradiction | omega)) (by unfold o_cueLength; (repeat' split) <;> first | rfl | (exact congrArg (mh C) (sF_id h0).symm) | (rw [sF_sF]) | (exfalso; first | contradiction | omega)) rfl dX4_cueLength_27
/-- what isTold leaves behind in thrown -/
def o_told (c a : Int) (σ : MSt) : Int := if isCu σ c ∧ isAx σ a then (if r_has (rw_ σ) c a then 0 else 2) else 1
theorem o_told_0 {c a : Int} {σ : MSt} (h : o_told c a σ = 0) : isCu σ c ∧ isAx σ a ∧ r_has (rw_ σ) c a := by
  unfold o_told at h
  split at h
  · next q =>
    split at h
    · next p => exact ⟨q.1, q.2, p⟩
    · omega
  · omega
theorem o_told_rg (c a : Int) (σ : MSt) : 0 ≤ o_told c a σ ∧ o_told c a σ ≤ 2 := by
  unfold o_told
  (repeat' split) <;> omega
theorem m_isTold {l : Launch} {g : AG} {C : MCx} (hC : MOK C) (σ : MSt) (c a : Int) (hr : mR σ) (hc : Rg c) (ha : Rg a): AMx l g miX4_isTold 13 [.ref C.1, iv c, iv a] (mh C σ) (some (iv (bI (o_told c a σ = 0)))) (mh C (sF σ 0 (o_told c a σ))) := by
  refine aw_start 0 (by decide) rfl (Nat.le_of_ble_eq_true rfl) ?_
  show AWc l g miX4_isTold 13 0 0 _ _ 0 0 (mh C σ) 0 [some (.ref C.1), some (iv c), some (iv a)] []
  have n := hr.nC
  have h5 := hr.2.1
  have ht := o_told_rg c a σ
  have htr : (sF σ 0 (o_told c a σ)).1 0 = o_told c a σ := rfl
  refine aw_aload_n 1 dX4_isTold_0 rfl rfl ?_
  refine aw_join (o_told c a σ) 35 ?_ (fun kz1 => ?_)
  · refine aw_put 38 ci4 0 (by decide) q2031 (Or.inl rfl) rfl rfl rfl (Nat.le_of_ble_eq_true rfl) (mh_obj _ _) dX4_isTold_35 rfl ?_
    refine aw_h (mhp_0 _ _ _) ?_
    refine aw_aload_n 39 dX4_isTold_38 rfl rfl ?_
    refine aw_get 42 ci4 0 (by decide) q2031 (Or.inl rfl) (rdl (mh_obj _ _)) rfl dX4_isTold_39 rfl ?_
    refine aw_if_ne 49 45 (by omega) dX4_isTold_42 rfl rfl (fun c_42 => ?_) (fun c_42 => ?_)
    · refine aw_iconst 50 dX4_isTold_49 rfl ?_
      exact aw_xz0 (by omega) (rfl) rfl dX4_isTold_50
    · refine aw_iconst 46 dX4_isTold_45 rfl ?_
      refine aw_goto 50 dX4_isTold_46 rfl ?_
      exact aw_xz1 (by omega) (rfl) rfl dX4_isTold_50
  · refine aw_aload_n 2 dX4_isTold_1 rfl rfl ?_
    refine aw_iload_n 3 dX4_isTold_2 rfl rfl ?_
    refine aw_xV 6 (m_isCue hC _ _ hr (by omega)) mvX4_isCue q2295 (rdl (mh_obj _ _)) rfl rfl rfl (by decide) (by decide) (Nat.le_refl _) (Nat.le_refl _) rfl (Nat.le_of_ble_eq_true rfl) dX4_isTold_3 rfl ?_
    refine aw_if_eqB 17 9 dX4_isTold_6 rfl rfl (fun c_6 => ?_) (fun c_6 => ?_)
    · refine aw_iconst 18 dX4_isTold_17 rfl ?_
      refine aw_goto 35 dX4_isTold_18 rfl ?_
      exact kz1 _ (by unfold o_told; (repeat' split) <;> first | rfl | omega | contradiction | (exfalso; first | contradiction | omega))
    · refine aw_aload_n 10 dX4_isTold_9 rfl rfl ?_
      refine aw_iload_n 11 dX4_isTold_10 rfl rfl ?_
      refine aw_xV 14 (m_isAxis hC _ _ (by omega) (by omega)) mvX4_isAxis q2279 (rdl (mh_obj _ _)) rfl rfl rfl (by decide) (by decide) (Nat.le_refl _) (Nat.le_refl _) rfl (Nat.le_of_ble_eq_true rfl) dX4_isTold_11 rfl ?_
      refine aw_if_neB 21 17 dX4_isTold_14 rfl rfl (fun c_14 => ?_) (fun c_14 => ?_)
      · refine aw_aload_n 22 dX4_isTold_21 rfl rfl ?_
        refine aw_iload_n 23 dX4_isTold_22 rfl rfl ?_
        refine aw_iload_n 24 dX4_isTold_23 rfl rfl ?_
        refine aw_xV 27 (m_has hC _ _ _ hr (by omega) (by omega)) mvX4_has q2315 (rdl (mh_obj _ _)) rfl rfl rfl (by decide) (by decide) (Nat.le_refl _) (Nat.le_refl _) rfl (Nat.le_of_ble_eq_true rfl) dX4_isTold_24 rfl ?_
        refine aw_if_eqB 34 30 dX4_isTold_27 rfl rfl (fun c_27 => ?_) (fun c_27 => ?_)
        · refine aw_iconst 35 dX4_isTold_34 rfl ?_
          exact kz1 _ (by unfold o_told; (repeat' split) <;> first | rfl | omega | contradiction | (exfalso; first | contradiction | omega))
        · refine aw_iconst 31 dX4_isTold_30 rfl ?_
          refine aw_goto 35 dX4_isTold_31 rfl ?_
          exact kz1 _ (by unfold o_told; (repeat' split) <;> first | rfl | omega | contradiction | (exfalso; first | contradiction | omega))
      · refine aw_iconst 18 dX4_isTold_17 rfl ?_
        refine aw_goto 35 dX4_isTold_18 rfl ?_
        exact kz1 _ (by unfold o_told; (repeat' split) <;> first | rfl | omega | contradiction | (exfalso; first | contradiction | omega))
def o_target (c a : Int) (σ : MSt) : Int × Int := (o_told c a σ, if o_told c a σ = 0 then r_tg (rw_ σ) c a else 0)
theorem m_target {l : Launch} {g : AG} {C : MCx} (hC : MOK C) (σ : MSt) (c a : Int) (hr : mR σ) (hc : Rg c) (ha : Rg a): AMx l g miX4_target 14 [.ref C.1, iv c, iv a] (mh C σ) (some (iv (o_target c a σ).2)) (mh C (sF σ 0 (o_target c a σ).1)) := by
  refine aw_start 0 (by decide) rfl (Nat.le_of_ble_eq_true rfl) ?_
  show AWc l g miX4_target 14 0 0 _ _ 0 0 (mh C σ) 0 [some (.ref C.1), some (iv c), some (iv a)] []
  have n := hr.nC
  have h5 := hr.2.1
  refine aw_aload_n 1 dX4_target_0 rfl rfl ?_
  refine aw_iload_n 2 dX4_target_1 rfl rfl ?_
  refine aw_iload_n 3 dX4_target_2 rfl rfl ?_
  refine aw_xV 6 (m_isTold hC _ _ _ hr (by omega) (by omega)) mvX4_isTold q2311 (rdl (mh_obj _ _)) rfl rfl rfl (by decide) (by decide) (Nat.le_refl _) (Nat.le_refl _) rfl (Nat.le_of_ble_eq_true rfl) dX4_target_3 rfl ?_
  refine aw_if_eqB 20 9 dX4_target_6 rfl rfl (fun c_6 => ?_) (fun c_6 => ?_)
  · refine aw_iconst 21 dX4_target_20 rfl ?_
    exact aw_xi (by show _ = (if o_told c a σ = 0 then _ else _); split <;> first | rfl | contradiction) (rfl) rfl dX4_target_21
  · obtain ⟨q1, q2, q3⟩ := o_told_0 c_6; have hr' : mR (sF σ 0 (o_told c a σ)) := hr
    refine aw_aload_n 10 dX4_target_9 rfl rfl ?_
    refine aw_iload_n 11 dX4_target_10 rfl rfl ?_
    refine aw_iconst 12 dX4_target_11 rfl ?_
    refine aw_iload_n 13 dX4_target_12 rfl rfl ?_
    refine aw_iadd 14 dX4_target_13 rfl ?_
    refine aw_xV 17 (m_of3 hC (sF σ 0 (o_told c a σ)) _ _ hr.1 (by omega) (by omega)) mvX4_of q2299 (rdl (mh_obj _ _)) rfl rfl rfl (by decide) (by decide) (Nat.le_refl _) (Nat.le_refl _) rfl (Nat.le_of_ble_eq_true rfl) dX4_target_14 rfl ?_
    refine aw_goto 21 dX4_target_17 rfl ?_
    exact aw_xi (by show _ = (if o_told c a σ = 0 then _ else _); split <;> first | rfl | contradiction) (rfl) rfl dX4_target_21
def o_leastFrames (a d : Int) (σ : MSt) : Int × Int := if isAx σ a then (if -19998 ≤ d ∧ d ≤ 19998 then (0, lst (r_sp (rw_ σ) a) (r_rp (rw_ σ) a) (ab d)) else (2, 0)) else (1, 0)
theorem m_leastFrames {l : Launch} {g : AG} {C : MCx} (hC : MOK C) (σ : MSt) (a d : Int) (hr : mR σ) (ha : Rg a) (hd : Rg d): AMx l g miX4_leastFrames 13 [.ref C.1, iv a, iv d] (mh C σ) (some (iv (o_leastFrames a d (sF σ 0 0)).2)) (mh C (sF (sF σ 0 0) 0 (o_leastFrames a d (sF σ 0 0)).1)) := by
  refine aw_start 0 (by decide) rfl (Nat.le_of_ble_eq_true rfl) ?_
  show AWc l g miX4_leastFrames 13 0 0 _ _ 0 0 (mh C σ) 0 [some (.ref C.1), some (iv a), some (iv d)] []
  have h0 : (sF σ 0 0).1 0 = 0 := rfl
  have hr : mR (sF σ 0 0) := hr
  refine aw_aload_n 1 dX4_leastFrames_0 rfl rfl ?_
  refine aw_iconst 2 dX4_leastFrames_1 rfl ?_
  refine aw_put 5 ci4 0 (by decide) q2031 (Or.inl rfl) rfl rfl rfl (Nat.le_of_ble_eq_true rfl) (mh_obj _ _) dX4_leastFrames_2 rfl ?_
  refine aw_h (mhp_0 _ _ _) ?_
  generalize sF σ 0 0 = σ at h0 hr ⊢
  have h5 := hr.2.1
  refine aw_aload_n 6 dX4_leastFrames_5 rfl rfl ?_
  refine aw_iload_n 7 dX4_leastFrames_6 rfl rfl ?_
  refine aw_xV 10 (m_isAxis hC _ _ (by omega) (by omega)) mvX4_isAxis q2279 (rdl (mh_obj _ _)) rfl rfl rfl (by decide) (by decide) (Nat.le_refl _) (Nat.le_refl _) rfl (Nat.le_of_ble_eq_true rfl) dX4_leastFrames_7 rfl ?_
  refine aw_if_neB 19 13 dX4_leastFrames_10 rfl rfl (fun c_10 => ?_) (fun c_10 => ?_)
  · refine aw_iload_n 20 dX4_leastFrames_19 rfl rfl ?_
    refine aw_sipush 23 dX4_leastFrames_20 rfl (by decide) ?_
    refine aw_sipush 26 dX4_leastFrames_23 rfl (by decide) ?_
    refine aw_xS 29 (m_isIn _ _ _ (by omega) (by omega) (by omega)) msX4_isIn q2163 rfl (by decide) (by decide) (Nat.le_refl _) (Nat.le_refl _) rfl (Nat.le_of_ble_eq_true rfl) dX4_leastFrames_26 rfl ?_
    refine aw_if_eqB 41 32 dX4_leastFrames_29 rfl rfl (fun c_29 => ?_) (fun c_29 => ?_)
    · refine aw_aload_n 42 dX4_leastFrames_41 rfl rfl ?_
      refine aw_iconst 43 dX4_leastFrames_42 rfl ?_
      refine aw_xV 46 (m_fails hC _ _) mvX4_fails q2151 (rdl (mh_obj _ _)) rfl rfl rfl (by decide) (by decide) (Nat.le_refl _) (Nat.le_refl _) rfl (Nat.le_of_ble_eq_true rfl) dX4_leastFrames_43 rfl ?_
      exact aw_xi (by unfold o_leastFrames; (repeat' split) <;> first | rfl | omega | (exfalso; first | contradiction | omega)) (by unfold o_leastFrames; (repeat' split) <;> first | rfl | (exact congrArg (mh C) (sF_id h0).symm) | (rw [sF_sF]) | (exfalso; first | contradiction | omega)) rfl dX4_leastFrames_46
    · refine aw_aload_n 33 dX4_leastFrames_32 rfl rfl ?_
      refine aw_iload_n 34 dX4_leastFrames_33 rfl rfl ?_
      refine aw_iload_n 35 dX4_leastFrames_34 rfl rfl ?_
      refine aw_xV 38 (m_leastOf hC _ _ _ hr (by omega) (by omega)) mvX4_leastOf q2323 (rdl (mh_obj _ _)) rfl rfl rfl (by decide) (by decide) (Nat.le_refl _) (Nat.le_refl _) rfl (Nat.le_of_ble_eq_true rfl) dX4_leastFrames_35 rfl ?_
      refine aw_goto 46 dX4_leastFrames_38 rfl ?_
      exact aw_xi (by unfold o_leastFrames; (repeat' split) <;> first | rfl | omega | (exfalso; first | contradiction | omega)) (by unfold o_leastFrames; (repeat' split) <;> first | rfl | (exact congrArg (mh C) (sF_id h0).symm) | (rw [sF_sF]) | (exfalso; first | contradiction | omega)) rfl dX4_leastFrames_46
  · refine aw_aload_n 14 dX4_leastFrames_13 rfl rfl ?_
    refine aw_iconst 15 dX4_leastFrames_14 rfl ?_
    refine aw_xV 18 (m_fails hC _ _) mvX4_fails q2151 (rdl (mh_obj _ _)) rfl rfl rfl (by decide) (by decide) (Nat.le_refl _) (Nat.le_refl _) rfl (Nat.le_of_ble_eq_true rfl) dX4_leastFrames_15 rfl ?_
    exact aw_xi (by unfold o_leastFrames; (repeat' split) <;> first | rfl | omega | (exfalso; first | contradiction | omega)) (by unfold o_leastFrames; (repeat' split) <;> first | rfl | (exact congrArg (mh C) (sF_id h0).symm) | (rw [sF_sF]) | (exfalso; first | contradiction | omega)) rfl dX4_leastFrames_18
def o_reach (a f : Int) (σ : MSt) : Int × Int := if isAx σ a then (if 1 ≤ f ∧ f ≤ 999 then (0, sm (r_sp (rw_ σ) a) (r_rp (rw_ σ) a) f) else (2, 0)) else (1, 0)
theorem m_reach {l : Launch} {g : AG} {C : MCx} (hC : MOK C) (σ : MSt) (a f : Int) (hr : mR σ) (ha : Rg a) (hf : Rg f): AMx l g miX4_reach 13 [.ref C.1, iv a, iv f] (mh C σ) (some (iv (o_reach a f (sF σ 0 0)).2)) (mh C (sF (sF σ 0 0) 0 (o_reach a f (sF σ 0 0)).1)) := by
  refine aw_start 0 (by decide) rfl (Nat.le_of_ble_eq_true rfl) ?_
  show AWc l g miX4_reach 13 0 0 _ _ 0 0 (mh C σ) 0 [some (.ref C.1), some (iv a), some (iv f)] []
  have h0 : (sF σ 0 0).1 0 = 0 := rfl
  have hr : mR (sF σ 0 0) := hr
  refine aw_aload_n 1 dX4_reach_0 rfl rfl ?_
  refine aw_iconst 2 dX4_reach_1 rfl ?_
  refine aw_put 5 ci4 0 (by decide) q2031 (Or.inl rfl) rfl rfl rfl (Nat.le_of_ble_eq_true rfl) (mh_obj _ _) dX4_reach_2 rfl ?_
  refine aw_h (mhp_0 _ _ _) ?_
  generalize sF σ 0 0 = σ at h0 hr ⊢
  have h5 := hr.2.1
  refine aw_aload_n 6 dX4_reach_5 rfl rfl ?_
  refine aw_iload_n 7 dX4_reach_6 rfl rfl ?_
  refine aw_xV 10 (m_isAxis hC _ _ (by omega) (by omega)) mvX4_isAxis q2279 (rdl (mh_obj _ _)) rfl rfl rfl (by decide) (by decide) (Nat.le_refl _) (Nat.le_refl _) rfl (Nat.le_of_ble_eq_true rfl) dX4_reach_7 rfl ?_
  refine aw_if_neB 19 13 dX4_reach_10 rfl rfl (fun c_10 => ?_) (fun c_10 => ?_)
  · refine aw_iload_n 20 dX4_reach_19 rfl rfl ?_
    refine aw_iconst 21 dX4_reach_20 rfl ?_
    refine aw_sipush 24 dX4_reach_21 rfl (by decide) ?_
    refine aw_xS 27 (m_isIn _ _ _ (by omega) (by omega) (by omega)) msX4_isIn q2163 rfl (by decide) (by decide) (Nat.le_refl _) (Nat.le_refl _) rfl (Nat.le_of_ble_eq_true rfl) dX4_reach_24 rfl ?_
    refine aw_if_eqB 39 30 dX4_reach_27 rfl rfl (fun c_27 => ?_) (fun c_27 => ?_)
    · refine aw_aload_n 40 dX4_reach_39 rfl rfl ?_
      refine aw_iconst 41 dX4_reach_40 rfl ?_
      refine aw_xV 44 (m_fails hC _ _) mvX4_fails q2151 (rdl (mh_obj _ _)) rfl rfl rfl (by decide) (by decide) (Nat.le_refl _) (Nat.le_refl _) rfl (Nat.le_of_ble_eq_true rfl) dX4_reach_41 rfl ?_
      exact aw_xi (by unfold o_reach; (repeat' split) <;> first | rfl | omega | (exfalso; first | contradiction | omega)) (by unfold o_reach; (repeat' split) <;> first | rfl | (exact congrArg (mh C) (sF_id h0).symm) | (rw [sF_sF]) | (exfalso; first | contradiction | omega)) rfl dX4_reach_44
    · refine aw_aload_n 31 dX4_reach_30 rfl rfl ?_
      refine aw_iload_n 32 dX4_reach_31 rfl rfl ?_
      refine aw_iload_n 33 dX4_reach_32 rfl rfl ?_
      refine aw_xV 36 (m_sumIn hC _ _ _ hr (by omega) (by omega)) mvX4_sumIn q2330 (rdl (mh_obj _ _)) rfl rfl rfl (by decide) (by decide) (Nat.le_refl _) (Nat.le_refl _) rfl (Nat.le_of_ble_eq_true rfl) dX4_reach_33 rfl ?_
      refine aw_goto 44 dX4_reach_36 rfl ?_
      exact aw_xi (by unfold o_reach; (repeat' split) <;> first | rfl | omega | (exfalso; first | contradiction | omega)) (by unfold o_reach; (repeat' split) <;> first | rfl | (exact congrArg (mh C) (sF_id h0).symm) | (rw [sF_sF]) | (exfalso; first | contradiction | omega)) rfl dX4_reach_44
  · refine aw_aload_n 14 dX4_reach_13 rfl rfl ?_
    refine aw_iconst 15 dX4_reach_14 rfl ?_
    refine aw_xV 18 (m_fails hC _ _) mvX4_fails q2151 (rdl (mh_obj _ _)) rfl rfl rfl (by decide) (by decide) (Nat.le_refl _) (Nat.le_refl _) rfl (Nat.le_of_ble_eq_true rfl) dX4_reach_15 rfl ?_
    exact aw_xi (by unfold o_reach; (repeat' split) <;> first | rfl | omega | (exfalso; first | contradiction | omega)) (by unfold o_reach; (repeat' split) <;> first | rfl | (exact congrArg (mh C) (sF_id h0).symm) | (rw [sF_sF]) | (exfalso; first | contradiction | omega)) rfl dX4_reach_18
def o_rampSpeed (a d f k : Int) (σ : MSt) : Int × Int := if isAx σ a then (if (-19998 ≤ d ∧ d ≤ 19998) ∧ (1 ≤ f ∧ f ≤ 999) ∧ 1 ≤ k ∧ k ≤ f then (if f < lst (r_sp (rw_ σ) a) (r_rp (rw_ σ) a) (ab d) then (3, 0) else (0, spd (pk (r_rp (rw_ σ) a) (ab d) f) (r_rp (rw_ σ) a) f (sm (pk (r_rp (rw_ σ) a) (ab d) f) (r_rp (rw_ σ) a) f - ab d) (sgn1 d) k)) else (2, 0)) else (1, 0)
def k_rampSpeed (a d f k : Int) (σ : MSt) : MSt := if (o_rampSpeed a d f k σ).1 = 0 then k_looksAt a d f σ else σ
/-- a move that can be made: its peak -/
theorem pk_ok {r g f v : Int} (h : g ≤ sm v r f) (h0 : 0 ≤ v) (h1 : v ≤ 99) : g ≤ sm (pk r g f) r f ∧ 0 ≤ pk r g f ∧ pk r g f ≤ v ∧ ∀ j, 0 ≤ j → j < pk r g f → sm j r f < g := pkF_spec r g f 100 0 v h h0 (by omega)
theorem k_looksAt_ok {σ : MSt} {a d f : Int} (hr : mR σ) (ha : isAx σ a) (hd : -19998 ≤ d ∧ d ≤ 19998) (hf : 0 ≤ f ∧ f ≤ 999) (hg : ab d ≤ sm (r_sp (rw_ σ) a) (r_rp (rw_ σ) a) f) : mLk (k_looksAt a d f σ) := by
  obtain ⟨h1, h2, h3, h4⟩ := sm_v hr ha
  have h5 := hr.ax ha.1 ha.2
  obtain ⟨p1, p2, p3, -⟩ := pk_ok hg (by omega) (by omega)
  have s := sm_rg (v := pk (r_rp (rw_ σ) a) (ab d) f) (r := r_rp (rw_ σ) a) (f := f) (by omega) (by omega) (by omega)
  have hab : ab d = (d.natAbs : Int) := rfl
  refine ⟨⟨p2, by show pk _ _ _ ≤ 99; omega⟩, h2, hf, ?_, ?_⟩
  · show -1 ≤ sgn1 d ∧ sgn1 d ≤ 1
    unfold sgn1
    split <;> omega
  · show Rg (sm _ _ _ - ab d)
    omega
theorem m_rampSpeed {l : Launch} {g : AG} {C : MCx} (hC : MOK C) (σ : MSt) (a d f k : Int) (hr : mR σ) (ha : Rg a) (hd : Rg d) (hf : Rg f) (hk : Rg k): AMx l g miX4_rampSpeed 13 [.ref C.1, iv a, iv d, iv f, iv k] (mh C σ) (some (iv (o_rampSpeed a d f k (sF σ 0 0)).2)) (mh C (sF (k_rampSpeed a d f k (sF σ 0 0)) 0 (o_rampSpeed a d f k (sF σ 0 0)).1)) := by
  refine aw_start 0 (by decide) rfl (Nat.le_of_ble_eq_true rfl) ?_
  show AWc l g miX4_rampSpeed 13 0 0 _ _ 0 0 (mh C σ) 0 [some (.ref C.1), some (iv a), some (iv d), some (iv f), some (iv k)] []
  have h0 : (sF σ 0 0).1 0 = 0 := rfl
  have hr : mR (sF σ 0 0) := hr
  refine aw_aload_n 1 dX4_rampSpeed_0 rfl rfl ?_
  refine aw_iconst 2 dX4_rampSpeed_1 rfl ?_
  refine aw_put 5 ci4 0 (by decide) q2031 (Or.inl rfl) rfl rfl rfl (Nat.le_of_ble_eq_true rfl) (mh_obj _ _) dX4_rampSpeed_2 rfl ?_
  refine aw_h (mhp_0 _ _ _) ?_
  generalize sF σ 0 0 = σ at h0 hr ⊢
  have h5 := hr.2.1
  refine aw_aload_n 6 dX4_rampSpeed_5 rfl rfl ?_
  refine aw_iload_n 7 dX4_rampSpeed_6 rfl rfl ?_
  refine aw_xV 10 (m_isAxis hC _ _ (by omega) (by omega)) mvX4_isAxis q2279 (rdl (mh_obj _ _)) rfl rfl rfl (by decide) (by decide) (Nat.le_refl _) (Nat.le_refl _) rfl (Nat.le_of_ble_eq_true rfl) dX4_rampSpeed_7 rfl ?_
  refine aw_if_neB 19 13 dX4_rampSpeed_10 rfl rfl (fun c_10 => ?_) (fun c_10 => ?_)
  · refine aw_iload_n 20 dX4_rampSpeed_19 rfl rfl ?_
    refine aw_sipush 23 dX4_rampSpeed_20 rfl (by decide) ?_
    refine aw_sipush 26 dX4_rampSpeed_23 rfl (by decide) ?_
    refine aw_xS 29 (m_isIn _ _ _ (by omega) (by omega) (by omega)) msX4_isIn q2163 rfl (by decide) (by decide) (Nat.le_refl _) (Nat.le_refl _) rfl (Nat.le_of_ble_eq_true rfl) dX4_rampSpeed_26 rfl ?_
    refine aw_if_eqB 53 32 dX4_rampSpeed_29 rfl rfl (fun c_29 => ?_) (fun c_29 => ?_)
    · refine aw_aload_n 54 dX4_rampSpeed_53 rfl rfl ?_
      refine aw_iconst 55 dX4_rampSpeed_54 rfl ?_
      refine aw_xV 58 (m_fails hC _ _) mvX4_fails q2151 (rdl (mh_obj _ _)) rfl rfl rfl (by decide) (by decide) (Nat.le_refl _) (Nat.le_refl _) rfl (Nat.le_of_ble_eq_true rfl) dX4_rampSpeed_55 rfl ?_
      exact aw_xi (by unfold o_rampSpeed; (repeat' split) <;> first | rfl | omega | (exfalso; first | contradiction | omega)) ((by unfold k_rampSpeed o_rampSpeed; (repeat' split) <;> first | rfl | (exact congrArg (mh C) (sF_id h0).symm) | (exfalso; first | contradiction | omega))) rfl dX4_rampSpeed_58
    · refine aw_iload_n 33 dX4_rampSpeed_32 rfl rfl ?_
      refine aw_iconst 34 dX4_rampSpeed_33 rfl ?_
      refine aw_sipush 37 dX4_rampSpeed_34 rfl (by decide) ?_
      refine aw_xS 40 (m_isIn _ _ _ (by omega) (by omega) (by omega)) msX4_isIn q2163 rfl (by decide) (by decide) (Nat.le_refl _) (Nat.le_refl _) rfl (Nat.le_of_ble_eq_true rfl) dX4_rampSpeed_37 rfl ?_
      refine aw_if_eqB 53 43 dX4_rampSpeed_40 rfl rfl (fun c_40 => ?_) (fun c_40 => ?_)
      · refine aw_aload_n 54 dX4_rampSpeed_53 rfl rfl ?_
        refine aw_iconst 55 dX4_rampSpeed_54 rfl ?_
        refine aw_xV 58 (m_fails hC _ _) mvX4_fails q2151 (rdl (mh_obj _ _)) rfl rfl rfl (by decide) (by decide) (Nat.le_refl _) (Nat.le_refl _) rfl (Nat.le_of_ble_eq_true rfl) dX4_rampSpeed_55 rfl ?_
        exact aw_xi (by unfold o_rampSpeed; (repeat' split) <;> first | rfl | omega | (exfalso; first | contradiction | omega)) ((by unfold k_rampSpeed o_rampSpeed; (repeat' split) <;> first | rfl | (exact congrArg (mh C) (sF_id h0).symm) | (exfalso; first | contradiction | omega))) rfl dX4_rampSpeed_58
      · refine aw_iload 45 dX4_rampSpeed_43 rfl rfl ?_
        refine aw_iconst 46 dX4_rampSpeed_45 rfl ?_
        refine aw_iload_n 47 dX4_rampSpeed_46 rfl rfl ?_
        refine aw_xS 50 (m_isIn _ _ _ (by omega) (by omega) (by omega)) msX4_isIn q2163 rfl (by decide) (by decide) (Nat.le_refl _) (Nat.le_refl _) rfl (Nat.le_of_ble_eq_true rfl) dX4_rampSpeed_47 rfl ?_
        refine aw_if_neB 59 53 dX4_rampSpeed_50 rfl rfl (fun c_50 => ?_) (fun c_50 => ?_)
        · obtain ⟨h1, h2, h3, h4⟩ := sm_v hr (a := a) (by omega); have hab : ab d = (d.natAbs : Int) := rfl; have q := lst_spec (v := r_sp (rw_ σ) a) (r := r_rp (rw_ σ) a) (g := ab d) (by omega) (by omega) (by omega)
          refine aw_iload_n 60 dX4_rampSpeed_59 rfl rfl ?_
          refine aw_aload_n 61 dX4_rampSpeed_60 rfl rfl ?_
          refine aw_iload_n 62 dX4_rampSpeed_61 rfl rfl ?_
          refine aw_iload_n 63 dX4_rampSpeed_62 rfl rfl ?_
          refine aw_xV 66 (m_leastOf hC _ _ _ hr (by omega) (by omega)) mvX4_leastOf q2323 (rdl (mh_obj _ _)) rfl rfl rfl (by decide) (by decide) (Nat.le_refl _) (Nat.le_refl _) rfl (Nat.le_of_ble_eq_true rfl) dX4_rampSpeed_63 rfl ?_
          refine aw_icmp_ge 75 69 (by omega) dX4_rampSpeed_66 rfl rfl (fun c_66 => ?_) (fun c_66 => ?_)
          · have hg := (lst_iff (v := r_sp (rw_ σ) a) (r := r_rp (rw_ σ) a) (g := ab d) (f := f) (by omega) (by omega) (by omega) (by omega)).mp (by assumption)
            refine aw_aload_n 76 dX4_rampSpeed_75 rfl rfl ?_
            refine aw_iload_n 77 dX4_rampSpeed_76 rfl rfl ?_
            refine aw_iload_n 78 dX4_rampSpeed_77 rfl rfl ?_
            refine aw_iload_n 79 dX4_rampSpeed_78 rfl rfl ?_
            refine aw_xVv 82 (m_looksAt hC _ _ _ _ hr (by omega) (by omega) (by omega) (by omega)) mvX4_looksAt q2341 (rdl (mh_obj _ _)) rfl rfl rfl (by decide) (by decide) (Nat.le_refl _) (Nat.le_refl _) rfl (Nat.le_of_ble_eq_true rfl) dX4_rampSpeed_79 rfl ?_
            refine aw_aload_n 83 dX4_rampSpeed_82 rfl rfl ?_
            refine aw_iload 85 dX4_rampSpeed_83 rfl rfl ?_
            refine aw_xV 88 (m_speedIn hC _ _ (k_looksAt_ok hr (by omega) (by omega) (by omega) (by assumption)) (by show 1 ≤ k ∧ k ≤ f; omega)) mvX4_speedIn q2345 (rdl (mh_obj _ _)) rfl rfl rfl (by decide) (by decide) (Nat.le_refl _) (Nat.le_refl _) rfl (Nat.le_of_ble_eq_true rfl) dX4_rampSpeed_85 rfl ?_
            exact aw_xi (by unfold o_rampSpeed; rw [if_pos (by assumption), if_pos (by omega), if_neg (by omega)]; rfl) (by have hz : (o_rampSpeed a d f k σ).1 = 0 := (by unfold o_rampSpeed; rw [if_pos (by assumption), if_pos (by omega), if_neg (by omega)]); unfold k_rampSpeed; rw [hz, if_pos rfl]; exact congrArg (mh C) (sF_id (σ := k_looksAt a d f σ) (k := 0) (z := 0) h0).symm) rfl dX4_rampSpeed_88
          · refine aw_aload_n 70 dX4_rampSpeed_69 rfl rfl ?_
            refine aw_iconst 71 dX4_rampSpeed_70 rfl ?_
            refine aw_xV 74 (m_fails hC _ _) mvX4_fails q2151 (rdl (mh_obj _ _)) rfl rfl rfl (by decide) (by decide) (Nat.le_refl _) (Nat.le_refl _) rfl (Nat.le_of_ble_eq_true rfl) dX4_rampSpeed_71 rfl ?_
            exact aw_xi (by unfold o_rampSpeed; (repeat' split) <;> first | rfl | omega | (exfalso; first | contradiction | omega)) ((by unfold k_rampSpeed o_rampSpeed; (repeat' split) <;> first | rfl | (exact congrArg (mh C) (sF_id h0).symm) | (exfalso; first | contradiction | omega))) rfl dX4_rampSpeed_74
        · refine aw_aload_n 54 dX4_rampSpeed_53 rfl rfl ?_
          refine aw_iconst 55 dX4_rampSpeed_54 rfl ?_
          refine aw_xV 58 (m_fails hC _ _) mvX4_fails q2151 (rdl (mh_obj _ _)) rfl rfl rfl (by decide) (by decide) (Nat.le_refl _) (Nat.le_refl _) rfl (Nat.le_of_ble_eq_true rfl) dX4_rampSpeed_55 rfl ?_
          exact aw_xi (by unfold o_rampSpeed; (repeat' split) <;> first | rfl | omega | (exfalso; first | contradiction | omega)) ((by unfold k_rampSpeed o_rampSpeed; (repeat' split) <;> first | rfl | (exact congrArg (mh C) (sF_id h0).symm) | (exfalso; first | contradiction | omega))) rfl dX4_rampSpeed_58
  · refine aw_aload_n 14 dX4_rampSpeed_13 rfl rfl ?_
    refine aw_iconst 15 dX4_rampSpeed_14 rfl ?_
    refine aw_xV 18 (m_fails hC _ _) mvX4_fails q2151 (rdl (mh_obj _ _)) rfl rfl rfl (by decide) (by decide) (Nat.le_refl _) (Nat.le_refl _) rfl (Nat.le_of_ble_eq_true rfl) dX4_rampSpeed_15 rfl ?_
    exact aw_xi (by unfold o_rampSpeed; (repeat' split) <;> first | rfl | omega | (exfalso; first | contradiction | omega)) ((by unfold k_rampSpeed o_rampSpeed; (repeat' split) <;> first | rfl | (exact congrArg (mh C) (sF_id h0).symm) | (exfalso; first | contradiction | omega))) rfl dX4_rampSpeed_18
