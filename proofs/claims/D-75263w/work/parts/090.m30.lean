/-! CameraMovesModel: the other edits -/
set_option maxRecDepth 100000
def o_removeCue (c : Int) (σ : MSt) : Int × Int := if isCu σ c then (0, r_nC (rw_ σ) - 1) else (1, 0)
def k_rmCue (c : Int) (σ : MSt) : MSt := if isCu σ c then k_removesCue c (k_keep σ) else σ
theorem keep_cu {σ : MSt} (hE : mE σ) (h0 : σ.1 2 = 0) {c : Int} (hc : isCu σ c) : isCu (k_keep σ) c := by
  unfold isCu
  rw [k_keep_rw hE h0]
  exact hc
theorem m_removeCue {l : Launch} {g : AG} {C : MCx} (hC : MOK C) (σ : MSt) (c : Int) (hr : mR σ) (hE : mE σ) (h2 : σ.1 2 = 0) (hc : Rg c): AMx l g miX4_removeCue 13 [.ref C.1, iv c] (mh C σ) (some (iv (o_removeCue c (sF σ 0 0)).2)) (mh C (sF (k_rmCue c (sF σ 0 0)) 0 (o_removeCue c (sF σ 0 0)).1)) := by
  refine aw_start 0 (by decide) rfl (Nat.le_of_ble_eq_true rfl) ?_
  show AWc l g miX4_removeCue 13 0 0 _ _ 0 0 (mh C σ) 0 [some (.ref C.1), some (iv c)] []
  have h0 : (sF σ 0 0).1 0 = 0 := rfl
  have hr : mR (sF σ 0 0) := hr
  have hE : mE (sF σ 0 0) := hE
  have h2 : (sF σ 0 0).1 2 = 0 := h2
  refine aw_aload_n 1 dX4_removeCue_0 rfl rfl ?_
  refine aw_iconst 2 dX4_removeCue_1 rfl ?_
  refine aw_put 5 ci4 0 (by decide) q2031 (Or.inl rfl) rfl rfl rfl (Nat.le_of_ble_eq_true rfl) (mh_obj _ _) dX4_removeCue_2 rfl ?_
  refine aw_h (mhp_0 _ _ _) ?_
  generalize sF σ 0 0 = σ at h0 hr hE h2 ⊢
  have h20 := hr.nC
  have hr1 := k_keep_mR hr hE h2
  have e1 := k_keep_rw hE h2
  refine aw_aload_n 6 dX4_removeCue_5 rfl rfl ?_
  refine aw_iload_n 7 dX4_removeCue_6 rfl rfl ?_
  refine aw_xV 10 (m_isCue hC _ _ hr (by omega)) mvX4_isCue q2295 (rdl (mh_obj _ _)) rfl rfl rfl (by decide) (by decide) (Nat.le_refl _) (Nat.le_refl _) rfl (Nat.le_of_ble_eq_true rfl) dX4_removeCue_7 rfl ?_
  refine aw_if_neB 19 13 dX4_removeCue_10 rfl rfl (fun c_10 => ?_) (fun c_10 => ?_)
  · have hc1 := keep_cu hE h2 (c := c) (by assumption)
    have e2 : r_nC (rw_ (k_removesCue c (k_keep σ))) = r_nC (rw_ σ) - 1 := by rw [k_removesCue_rw hr1 hc1, e1]; exact (rmC_f (rw_ σ) h20.2 (by assumption)).2.2.1
    refine aw_aload_n 20 dX4_removeCue_19 rfl rfl ?_
    refine aw_xVv 23 (m_keep hC _ hE) mvX4_keep q2583 (rdl (mh_obj _ _)) rfl rfl rfl (by decide) (by decide) (Nat.le_refl _) (Nat.le_refl _) rfl (Nat.le_of_ble_eq_true rfl) dX4_removeCue_20 rfl ?_
    refine aw_aload_n 24 dX4_removeCue_23 rfl rfl ?_
    refine aw_iload_n 25 dX4_removeCue_24 rfl rfl ?_
    refine aw_xVv 28 (m_removesCue hC (k_keep σ) c hr1 hc1) mvX4_removesCue q2563 (rdl (mh_obj _ _)) rfl rfl rfl (by decide) (by decide) (Nat.le_refl _) (Nat.le_refl _) rfl (Nat.le_of_ble_eq_true rfl) dX4_removeCue_25 rfl ?_
    refine aw_aload_n 29 dX4_removeCue_28 rfl rfl ?_
    refine aw_xV 32 (m_nC hC (k_removesCue c (k_keep σ)) hr1.1) mvX4_cueMany q2259 (rdl (mh_obj _ _)) rfl rfl rfl (by decide) (by decide) (Nat.le_refl _) (Nat.le_refl _) rfl (Nat.le_of_ble_eq_true rfl) dX4_removeCue_29 rfl ?_
    rw [e2]
    exact aw_xi (by unfold o_removeCue; rw [if_pos (by assumption)]) (by unfold o_removeCue k_rmCue; rw [if_pos (by assumption), if_pos (by assumption)]; exact congrArg (mh C) (sF_id (σ := k_removesCue c (k_keep σ)) (k := 0) (z := 0) ((k_keep_th hE).trans h0)).symm) rfl dX4_removeCue_32
  · refine aw_aload_n 14 dX4_removeCue_13 rfl rfl ?_
    refine aw_iconst 15 dX4_removeCue_14 rfl ?_
    refine aw_xV 18 (m_fails hC _ _) mvX4_fails q2151 (rdl (mh_obj _ _)) rfl rfl rfl (by decide) (by decide) (Nat.le_refl _) (Nat.le_refl _) rfl (Nat.le_of_ble_eq_true rfl) dX4_removeCue_15 rfl ?_
    exact aw_xi (by unfold o_removeCue; rw [if_neg (by assumption)]) (by unfold o_removeCue k_rmCue; rw [if_neg (by assumption), if_neg (by assumption)]) rfl dX4_removeCue_18
def k_change (c w v : Int) (σ : MSt) : MSt := k_set (9 + 7 * c + w) v (k_keep σ)
theorem m_change {l : Launch} {g : AG} {C : MCx} (hC : MOK C) (σ : MSt) (c w v : Int) (hr : mR σ) (hE : mE σ) (h2 : σ.1 2 = 0) (hc : isCu σ c) (hw : 0 ≤ w ∧ w < 7): AMx l g miX4_change 12 [.ref C.1, iv c, iv w, iv v] (mh C σ) (some (iv (rw_ σ (9 + 7 * c + w)))) (mh C (k_change c w v σ)) := by
  refine aw_start 1 (by decide) rfl (Nat.le_of_ble_eq_true rfl) ?_
  show AWc l g miX4_change 12 0 0 _ _ 0 0 (mh C σ) 0 [some (.ref C.1), some (iv c), some (iv w), some (iv v), none] []
  have h20 := hr.nC
  have hc1 := hc.1
  have hc2 := hc.2
  have hr1 := k_keep_mR hr hE h2
  have e1 := k_keep_rw hE h2
  refine aw_aload_n 1 dX4_change_0 rfl rfl ?_
  refine aw_xVv 4 (m_keep hC _ hE) mvX4_keep q2583 (rdl (mh_obj _ _)) rfl rfl rfl (by decide) (by decide) (Nat.le_refl _) (Nat.le_refl _) rfl (Nat.le_of_ble_eq_true rfl) dX4_change_1 rfl ?_
  refine aw_aload_n 5 dX4_change_4 rfl rfl ?_
  refine aw_iload_n 6 dX4_change_5 rfl rfl ?_
  refine aw_iload_n 7 dX4_change_6 rfl rfl ?_
  refine aw_xV 10 (m_of hC (k_keep σ) c w hr1.1 (by omega) hw) mvX4_of q2299 (rdl (mh_obj _ _)) rfl rfl rfl (by decide) (by decide) (Nat.le_refl _) (Nat.le_refl _) rfl (Nat.le_of_ble_eq_true rfl) dX4_change_7 rfl ?_
  rw [e1]
  refine aw_istore 12 dX4_change_10 rfl (as_4 rfl) (by decide) ?_
  refine aw_aload_n 13 dX4_change_12 rfl rfl ?_
  refine aw_iload_n 14 dX4_change_13 rfl rfl ?_
  refine aw_iload_n 15 dX4_change_14 rfl rfl ?_
  refine aw_iload_n 16 dX4_change_15 rfl rfl ?_
  refine aw_xVv 19 (m_setOfK hC (k_keep σ) c w v hr1.1 (by omega) hw) mvX4_setOf q2543 (rdl (mh_obj _ _)) rfl rfl rfl (by decide) (by decide) (Nat.le_refl _) (Nat.le_refl _) rfl (Nat.le_of_ble_eq_true rfl) dX4_change_16 rfl ?_
  refine aw_iload 21 dX4_change_19 rfl rfl ?_
  exact aw_xi (by rfl) (rfl) rfl dX4_change_21
def o_moveCue (c s : Int) (σ : MSt) : Int × Int := if isCu σ c then (if 0 ≤ s ∧ s ≤ 999 - r_ln (rw_ σ) c then (0, r_fr (rw_ σ) c) else (2, 0)) else (1, 0)
def k_moveCue (c s : Int) (σ : MSt) : MSt := if (o_moveCue c s σ).1 = 0 then k_change c 0 s σ else σ
theorem k_change_th {σ : MSt} (hE : mE σ) {c w v : Int} : (k_change c w v σ).1 0 = σ.1 0 := k_keep_th hE
theorem m_moveCue {l : Launch} {g : AG} {C : MCx} (hC : MOK C) (σ : MSt) (c s : Int) (hr : mR σ) (hE : mE σ) (h2 : σ.1 2 = 0) (hc : Rg c) (hs : Rg s): AMx l g miX4_moveCue 13 [.ref C.1, iv c, iv s] (mh C σ) (some (iv (o_moveCue c s (sF σ 0 0)).2)) (mh C (sF (k_moveCue c s (sF σ 0 0)) 0 (o_moveCue c s (sF σ 0 0)).1)) := by
  refine aw_start 0 (by decide) rfl (Nat.le_of_ble_eq_true rfl) ?_
  show AWc l g miX4_moveCue 13 0 0 _ _ 0 0 (mh C σ) 0 [some (.ref C.1), some (iv c), some (iv s)] []
  have h0 : (sF σ 0 0).1 0 = 0 := rfl
  have hr : mR (sF σ 0 0) := hr
  have hE : mE (sF σ 0 0) := hE
  have h2 : (sF σ 0 0).1 2 = 0 := h2
  refine aw_aload_n 1 dX4_moveCue_0 rfl rfl ?_
  refine aw_iconst 2 dX4_moveCue_1 rfl ?_
  refine aw_put 5 ci4 0 (by decide) q2031 (Or.inl rfl) rfl rfl rfl (Nat.le_of_ble_eq_true rfl) (mh_obj _ _) dX4_moveCue_2 rfl ?_
  refine aw_h (mhp_0 _ _ _) ?_
  generalize sF σ 0 0 = σ at h0 hr hE h2 ⊢
  have h20 := hr.nC
  refine aw_aload_n 6 dX4_moveCue_5 rfl rfl ?_
  refine aw_iload_n 7 dX4_moveCue_6 rfl rfl ?_
  refine aw_xV 10 (m_isCue hC _ _ hr (by omega)) mvX4_isCue q2295 (rdl (mh_obj _ _)) rfl rfl rfl (by decide) (by decide) (Nat.le_refl _) (Nat.le_refl _) rfl (Nat.le_of_ble_eq_true rfl) dX4_moveCue_7 rfl ?_
  refine aw_if_neB 19 13 dX4_moveCue_10 rfl rfl (fun c_10 => ?_) (fun c_10 => ?_)
  · have hL := (hr.cue (c := c) (by omega) (by omega)).1
    refine aw_iload_n 20 dX4_moveCue_19 rfl rfl ?_
    refine aw_iconst 21 dX4_moveCue_20 rfl ?_
    refine aw_sipush 24 dX4_moveCue_21 rfl (by decide) ?_
    refine aw_aload_n 25 dX4_moveCue_24 rfl rfl ?_
    refine aw_iload_n 26 dX4_moveCue_25 rfl rfl ?_
    refine aw_iconst 27 dX4_moveCue_26 rfl ?_
    refine aw_xV 30 (m_of1 hC _ _ hr.1 (by omega)) mvX4_of q2299 (rdl (mh_obj _ _)) rfl rfl rfl (by decide) (by decide) (Nat.le_refl _) (Nat.le_refl _) rfl (Nat.le_of_ble_eq_true rfl) dX4_moveCue_27 rfl ?_
    refine aw_isub 31 dX4_moveCue_30 rfl ?_
    refine aw_xS 34 (m_isIn _ _ _ (by omega) (by omega) (by omega)) msX4_isIn q2163 rfl (by decide) (by decide) (Nat.le_refl _) (Nat.le_refl _) rfl (Nat.le_of_ble_eq_true rfl) dX4_moveCue_31 rfl ?_
    refine aw_if_eqB 47 37 dX4_moveCue_34 rfl rfl (fun c_34 => ?_) (fun c_34 => ?_)
    · have ho : o_moveCue c s σ = (2, 0) := (if_pos (by assumption)).trans (if_neg (by assumption))
      refine aw_aload_n 48 dX4_moveCue_47 rfl rfl ?_
      refine aw_iconst 49 dX4_moveCue_48 rfl ?_
      refine aw_xV 52 (m_fails hC _ _) mvX4_fails q2151 (rdl (mh_obj _ _)) rfl rfl rfl (by decide) (by decide) (Nat.le_refl _) (Nat.le_refl _) rfl (Nat.le_of_ble_eq_true rfl) dX4_moveCue_49 rfl ?_
      exact aw_xi (by first | (rw [ho]; done) | (rw [ho]; rfl)) (by unfold k_moveCue; rw [ho]; first | (rw [if_neg (by decide)]) | (rw [if_pos rfl]; exact congrArg (mh C) (sF_id (k := 0) (z := 0) ((k_change_th hE).trans h0)).symm)) rfl dX4_moveCue_52
    · have ho : o_moveCue c s σ = (0, r_fr (rw_ σ) c) := (if_pos (by assumption)).trans (if_pos (by assumption))
      refine aw_h (show _ = mh C σ from rfl) ?_
      refine aw_aload_n 38 dX4_moveCue_37 rfl rfl ?_
      refine aw_iload_n 39 dX4_moveCue_38 rfl rfl ?_
      refine aw_iconst 40 dX4_moveCue_39 rfl ?_
      refine aw_iload_n 41 dX4_moveCue_40 rfl rfl ?_
      refine aw_xV 44 (m_change hC σ c 0 s hr hE h2 (by assumption) (by decide)) mvX4_change q2607 (rdl (mh_obj _ _)) rfl rfl rfl (by decide) (by decide) (Nat.le_refl _) (Nat.le_refl _) rfl (Nat.le_of_ble_eq_true rfl) dX4_moveCue_41 rfl ?_
      refine aw_goto 52 dX4_moveCue_44 rfl ?_
      exact aw_xi (by first | (rw [ho]; done) | (rw [ho]; rfl)) (by unfold k_moveCue; rw [ho]; first | (rw [if_neg (by decide)]) | (rw [if_pos rfl]; exact congrArg (mh C) (sF_id (k := 0) (z := 0) ((k_change_th hE).trans h0)).symm)) rfl dX4_moveCue_52
  · have ho : o_moveCue c s σ = (1, 0) := if_neg (by assumption)
    refine aw_aload_n 14 dX4_moveCue_13 rfl rfl ?_
    refine aw_iconst 15 dX4_moveCue_14 rfl ?_
    refine aw_xV 18 (m_fails hC _ _) mvX4_fails q2151 (rdl (mh_obj _ _)) rfl rfl rfl (by decide) (by decide) (Nat.le_refl _) (Nat.le_refl _) rfl (Nat.le_of_ble_eq_true rfl) dX4_moveCue_15 rfl ?_
    exact aw_xi (by first | (rw [ho]; done) | (rw [ho]; rfl)) (by unfold k_moveCue; rw [ho]; first | (rw [if_neg (by decide)]) | (rw [if_pos rfl]; exact congrArg (mh C) (sF_id (k := 0) (z := 0) ((k_change_th hE).trans h0)).symm)) rfl dX4_moveCue_18
def o_setLength (c s : Int) (σ : MSt) : Int × Int := if isCu σ c then (if 1 ≤ s ∧ s ≤ 999 - r_fr (rw_ σ) c then (0, r_ln (rw_ σ) c) else (2, 0)) else (1, 0)
def k_setLength (c s : Int) (σ : MSt) : MSt := if (o_setLength c s σ).1 = 0 then k_change c 1 s σ else σ
theorem m_setLength {l : Launch} {g : AG} {C : MCx} (hC : MOK C) (σ : MSt) (c s : Int) (hr : mR σ) (hE : mE σ) (h2 : σ.1 2 = 0) (hc : Rg c) (hs : Rg s): AMx l g miX4_setLength 13 [.ref C.1, iv c, iv s] (mh C σ) (some (iv (o_setLength c s (sF σ 0 0)).2)) (mh C (sF (k_setLength c s (sF σ 0 0)) 0 (o_setLength c s (sF σ 0 0)).1)) := by
  refine aw_start 0 (by decide) rfl (Nat.le_of_ble_eq_true rfl) ?_
  show AWc l g miX4_setLength 13 0 0 _ _ 0 0 (mh C σ) 0 [some (.ref C.1), some (iv c), some (iv s)] []
  have h0 : (sF σ 0 0).1 0 = 0 := rfl
  have hr : mR (sF σ 0 0) := hr
  have hE : mE (sF σ 0 0) := hE
  have h2 : (sF σ 0 0).1 2 = 0 := h2
  refine aw_aload_n 1 dX4_setLength_0 rfl rfl ?_
  refine aw_iconst 2 dX4_setLength_1 rfl ?_
  refine aw_put 5 ci4 0 (by decide) q2031 (Or.inl rfl) rfl rfl rfl (Nat.le_of_ble_eq_true rfl) (mh_obj _ _) dX4_setLength_2 rfl ?_
  refine aw_h (mhp_0 _ _ _) ?_
  generalize sF σ 0 0 = σ at h0 hr hE h2 ⊢
  have h20 := hr.nC
  refine aw_aload_n 6 dX4_setLength_5 rfl rfl ?_
  refine aw_iload_n 7 dX4_setLength_6 rfl rfl ?_
  refine aw_xV 10 (m_isCue hC _ _ hr (by omega)) mvX4_isCue q2295 (rdl (mh_obj _ _)) rfl rfl rfl (by decide) (by decide) (Nat.le_refl _) (Nat.le_refl _) rfl (Nat.le_of_ble_eq_true rfl) dX4_setLength_7 rfl ?_
  refine aw_if_neB 19 13 dX4_setLength_10 rfl rfl (fun c_10 => ?_) (fun c_10 => ?_)
  · have hL := (hr.cue (c := c) (by omega) (by omega)).1
    refine aw_iload_n 20 dX4_setLength_19 rfl rfl ?_
    refine aw_iconst 21 dX4_setLength_20 rfl ?_
    refine aw_sipush 24 dX4_setLength_21 rfl (by decide) ?_
    refine aw_aload_n 25 dX4_setLength_24 rfl rfl ?_
    refine aw_iload_n 26 dX4_setLength_25 rfl rfl ?_
    refine aw_iconst 27 dX4_setLength_26 rfl ?_
    refine aw_xV 30 (m_of0 hC _ _ hr.1 (by omega)) mvX4_of q2299 (rdl (mh_obj _ _)) rfl rfl rfl (by decide) (by decide) (Nat.le_refl _) (Nat.le_refl _) rfl (Nat.le_of_ble_eq_true rfl) dX4_setLength_27 rfl ?_
    refine aw_isub 31 dX4_setLength_30 rfl ?_
    refine aw_xS 34 (m_isIn _ _ _ (by omega) (by omega) (by omega)) msX4_isIn q2163 rfl (by decide) (by decide) (Nat.le_refl _) (Nat.le_refl _) rfl (Nat.le_of_ble_eq_true rfl) dX4_setLength_31 rfl ?_
    refine aw_if_eqB 47 37 dX4_setLength_34 rfl rfl (fun c_34 => ?_) (fun c_34 => ?_)
    · have ho : o_setLength c s σ = (2, 0) := (if_pos (by assumption)).trans (if_neg (by assumption))
      refine aw_aload_n 48 dX4_setLength_47 rfl rfl ?_
      refine aw_iconst 49 dX4_setLength_48 rfl ?_
      refine aw_xV 52 (m_fails hC _ _) mvX4_fails q2151 (rdl (mh_obj _ _)) rfl rfl rfl (by decide) (by decide) (Nat.le_refl _) (Nat.le_refl _) rfl (Nat.le_of_ble_eq_true rfl) dX4_setLength_49 rfl ?_
      exact aw_xi (by first | (rw [ho]; done) | (rw [ho]; rfl)) (by unfold k_setLength; rw [ho]; first | (rw [if_neg (by decide)]) | (rw [if_pos rfl]; exact congrArg (mh C) (sF_id (k := 0) (z := 0) ((k_change_th hE).trans h0)).symm)) rfl dX4_setLength_52
    · have ho : o_setLength c s σ = (0, r_ln (rw_ σ) c) := (if_pos (by assumption)).trans (if_pos (by assumption))
      refine aw_aload_n 38 dX4_setLength_37 rfl rfl ?_
      refine aw_iload_n 39 dX4_setLength_38 rfl rfl ?_
      refine aw_iconst 40 dX4_setLength_39 rfl ?_
      refine aw_iload_n 41 dX4_setLength_40 rfl rfl ?_
      refine aw_xV 44 (m_change hC σ c 1 s hr hE h2 (by assumption) (by decide)) mvX4_change q2607 (rdl (mh_obj _ _)) rfl rfl rfl (by decide) (by decide) (Nat.le_refl _) (Nat.le_refl _) rfl (Nat.le_of_ble_eq_true rfl) dX4_setLength_41 rfl ?_
      refine aw_goto 52 dX4_setLength_44 rfl ?_
      exact aw_xi (by first | (rw [ho]; done) | (rw [ho]; rfl)) (by unfold k_setLength; rw [ho]; first | (rw [if_neg (by decide)]) | (rw [if_pos rfl]; exact congrArg (mh C) (sF_id (k := 0) (z := 0) ((k_change_th hE).trans h0)).symm)) rfl dX4_setLength_52
  · have ho : o_setLength c s σ = (1, 0) := if_neg (by assumption)
    refine aw_aload_n 14 dX4_setLength_13 rfl rfl ?_
    refine aw_iconst 15 dX4_setLength_14 rfl ?_
    refine aw_xV 18 (m_fails hC _ _) mvX4_fails q2151 (rdl (mh_obj _ _)) rfl rfl rfl (by decide) (by decide) (Nat.le_refl _) (Nat.le_refl _) rfl (Nat.le_of_ble_eq_true rfl) dX4_setLength_15 rfl ?_
    exact aw_xi (by first | (rw [ho]; done) | (rw [ho]; rfl)) (by unfold k_setLength; rw [ho]; first | (rw [if_neg (by decide)]) | (rw [if_pos rfl]; exact congrArg (mh C) (sF_id (k := 0) (z := 0) ((k_change_th hE).trans h0)).symm)) rfl dX4_setLength_18
theorem SC.toE {σ τ : MSt} (h : SC σ τ) (hE : mE σ) : mE τ := by
  unfold mE
  rw [h.1 3 (by decide), h.1 4 (by decide)]
  exact hE
def o_fit (c : Int) (σ : MSt) : Int × Int := if isCu σ c then (if lnV σ c (σ.1 5).toNat ≤ 999 - r_fr (rw_ σ) c then (0, lnV σ c (σ.1 5).toNat) else (2, 0)) else (1, 0)
def k_fit (c : Int) (σ : MSt) : MSt := if isCu σ c then (if lnV σ c (σ.1 5).toNat ≤ 999 - r_fr (rw_ σ) c then k_change c 1 (lnV σ c (σ.1 5).toNat) (kN σ c (σ.1 5).toNat) else kN σ c (σ.1 5).toNat) else σ
theorem m_fit {l : Launch} {g : AG} {C : MCx} (hC : MOK C) (σ : MSt) (c : Int) (hr : mR σ) (hT : mT σ) (hE : mE σ) (h2 : σ.1 2 = 0) (hc : Rg c): AMx l g miX4_fit 16 [.ref C.1, iv c] (mh C σ) (some (iv (o_fit c (sF σ 0 0)).2)) (mh C (sF (k_fit c (sF σ 0 0)) 0 (o_fit c (sF σ 0 0)).1)) := by
  refine aw_start 2 (by decide) rfl (Nat.le_of_ble_eq_true rfl) ?_
  show AWc l g miX4_fit 16 0 0 _ _ 0 0 (mh C σ) 0 [some (.ref C.1), some (iv c), none, none] []
  have h0 : (sF σ 0 0).1 0 = 0 := rfl
  have hr : mR (sF σ 0 0) := hr
  have hT : mT (sF σ 0 0) := hT
  have hE : mE (sF σ 0 0) := hE
  have h2 : (sF σ 0 0).1 2 = 0 := h2
  refine aw_aload_n 1 dX4_fit_0 rfl rfl ?_
  refine aw_iconst 2 dX4_fit_1 rfl ?_
  refine aw_put 5 ci4 0 (by decide) q2031 (Or.inl rfl) rfl rfl rfl (Nat.le_of_ble_eq_true rfl) (mh_obj _ _) dX4_fit_2 rfl ?_
  refine aw_h (mhp_0 _ _ _) ?_
  generalize sF σ 0 0 = σ at h0 hr hT hE h2 ⊢
  have h5 := hr.2.1
  have h20 := hr.nC
  have hn := kN_sc hr c (σ.1 5).toNat
  have hl := lnV_rg hr c (σ.1 5).toNat (by omega)
  have hrn := hn.toR hr
  have h2n : (kN σ c (σ.1 5).toNat).1 2 = 0 := (hn.1 2 (by decide)).trans h2
  have hth := (hn.1 0 (by decide)).trans h0
  refine aw_aload_n 6 dX4_fit_5 rfl rfl ?_
  refine aw_iload_n 7 dX4_fit_6 rfl rfl ?_
  refine aw_xV 10 (m_isCue hC _ _ hr (by omega)) mvX4_isCue q2295 (rdl (mh_obj _ _)) rfl rfl rfl (by decide) (by decide) (Nat.le_refl _) (Nat.le_refl _) rfl (Nat.le_of_ble_eq_true rfl) dX4_fit_7 rfl ?_
  refine aw_if_neB 19 13 dX4_fit_10 rfl rfl (fun c_10 => ?_) (fun c_10 => ?_)
  · have hL := (hr.cue (c := c) (by omega) (by omega)).1
    refine aw_aload_n 20 dX4_fit_19 rfl rfl ?_
    refine aw_iload_n 21 dX4_fit_20 rfl rfl ?_
    refine aw_xV 24 (m_lengthNeeded hC _ _ hr hT (by omega)) mvX4_lengthNeeded q2389 (rdl (mh_obj _ _)) rfl rfl rfl (by decide) (by decide) (Nat.le_refl _) (Nat.le_refl _) rfl (Nat.le_of_ble_eq_true rfl) dX4_fit_21 rfl ?_
    refine aw_istore_n 25 dX4_fit_24 rfl (as_2 rfl) (by decide) ?_
    refine aw_iload_n 26 dX4_fit_25 rfl rfl ?_
    refine aw_sipush 29 dX4_fit_26 rfl (by decide) ?_
    refine aw_aload_n 30 dX4_fit_29 rfl rfl ?_
    refine aw_iload_n 31 dX4_fit_30 rfl rfl ?_
    refine aw_iconst 32 dX4_fit_31 rfl ?_
    refine aw_xV 35 (m_of0 hC _ c hrn.1 (by omega)) mvX4_of q2299 (rdl (mh_obj _ _)) rfl rfl rfl (by decide) (by decide) (Nat.le_refl _) (Nat.le_refl _) rfl (Nat.le_of_ble_eq_true rfl) dX4_fit_32 rfl ?_
    rw [hn.rw]
    refine aw_isub 36 dX4_fit_35 rfl ?_
    refine aw_icmp_le 45 39 (by omega) dX4_fit_36 rfl rfl (fun c_36 => ?_) (fun c_36 => ?_)
    · have ho : o_fit c σ = (0, lnV σ c (σ.1 5).toNat) := (if_pos (by assumption)).trans (if_pos (by omega))
      refine aw_aload_n 46 dX4_fit_45 rfl rfl ?_
      refine aw_iload_n 47 dX4_fit_46 rfl rfl ?_
      refine aw_iconst 48 dX4_fit_47 rfl ?_
      refine aw_iload_n 49 dX4_fit_48 rfl rfl ?_
      refine aw_xV 52 (m_change hC _ c 1 _ hrn (hn.toE hE) h2n (hn.cu (by assumption)) (by decide)) mvX4_change q2607 (rdl (mh_obj _ _)) rfl rfl rfl (by decide) (by decide) (Nat.le_refl _) (Nat.le_refl _) rfl (Nat.le_of_ble_eq_true rfl) dX4_fit_49 rfl ?_
      refine aw_istore_n 53 dX4_fit_52 rfl (as_3 rfl) (by decide) ?_
      refine aw_iload_n 54 dX4_fit_53 rfl rfl ?_
      exact aw_xi (by rw [ho]) (by unfold k_fit; rw [ho, if_pos (by assumption), if_pos (by omega)]; exact congrArg (mh C) (sF_id (k := 0) (z := 0) ((k_change_th (hn.toE hE)).trans hth)).symm) rfl dX4_fit_54
    · have ho : o_fit c σ = (2, 0) := (if_pos (by assumption)).trans (if_neg (by omega))
      refine aw_aload_n 40 dX4_fit_39 rfl rfl ?_
      refine aw_iconst 41 dX4_fit_40 rfl ?_
      refine aw_xV 44 (m_fails hC _ _) mvX4_fails q2151 (rdl (mh_obj _ _)) rfl rfl rfl (by decide) (by decide) (Nat.le_refl _) (Nat.le_refl _) rfl (Nat.le_of_ble_eq_true rfl) dX4_fit_41 rfl ?_
      exact aw_xi (by rw [ho]) (by unfold k_fit; rw [ho, if_pos (by assumption), if_neg (by omega)]) rfl dX4_fit_44
  · have ho : o_fit c σ = (1, 0) := if_neg (by assumption)
    refine aw_aload_n 14 dX4_fit_13 rfl rfl ?_
    refine aw_iconst 15 dX4_fit_14 rfl ?_
    refine aw_xV 18 (m_fails hC _ _) mvX4_fails q2151 (rdl (mh_obj _ _)) rfl rfl rfl (by decide) (by decide) (Nat.le_refl _) (Nat.le_refl _) rfl (Nat.le_of_ble_eq_true rfl) dX4_fit_15 rfl ?_
    exact aw_xi (by rw [ho]) (by unfold k_fit; rw [ho, if_neg (by assumption)]) rfl dX4_fit_18
/-- an axis's limits changed -/
def k_lims (a s r : Int) (σ : MSt) : MSt := k_set (4 + a) r (k_set (0 + a) s σ)
def rLim (ρ : Int → Int) (a s r : Int) : Int → Int := rU (rU ρ (0 + a) s) (4 + a) r
theorem rLim_f (ρ : Int → Int) {a s r : Int} (ha : 0 ≤ a ∧ a < 4) : (∀ x, 0 ≤ x → x < 4 → r_sp (rLim ρ a s r) x = if x = a then s else r_sp ρ x) ∧ (∀ x, 0 ≤ x → x < 4 → r_rp (rLim ρ a s r) x = if x = a then r else r_rp ρ x) ∧ r_nC (rLim ρ a s r) = r_nC ρ ∧ r_nW (rLim ρ a s r) = r_nW ρ ∧ (∀ x k, 0 ≤ x → 0 ≤ k → r_w (rLim ρ a s r) x k = r_w ρ x k) ∧ ∀ x, 0 ≤ x → r_fr (rLim ρ a s r) x = r_fr ρ x ∧ r_ln (rLim ρ a s r) x = r_ln ρ x ∧ r_hs (rLim ρ a s r) x = r_hs ρ x ∧ ∀ b, 0 ≤ b → r_tg (rLim ρ a s r) x b = r_tg ρ x b := by
  refine ⟨fun x _ _ => ?_, fun x _ _ => ?_, ?_, ?_, fun x k _ _ => ?_, fun x _ => ⟨?_, ?_, ?_, fun b _ => ?_⟩⟩
  all_goals
    unfold rLim
    simp only [r_sp, r_rp, r_nC, r_nW, r_w, r_fr, r_ln, r_hs, r_tg, rU]
    (repeat' split) <;> first | rfl | (exfalso; omega)
theorem RI_lims {n : Int} {ρ : Int → Int} (h : RI n ρ) (h4 : n ≤ 4) {a s r : Int} (ha : 0 ≤ a ∧ a < n) (hs : 1 ≤ s ∧ s ≤ 99) (hrr : 1 ≤ r ∧ r ≤ 20) : RI n (rLim ρ a s r) := by
  obtain ⟨e1, e2, e3, e4, e5, e6⟩ := rLim_f ρ (a := a) (s := s) (r := r) (by omega)
  refine ⟨fun x x0 x1 => ?_, by rw [e3]; exact h.2.1, fun x x0 x1 => ?_, by rw [e4]; exact h.2.2.2.1, fun w w0 w1 => ?_⟩
  · rw [e1 x x0 (by omega), e2 x x0 (by omega)]
    split
    · exact ⟨hs, hrr⟩
    · exact h.1 x x0 x1
  · rw [e3] at x1
    obtain ⟨f1, f2, f3, f4⟩ := e6 x x0
    exact cuOk_cg f1 f2 f3 (fun b b0 _ => f4 b b0) (h.2.2.1 x x0 x1)
  · rw [e4] at w1
    have q := h.2.2.2.2 w w0 w1
    unfold waOk at *
    rw [e5 w 0 w0 (by decide), e5 w 1 w0 (by decide), e5 w 2 w0 (by decide), e5 w 3 w0 (by decide), e5 w 4 w0 (by decide), e5 w 5 w0 (by decide)]
    exact q
theorem k_lims_rw {σ : MSt} (ha : mAt σ) {a s r : Int} (h : 0 ≤ a ∧ a < 4) : rw_ (k_lims a s r σ) = rLim (rw_ σ) a s r := by
  unfold k_lims rLim
  rw [k_set_rw (show mAt (k_set (0 + a) s σ) from ha) _ (by omega), k_set_rw ha _ (by omega)]
theorem k_lims_mR {σ : MSt} (hr : mR σ) {a s r : Int} (ha : isAx σ a) (hs : 1 ≤ s ∧ s ≤ 99) (hrr : 1 ≤ r ∧ r ≤ 20) : mR (k_lims a s r σ) := by
  have h5 := hr.2.1
  refine ⟨hr.1, hr.2.1, ?_, hr.2.2.2⟩
  rw [k_lims_rw hr.1 (by have := ha.1; have := ha.2; omega)]
  exact RI_lims hr.2.2.1 hr.2.1.2 ha hs hrr
def o_setLimits (a s r : Int) (σ : MSt) : Int × Int := if isAx σ a then (if (1 ≤ s ∧ s ≤ 99) ∧ 1 ≤ r ∧ r ≤ 20 then (0, mwV (k_lims a s r (k_keep σ)) 0 (σ.1 5).toNat) else (2, 0)) else (1, 0)
def k_setLimits (a s r : Int) (σ : MSt) : MSt := if (o_setLimits a s r σ).1 = 0 then kT (k_lims a s r (k_keep σ)) (σ.1 5).toNat else σ
theorem k_keep_mT {σ : MSt} (hE : mE σ) (hT : mT σ) : mT (k_keep σ) := by
  unfold mT
  rw [(k_keep_ok hE).2.2.1 34 (by decide)]
  exact hT
theorem m_setLimits {l : Launch} {g : AG} {C : MCx} (hC : MOK C) (σ : MSt) (a s r : Int) (hr : mR σ) (hT : mT σ) (hE : mE σ) (h2 : σ.1 2 = 0) (ha : Rg a) (hs : Rg s) (hx : Rg r): AMx l g miX4_setLimits 16 [.ref C.1, iv a, iv s, iv r] (mh C σ) (some (iv (o_setLimits a s r (sF σ 0 0)).2)) (mh C (sF (k_setLimits a s r (sF σ 0 0)) 0 (o_setLimits a s r (sF σ 0 0)).1)) := by
  refine aw_start 0 (by decide) rfl (Nat.le_of_ble_eq_true rfl) ?_
  show AWc l g miX4_setLimits 16 0 0 _ _ 0 0 (mh C σ) 0 [some (.ref C.1), some (iv a), some (iv s), some (iv r)] []
  have h0 : (sF σ 0 0).1 0 = 0 := rfl
  have hr : mR (sF σ 0 0) := hr
  have hT : mT (sF σ 0 0) := hT
  have hE : mE (sF σ 0 0) := hE
  have h2 : (sF σ 0 0).1 2 = 0 := h2
  refine aw_aload_n 1 dX4_setLimits_0 rfl rfl ?_
  refine aw_iconst 2 dX4_setLimits_1 rfl ?_
  refine aw_put 5 ci4 0 (by decide) q2031 (Or.inl rfl) rfl rfl rfl (Nat.le_of_ble_eq_true rfl) (mh_obj _ _) dX4_setLimits_2 rfl ?_
  refine aw_h (mhp_0 _ _ _) ?_
  generalize sF σ 0 0 = σ at h0 hr hT hE h2 ⊢
  have h5 := hr.2.1
  have hr1 := k_keep_mR hr hE h2
  have hT1 : mT (k_keep σ) := k_keep_mT hE hT
  have e5 : (k_keep σ).1 5 = σ.1 5 := (k_keep_ok hE).2.1 5 (by decide) (by decide)
  refine aw_aload_n 6 dX4_setLimits_5 rfl rfl ?_
  refine aw_iload_n 7 dX4_setLimits_6 rfl rfl ?_
  refine aw_xV 10 (m_isAxis hC _ _ (by omega) (by omega)) mvX4_isAxis q2279 (rdl (mh_obj _ _)) rfl rfl rfl (by decide) (by decide) (Nat.le_refl _) (Nat.le_refl _) rfl (Nat.le_of_ble_eq_true rfl) dX4_setLimits_7 rfl ?_
  refine aw_if_neB 19 13 dX4_setLimits_10 rfl rfl (fun c_10 => ?_) (fun c_10 => ?_)
  · refine aw_iload_n 20 dX4_setLimits_19 rfl rfl ?_
    refine aw_iconst 21 dX4_setLimits_20 rfl ?_
    refine aw_bipush 23 dX4_setLimits_21 rfl (by decide) ?_
    refine aw_xS 26 (m_isIn _ _ _ (by omega) (by omega) (by omega)) msX4_isIn q2163 rfl (by decide) (by decide) (Nat.le_refl _) (Nat.le_refl _) rfl (Nat.le_of_ble_eq_true rfl) dX4_setLimits_23 rfl ?_
    refine aw_if_eqB 39 29 dX4_setLimits_26 rfl rfl (fun c_26 => ?_) (fun c_26 => ?_)
    · have ho : o_setLimits a s r σ = (2, 0) := (if_pos (by assumption)).trans (if_neg (by omega))
      refine aw_aload_n 40 dX4_setLimits_39 rfl rfl ?_
      refine aw_iconst 41 dX4_setLimits_40 rfl ?_
      refine aw_xV 44 (m_fails hC _ _) mvX4_fails q2151 (rdl (mh_obj _ _)) rfl rfl rfl (by decide) (by decide) (Nat.le_refl _) (Nat.le_refl _) rfl (Nat.le_of_ble_eq_true rfl) dX4_setLimits_41 rfl ?_
      exact aw_xi (by rw [ho]) (by unfold k_setLimits; rw [ho]; first | (rw [if_neg (by decide)]) | (rw [if_pos rfl]; exact congrArg (mh C) (sF_id (k := 0) (z := 0) hth).symm)) rfl dX4_setLimits_44
    · refine aw_iload_n 30 dX4_setLimits_29 rfl rfl ?_
      refine aw_iconst 31 dX4_setLimits_30 rfl ?_
      refine aw_bipush 33 dX4_setLimits_31 rfl (by decide) ?_
      refine aw_xS 36 (m_isIn _ _ _ (by omega) (by omega) (by omega)) msX4_isIn q2163 rfl (by decide) (by decide) (Nat.le_refl _) (Nat.le_refl _) rfl (Nat.le_of_ble_eq_true rfl) dX4_setLimits_33 rfl ?_
      refine aw_if_neB 45 39 dX4_setLimits_36 rfl rfl (fun c_36 => ?_) (fun c_36 => ?_)
      · have ho : o_setLimits a s r σ = (0, mwV (k_lims a s r (k_keep σ)) 0 (σ.1 5).toNat) := (if_pos (by assumption)).trans (if_pos (by omega))
        have hr2 : mR (k_lims a s r (k_keep σ)) := k_lims_mR hr1 (by unfold isAx; rw [e5]; assumption) (by omega) (by omega)
        have hth : (kT (k_lims a s r (k_keep σ)) (σ.1 5).toNat).1 0 = 0 := ((kT_sc hr2 _).1 0 (by decide)).trans ((k_keep_th hE).trans h0)
        have hm := m_manyWith (l := l) (g := g) hC (k_lims a s r (k_keep σ)) 0 hr2 hT1 (by omega)
        rw [show (k_lims a s r (k_keep σ)).1 5 = σ.1 5 from e5] at hm
        refine aw_aload_n 46 dX4_setLimits_45 rfl rfl ?_
        refine aw_xVv 49 (m_keep hC _ hE) mvX4_keep q2583 (rdl (mh_obj _ _)) rfl rfl rfl (by decide) (by decide) (Nat.le_refl _) (Nat.le_refl _) rfl (Nat.le_of_ble_eq_true rfl) dX4_setLimits_46 rfl ?_
        refine aw_aload_n 50 dX4_setLimits_49 rfl rfl ?_
        refine aw_iconst 51 dX4_setLimits_50 rfl ?_
        refine aw_iload_n 52 dX4_setLimits_51 rfl rfl ?_
        refine aw_iadd 53 dX4_setLimits_52 rfl ?_
        refine aw_iload_n 54 dX4_setLimits_53 rfl rfl ?_
        refine aw_xVv 57 (m_setK hC (k_keep σ) _ _ hr1.1 (by omega)) mvX4_set q2547 (rdl (mh_obj _ _)) rfl rfl rfl (by decide) (by decide) (Nat.le_refl _) (Nat.le_refl _) rfl (Nat.le_of_ble_eq_true rfl) dX4_setLimits_54 rfl ?_
        refine aw_aload_n 58 dX4_setLimits_57 rfl rfl ?_
        refine aw_iconst 59 dX4_setLimits_58 rfl ?_
        refine aw_iload_n 60 dX4_setLimits_59 rfl rfl ?_
        refine aw_iadd 61 dX4_setLimits_60 rfl ?_
        refine aw_iload_n 62 dX4_setLimits_61 rfl rfl ?_
        refine aw_xVv 65 (m_setK hC (k_set (0 + a) s (k_keep σ)) _ _ hr1.1 (by omega)) mvX4_set q2547 (rdl (mh_obj _ _)) rfl rfl rfl (by decide) (by decide) (Nat.le_refl _) (Nat.le_refl _) rfl (Nat.le_of_ble_eq_true rfl) dX4_setLimits_62 rfl ?_
        refine aw_aload_n 66 dX4_setLimits_65 rfl rfl ?_
        refine aw_iconst 67 dX4_setLimits_66 rfl ?_
        refine aw_xV 70 (hm) mvX4_manyWith q2381 (rdl (mh_obj _ _)) rfl rfl rfl (by decide) (by decide) (Nat.le_refl _) (Nat.le_refl _) rfl (Nat.le_of_ble_eq_true rfl) dX4_setLimits_67 rfl ?_
        exact aw_xi (by rw [ho]) (by unfold k_setLimits; rw [ho]; first | (rw [if_neg (by decide)]) | (rw [if_pos rfl]; exact congrArg (mh C) (sF_id (k := 0) (z := 0) hth).symm)) rfl dX4_setLimits_70
      · have ho : o_setLimits a s r σ = (2, 0) := (if_pos (by assumption)).trans (if_neg (by omega))
        refine aw_aload_n 40 dX4_setLimits_39 rfl rfl ?_
        refine aw_iconst 41 dX4_setLimits_40 rfl ?_
        refine aw_xV 44 (m_fails hC _ _) mvX4_fails q2151 (rdl (mh_obj _ _)) rfl rfl rfl (by decide) (by decide) (Nat.le_refl _) (Nat.le_refl _) rfl (Nat.le_of_ble_eq_true rfl) dX4_setLimits_41 rfl ?_
        exact aw_xi (by rw [ho]) (by unfold k_setLimits; rw [ho]; first | (rw [if_neg (by decide)]) | (rw [if_pos rfl]; exact congrArg (mh C) (sF_id (k := 0) (z := 0) hth).symm)) rfl dX4_setLimits_44
  · have ho : o_setLimits a s r σ = (1, 0) := if_neg (by assumption)
    refine aw_aload_n 14 dX4_setLimits_13 rfl rfl ?_
    refine aw_iconst 15 dX4_setLimits_14 rfl ?_
    refine aw_xV 18 (m_fails hC _ _) mvX4_fails q2151 (rdl (mh_obj _ _)) rfl rfl rfl (by decide) (by decide) (Nat.le_refl _) (Nat.le_refl _) rfl (Nat.le_of_ble_eq_true rfl) dX4_setLimits_15 rfl ?_
    exact aw_xi (by rw [ho]) (by unfold k_setLimits; rw [ho]; first | (rw [if_neg (by decide)]) | (rw [if_pos rfl]; exact congrArg (mh C) (sF_id (k := 0) (z := 0) hth).symm)) rfl dX4_setLimits_18
def o_addWall (a f t b p u : Int) (σ : MSt) : Int × Int := if isAx σ a ∧ isAx σ b then (if (a ≠ b ∧ (-9999 ≤ f ∧ f ≤ 9999) ∧ (f ≤ t ∧ t ≤ 9999)) ∧ (-9999 ≤ p ∧ p ≤ 9999) ∧ (p ≤ u ∧ u ≤ 9999) then (if r_nW (rw_ σ) = 6 then (3, 0) else (0, r_nW (rw_ σ))) else (2, 0)) else (1, 0)
/-- a wall put behind all walls -/
def k_newWall (a f t b p u w : Int) (σ : MSt) : MSt := k_set 149 (w + 1) (k_set (150 + 6 * w + 5) u (k_set (150 + 6 * w + 4) p (k_set (150 + 6 * w + 3) b (k_set (150 + 6 * w + 2) t (k_set (150 + 6 * w + 1) f (k_set (150 + 6 * w) a σ))))))
def k_addWall (a f t b p u : Int) (σ : MSt) : MSt := if (o_addWall a f t b p u σ).1 = 0 then k_newWall a f t b p u (r_nW (rw_ σ)) (k_keep σ) else σ
theorem m_addWall {l : Launch} {g : AG} {C : MCx} (hC : MOK C) (σ : MSt) (a f t b p u : Int) (hr : mR σ) (hE : mE σ) (h2 : σ.1 2 = 0) (ha : Rg a) (hf : Rg f) (ht : Rg t) (hb : Rg b) (hp : Rg p) (hu : Rg u): AMx l g miX4_addWall 13 [.ref C.1, iv a, iv f, iv t, iv b, iv p, iv u] (mh C σ) (some (iv (o_addWall a f t b p u (sF σ 0 0)).2)) (mh C (sF (k_addWall a f t b p u (sF σ 0 0)) 0 (o_addWall a f t b p u (sF σ 0 0)).1)) := by
  refine aw_start 2 (by decide) rfl (Nat.le_of_ble_eq_true rfl) ?_
  show AWc l g miX4_addWall 13 0 0 _ _ 0 0 (mh C σ) 0 [some (.ref C.1), some (iv a), some (iv f), some (iv t), some (iv b), some (iv p), some (iv u), none, none] []
  have h0 : (sF σ 0 0).1 0 = 0 := rfl
  have hr : mR (sF σ 0 0) := hr
  have hE : mE (sF σ 0 0) := hE
  have h2 : (sF σ 0 0).1 2 = 0 := h2
  refine aw_aload_n 1 dX4_addWall_0 rfl rfl ?_
  refine aw_iconst 2 dX4_addWall_1 rfl ?_
  refine aw_put 5 ci4 0 (by decide) q2031 (Or.inl rfl) rfl rfl rfl (Nat.le_of_ble_eq_true rfl) (mh_obj _ _) dX4_addWall_2 rfl ?_
  refine aw_h (mhp_0 _ _ _) ?_
  generalize sF σ 0 0 = σ at h0 hr hE h2 ⊢
  have h5 := hr.2.1
  have hn := hr.nW
  have hr1 := k_keep_mR hr hE h2
  refine aw_aload_n 6 dX4_addWall_5 rfl rfl ?_
  refine aw_iload_n 7 dX4_addWall_6 rfl rfl ?_
  refine aw_xV 10 (m_isAxis hC _ _ (by omega) (by omega)) mvX4_isAxis q2279 (rdl (mh_obj _ _)) rfl rfl rfl (by decide) (by decide) (Nat.le_refl _) (Nat.le_refl _) rfl (Nat.le_of_ble_eq_true rfl) dX4_addWall_7 rfl ?_
  refine aw_if_eqB 22 13 dX4_addWall_10 rfl rfl (fun c_10 => ?_) (fun c_10 => ?_)
  · have ho : o_addWall a f t b p u σ = (1, 0) := if_neg (fun z => by first | exact absurd z.1 (by assumption) | exact absurd z.2 (by assumption))
    refine aw_aload_n 23 dX4_addWall_22 rfl rfl ?_
    refine aw_iconst 24 dX4_addWall_23 rfl ?_
    refine aw_xV 27 (m_fails hC _ _) mvX4_fails q2151 (rdl (mh_obj _ _)) rfl rfl rfl (by decide) (by decide) (Nat.le_refl _) (Nat.le_refl _) rfl (Nat.le_of_ble_eq_true rfl) dX4_addWall_24 rfl ?_
    exact aw_xi (by rw [ho]) (by unfold k_addWall; rw [ho, if_neg (by decide)]) rfl dX4_addWall_27
  · refine aw_aload_n 14 dX4_addWall_13 rfl rfl ?_
    refine aw_iload 16 dX4_addWall_14 rfl rfl ?_
    refine aw_xV 19 (m_isAxis hC _ _ (by omega) (by omega)) mvX4_isAxis q2279 (rdl (mh_obj _ _)) rfl rfl rfl (by decide) (by decide) (Nat.le_refl _) (Nat.le_refl _) rfl (Nat.le_of_ble_eq_true rfl) dX4_addWall_16 rfl ?_
    refine aw_if_neB 28 22 dX4_addWall_19 rfl rfl (fun c_19 => ?_) (fun c_19 => ?_)
    · refine aw_iload_n 29 dX4_addWall_28 rfl rfl ?_
      refine aw_iload 31 dX4_addWall_29 rfl rfl ?_
      refine aw_icmp_eq 58 34 (by omega) dX4_addWall_31 rfl rfl (fun c_31 => ?_) (fun c_31 => ?_)
      · have ho : o_addWall a f t b p u σ = (2, 0) := (if_pos ⟨by assumption, by assumption⟩).trans (if_neg (by omega))
        refine aw_aload_n 59 dX4_addWall_58 rfl rfl ?_
        refine aw_iconst 60 dX4_addWall_59 rfl ?_
        refine aw_xV 63 (m_fails hC _ _) mvX4_fails q2151 (rdl (mh_obj _ _)) rfl rfl rfl (by decide) (by decide) (Nat.le_refl _) (Nat.le_refl _) rfl (Nat.le_of_ble_eq_true rfl) dX4_addWall_60 rfl ?_
        exact aw_xi (by rw [ho]) (by unfold k_addWall; rw [ho, if_neg (by decide)]) rfl dX4_addWall_63
      · refine aw_iload_n 35 dX4_addWall_34 rfl rfl ?_
        refine aw_sipush 38 dX4_addWall_35 rfl (by decide) ?_
        refine aw_sipush 41 dX4_addWall_38 rfl (by decide) ?_
        refine aw_xS 44 (m_isIn _ _ _ (by omega) (by omega) (by omega)) msX4_isIn q2163 rfl (by decide) (by decide) (Nat.le_refl _) (Nat.le_refl _) rfl (Nat.le_of_ble_eq_true rfl) dX4_addWall_41 rfl ?_
        refine aw_if_eqB 58 47 dX4_addWall_44 rfl rfl (fun c_44 => ?_) (fun c_44 => ?_)
        · have ho : o_addWall a f t b p u σ = (2, 0) := (if_pos ⟨by assumption, by assumption⟩).trans (if_neg (by omega))
          refine aw_aload_n 59 dX4_addWall_58 rfl rfl ?_
          refine aw_iconst 60 dX4_addWall_59 rfl ?_
          refine aw_xV 63 (m_fails hC _ _) mvX4_fails q2151 (rdl (mh_obj _ _)) rfl rfl rfl (by decide) (by decide) (Nat.le_refl _) (Nat.le_refl _) rfl (Nat.le_of_ble_eq_true rfl) dX4_addWall_60 rfl ?_
          exact aw_xi (by rw [ho]) (by unfold k_addWall; rw [ho, if_neg (by decide)]) rfl dX4_addWall_63
        · refine aw_iload_n 48 dX4_addWall_47 rfl rfl ?_
          refine aw_iload_n 49 dX4_addWall_48 rfl rfl ?_
          refine aw_sipush 52 dX4_addWall_49 rfl (by decide) ?_
          refine aw_xS 55 (m_isIn _ _ _ (by omega) (by omega) (by omega)) msX4_isIn q2163 rfl (by decide) (by decide) (Nat.le_refl _) (Nat.le_refl _) rfl (Nat.le_of_ble_eq_true rfl) dX4_addWall_52 rfl ?_
          refine aw_if_neB 64 58 dX4_addWall_55 rfl rfl (fun c_55 => ?_) (fun c_55 => ?_)
          · refine aw_iload 66 dX4_addWall_64 rfl rfl ?_
            refine aw_sipush 69 dX4_addWall_66 rfl (by decide) ?_
            refine aw_sipush 72 dX4_addWall_69 rfl (by decide) ?_
            refine aw_xS 75 (m_isIn _ _ _ (by omega) (by omega) (by omega)) msX4_isIn q2163 rfl (by decide) (by decide) (Nat.le_refl _) (Nat.le_refl _) rfl (Nat.le_of_ble_eq_true rfl) dX4_addWall_72 rfl ?_
            refine aw_if_eqB 91 78 dX4_addWall_75 rfl rfl (fun c_75 => ?_) (fun c_75 => ?_)
            · have ho : o_addWall a f t b p u σ = (2, 0) := (if_pos ⟨by assumption, by assumption⟩).trans (if_neg (by omega))
              refine aw_aload_n 92 dX4_addWall_91 rfl rfl ?_
              refine aw_iconst 93 dX4_addWall_92 rfl ?_
              refine aw_xV 96 (m_fails hC _ _) mvX4_fails q2151 (rdl (mh_obj _ _)) rfl rfl rfl (by decide) (by decide) (Nat.le_refl _) (Nat.le_refl _) rfl (Nat.le_of_ble_eq_true rfl) dX4_addWall_93 rfl ?_
              exact aw_xi (by rw [ho]) (by unfold k_addWall; rw [ho, if_neg (by decide)]) rfl dX4_addWall_96
            · refine aw_iload 80 dX4_addWall_78 rfl rfl ?_
              refine aw_iload 82 dX4_addWall_80 rfl rfl ?_
              refine aw_sipush 85 dX4_addWall_82 rfl (by decide) ?_
              refine aw_xS 88 (m_isIn _ _ _ (by omega) (by omega) (by omega)) msX4_isIn q2163 rfl (by decide) (by decide) (Nat.le_refl _) (Nat.le_refl _) rfl (Nat.le_of_ble_eq_true rfl) dX4_addWall_85 rfl ?_
              refine aw_if_neB 97 91 dX4_addWall_88 rfl rfl (fun c_88 => ?_) (fun c_88 => ?_)
              · refine aw_aload_n 98 dX4_addWall_97 rfl rfl ?_
                refine aw_sipush 101 dX4_addWall_98 rfl (by decide) ?_
                refine aw_xV 104 (m_getW hC _ hr.1) mvX4_get q2263 (rdl (mh_obj _ _)) rfl rfl rfl (by decide) (by decide) (Nat.le_refl _) (Nat.le_refl _) rfl (Nat.le_of_ble_eq_true rfl) dX4_addWall_101 rfl ?_
                refine aw_istore 106 dX4_addWall_104 rfl (as_7 rfl) (by decide) ?_
                refine aw_iload 108 dX4_addWall_106 rfl rfl ?_
                refine aw_bipush 110 dX4_addWall_108 rfl (by decide) ?_
                refine aw_icmp_ne 119 113 (by omega) dX4_addWall_110 rfl rfl (fun c_110 => ?_) (fun c_110 => ?_)
                · have ho : o_addWall a f t b p u σ = (0, r_nW (rw_ σ)) := (if_pos ⟨by assumption, by assumption⟩).trans ((if_pos (by omega)).trans (if_neg (by assumption)))
                  refine aw_aload_n 120 dX4_addWall_119 rfl rfl ?_
                  refine aw_xVv 123 (m_keep hC _ hE) mvX4_keep q2583 (rdl (mh_obj _ _)) rfl rfl rfl (by decide) (by decide) (Nat.le_refl _) (Nat.le_refl _) rfl (Nat.le_of_ble_eq_true rfl) dX4_addWall_120 rfl ?_
                  refine aw_sipush 126 dX4_addWall_123 rfl (by decide) ?_
                  refine aw_bipush 128 dX4_addWall_126 rfl (by decide) ?_
                  refine aw_iload 130 dX4_addWall_128 rfl rfl ?_
                  refine aw_imul 131 dX4_addWall_130 rfl ?_
                  refine aw_iadd 132 dX4_addWall_131 rfl ?_
                  refine aw_istore 134 dX4_addWall_132 rfl (as_8 rfl) (by decide) ?_
                  refine aw_aload_n 135 dX4_addWall_134 rfl rfl ?_
                  refine aw_iload 137 dX4_addWall_135 rfl rfl ?_
                  refine aw_iload_n 138 dX4_addWall_137 rfl rfl ?_
                  refine aw_xVv 141 (m_setK hC (k_keep σ) _ _ hr1.1 (by omega)) mvX4_set q2547 (rdl (mh_obj _ _)) rfl rfl rfl (by decide) (by decide) (Nat.le_refl _) (Nat.le_refl _) rfl (Nat.le_of_ble_eq_true rfl) dX4_addWall_138 rfl ?_
                  refine aw_aload_n 142 dX4_addWall_141 rfl rfl ?_
                  refine aw_iload 144 dX4_addWall_142 rfl rfl ?_
                  refine aw_iconst 145 dX4_addWall_144 rfl ?_
                  refine aw_iadd 146 dX4_addWall_145 rfl ?_
                  refine aw_iload_n 147 dX4_addWall_146 rfl rfl ?_
                  refine aw_xVv 150 (m_setK hC _ _ _ hr1.1 (by omega)) mvX4_set q2547 (rdl (mh_obj _ _)) rfl rfl rfl (by decide) (by decide) (Nat.le_refl _) (Nat.le_refl _) rfl (Nat.le_of_ble_eq_true rfl) dX4_addWall_147 rfl ?_
                  refine aw_aload_n 151 dX4_addWall_150 rfl rfl ?_
                  refine aw_iload 153 dX4_addWall_151 rfl rfl ?_
                  refine aw_iconst 154 dX4_addWall_153 rfl ?_
                  refine aw_iadd 155 dX4_addWall_154 rfl ?_
                  refine aw_iload_n 156 dX4_addWall_155 rfl rfl ?_
                  refine aw_xVv 159 (m_setK hC _ _ _ hr1.1 (by omega)) mvX4_set q2547 (rdl (mh_obj _ _)) rfl rfl rfl (by decide) (by decide) (Nat.le_refl _) (Nat.le_refl _) rfl (Nat.le_of_ble_eq_true rfl) dX4_addWall_156 rfl ?_
                  refine aw_aload_n 160 dX4_addWall_159 rfl rfl ?_
                  refine aw_iload 162 dX4_addWall_160 rfl rfl ?_
                  refine aw_iconst 163 dX4_addWall_162 rfl ?_
                  refine aw_iadd 164 dX4_addWall_163 rfl ?_
                  refine aw_iload 166 dX4_addWall_164 rfl rfl ?_
                  refine aw_xVv 169 (m_setK hC _ _ _ hr1.1 (by omega)) mvX4_set q2547 (rdl (mh_obj _ _)) rfl rfl rfl (by decide) (by decide) (Nat.le_refl _) (Nat.le_refl _) rfl (Nat.le_of_ble_eq_true rfl) dX4_addWall_166 rfl ?_
                  refine aw_aload_n 170 dX4_addWall_169 rfl rfl ?_
                  refine aw_iload 172 dX4_addWall_170 rfl rfl ?_
                  refine aw_iconst 173 dX4_addWall_172 rfl ?_
                  refine aw_iadd 174 dX4_addWall_173 rfl ?_
                  refine aw_iload 176 dX4_addWall_174 rfl rfl ?_
                  refine aw_xVv 179 (m_setK hC _ _ _ hr1.1 (by omega)) mvX4_set q2547 (rdl (mh_obj _ _)) rfl rfl rfl (by decide) (by decide) (Nat.le_refl _) (Nat.le_refl _) rfl (Nat.le_of_ble_eq_true rfl) dX4_addWall_176 rfl ?_
                  refine aw_aload_n 180 dX4_addWall_179 rfl rfl ?_
                  refine aw_iload 182 dX4_addWall_180 rfl rfl ?_
                  refine aw_iconst 183 dX4_addWall_182 rfl ?_
                  refine aw_iadd 184 dX4_addWall_183 rfl ?_
                  refine aw_iload 186 dX4_addWall_184 rfl rfl ?_
                  refine aw_xVv 189 (m_setK hC _ _ _ hr1.1 (by omega)) mvX4_set q2547 (rdl (mh_obj _ _)) rfl rfl rfl (by decide) (by decide) (Nat.le_refl _) (Nat.le_refl _) rfl (Nat.le_of_ble_eq_true rfl) dX4_addWall_186 rfl ?_
                  refine aw_aload_n 190 dX4_addWall_189 rfl rfl ?_
                  refine aw_sipush 193 dX4_addWall_190 rfl (by decide) ?_
                  refine aw_iload 195 dX4_addWall_193 rfl rfl ?_
                  refine aw_iconst 196 dX4_addWall_195 rfl ?_
                  refine aw_iadd 197 dX4_addWall_196 rfl ?_
                  refine aw_xVv 200 (m_setK hC _ _ _ hr1.1 (by omega)) mvX4_set q2547 (rdl (mh_obj _ _)) rfl rfl rfl (by decide) (by decide) (Nat.le_refl _) (Nat.le_refl _) rfl (Nat.le_of_ble_eq_true rfl) dX4_addWall_197 rfl ?_
                  refine aw_iload 202 dX4_addWall_200 rfl rfl ?_
                  exact aw_xi (by rw [ho]) (by unfold k_addWall; rw [ho, if_pos rfl]; exact congrArg (mh C) (sF_id (σ := k_newWall a f t b p u (r_nW (rw_ σ)) (k_keep σ)) (k := 0) (z := 0) ((k_keep_th hE).trans h0)).symm) rfl dX4_addWall_202
                · have ho : o_addWall a f t b p u σ = (3, 0) := (if_pos ⟨by assumption, by assumption⟩).trans ((if_pos (by omega)).trans (if_pos (by assumption)))
                  refine aw_aload_n 114 dX4_addWall_113 rfl rfl ?_
                  refine aw_iconst 115 dX4_addWall_114 rfl ?_
                  refine aw_xV 118 (m_fails hC _ _) mvX4_fails q2151 (rdl (mh_obj _ _)) rfl rfl rfl (by decide) (by decide) (Nat.le_refl _) (Nat.le_refl _) rfl (Nat.le_of_ble_eq_true rfl) dX4_addWall_115 rfl ?_
                  exact aw_xi (by rw [ho]) (by unfold k_addWall; rw [ho, if_neg (by decide)]) rfl dX4_addWall_118
              · have ho : o_addWall a f t b p u σ = (2, 0) := (if_pos ⟨by assumption, by assumption⟩).trans (if_neg (by omega))
                refine aw_aload_n 92 dX4_addWall_91 rfl rfl ?_
                refine aw_iconst 93 dX4_addWall_92 rfl ?_
                refine aw_xV 96 (m_fails hC _ _) mvX4_fails q2151 (rdl (mh_obj _ _)) rfl rfl rfl (by decide) (by decide) (Nat.le_refl _) (Nat.le_refl _) rfl (Nat.le_of_ble_eq_true rfl) dX4_addWall_93 rfl ?_
                exact aw_xi (by rw [ho]) (by unfold k_addWall; rw [ho, if_neg (by decide)]) rfl dX4_addWall_96
          · have ho : o_addWall a f t b p u σ = (2, 0) := (if_pos ⟨by assumption, by assumption⟩).trans (if_neg (by omega))
            refine aw_aload_n 59 dX4_addWall_58 rfl rfl ?_
            refine aw_iconst 60 dX4_addWall_59 rfl ?_
            refine aw_xV 63 (m_fails hC _ _) mvX4_fails q2151 (rdl (mh_obj _ _)) rfl rfl rfl (by decide) (by decide) (Nat.le_refl _) (Nat.le_refl _) rfl (Nat.le_of_ble_eq_true rfl) dX4_addWall_60 rfl ?_
            exact aw_xi (by rw [ho]) (by unfold k_addWall; rw [ho, if_neg (by decide)]) rfl dX4_addWall_63
    · have ho : o_addWall a f t b p u σ = (1, 0) := if_neg (fun z => by first | exact absurd z.1 (by assumption) | exact absurd z.2 (by assumption))
      refine aw_aload_n 23 dX4_addWall_22 rfl rfl ?_
      refine aw_iconst 24 dX4_addWall_23 rfl ?_
      refine aw_xV 27 (m_fails hC _ _) mvX4_fails q2151 (rdl (mh_obj _ _)) rfl rfl rfl (by decide) (by decide) (Nat.le_refl _) (Nat.le_refl _) rfl (Nat.le_of_ble_eq_true rfl) dX4_addWall_24 rfl ?_
      exact aw_xi (by rw [ho]) (by unfold k_addWall; rw [ho, if_neg (by decide)]) rfl dX4_addWall_27
def k_dropWall (w : Int) (σ : MSt) : MSt := k_set 149 (r_nW (rw_ σ) - 1) (k_removes 150 6 (r_nW (rw_ σ)) w σ)
def o_removeWall (w : Int) (σ : MSt) : Int × Int := if isWa σ w then (0, r_nW (rw_ σ) - 1) else (1, 0)
def k_removeWall (w : Int) (σ : MSt) : MSt := if isWa σ w then k_dropWall w (k_keep σ) else σ
theorem m_removeWall {l : Launch} {g : AG} {C : MCx} (hC : MOK C) (σ : MSt) (w : Int) (hr : mR σ) (hE : mE σ) (h2 : σ.1 2 = 0) (hw : Rg w): AMx l g miX4_removeWall 13 [.ref C.1, iv w] (mh C σ) (some (iv (o_removeWall w (sF σ 0 0)).2)) (mh C (sF (k_removeWall w (sF σ 0 0)) 0 (o_removeWall w (sF σ 0 0)).1)) := by
  refine aw_start 0 (by decide) rfl (Nat.le_of_ble_eq_true rfl) ?_
  show AWc l g miX4_removeWall 13 0 0 _ _ 0 0 (mh C σ) 0 [some (.ref C.1), some (iv w)] []
  have h0 : (sF σ 0 0).1 0 = 0 := rfl
  have hr : mR (sF σ 0 0) := hr
  have hE : mE (sF σ 0 0) := hE
  have h2 : (sF σ 0 0).1 2 = 0 := h2
  refine aw_aload_n 1 dX4_removeWall_0 rfl rfl ?_
  refine aw_iconst 2 dX4_removeWall_1 rfl ?_
  refine aw_put 5 ci4 0 (by decide) q2031 (Or.inl rfl) rfl rfl rfl (Nat.le_of_ble_eq_true rfl) (mh_obj _ _) dX4_removeWall_2 rfl ?_
  refine aw_h (mhp_0 _ _ _) ?_
  generalize sF σ 0 0 = σ at h0 hr hE h2 ⊢
  have hn := hr.nW
  have hr1 := k_keep_mR hr hE h2
  have e1 := k_keep_rw hE h2
  refine aw_aload_n 6 dX4_removeWall_5 rfl rfl ?_
  refine aw_iload_n 7 dX4_removeWall_6 rfl rfl ?_
  refine aw_xV 10 (m_isWall hC _ _ hr (by omega)) mvX4_isWall q2488 (rdl (mh_obj _ _)) rfl rfl rfl (by decide) (by decide) (Nat.le_refl _) (Nat.le_refl _) rfl (Nat.le_of_ble_eq_true rfl) dX4_removeWall_7 rfl ?_
  refine aw_if_neB 19 13 dX4_removeWall_10 rfl rfl (fun c_10 => ?_) (fun c_10 => ?_)
  · have hA : mAt (k_removes 150 6 (r_nW (rw_ σ)) w (k_keep σ)) := hr1.1
    have e2 : rw_ (k_removes 150 6 (r_nW (rw_ σ)) w (k_keep σ)) = rmv (rw_ σ) (150 + 6 * w) (150 + 6 * (r_nW (rw_ σ) - 1)) 6 := by rw [k_removes_rw hr1.1 (by omega) (by omega) (by decide), e1]
    have e3 : r_nW (rw_ (k_removes 150 6 (r_nW (rw_ σ)) w (k_keep σ))) = r_nW (rw_ σ) := by rw [e2]; exact if_neg (by omega)
    refine aw_aload_n 20 dX4_removeWall_19 rfl rfl ?_
    refine aw_xVv 23 (m_keep hC _ hE) mvX4_keep q2583 (rdl (mh_obj _ _)) rfl rfl rfl (by decide) (by decide) (Nat.le_refl _) (Nat.le_refl _) rfl (Nat.le_of_ble_eq_true rfl) dX4_removeWall_20 rfl ?_
    refine aw_aload_n 24 dX4_removeWall_23 rfl rfl ?_
    refine aw_sipush 27 dX4_removeWall_24 rfl (by decide) ?_
    refine aw_bipush 29 dX4_removeWall_27 rfl (by decide) ?_
    refine aw_aload_n 30 dX4_removeWall_29 rfl rfl ?_
    refine aw_sipush 33 dX4_removeWall_30 rfl (by decide) ?_
    refine aw_xV 36 (m_getW hC (k_keep σ) hr1.1) mvX4_get q2263 (rdl (mh_obj _ _)) rfl rfl rfl (by decide) (by decide) (Nat.le_refl _) (Nat.le_refl _) rfl (Nat.le_of_ble_eq_true rfl) dX4_removeWall_33 rfl ?_
    rw [e1]
    refine aw_iload_n 37 dX4_removeWall_36 rfl rfl ?_
    refine aw_xVv 40 (m_removes hC (k_keep σ) 150 6 (r_nW (rw_ σ)) w hr1.1 (by omega) (by omega) (by decide) (by omega)) mvX4_removes q2567 (rdl (mh_obj _ _)) rfl rfl rfl (by decide) (by decide) (Nat.le_refl _) (Nat.le_refl _) rfl (Nat.le_of_ble_eq_true rfl) dX4_removeWall_37 rfl ?_
    refine aw_aload_n 41 dX4_removeWall_40 rfl rfl ?_
    refine aw_sipush 44 dX4_removeWall_41 rfl (by decide) ?_
    refine aw_aload_n 45 dX4_removeWall_44 rfl rfl ?_
    refine aw_sipush 48 dX4_removeWall_45 rfl (by decide) ?_
    refine aw_xV 51 (m_getW hC (k_removes 150 6 (r_nW (rw_ σ)) w (k_keep σ)) hA) mvX4_get q2263 (rdl (mh_obj _ _)) rfl rfl rfl (by decide) (by decide) (Nat.le_refl _) (Nat.le_refl _) rfl (Nat.le_of_ble_eq_true rfl) dX4_removeWall_48 rfl ?_
    rw [e3]
    refine aw_iconst 52 dX4_removeWall_51 rfl ?_
    refine aw_isub 53 dX4_removeWall_52 rfl ?_
    refine aw_xVv 56 (m_setK hC (k_removes 150 6 (r_nW (rw_ σ)) w (k_keep σ)) _ _ hA (by decide)) mvX4_set q2547 (rdl (mh_obj _ _)) rfl rfl rfl (by decide) (by decide) (Nat.le_refl _) (Nat.le_refl _) rfl (Nat.le_of_ble_eq_true rfl) dX4_removeWall_53 rfl ?_
    refine aw_aload_n 57 dX4_removeWall_56 rfl rfl ?_
    refine aw_sipush 60 dX4_removeWall_57 rfl (by decide) ?_
    refine aw_xV 63 (m_getW hC (k_set 149 (r_nW (rw_ σ) - 1) (k_removes 150 6 (r_nW (rw_ σ)) w (k_keep σ))) hA) mvX4_get q2263 (rdl (mh_obj _ _)) rfl rfl rfl (by decide) (by decide) (Nat.le_refl _) (Nat.le_refl _) rfl (Nat.le_of_ble_eq_true rfl) dX4_removeWall_60 rfl ?_
    refine aw_st (show _ = [iv (r_nW (rw_ σ) - 1)] from by rw [k_set_rw hA _ (by decide)]; rfl) ?_
    exact aw_xi (by unfold o_removeWall; rw [if_pos (by assumption)]) (by unfold o_removeWall k_removeWall k_dropWall; rw [if_pos (by assumption), if_pos (by assumption), e1]; exact congrArg (mh C) (sF_id (σ := k_set 149 (r_nW (rw_ σ) - 1) (k_removes 150 6 (r_nW (rw_ σ)) w (k_keep σ))) (k := 0) (z := 0) ((k_keep_th hE).trans h0)).symm) rfl dX4_removeWall_63
  · refine aw_aload_n 14 dX4_removeWall_13 rfl rfl ?_
    refine aw_iconst 15 dX4_removeWall_14 rfl ?_
    refine aw_xV 18 (m_fails hC _ _) mvX4_fails q2151 (rdl (mh_obj _ _)) rfl rfl rfl (by decide) (by decide) (Nat.le_refl _) (Nat.le_refl _) rfl (Nat.le_of_ble_eq_true rfl) dX4_removeWall_15 rfl ?_
    exact aw_xi (by unfold o_removeWall; rw [if_neg (by assumption)]) (by unfold o_removeWall k_removeWall; rw [if_neg (by assumption), if_neg (by assumption)]) rfl dX4_removeWall_18
